/-! DuskGates -/
set_option maxRecDepth 100000
def RX0 : String := "DuskGates"
def TX0 : u_T := fun k => match k with
  | 0 => ("DuskGates", "sheets", "[LDuskGates$Sheet;", true)
  | 1 => ("DuskGates", "opens", "[I", true)
  | 2 => ("DuskGates", "shuts", "[I", true)
  | 3 => ("DuskGates", "parts", "[I", true)
  | 4 => ("DuskGates", "gateX", "[I", true)
  | 5 => ("DuskGates", "gateY", "[I", true)
  | 6 => ("DuskGates", "laws", "Ljava/util/List;", true)
  | 7 => ("DuskGates", "tape", "[B", true)
  | 8 => ("DuskGates", "taped", "I", false)
  | 9 => ("DuskGates", "faultKind", "I", false)
  | 10 => ("DuskGates", "carts", "Ljava/util/List;", true)
  | 11 => ("DuskGates", "passings", "Ljava/util/List;", true)
  | 12 => ("DuskGates", "roads", "[I", true)
  | 13 => ("DuskGates", "sick", "Ljava/util/List;", true)
  | 14 => ("DuskGates", "passes", "Ljava/util/List;", true)
  | 15 => ("DuskGates", "guests", "Ljava/util/List;", true)
  | 16 => ("DuskGates", "cases", "[I", true)
  | 17 => ("DuskGates", "highs", "[I", true)
  | 18 => ("DuskGates", "inside", "[I", true)
  | 19 => ("DuskGates", "outside", "[I", true)
  | 20 => ("DuskGates", "leaning", "I", false)
  | 21 => ("DuskGates", "today", "I", false)
  | 22 => ("DuskGates", "trail", "LDuskGates$Trail;", false)
  | _ => ("DuskGates", "status", "I", false)
def tyX0 : Nat → FieldType := fun k => match k with
  | 0 => .array (.object "DuskGates$Sheet")
  | 1 => .array .int
  | 2 => .array .int
  | 3 => .array .int
  | 4 => .array .int
  | 5 => .array .int
  | 6 => .object "java/util/List"
  | 7 => .array .byte
  | 8 => .int
  | 9 => .int
  | 10 => .object "java/util/List"
  | 11 => .object "java/util/List"
  | 12 => .array .int
  | 13 => .object "java/util/List"
  | 14 => .object "java/util/List"
  | 15 => .object "java/util/List"
  | 16 => .array .int
  | 17 => .array .int
  | 18 => .array .int
  | 19 => .array .int
  | 20 => .int
  | 21 => .int
  | 22 => .object "DuskGates$Trail"
  | _ => .int
abbrev wsX00 : List Cond := u_ws RX0 TX0 24
set_option maxRecDepth 100000 in
theorem nmX0 : ∀ a, a < 24 → ∀ b, b < 24 → a ≠ b → (TX0 a).2.1 ≠ (TX0 b).2.1 := by decide +kernel
set_option maxRecDepth 100000 in
theorem tyX0_ok : ∀ k, k < 24 → parseFieldDescriptor (TX0 k).2.2.1 = some (tyX0 k) := by decide +kernel
abbrev cX0_init : ByteArray := prog_1_method_2_code
def yX0_init : MethodName := ⟨RX0, "<init>", "()V"⟩
def dkwX0_init_12 : List UInt8 := [132, 1, 1, 167, 255, 239, 177]
abbrev dktX0_init_12 : List UInt8 := dkwX0_init_12 ++ []
def dkwX0_init_11 : List UInt8 := [79, 132, 1, 1, 167, 255, 239, 3, 60, 27, 16, 12, 162, 0, 17, 42, 180, 0, 63, 27, 16, 10, 79]
abbrev dktX0_init_11 : List UInt8 := dkwX0_init_11 ++ dktX0_init_12
def dkwX0_init_10 : List UInt8 := [27, 8, 79, 132, 1, 1, 167, 255, 237, 3, 60, 27, 16, 8, 162, 0, 17, 42, 180, 0, 60, 27, 18, 79]
abbrev dktX0_init_10 : List UInt8 := dkwX0_init_10 ++ dktX0_init_11
def dkwX0_init_9 : List UInt8 := [16, 100, 79, 132, 1, 1, 167, 255, 221, 3, 60, 27, 42, 180, 0, 48, 190, 162, 0, 16, 42, 180, 0, 48]
abbrev dktX0_init_9 : List UInt8 := dkwX0_init_9 ++ dktX0_init_10
def dkwX0_init_8 : List UInt8 := [42, 180, 0, 15, 27, 17, 1, 104, 79, 42, 180, 0, 19, 27, 17, 4, 56, 79, 42, 180, 0, 22, 27]
abbrev dktX0_init_8 : List UInt8 := dkwX0_init_8 ++ dktX0_init_9
def dkwX0_init_7 : List UInt8 := [188, 10, 181, 0, 69, 42, 187, 0, 72, 89, 183, 0, 74, 181, 0, 75, 3, 60, 27, 16, 9, 162, 0, 35]
abbrev dktX0_init_7 : List UInt8 := dkwX0_init_7 ++ dktX0_init_8
def dkwX0_init_6 : List UInt8 := [188, 10, 181, 0, 60, 42, 16, 12, 188, 10, 181, 0, 63, 42, 16, 12, 188, 10, 181, 0, 66, 42, 16, 12]
abbrev dktX0_init_6 : List UInt8 := dkwX0_init_6 ++ dktX0_init_7
def dkwX0_init_5 : List UInt8 := [187, 0, 31, 89, 183, 0, 33, 181, 0, 54, 42, 187, 0, 31, 89, 183, 0, 33, 181, 0, 57, 42, 16, 8]
abbrev dktX0_init_5 : List UInt8 := dkwX0_init_5 ++ dktX0_init_6
def dkwX0_init_4 : List UInt8 := [181, 0, 45, 42, 16, 72, 188, 10, 181, 0, 48, 42, 187, 0, 31, 89, 183, 0, 33, 181, 0, 51, 42]
abbrev dktX0_init_4 : List UInt8 := dkwX0_init_4 ++ dktX0_init_5
def dkwX0_init_3 : List UInt8 := [181, 0, 38, 42, 187, 0, 31, 89, 183, 0, 33, 181, 0, 42, 42, 187, 0, 31, 89, 183, 0, 33]
abbrev dktX0_init_3 : List UInt8 := dkwX0_init_3 ++ dktX0_init_4
def dkwX0_init_2 : List UInt8 := [188, 10, 181, 0, 28, 42, 187, 0, 31, 89, 183, 0, 33, 181, 0, 34, 42, 17, 1, 144, 188, 8]
abbrev dktX0_init_2 : List UInt8 := dkwX0_init_2 ++ dktX0_init_3
def dkwX0_init_1 : List UInt8 := [188, 10, 181, 0, 19, 42, 16, 9, 188, 10, 181, 0, 22, 42, 16, 9, 188, 10, 181, 0, 25, 42, 16, 9]
abbrev dktX0_init_1 : List UInt8 := dkwX0_init_1 ++ dktX0_init_2
def dkwX0_init_0 : List UInt8 := [42, 183, 0, 1, 42, 16, 8, 189, 0, 9, 181, 0, 11, 42, 16, 9, 188, 10, 181, 0, 15, 42, 16, 9]
abbrev dktX0_init_0 : List UInt8 := dkwX0_init_0 ++ dktX0_init_1
theorem dksX0_init_0 : cX0_init.data.toList.drop 0 = dktX0_init_0 := by decide +kernel
theorem dksX0_init_1 : cX0_init.data.toList.drop 24 = dktX0_init_1 := dk_seg dksX0_init_0 24 rfl rfl
theorem dksX0_init_2 : cX0_init.data.toList.drop 48 = dktX0_init_2 := dk_seg dksX0_init_1 24 rfl rfl
theorem dksX0_init_3 : cX0_init.data.toList.drop 70 = dktX0_init_3 := dk_seg dksX0_init_2 22 rfl rfl
theorem dksX0_init_4 : cX0_init.data.toList.drop 92 = dktX0_init_4 := dk_seg dksX0_init_3 22 rfl rfl
theorem dksX0_init_5 : cX0_init.data.toList.drop 115 = dktX0_init_5 := dk_seg dksX0_init_4 23 rfl rfl
theorem dksX0_init_6 : cX0_init.data.toList.drop 139 = dktX0_init_6 := dk_seg dksX0_init_5 24 rfl rfl
theorem dksX0_init_7 : cX0_init.data.toList.drop 163 = dktX0_init_7 := dk_seg dksX0_init_6 24 rfl rfl
theorem dksX0_init_8 : cX0_init.data.toList.drop 187 = dktX0_init_8 := dk_seg dksX0_init_7 24 rfl rfl
theorem dksX0_init_9 : cX0_init.data.toList.drop 210 = dktX0_init_9 := dk_seg dksX0_init_8 23 rfl rfl
theorem dksX0_init_10 : cX0_init.data.toList.drop 234 = dktX0_init_10 := dk_seg dksX0_init_9 24 rfl rfl
theorem dksX0_init_11 : cX0_init.data.toList.drop 258 = dktX0_init_11 := dk_seg dksX0_init_10 24 rfl rfl
theorem dksX0_init_12 : cX0_init.data.toList.drop 281 = dktX0_init_12 := dk_seg dksX0_init_11 23 rfl rfl
theorem dX0_init_0 : decode cX0_init 0 = .ok (.aload_n 0, 1) := dk_42 (dk_at dksX0_init_0 0 rfl rfl)
theorem dX0_init_1 : decode cX0_init 1 = .ok (.invokespecial 1, 3) := dk_183 0 1 (dk_at dksX0_init_0 1 rfl rfl)
theorem dX0_init_4 : decode cX0_init 4 = .ok (.aload_n 0, 1) := dk_42 (dk_at dksX0_init_0 4 rfl rfl)
theorem dX0_init_5 : decode cX0_init 5 = .ok (.bipush 8, 2) := dk_16 8 (dk_at dksX0_init_0 5 rfl rfl)
theorem dX0_init_7 : decode cX0_init 7 = .ok (.anewarray 9, 3) := dk_189 0 9 (dk_at dksX0_init_0 7 rfl rfl)
theorem dX0_init_10 : decode cX0_init 10 = .ok (.putfield 11, 3) := dk_181 0 11 (dk_at dksX0_init_0 10 rfl rfl)
theorem dX0_init_13 : decode cX0_init 13 = .ok (.aload_n 0, 1) := dk_42 (dk_at dksX0_init_0 13 rfl rfl)
theorem dX0_init_14 : decode cX0_init 14 = .ok (.bipush 9, 2) := dk_16 9 (dk_at dksX0_init_0 14 rfl rfl)
theorem dX0_init_16 : decode cX0_init 16 = .ok (.newarray .int, 2) := dk_188_10 (dk_at dksX0_init_0 16 rfl rfl)
theorem dX0_init_18 : decode cX0_init 18 = .ok (.putfield 15, 3) := dk_181 0 15 (dk_at dksX0_init_0 18 rfl rfl)
theorem dX0_init_21 : decode cX0_init 21 = .ok (.aload_n 0, 1) := dk_42 (dk_at dksX0_init_0 21 rfl rfl)
theorem dX0_init_22 : decode cX0_init 22 = .ok (.bipush 9, 2) := dk_16 9 (dk_at dksX0_init_0 22 rfl rfl)
theorem dX0_init_24 : decode cX0_init 24 = .ok (.newarray .int, 2) := dk_188_10 (dk_at dksX0_init_1 0 rfl rfl)
theorem dX0_init_26 : decode cX0_init 26 = .ok (.putfield 19, 3) := dk_181 0 19 (dk_at dksX0_init_1 2 rfl rfl)
theorem dX0_init_29 : decode cX0_init 29 = .ok (.aload_n 0, 1) := dk_42 (dk_at dksX0_init_1 5 rfl rfl)
theorem dX0_init_30 : decode cX0_init 30 = .ok (.bipush 9, 2) := dk_16 9 (dk_at dksX0_init_1 6 rfl rfl)
theorem dX0_init_32 : decode cX0_init 32 = .ok (.newarray .int, 2) := dk_188_10 (dk_at dksX0_init_1 8 rfl rfl)
theorem dX0_init_34 : decode cX0_init 34 = .ok (.putfield 22, 3) := dk_181 0 22 (dk_at dksX0_init_1 10 rfl rfl)
theorem dX0_init_37 : decode cX0_init 37 = .ok (.aload_n 0, 1) := dk_42 (dk_at dksX0_init_1 13 rfl rfl)
theorem dX0_init_38 : decode cX0_init 38 = .ok (.bipush 9, 2) := dk_16 9 (dk_at dksX0_init_1 14 rfl rfl)
theorem dX0_init_40 : decode cX0_init 40 = .ok (.newarray .int, 2) := dk_188_10 (dk_at dksX0_init_1 16 rfl rfl)
theorem dX0_init_42 : decode cX0_init 42 = .ok (.putfield 25, 3) := dk_181 0 25 (dk_at dksX0_init_1 18 rfl rfl)
theorem dX0_init_45 : decode cX0_init 45 = .ok (.aload_n 0, 1) := dk_42 (dk_at dksX0_init_1 21 rfl rfl)
theorem dX0_init_46 : decode cX0_init 46 = .ok (.bipush 9, 2) := dk_16 9 (dk_at dksX0_init_1 22 rfl rfl)
theorem dX0_init_48 : decode cX0_init 48 = .ok (.newarray .int, 2) := dk_188_10 (dk_at dksX0_init_2 0 rfl rfl)
theorem dX0_init_50 : decode cX0_init 50 = .ok (.putfield 28, 3) := dk_181 0 28 (dk_at dksX0_init_2 2 rfl rfl)
theorem dX0_init_53 : decode cX0_init 53 = .ok (.aload_n 0, 1) := dk_42 (dk_at dksX0_init_2 5 rfl rfl)
theorem dX0_init_54 : decode cX0_init 54 = .ok (.new 31, 3) := dk_187 0 31 (dk_at dksX0_init_2 6 rfl rfl)
theorem dX0_init_57 : decode cX0_init 57 = .ok (.dup, 1) := dk_89 (dk_at dksX0_init_2 9 rfl rfl)
theorem dX0_init_58 : decode cX0_init 58 = .ok (.invokespecial 33, 3) := dk_183 0 33 (dk_at dksX0_init_2 10 rfl rfl)
theorem dX0_init_61 : decode cX0_init 61 = .ok (.putfield 34, 3) := dk_181 0 34 (dk_at dksX0_init_2 13 rfl rfl)
theorem dX0_init_64 : decode cX0_init 64 = .ok (.aload_n 0, 1) := dk_42 (dk_at dksX0_init_2 16 rfl rfl)
theorem dX0_init_65 : decode cX0_init 65 = .ok (.sipush 400, 3) := dk_17 1 144 (dk_at dksX0_init_2 17 rfl rfl)
theorem dX0_init_68 : decode cX0_init 68 = .ok (.newarray .byte, 2) := dk_188_8 (dk_at dksX0_init_2 20 rfl rfl)
theorem dX0_init_70 : decode cX0_init 70 = .ok (.putfield 38, 3) := dk_181 0 38 (dk_at dksX0_init_3 0 rfl rfl)
theorem dX0_init_73 : decode cX0_init 73 = .ok (.aload_n 0, 1) := dk_42 (dk_at dksX0_init_3 3 rfl rfl)
theorem dX0_init_74 : decode cX0_init 74 = .ok (.new 31, 3) := dk_187 0 31 (dk_at dksX0_init_3 4 rfl rfl)
theorem dX0_init_77 : decode cX0_init 77 = .ok (.dup, 1) := dk_89 (dk_at dksX0_init_3 7 rfl rfl)
theorem dX0_init_78 : decode cX0_init 78 = .ok (.invokespecial 33, 3) := dk_183 0 33 (dk_at dksX0_init_3 8 rfl rfl)
theorem dX0_init_81 : decode cX0_init 81 = .ok (.putfield 42, 3) := dk_181 0 42 (dk_at dksX0_init_3 11 rfl rfl)
theorem dX0_init_84 : decode cX0_init 84 = .ok (.aload_n 0, 1) := dk_42 (dk_at dksX0_init_3 14 rfl rfl)
theorem dX0_init_85 : decode cX0_init 85 = .ok (.new 31, 3) := dk_187 0 31 (dk_at dksX0_init_3 15 rfl rfl)
theorem dX0_init_88 : decode cX0_init 88 = .ok (.dup, 1) := dk_89 (dk_at dksX0_init_3 18 rfl rfl)
theorem dX0_init_89 : decode cX0_init 89 = .ok (.invokespecial 33, 3) := dk_183 0 33 (dk_at dksX0_init_3 19 rfl rfl)
theorem dX0_init_92 : decode cX0_init 92 = .ok (.putfield 45, 3) := dk_181 0 45 (dk_at dksX0_init_4 0 rfl rfl)
theorem dX0_init_95 : decode cX0_init 95 = .ok (.aload_n 0, 1) := dk_42 (dk_at dksX0_init_4 3 rfl rfl)
theorem dX0_init_96 : decode cX0_init 96 = .ok (.bipush 72, 2) := dk_16 72 (dk_at dksX0_init_4 4 rfl rfl)
theorem dX0_init_98 : decode cX0_init 98 = .ok (.newarray .int, 2) := dk_188_10 (dk_at dksX0_init_4 6 rfl rfl)
theorem dX0_init_100 : decode cX0_init 100 = .ok (.putfield 48, 3) := dk_181 0 48 (dk_at dksX0_init_4 8 rfl rfl)
theorem dX0_init_103 : decode cX0_init 103 = .ok (.aload_n 0, 1) := dk_42 (dk_at dksX0_init_4 11 rfl rfl)
theorem dX0_init_104 : decode cX0_init 104 = .ok (.new 31, 3) := dk_187 0 31 (dk_at dksX0_init_4 12 rfl rfl)
theorem dX0_init_107 : decode cX0_init 107 = .ok (.dup, 1) := dk_89 (dk_at dksX0_init_4 15 rfl rfl)
theorem dX0_init_108 : decode cX0_init 108 = .ok (.invokespecial 33, 3) := dk_183 0 33 (dk_at dksX0_init_4 16 rfl rfl)
theorem dX0_init_111 : decode cX0_init 111 = .ok (.putfield 51, 3) := dk_181 0 51 (dk_at dksX0_init_4 19 rfl rfl)
theorem dX0_init_114 : decode cX0_init 114 = .ok (.aload_n 0, 1) := dk_42 (dk_at dksX0_init_4 22 rfl rfl)
theorem dX0_init_115 : decode cX0_init 115 = .ok (.new 31, 3) := dk_187 0 31 (dk_at dksX0_init_5 0 rfl rfl)
theorem dX0_init_118 : decode cX0_init 118 = .ok (.dup, 1) := dk_89 (dk_at dksX0_init_5 3 rfl rfl)
theorem dX0_init_119 : decode cX0_init 119 = .ok (.invokespecial 33, 3) := dk_183 0 33 (dk_at dksX0_init_5 4 rfl rfl)
theorem dX0_init_122 : decode cX0_init 122 = .ok (.putfield 54, 3) := dk_181 0 54 (dk_at dksX0_init_5 7 rfl rfl)
theorem dX0_init_125 : decode cX0_init 125 = .ok (.aload_n 0, 1) := dk_42 (dk_at dksX0_init_5 10 rfl rfl)
theorem dX0_init_126 : decode cX0_init 126 = .ok (.new 31, 3) := dk_187 0 31 (dk_at dksX0_init_5 11 rfl rfl)
theorem dX0_init_129 : decode cX0_init 129 = .ok (.dup, 1) := dk_89 (dk_at dksX0_init_5 14 rfl rfl)
theorem dX0_init_130 : decode cX0_init 130 = .ok (.invokespecial 33, 3) := dk_183 0 33 (dk_at dksX0_init_5 15 rfl rfl)
theorem dX0_init_133 : decode cX0_init 133 = .ok (.putfield 57, 3) := dk_181 0 57 (dk_at dksX0_init_5 18 rfl rfl)
theorem dX0_init_136 : decode cX0_init 136 = .ok (.aload_n 0, 1) := dk_42 (dk_at dksX0_init_5 21 rfl rfl)
theorem dX0_init_137 : decode cX0_init 137 = .ok (.bipush 8, 2) := dk_16 8 (dk_at dksX0_init_5 22 rfl rfl)
theorem dX0_init_139 : decode cX0_init 139 = .ok (.newarray .int, 2) := dk_188_10 (dk_at dksX0_init_6 0 rfl rfl)
theorem dX0_init_141 : decode cX0_init 141 = .ok (.putfield 60, 3) := dk_181 0 60 (dk_at dksX0_init_6 2 rfl rfl)
theorem dX0_init_144 : decode cX0_init 144 = .ok (.aload_n 0, 1) := dk_42 (dk_at dksX0_init_6 5 rfl rfl)
theorem dX0_init_145 : decode cX0_init 145 = .ok (.bipush 12, 2) := dk_16 12 (dk_at dksX0_init_6 6 rfl rfl)
theorem dX0_init_147 : decode cX0_init 147 = .ok (.newarray .int, 2) := dk_188_10 (dk_at dksX0_init_6 8 rfl rfl)
theorem dX0_init_149 : decode cX0_init 149 = .ok (.putfield 63, 3) := dk_181 0 63 (dk_at dksX0_init_6 10 rfl rfl)
theorem dX0_init_152 : decode cX0_init 152 = .ok (.aload_n 0, 1) := dk_42 (dk_at dksX0_init_6 13 rfl rfl)
theorem dX0_init_153 : decode cX0_init 153 = .ok (.bipush 12, 2) := dk_16 12 (dk_at dksX0_init_6 14 rfl rfl)
theorem dX0_init_155 : decode cX0_init 155 = .ok (.newarray .int, 2) := dk_188_10 (dk_at dksX0_init_6 16 rfl rfl)
theorem dX0_init_157 : decode cX0_init 157 = .ok (.putfield 66, 3) := dk_181 0 66 (dk_at dksX0_init_6 18 rfl rfl)
theorem dX0_init_160 : decode cX0_init 160 = .ok (.aload_n 0, 1) := dk_42 (dk_at dksX0_init_6 21 rfl rfl)
theorem dX0_init_161 : decode cX0_init 161 = .ok (.bipush 12, 2) := dk_16 12 (dk_at dksX0_init_6 22 rfl rfl)
theorem dX0_init_163 : decode cX0_init 163 = .ok (.newarray .int, 2) := dk_188_10 (dk_at dksX0_init_7 0 rfl rfl)
theorem dX0_init_165 : decode cX0_init 165 = .ok (.putfield 69, 3) := dk_181 0 69 (dk_at dksX0_init_7 2 rfl rfl)
theorem dX0_init_168 : decode cX0_init 168 = .ok (.aload_n 0, 1) := dk_42 (dk_at dksX0_init_7 5 rfl rfl)
theorem dX0_init_169 : decode cX0_init 169 = .ok (.new 72, 3) := dk_187 0 72 (dk_at dksX0_init_7 6 rfl rfl)
theorem dX0_init_172 : decode cX0_init 172 = .ok (.dup, 1) := dk_89 (dk_at dksX0_init_7 9 rfl rfl)
theorem dX0_init_173 : decode cX0_init 173 = .ok (.invokespecial 74, 3) := dk_183 0 74 (dk_at dksX0_init_7 10 rfl rfl)
theorem dX0_init_176 : decode cX0_init 176 = .ok (.putfield 75, 3) := dk_181 0 75 (dk_at dksX0_init_7 13 rfl rfl)
theorem dX0_init_179 : decode cX0_init 179 = .ok (.iconst 0, 1) := dk_3 (dk_at dksX0_init_7 16 rfl rfl)
theorem dX0_init_180 : decode cX0_init 180 = .ok (.istore_n 1, 1) := dk_60 (dk_at dksX0_init_7 17 rfl rfl)
theorem dX0_init_181 : decode cX0_init 181 = .ok (.iload_n 1, 1) := dk_27 (dk_at dksX0_init_7 18 rfl rfl)
theorem dX0_init_182 : decode cX0_init 182 = .ok (.bipush 9, 2) := dk_16 9 (dk_at dksX0_init_7 19 rfl rfl)
theorem dX0_init_184 : decode cX0_init 184 = .ok (.if_icmp .ge 35, 3) := dk_162 0 35 (dk_at dksX0_init_7 21 rfl rfl)
theorem dX0_init_187 : decode cX0_init 187 = .ok (.aload_n 0, 1) := dk_42 (dk_at dksX0_init_8 0 rfl rfl)
theorem dX0_init_188 : decode cX0_init 188 = .ok (.getfield 15, 3) := dk_180 0 15 (dk_at dksX0_init_8 1 rfl rfl)
theorem dX0_init_191 : decode cX0_init 191 = .ok (.iload_n 1, 1) := dk_27 (dk_at dksX0_init_8 4 rfl rfl)
theorem dX0_init_192 : decode cX0_init 192 = .ok (.sipush 360, 3) := dk_17 1 104 (dk_at dksX0_init_8 5 rfl rfl)
theorem dX0_init_195 : decode cX0_init 195 = .ok (.iastore, 1) := dk_79 (dk_at dksX0_init_8 8 rfl rfl)
theorem dX0_init_196 : decode cX0_init 196 = .ok (.aload_n 0, 1) := dk_42 (dk_at dksX0_init_8 9 rfl rfl)
theorem dX0_init_197 : decode cX0_init 197 = .ok (.getfield 19, 3) := dk_180 0 19 (dk_at dksX0_init_8 10 rfl rfl)
theorem dX0_init_200 : decode cX0_init 200 = .ok (.iload_n 1, 1) := dk_27 (dk_at dksX0_init_8 13 rfl rfl)
theorem dX0_init_201 : decode cX0_init 201 = .ok (.sipush 1080, 3) := dk_17 4 56 (dk_at dksX0_init_8 14 rfl rfl)
theorem dX0_init_204 : decode cX0_init 204 = .ok (.iastore, 1) := dk_79 (dk_at dksX0_init_8 17 rfl rfl)
theorem dX0_init_205 : decode cX0_init 205 = .ok (.aload_n 0, 1) := dk_42 (dk_at dksX0_init_8 18 rfl rfl)
theorem dX0_init_206 : decode cX0_init 206 = .ok (.getfield 22, 3) := dk_180 0 22 (dk_at dksX0_init_8 19 rfl rfl)
theorem dX0_init_209 : decode cX0_init 209 = .ok (.iload_n 1, 1) := dk_27 (dk_at dksX0_init_8 22 rfl rfl)
theorem dX0_init_210 : decode cX0_init 210 = .ok (.bipush 100, 2) := dk_16 100 (dk_at dksX0_init_9 0 rfl rfl)
theorem dX0_init_212 : decode cX0_init 212 = .ok (.iastore, 1) := dk_79 (dk_at dksX0_init_9 2 rfl rfl)
theorem dX0_init_213 : decode cX0_init 213 = .ok (.iinc 1 1, 3) := dk_132 1 1 (dk_at dksX0_init_9 3 rfl rfl)
theorem dX0_init_216 : decode cX0_init 216 = .ok (.goto (-35), 3) := dk_167 255 221 (dk_at dksX0_init_9 6 rfl rfl)
theorem dX0_init_219 : decode cX0_init 219 = .ok (.iconst 0, 1) := dk_3 (dk_at dksX0_init_9 9 rfl rfl)
theorem dX0_init_220 : decode cX0_init 220 = .ok (.istore_n 1, 1) := dk_60 (dk_at dksX0_init_9 10 rfl rfl)
theorem dX0_init_221 : decode cX0_init 221 = .ok (.iload_n 1, 1) := dk_27 (dk_at dksX0_init_9 11 rfl rfl)
theorem dX0_init_222 : decode cX0_init 222 = .ok (.aload_n 0, 1) := dk_42 (dk_at dksX0_init_9 12 rfl rfl)
theorem dX0_init_223 : decode cX0_init 223 = .ok (.getfield 48, 3) := dk_180 0 48 (dk_at dksX0_init_9 13 rfl rfl)
theorem dX0_init_226 : decode cX0_init 226 = .ok (.arraylength, 1) := dk_190 (dk_at dksX0_init_9 16 rfl rfl)
theorem dX0_init_227 : decode cX0_init 227 = .ok (.if_icmp .ge 16, 3) := dk_162 0 16 (dk_at dksX0_init_9 17 rfl rfl)
theorem dX0_init_230 : decode cX0_init 230 = .ok (.aload_n 0, 1) := dk_42 (dk_at dksX0_init_9 20 rfl rfl)
theorem dX0_init_231 : decode cX0_init 231 = .ok (.getfield 48, 3) := dk_180 0 48 (dk_at dksX0_init_9 21 rfl rfl)
theorem dX0_init_234 : decode cX0_init 234 = .ok (.iload_n 1, 1) := dk_27 (dk_at dksX0_init_10 0 rfl rfl)
theorem dX0_init_235 : decode cX0_init 235 = .ok (.iconst 5, 1) := dk_8 (dk_at dksX0_init_10 1 rfl rfl)
theorem dX0_init_236 : decode cX0_init 236 = .ok (.iastore, 1) := dk_79 (dk_at dksX0_init_10 2 rfl rfl)
theorem dX0_init_237 : decode cX0_init 237 = .ok (.iinc 1 1, 3) := dk_132 1 1 (dk_at dksX0_init_10 3 rfl rfl)
theorem dX0_init_240 : decode cX0_init 240 = .ok (.goto (-19), 3) := dk_167 255 237 (dk_at dksX0_init_10 6 rfl rfl)
theorem dX0_init_243 : decode cX0_init 243 = .ok (.iconst 0, 1) := dk_3 (dk_at dksX0_init_10 9 rfl rfl)
theorem dX0_init_244 : decode cX0_init 244 = .ok (.istore_n 1, 1) := dk_60 (dk_at dksX0_init_10 10 rfl rfl)
theorem dX0_init_245 : decode cX0_init 245 = .ok (.iload_n 1, 1) := dk_27 (dk_at dksX0_init_10 11 rfl rfl)
theorem dX0_init_246 : decode cX0_init 246 = .ok (.bipush 8, 2) := dk_16 8 (dk_at dksX0_init_10 12 rfl rfl)
theorem dX0_init_248 : decode cX0_init 248 = .ok (.if_icmp .ge 17, 3) := dk_162 0 17 (dk_at dksX0_init_10 14 rfl rfl)
theorem dX0_init_251 : decode cX0_init 251 = .ok (.aload_n 0, 1) := dk_42 (dk_at dksX0_init_10 17 rfl rfl)
theorem dX0_init_252 : decode cX0_init 252 = .ok (.getfield 60, 3) := dk_180 0 60 (dk_at dksX0_init_10 18 rfl rfl)
theorem dX0_init_255 : decode cX0_init 255 = .ok (.iload_n 1, 1) := dk_27 (dk_at dksX0_init_10 21 rfl rfl)
theorem dX0_init_256 : decode cX0_init 256 = .ok (.ldc 79, 2) := dk_18 79 (dk_at dksX0_init_10 22 rfl rfl)
theorem dX0_init_258 : decode cX0_init 258 = .ok (.iastore, 1) := dk_79 (dk_at dksX0_init_11 0 rfl rfl)
theorem dX0_init_259 : decode cX0_init 259 = .ok (.iinc 1 1, 3) := dk_132 1 1 (dk_at dksX0_init_11 1 rfl rfl)
theorem dX0_init_262 : decode cX0_init 262 = .ok (.goto (-17), 3) := dk_167 255 239 (dk_at dksX0_init_11 4 rfl rfl)
theorem dX0_init_265 : decode cX0_init 265 = .ok (.iconst 0, 1) := dk_3 (dk_at dksX0_init_11 7 rfl rfl)
theorem dX0_init_266 : decode cX0_init 266 = .ok (.istore_n 1, 1) := dk_60 (dk_at dksX0_init_11 8 rfl rfl)
theorem dX0_init_267 : decode cX0_init 267 = .ok (.iload_n 1, 1) := dk_27 (dk_at dksX0_init_11 9 rfl rfl)
theorem dX0_init_268 : decode cX0_init 268 = .ok (.bipush 12, 2) := dk_16 12 (dk_at dksX0_init_11 10 rfl rfl)
theorem dX0_init_270 : decode cX0_init 270 = .ok (.if_icmp .ge 17, 3) := dk_162 0 17 (dk_at dksX0_init_11 12 rfl rfl)
theorem dX0_init_273 : decode cX0_init 273 = .ok (.aload_n 0, 1) := dk_42 (dk_at dksX0_init_11 15 rfl rfl)
theorem dX0_init_274 : decode cX0_init 274 = .ok (.getfield 63, 3) := dk_180 0 63 (dk_at dksX0_init_11 16 rfl rfl)
theorem dX0_init_277 : decode cX0_init 277 = .ok (.iload_n 1, 1) := dk_27 (dk_at dksX0_init_11 19 rfl rfl)
theorem dX0_init_278 : decode cX0_init 278 = .ok (.bipush 10, 2) := dk_16 10 (dk_at dksX0_init_11 20 rfl rfl)
theorem dX0_init_280 : decode cX0_init 280 = .ok (.iastore, 1) := dk_79 (dk_at dksX0_init_11 22 rfl rfl)
theorem dX0_init_281 : decode cX0_init 281 = .ok (.iinc 1 1, 3) := dk_132 1 1 (dk_at dksX0_init_12 0 rfl rfl)
theorem dX0_init_284 : decode cX0_init 284 = .ok (.goto (-17), 3) := dk_167 255 239 (dk_at dksX0_init_12 3 rfl rfl)
theorem dX0_init_287 : decode cX0_init 287 = .ok (.return_, 1) := dk_177 (dk_at dksX0_init_12 6 rfl rfl)
abbrev cX0_sheet : ByteArray := prog_1_method_8_code
def yX0_sheet : MethodName := ⟨RX0, "sheet", "(III)I"⟩
def dkwX0_sheet_3 : List UInt8 := [172]
abbrev dktX0_sheet_3 : List UInt8 := dkwX0_sheet_3 ++ []
def dkwX0_sheet_2 : List UInt8 := [187, 0, 9, 89, 28, 29, 183, 0, 110, 83, 42, 29, 182, 0, 113, 172, 58, 4, 42, 25, 4, 182, 0, 117]
abbrev dktX0_sheet_2 : List UInt8 := dkwX0_sheet_2 ++ dktX0_sheet_3
def dkwX0_sheet_1 : List UInt8 := [164, 0, 6, 18, 109, 172, 29, 155, 0, 7, 4, 167, 0, 4, 3, 7, 184, 0, 99, 42, 180, 0, 11, 27]
abbrev dktX0_sheet_1 : List UInt8 := dkwX0_sheet_1 ++ dktX0_sheet_2
def dkwX0_sheet_0 : List UInt8 := [27, 184, 0, 103, 153, 0, 21, 28, 133, 9, 20, 0, 107, 184, 0, 95, 153, 0, 9, 29, 16, 64]
abbrev dktX0_sheet_0 : List UInt8 := dkwX0_sheet_0 ++ dktX0_sheet_1
theorem dksX0_sheet_0 : cX0_sheet.data.toList.drop 0 = dktX0_sheet_0 := by decide +kernel
theorem dksX0_sheet_1 : cX0_sheet.data.toList.drop 22 = dktX0_sheet_1 := dk_seg dksX0_sheet_0 22 rfl rfl
theorem dksX0_sheet_2 : cX0_sheet.data.toList.drop 46 = dktX0_sheet_2 := dk_seg dksX0_sheet_1 24 rfl rfl
theorem dksX0_sheet_3 : cX0_sheet.data.toList.drop 70 = dktX0_sheet_3 := dk_seg dksX0_sheet_2 24 rfl rfl
theorem dX0_sheet_0 : decode cX0_sheet 0 = .ok (.iload_n 1, 1) := dk_27 (dk_at dksX0_sheet_0 0 rfl rfl)
theorem dX0_sheet_1 : decode cX0_sheet 1 = .ok (.invokestatic 103, 3) := dk_184 0 103 (dk_at dksX0_sheet_0 1 rfl rfl)
theorem dX0_sheet_4 : decode cX0_sheet 4 = .ok (.ifCond .eq 21, 3) := dk_153 0 21 (dk_at dksX0_sheet_0 4 rfl rfl)
theorem dX0_sheet_7 : decode cX0_sheet 7 = .ok (.iload_n 2, 1) := dk_28 (dk_at dksX0_sheet_0 7 rfl rfl)
theorem dX0_sheet_8 : decode cX0_sheet 8 = .ok (.i2l, 1) := dk_133 (dk_at dksX0_sheet_0 8 rfl rfl)
theorem dX0_sheet_9 : decode cX0_sheet 9 = .ok (.lconst 0, 1) := dk_9 (dk_at dksX0_sheet_0 9 rfl rfl)
theorem dX0_sheet_10 : decode cX0_sheet 10 = .ok (.ldc2_w 107, 3) := dk_20 0 107 (dk_at dksX0_sheet_0 10 rfl rfl)
theorem dX0_sheet_13 : decode cX0_sheet 13 = .ok (.invokestatic 95, 3) := dk_184 0 95 (dk_at dksX0_sheet_0 13 rfl rfl)
theorem dX0_sheet_16 : decode cX0_sheet 16 = .ok (.ifCond .eq 9, 3) := dk_153 0 9 (dk_at dksX0_sheet_0 16 rfl rfl)
theorem dX0_sheet_19 : decode cX0_sheet 19 = .ok (.iload_n 3, 1) := dk_29 (dk_at dksX0_sheet_0 19 rfl rfl)
theorem dX0_sheet_20 : decode cX0_sheet 20 = .ok (.bipush 64, 2) := dk_16 64 (dk_at dksX0_sheet_0 20 rfl rfl)
theorem dX0_sheet_22 : decode cX0_sheet 22 = .ok (.if_icmp .le 6, 3) := dk_164 0 6 (dk_at dksX0_sheet_1 0 rfl rfl)
theorem dX0_sheet_25 : decode cX0_sheet 25 = .ok (.ldc 109, 2) := dk_18 109 (dk_at dksX0_sheet_1 3 rfl rfl)
theorem dX0_sheet_27 : decode cX0_sheet 27 = .ok (.ireturn, 1) := dk_172 (dk_at dksX0_sheet_1 5 rfl rfl)
theorem dX0_sheet_28 : decode cX0_sheet 28 = .ok (.iload_n 3, 1) := dk_29 (dk_at dksX0_sheet_1 6 rfl rfl)
theorem dX0_sheet_29 : decode cX0_sheet 29 = .ok (.ifCond .lt 7, 3) := dk_155 0 7 (dk_at dksX0_sheet_1 7 rfl rfl)
theorem dX0_sheet_32 : decode cX0_sheet 32 = .ok (.iconst 1, 1) := dk_4 (dk_at dksX0_sheet_1 10 rfl rfl)
theorem dX0_sheet_33 : decode cX0_sheet 33 = .ok (.goto 4, 3) := dk_167 0 4 (dk_at dksX0_sheet_1 11 rfl rfl)
theorem dX0_sheet_36 : decode cX0_sheet 36 = .ok (.iconst 0, 1) := dk_3 (dk_at dksX0_sheet_1 14 rfl rfl)
theorem dX0_sheet_37 : decode cX0_sheet 37 = .ok (.iconst 4, 1) := dk_7 (dk_at dksX0_sheet_1 15 rfl rfl)
theorem dX0_sheet_38 : decode cX0_sheet 38 = .ok (.invokestatic 99, 3) := dk_184 0 99 (dk_at dksX0_sheet_1 16 rfl rfl)
theorem dX0_sheet_41 : decode cX0_sheet 41 = .ok (.aload_n 0, 1) := dk_42 (dk_at dksX0_sheet_1 19 rfl rfl)
theorem dX0_sheet_42 : decode cX0_sheet 42 = .ok (.getfield 11, 3) := dk_180 0 11 (dk_at dksX0_sheet_1 20 rfl rfl)
theorem dX0_sheet_45 : decode cX0_sheet 45 = .ok (.iload_n 1, 1) := dk_27 (dk_at dksX0_sheet_1 23 rfl rfl)
theorem dX0_sheet_46 : decode cX0_sheet 46 = .ok (.new 9, 3) := dk_187 0 9 (dk_at dksX0_sheet_2 0 rfl rfl)
theorem dX0_sheet_49 : decode cX0_sheet 49 = .ok (.dup, 1) := dk_89 (dk_at dksX0_sheet_2 3 rfl rfl)
theorem dX0_sheet_50 : decode cX0_sheet 50 = .ok (.iload_n 2, 1) := dk_28 (dk_at dksX0_sheet_2 4 rfl rfl)
theorem dX0_sheet_51 : decode cX0_sheet 51 = .ok (.iload_n 3, 1) := dk_29 (dk_at dksX0_sheet_2 5 rfl rfl)
theorem dX0_sheet_52 : decode cX0_sheet 52 = .ok (.invokespecial 110, 3) := dk_183 0 110 (dk_at dksX0_sheet_2 6 rfl rfl)
theorem dX0_sheet_55 : decode cX0_sheet 55 = .ok (.aastore, 1) := dk_83 (dk_at dksX0_sheet_2 9 rfl rfl)
theorem dX0_sheet_56 : decode cX0_sheet 56 = .ok (.aload_n 0, 1) := dk_42 (dk_at dksX0_sheet_2 10 rfl rfl)
theorem dX0_sheet_57 : decode cX0_sheet 57 = .ok (.iload_n 3, 1) := dk_29 (dk_at dksX0_sheet_2 11 rfl rfl)
theorem dX0_sheet_58 : decode cX0_sheet 58 = .ok (.invokevirtual 113, 3) := dk_182 0 113 (dk_at dksX0_sheet_2 12 rfl rfl)
theorem dX0_sheet_61 : decode cX0_sheet 61 = .ok (.ireturn, 1) := dk_172 (dk_at dksX0_sheet_2 15 rfl rfl)
theorem dX0_sheet_62 : decode cX0_sheet 62 = .ok (.astore 4, 2) := dk_58 4 (dk_at dksX0_sheet_2 16 rfl rfl)
theorem dX0_sheet_64 : decode cX0_sheet 64 = .ok (.aload_n 0, 1) := dk_42 (dk_at dksX0_sheet_2 18 rfl rfl)
theorem dX0_sheet_65 : decode cX0_sheet 65 = .ok (.aload 4, 2) := dk_25 4 (dk_at dksX0_sheet_2 19 rfl rfl)
theorem dX0_sheet_67 : decode cX0_sheet 67 = .ok (.invokevirtual 117, 3) := dk_182 0 117 (dk_at dksX0_sheet_2 21 rfl rfl)
theorem dX0_sheet_70 : decode cX0_sheet 70 = .ok (.ireturn, 1) := dk_172 (dk_at dksX0_sheet_3 0 rfl rfl)
abbrev cX0_isSheet : ByteArray := prog_1_method_6_code
def yX0_isSheet : MethodName := ⟨RX0, "isSheet", "(I)Z"⟩
def dkwX0_isSheet_0 : List UInt8 := [26, 133, 9, 20, 0, 93, 184, 0, 95, 172]
abbrev dktX0_isSheet_0 : List UInt8 := dkwX0_isSheet_0 ++ []
theorem dksX0_isSheet_0 : cX0_isSheet.data.toList.drop 0 = dktX0_isSheet_0 := by decide +kernel
theorem dX0_isSheet_0 : decode cX0_isSheet 0 = .ok (.iload_n 0, 1) := dk_26 (dk_at dksX0_isSheet_0 0 rfl rfl)
theorem dX0_isSheet_1 : decode cX0_isSheet 1 = .ok (.i2l, 1) := dk_133 (dk_at dksX0_isSheet_0 1 rfl rfl)
theorem dX0_isSheet_2 : decode cX0_isSheet 2 = .ok (.lconst 0, 1) := dk_9 (dk_at dksX0_isSheet_0 2 rfl rfl)
theorem dX0_isSheet_3 : decode cX0_isSheet 3 = .ok (.ldc2_w 93, 3) := dk_20 0 93 (dk_at dksX0_isSheet_0 3 rfl rfl)
theorem dX0_isSheet_6 : decode cX0_isSheet 6 = .ok (.invokestatic 95, 3) := dk_184 0 95 (dk_at dksX0_isSheet_0 6 rfl rfl)
theorem dX0_isSheet_9 : decode cX0_isSheet 9 = .ok (.ireturn, 1) := dk_172 (dk_at dksX0_isSheet_0 9 rfl rfl)
abbrev cX0_isIn : ByteArray := prog_1_method_1_code
def yX0_isIn : MethodName := ⟨RX0, "isIn", "(JJJ)Z"⟩
def dkwX0_isIn_0 : List UInt8 := [30, 32, 148, 155, 0, 14, 30, 22, 4, 148, 157, 0, 7, 4, 167, 0, 4, 3, 172]
abbrev dktX0_isIn_0 : List UInt8 := dkwX0_isIn_0 ++ []
theorem dksX0_isIn_0 : cX0_isIn.data.toList.drop 0 = dktX0_isIn_0 := by decide +kernel
theorem dX0_isIn_0 : decode cX0_isIn 0 = .ok (.lload_n 0, 1) := dk_30 (dk_at dksX0_isIn_0 0 rfl rfl)
theorem dX0_isIn_1 : decode cX0_isIn 1 = .ok (.lload_n 2, 1) := dk_32 (dk_at dksX0_isIn_0 1 rfl rfl)
theorem dX0_isIn_2 : decode cX0_isIn 2 = .ok (.lcmp, 1) := dk_148 (dk_at dksX0_isIn_0 2 rfl rfl)
theorem dX0_isIn_3 : decode cX0_isIn 3 = .ok (.ifCond .lt 14, 3) := dk_155 0 14 (dk_at dksX0_isIn_0 3 rfl rfl)
theorem dX0_isIn_6 : decode cX0_isIn 6 = .ok (.lload_n 0, 1) := dk_30 (dk_at dksX0_isIn_0 6 rfl rfl)
theorem dX0_isIn_7 : decode cX0_isIn 7 = .ok (.lload 4, 2) := dk_22 4 (dk_at dksX0_isIn_0 7 rfl rfl)
theorem dX0_isIn_9 : decode cX0_isIn 9 = .ok (.lcmp, 1) := dk_148 (dk_at dksX0_isIn_0 9 rfl rfl)
theorem dX0_isIn_10 : decode cX0_isIn 10 = .ok (.ifCond .gt 7, 3) := dk_157 0 7 (dk_at dksX0_isIn_0 10 rfl rfl)
theorem dX0_isIn_13 : decode cX0_isIn 13 = .ok (.iconst 1, 1) := dk_4 (dk_at dksX0_isIn_0 13 rfl rfl)
theorem dX0_isIn_14 : decode cX0_isIn 14 = .ok (.goto 4, 3) := dk_167 0 4 (dk_at dksX0_isIn_0 14 rfl rfl)
theorem dX0_isIn_17 : decode cX0_isIn 17 = .ok (.iconst 0, 1) := dk_3 (dk_at dksX0_isIn_0 17 rfl rfl)
theorem dX0_isIn_18 : decode cX0_isIn 18 = .ok (.ireturn, 1) := dk_172 (dk_at dksX0_isIn_0 18 rfl rfl)
abbrev cX0_must : ByteArray := prog_1_method_5_code
def yX0_must : MethodName := ⟨RX0, "must", "(ZI)V"⟩
def dkwX0_must_0 : List UInt8 := [26, 154, 0, 12, 187, 0, 81, 89, 27, 183, 0, 90, 191, 177]
abbrev dktX0_must_0 : List UInt8 := dkwX0_must_0 ++ []
theorem dksX0_must_0 : cX0_must.data.toList.drop 0 = dktX0_must_0 := by decide +kernel
theorem dX0_must_0 : decode cX0_must 0 = .ok (.iload_n 0, 1) := dk_26 (dk_at dksX0_must_0 0 rfl rfl)
theorem dX0_must_1 : decode cX0_must 1 = .ok (.ifCond .ne 12, 3) := dk_154 0 12 (dk_at dksX0_must_0 1 rfl rfl)
theorem dX0_must_4 : decode cX0_must 4 = .ok (.new 81, 3) := dk_187 0 81 (dk_at dksX0_must_0 4 rfl rfl)
theorem dX0_must_7 : decode cX0_must 7 = .ok (.dup, 1) := dk_89 (dk_at dksX0_must_0 7 rfl rfl)
theorem dX0_must_8 : decode cX0_must 8 = .ok (.iload_n 1, 1) := dk_27 (dk_at dksX0_must_0 8 rfl rfl)
theorem dX0_must_9 : decode cX0_must 9 = .ok (.invokespecial 90, 3) := dk_183 0 90 (dk_at dksX0_must_0 9 rfl rfl)
theorem dX0_must_12 : decode cX0_must 12 = .ok (.athrow, 1) := dk_191 (dk_at dksX0_must_0 12 rfl rfl)
theorem dX0_must_13 : decode cX0_must 13 = .ok (.return_, 1) := dk_177 (dk_at dksX0_must_0 13 rfl rfl)
abbrev cX0_well : ByteArray := prog_1_method_4_code
def yX0_well : MethodName := ⟨RX0, "well", "(I)I"⟩
def dkwX0_well_0 : List UInt8 := [42, 3, 181, 0, 86, 27, 172]
abbrev dktX0_well_0 : List UInt8 := dkwX0_well_0 ++ []
theorem dksX0_well_0 : cX0_well.data.toList.drop 0 = dktX0_well_0 := by decide +kernel
theorem dX0_well_0 : decode cX0_well 0 = .ok (.aload_n 0, 1) := dk_42 (dk_at dksX0_well_0 0 rfl rfl)
theorem dX0_well_1 : decode cX0_well 1 = .ok (.iconst 0, 1) := dk_3 (dk_at dksX0_well_0 1 rfl rfl)
theorem dX0_well_2 : decode cX0_well 2 = .ok (.putfield 86, 3) := dk_181 0 86 (dk_at dksX0_well_0 2 rfl rfl)
theorem dX0_well_5 : decode cX0_well 5 = .ok (.iload_n 1, 1) := dk_27 (dk_at dksX0_well_0 5 rfl rfl)
theorem dX0_well_6 : decode cX0_well 6 = .ok (.ireturn, 1) := dk_172 (dk_at dksX0_well_0 6 rfl rfl)
abbrev cX0_found : ByteArray := prog_1_method_3_code
def yX0_found : MethodName := ⟨RX0, "found", "(LDuskGates$Finding;)I"⟩
def dkwX0_found_0 : List UInt8 := [42, 43, 180, 0, 80, 181, 0, 86, 18, 89, 43, 180, 0, 80, 100, 172]
abbrev dktX0_found_0 : List UInt8 := dkwX0_found_0 ++ []
theorem dksX0_found_0 : cX0_found.data.toList.drop 0 = dktX0_found_0 := by decide +kernel
theorem dX0_found_0 : decode cX0_found 0 = .ok (.aload_n 0, 1) := dk_42 (dk_at dksX0_found_0 0 rfl rfl)
theorem dX0_found_1 : decode cX0_found 1 = .ok (.aload_n 1, 1) := dk_43 (dk_at dksX0_found_0 1 rfl rfl)
theorem dX0_found_2 : decode cX0_found 2 = .ok (.getfield 80, 3) := dk_180 0 80 (dk_at dksX0_found_0 2 rfl rfl)
theorem dX0_found_5 : decode cX0_found 5 = .ok (.putfield 86, 3) := dk_181 0 86 (dk_at dksX0_found_0 5 rfl rfl)
theorem dX0_found_8 : decode cX0_found 8 = .ok (.ldc 89, 2) := dk_18 89 (dk_at dksX0_found_0 8 rfl rfl)
theorem dX0_found_10 : decode cX0_found 10 = .ok (.aload_n 1, 1) := dk_43 (dk_at dksX0_found_0 10 rfl rfl)
theorem dX0_found_11 : decode cX0_found 11 = .ok (.getfield 80, 3) := dk_180 0 80 (dk_at dksX0_found_0 11 rfl rfl)
theorem dX0_found_14 : decode cX0_found 14 = .ok (.isub, 1) := dk_100 (dk_at dksX0_found_0 14 rfl rfl)
theorem dX0_found_15 : decode cX0_found 15 = .ok (.ireturn, 1) := dk_172 (dk_at dksX0_found_0 15 rfl rfl)
abbrev cX0_set : ByteArray := prog_1_method_9_code
def yX0_set : MethodName := ⟨RX0, "set", "(III)I"⟩
def dkwX0_set_3 : List UInt8 := [172]
abbrev dktX0_set_3 : List UInt8 := dkwX0_set_3 ++ []
def dkwX0_set_2 : List UInt8 := [182, 0, 128, 79, 42, 25, 4, 180, 0, 125, 28, 46, 182, 0, 113, 172, 58, 4, 42, 25, 4, 182, 0, 117]
abbrev dktX0_set_2 : List UInt8 := dkwX0_set_2 ++ dktX0_set_3
def dkwX0_set_1 : List UInt8 := [180, 0, 125, 190, 4, 100, 133, 184, 0, 95, 5, 184, 0, 99, 25, 4, 180, 0, 125, 28, 25, 4, 29]
abbrev dktX0_set_1 : List UInt8 := dkwX0_set_1 ++ dktX0_set_2
def dkwX0_set_0 : List UInt8 := [27, 184, 0, 103, 154, 0, 6, 18, 109, 172, 42, 27, 182, 0, 121, 58, 4, 28, 133, 9, 25, 4]
abbrev dktX0_set_0 : List UInt8 := dkwX0_set_0 ++ dktX0_set_1
theorem dksX0_set_0 : cX0_set.data.toList.drop 0 = dktX0_set_0 := by decide +kernel
theorem dksX0_set_1 : cX0_set.data.toList.drop 22 = dktX0_set_1 := dk_seg dksX0_set_0 22 rfl rfl
theorem dksX0_set_2 : cX0_set.data.toList.drop 45 = dktX0_set_2 := dk_seg dksX0_set_1 23 rfl rfl
theorem dksX0_set_3 : cX0_set.data.toList.drop 69 = dktX0_set_3 := dk_seg dksX0_set_2 24 rfl rfl
theorem dX0_set_0 : decode cX0_set 0 = .ok (.iload_n 1, 1) := dk_27 (dk_at dksX0_set_0 0 rfl rfl)
theorem dX0_set_1 : decode cX0_set 1 = .ok (.invokestatic 103, 3) := dk_184 0 103 (dk_at dksX0_set_0 1 rfl rfl)
theorem dX0_set_4 : decode cX0_set 4 = .ok (.ifCond .ne 6, 3) := dk_154 0 6 (dk_at dksX0_set_0 4 rfl rfl)
theorem dX0_set_7 : decode cX0_set 7 = .ok (.ldc 109, 2) := dk_18 109 (dk_at dksX0_set_0 7 rfl rfl)
theorem dX0_set_9 : decode cX0_set 9 = .ok (.ireturn, 1) := dk_172 (dk_at dksX0_set_0 9 rfl rfl)
theorem dX0_set_10 : decode cX0_set 10 = .ok (.aload_n 0, 1) := dk_42 (dk_at dksX0_set_0 10 rfl rfl)
theorem dX0_set_11 : decode cX0_set 11 = .ok (.iload_n 1, 1) := dk_27 (dk_at dksX0_set_0 11 rfl rfl)
theorem dX0_set_12 : decode cX0_set 12 = .ok (.invokevirtual 121, 3) := dk_182 0 121 (dk_at dksX0_set_0 12 rfl rfl)
theorem dX0_set_15 : decode cX0_set 15 = .ok (.astore 4, 2) := dk_58 4 (dk_at dksX0_set_0 15 rfl rfl)
theorem dX0_set_17 : decode cX0_set 17 = .ok (.iload_n 2, 1) := dk_28 (dk_at dksX0_set_0 17 rfl rfl)
theorem dX0_set_18 : decode cX0_set 18 = .ok (.i2l, 1) := dk_133 (dk_at dksX0_set_0 18 rfl rfl)
theorem dX0_set_19 : decode cX0_set 19 = .ok (.lconst 0, 1) := dk_9 (dk_at dksX0_set_0 19 rfl rfl)
theorem dX0_set_20 : decode cX0_set 20 = .ok (.aload 4, 2) := dk_25 4 (dk_at dksX0_set_0 20 rfl rfl)
theorem dX0_set_22 : decode cX0_set 22 = .ok (.getfield 125, 3) := dk_180 0 125 (dk_at dksX0_set_1 0 rfl rfl)
theorem dX0_set_25 : decode cX0_set 25 = .ok (.arraylength, 1) := dk_190 (dk_at dksX0_set_1 3 rfl rfl)
theorem dX0_set_26 : decode cX0_set 26 = .ok (.iconst 1, 1) := dk_4 (dk_at dksX0_set_1 4 rfl rfl)
theorem dX0_set_27 : decode cX0_set 27 = .ok (.isub, 1) := dk_100 (dk_at dksX0_set_1 5 rfl rfl)
theorem dX0_set_28 : decode cX0_set 28 = .ok (.i2l, 1) := dk_133 (dk_at dksX0_set_1 6 rfl rfl)
theorem dX0_set_29 : decode cX0_set 29 = .ok (.invokestatic 95, 3) := dk_184 0 95 (dk_at dksX0_set_1 7 rfl rfl)
theorem dX0_set_32 : decode cX0_set 32 = .ok (.iconst 2, 1) := dk_5 (dk_at dksX0_set_1 10 rfl rfl)
theorem dX0_set_33 : decode cX0_set 33 = .ok (.invokestatic 99, 3) := dk_184 0 99 (dk_at dksX0_set_1 11 rfl rfl)
theorem dX0_set_36 : decode cX0_set 36 = .ok (.aload 4, 2) := dk_25 4 (dk_at dksX0_set_1 14 rfl rfl)
theorem dX0_set_38 : decode cX0_set 38 = .ok (.getfield 125, 3) := dk_180 0 125 (dk_at dksX0_set_1 16 rfl rfl)
theorem dX0_set_41 : decode cX0_set 41 = .ok (.iload_n 2, 1) := dk_28 (dk_at dksX0_set_1 19 rfl rfl)
theorem dX0_set_42 : decode cX0_set 42 = .ok (.aload 4, 2) := dk_25 4 (dk_at dksX0_set_1 20 rfl rfl)
theorem dX0_set_44 : decode cX0_set 44 = .ok (.iload_n 3, 1) := dk_29 (dk_at dksX0_set_1 22 rfl rfl)
theorem dX0_set_45 : decode cX0_set 45 = .ok (.invokevirtual 128, 3) := dk_182 0 128 (dk_at dksX0_set_2 0 rfl rfl)
theorem dX0_set_48 : decode cX0_set 48 = .ok (.iastore, 1) := dk_79 (dk_at dksX0_set_2 3 rfl rfl)
theorem dX0_set_49 : decode cX0_set 49 = .ok (.aload_n 0, 1) := dk_42 (dk_at dksX0_set_2 4 rfl rfl)
theorem dX0_set_50 : decode cX0_set 50 = .ok (.aload 4, 2) := dk_25 4 (dk_at dksX0_set_2 5 rfl rfl)
theorem dX0_set_52 : decode cX0_set 52 = .ok (.getfield 125, 3) := dk_180 0 125 (dk_at dksX0_set_2 7 rfl rfl)
theorem dX0_set_55 : decode cX0_set 55 = .ok (.iload_n 2, 1) := dk_28 (dk_at dksX0_set_2 10 rfl rfl)
theorem dX0_set_56 : decode cX0_set 56 = .ok (.iaload, 1) := dk_46 (dk_at dksX0_set_2 11 rfl rfl)
theorem dX0_set_57 : decode cX0_set 57 = .ok (.invokevirtual 113, 3) := dk_182 0 113 (dk_at dksX0_set_2 12 rfl rfl)
theorem dX0_set_60 : decode cX0_set 60 = .ok (.ireturn, 1) := dk_172 (dk_at dksX0_set_2 15 rfl rfl)
theorem dX0_set_61 : decode cX0_set 61 = .ok (.astore 4, 2) := dk_58 4 (dk_at dksX0_set_2 16 rfl rfl)
theorem dX0_set_63 : decode cX0_set 63 = .ok (.aload_n 0, 1) := dk_42 (dk_at dksX0_set_2 18 rfl rfl)
theorem dX0_set_64 : decode cX0_set 64 = .ok (.aload 4, 2) := dk_25 4 (dk_at dksX0_set_2 19 rfl rfl)
theorem dX0_set_66 : decode cX0_set 66 = .ok (.invokevirtual 117, 3) := dk_182 0 117 (dk_at dksX0_set_2 21 rfl rfl)
theorem dX0_set_69 : decode cX0_set 69 = .ok (.ireturn, 1) := dk_172 (dk_at dksX0_set_3 0 rfl rfl)
abbrev cX0_sheetAt : ByteArray := prog_1_method_7_code
def yX0_sheetAt : MethodName := ⟨RX0, "sheetAt", "(I)LDuskGates$Sheet;"⟩
def dkwX0_sheetAt_1 : List UInt8 := [176]
abbrev dktX0_sheetAt_1 : List UInt8 := dkwX0_sheetAt_1 ++ []
def dkwX0_sheetAt_0 : List UInt8 := [42, 180, 0, 11, 27, 50, 198, 0, 7, 4, 167, 0, 4, 3, 4, 184, 0, 99, 42, 180, 0, 11, 27, 50]
abbrev dktX0_sheetAt_0 : List UInt8 := dkwX0_sheetAt_0 ++ dktX0_sheetAt_1
theorem dksX0_sheetAt_0 : cX0_sheetAt.data.toList.drop 0 = dktX0_sheetAt_0 := by decide +kernel
theorem dksX0_sheetAt_1 : cX0_sheetAt.data.toList.drop 24 = dktX0_sheetAt_1 := dk_seg dksX0_sheetAt_0 24 rfl rfl
theorem dX0_sheetAt_0 : decode cX0_sheetAt 0 = .ok (.aload_n 0, 1) := dk_42 (dk_at dksX0_sheetAt_0 0 rfl rfl)
theorem dX0_sheetAt_1 : decode cX0_sheetAt 1 = .ok (.getfield 11, 3) := dk_180 0 11 (dk_at dksX0_sheetAt_0 1 rfl rfl)
theorem dX0_sheetAt_4 : decode cX0_sheetAt 4 = .ok (.iload_n 1, 1) := dk_27 (dk_at dksX0_sheetAt_0 4 rfl rfl)
theorem dX0_sheetAt_5 : decode cX0_sheetAt 5 = .ok (.aaload, 1) := dk_50 (dk_at dksX0_sheetAt_0 5 rfl rfl)
theorem dX0_sheetAt_6 : decode cX0_sheetAt 6 = .ok (.ifnull 7, 3) := dk_198 0 7 (dk_at dksX0_sheetAt_0 6 rfl rfl)
theorem dX0_sheetAt_9 : decode cX0_sheetAt 9 = .ok (.iconst 1, 1) := dk_4 (dk_at dksX0_sheetAt_0 9 rfl rfl)
theorem dX0_sheetAt_10 : decode cX0_sheetAt 10 = .ok (.goto 4, 3) := dk_167 0 4 (dk_at dksX0_sheetAt_0 10 rfl rfl)
theorem dX0_sheetAt_13 : decode cX0_sheetAt 13 = .ok (.iconst 0, 1) := dk_3 (dk_at dksX0_sheetAt_0 13 rfl rfl)
theorem dX0_sheetAt_14 : decode cX0_sheetAt 14 = .ok (.iconst 1, 1) := dk_4 (dk_at dksX0_sheetAt_0 14 rfl rfl)
theorem dX0_sheetAt_15 : decode cX0_sheetAt 15 = .ok (.invokestatic 99, 3) := dk_184 0 99 (dk_at dksX0_sheetAt_0 15 rfl rfl)
theorem dX0_sheetAt_18 : decode cX0_sheetAt 18 = .ok (.aload_n 0, 1) := dk_42 (dk_at dksX0_sheetAt_0 18 rfl rfl)
theorem dX0_sheetAt_19 : decode cX0_sheetAt 19 = .ok (.getfield 11, 3) := dk_180 0 11 (dk_at dksX0_sheetAt_0 19 rfl rfl)
theorem dX0_sheetAt_22 : decode cX0_sheetAt 22 = .ok (.iload_n 1, 1) := dk_27 (dk_at dksX0_sheetAt_0 22 rfl rfl)
theorem dX0_sheetAt_23 : decode cX0_sheetAt 23 = .ok (.aaload, 1) := dk_50 (dk_at dksX0_sheetAt_0 23 rfl rfl)
theorem dX0_sheetAt_24 : decode cX0_sheetAt 24 = .ok (.areturn, 1) := dk_176 (dk_at dksX0_sheetAt_1 0 rfl rfl)
abbrev cX0_copy : ByteArray := prog_1_method_10_code
def yX0_copy : MethodName := ⟨RX0, "copy", "(IIIII)I"⟩
def dkwX0_copy_4 : List UInt8 := [25, 6, 182, 0, 117, 172]
abbrev dktX0_copy_4 : List UInt8 := dkwX0_copy_4 ++ []
def dkwX0_copy_3 : List UInt8 := [167, 0, 14, 58, 8, 187, 0, 81, 89, 5, 183, 0, 90, 191, 42, 21, 5, 182, 0, 113, 172, 58, 6, 42]
abbrev dktX0_copy_3 : List UInt8 := dkwX0_copy_3 ++ dktX0_copy_4
def dkwX0_copy_2 : List UInt8 := [3, 8, 184, 0, 99, 25, 6, 180, 0, 125, 28, 25, 7, 180, 0, 125, 21, 4, 21, 5, 184, 0, 134]
abbrev dktX0_copy_2 : List UInt8 := dkwX0_copy_2 ++ dktX0_copy_3
def dkwX0_copy_1 : List UInt8 := [42, 29, 182, 0, 121, 58, 7, 25, 6, 180, 0, 131, 25, 7, 180, 0, 131, 160, 0, 7, 4, 167, 0, 4]
abbrev dktX0_copy_1 : List UInt8 := dkwX0_copy_1 ++ dktX0_copy_2
def dkwX0_copy_0 : List UInt8 := [27, 184, 0, 103, 153, 0, 10, 29, 184, 0, 103, 154, 0, 6, 18, 109, 172, 42, 27, 182, 0, 121, 58, 6]
abbrev dktX0_copy_0 : List UInt8 := dkwX0_copy_0 ++ dktX0_copy_1
theorem dksX0_copy_0 : cX0_copy.data.toList.drop 0 = dktX0_copy_0 := by decide +kernel
theorem dksX0_copy_1 : cX0_copy.data.toList.drop 24 = dktX0_copy_1 := dk_seg dksX0_copy_0 24 rfl rfl
theorem dksX0_copy_2 : cX0_copy.data.toList.drop 48 = dktX0_copy_2 := dk_seg dksX0_copy_1 24 rfl rfl
theorem dksX0_copy_3 : cX0_copy.data.toList.drop 71 = dktX0_copy_3 := dk_seg dksX0_copy_2 23 rfl rfl
theorem dksX0_copy_4 : cX0_copy.data.toList.drop 95 = dktX0_copy_4 := dk_seg dksX0_copy_3 24 rfl rfl
theorem dX0_copy_0 : decode cX0_copy 0 = .ok (.iload_n 1, 1) := dk_27 (dk_at dksX0_copy_0 0 rfl rfl)
theorem dX0_copy_1 : decode cX0_copy 1 = .ok (.invokestatic 103, 3) := dk_184 0 103 (dk_at dksX0_copy_0 1 rfl rfl)
theorem dX0_copy_4 : decode cX0_copy 4 = .ok (.ifCond .eq 10, 3) := dk_153 0 10 (dk_at dksX0_copy_0 4 rfl rfl)
theorem dX0_copy_7 : decode cX0_copy 7 = .ok (.iload_n 3, 1) := dk_29 (dk_at dksX0_copy_0 7 rfl rfl)
theorem dX0_copy_8 : decode cX0_copy 8 = .ok (.invokestatic 103, 3) := dk_184 0 103 (dk_at dksX0_copy_0 8 rfl rfl)
theorem dX0_copy_11 : decode cX0_copy 11 = .ok (.ifCond .ne 6, 3) := dk_154 0 6 (dk_at dksX0_copy_0 11 rfl rfl)
theorem dX0_copy_14 : decode cX0_copy 14 = .ok (.ldc 109, 2) := dk_18 109 (dk_at dksX0_copy_0 14 rfl rfl)
theorem dX0_copy_16 : decode cX0_copy 16 = .ok (.ireturn, 1) := dk_172 (dk_at dksX0_copy_0 16 rfl rfl)
theorem dX0_copy_17 : decode cX0_copy 17 = .ok (.aload_n 0, 1) := dk_42 (dk_at dksX0_copy_0 17 rfl rfl)
theorem dX0_copy_18 : decode cX0_copy 18 = .ok (.iload_n 1, 1) := dk_27 (dk_at dksX0_copy_0 18 rfl rfl)
theorem dX0_copy_19 : decode cX0_copy 19 = .ok (.invokevirtual 121, 3) := dk_182 0 121 (dk_at dksX0_copy_0 19 rfl rfl)
theorem dX0_copy_22 : decode cX0_copy 22 = .ok (.astore 6, 2) := dk_58 6 (dk_at dksX0_copy_0 22 rfl rfl)
theorem dX0_copy_24 : decode cX0_copy 24 = .ok (.aload_n 0, 1) := dk_42 (dk_at dksX0_copy_1 0 rfl rfl)
theorem dX0_copy_25 : decode cX0_copy 25 = .ok (.iload_n 3, 1) := dk_29 (dk_at dksX0_copy_1 1 rfl rfl)
theorem dX0_copy_26 : decode cX0_copy 26 = .ok (.invokevirtual 121, 3) := dk_182 0 121 (dk_at dksX0_copy_1 2 rfl rfl)
theorem dX0_copy_29 : decode cX0_copy 29 = .ok (.astore 7, 2) := dk_58 7 (dk_at dksX0_copy_1 5 rfl rfl)
theorem dX0_copy_31 : decode cX0_copy 31 = .ok (.aload 6, 2) := dk_25 6 (dk_at dksX0_copy_1 7 rfl rfl)
theorem dX0_copy_33 : decode cX0_copy 33 = .ok (.getfield 131, 3) := dk_180 0 131 (dk_at dksX0_copy_1 9 rfl rfl)
theorem dX0_copy_36 : decode cX0_copy 36 = .ok (.aload 7, 2) := dk_25 7 (dk_at dksX0_copy_1 12 rfl rfl)
theorem dX0_copy_38 : decode cX0_copy 38 = .ok (.getfield 131, 3) := dk_180 0 131 (dk_at dksX0_copy_1 14 rfl rfl)
theorem dX0_copy_41 : decode cX0_copy 41 = .ok (.if_icmp .ne 7, 3) := dk_160 0 7 (dk_at dksX0_copy_1 17 rfl rfl)
theorem dX0_copy_44 : decode cX0_copy 44 = .ok (.iconst 1, 1) := dk_4 (dk_at dksX0_copy_1 20 rfl rfl)
theorem dX0_copy_45 : decode cX0_copy 45 = .ok (.goto 4, 3) := dk_167 0 4 (dk_at dksX0_copy_1 21 rfl rfl)
theorem dX0_copy_48 : decode cX0_copy 48 = .ok (.iconst 0, 1) := dk_3 (dk_at dksX0_copy_2 0 rfl rfl)
theorem dX0_copy_49 : decode cX0_copy 49 = .ok (.iconst 5, 1) := dk_8 (dk_at dksX0_copy_2 1 rfl rfl)
theorem dX0_copy_50 : decode cX0_copy 50 = .ok (.invokestatic 99, 3) := dk_184 0 99 (dk_at dksX0_copy_2 2 rfl rfl)
theorem dX0_copy_53 : decode cX0_copy 53 = .ok (.aload 6, 2) := dk_25 6 (dk_at dksX0_copy_2 5 rfl rfl)
theorem dX0_copy_55 : decode cX0_copy 55 = .ok (.getfield 125, 3) := dk_180 0 125 (dk_at dksX0_copy_2 7 rfl rfl)
theorem dX0_copy_58 : decode cX0_copy 58 = .ok (.iload_n 2, 1) := dk_28 (dk_at dksX0_copy_2 10 rfl rfl)
theorem dX0_copy_59 : decode cX0_copy 59 = .ok (.aload 7, 2) := dk_25 7 (dk_at dksX0_copy_2 11 rfl rfl)
theorem dX0_copy_61 : decode cX0_copy 61 = .ok (.getfield 125, 3) := dk_180 0 125 (dk_at dksX0_copy_2 13 rfl rfl)
theorem dX0_copy_64 : decode cX0_copy 64 = .ok (.iload 4, 2) := dk_21 4 (dk_at dksX0_copy_2 16 rfl rfl)
theorem dX0_copy_66 : decode cX0_copy 66 = .ok (.iload 5, 2) := dk_21 5 (dk_at dksX0_copy_2 18 rfl rfl)
theorem dX0_copy_68 : decode cX0_copy 68 = .ok (.invokestatic 134, 3) := dk_184 0 134 (dk_at dksX0_copy_2 20 rfl rfl)
theorem dX0_copy_71 : decode cX0_copy 71 = .ok (.goto 14, 3) := dk_167 0 14 (dk_at dksX0_copy_3 0 rfl rfl)
theorem dX0_copy_74 : decode cX0_copy 74 = .ok (.astore 8, 2) := dk_58 8 (dk_at dksX0_copy_3 3 rfl rfl)
theorem dX0_copy_76 : decode cX0_copy 76 = .ok (.new 81, 3) := dk_187 0 81 (dk_at dksX0_copy_3 5 rfl rfl)
theorem dX0_copy_79 : decode cX0_copy 79 = .ok (.dup, 1) := dk_89 (dk_at dksX0_copy_3 8 rfl rfl)
theorem dX0_copy_80 : decode cX0_copy 80 = .ok (.iconst 2, 1) := dk_5 (dk_at dksX0_copy_3 9 rfl rfl)
theorem dX0_copy_81 : decode cX0_copy 81 = .ok (.invokespecial 90, 3) := dk_183 0 90 (dk_at dksX0_copy_3 10 rfl rfl)
theorem dX0_copy_84 : decode cX0_copy 84 = .ok (.athrow, 1) := dk_191 (dk_at dksX0_copy_3 13 rfl rfl)
theorem dX0_copy_85 : decode cX0_copy 85 = .ok (.aload_n 0, 1) := dk_42 (dk_at dksX0_copy_3 14 rfl rfl)
theorem dX0_copy_86 : decode cX0_copy 86 = .ok (.iload 5, 2) := dk_21 5 (dk_at dksX0_copy_3 15 rfl rfl)
theorem dX0_copy_88 : decode cX0_copy 88 = .ok (.invokevirtual 113, 3) := dk_182 0 113 (dk_at dksX0_copy_3 17 rfl rfl)
theorem dX0_copy_91 : decode cX0_copy 91 = .ok (.ireturn, 1) := dk_172 (dk_at dksX0_copy_3 20 rfl rfl)
theorem dX0_copy_92 : decode cX0_copy 92 = .ok (.astore 6, 2) := dk_58 6 (dk_at dksX0_copy_3 21 rfl rfl)
theorem dX0_copy_94 : decode cX0_copy 94 = .ok (.aload_n 0, 1) := dk_42 (dk_at dksX0_copy_3 23 rfl rfl)
theorem dX0_copy_95 : decode cX0_copy 95 = .ok (.aload 6, 2) := dk_25 6 (dk_at dksX0_copy_4 0 rfl rfl)
theorem dX0_copy_97 : decode cX0_copy 97 = .ok (.invokevirtual 117, 3) := dk_182 0 117 (dk_at dksX0_copy_4 2 rfl rfl)
theorem dX0_copy_100 : decode cX0_copy 100 = .ok (.ireturn, 1) := dk_172 (dk_at dksX0_copy_4 5 rfl rfl)
abbrev cX0_drop : ByteArray := prog_1_method_11_code
def yX0_drop : MethodName := ⟨RX0, "drop", "(I)I"⟩
def dkwX0_drop_1 : List UInt8 := [27, 1, 83, 42, 28, 182, 0, 113, 172, 77, 42, 44, 182, 0, 117, 172]
abbrev dktX0_drop_1 : List UInt8 := dkwX0_drop_1 ++ []
def dkwX0_drop_0 : List UInt8 := [27, 184, 0, 103, 154, 0, 6, 18, 109, 172, 42, 27, 182, 0, 121, 180, 0, 125, 190, 61, 42, 180, 0, 11]
abbrev dktX0_drop_0 : List UInt8 := dkwX0_drop_0 ++ dktX0_drop_1
theorem dksX0_drop_0 : cX0_drop.data.toList.drop 0 = dktX0_drop_0 := by decide +kernel
theorem dksX0_drop_1 : cX0_drop.data.toList.drop 24 = dktX0_drop_1 := dk_seg dksX0_drop_0 24 rfl rfl
theorem dX0_drop_0 : decode cX0_drop 0 = .ok (.iload_n 1, 1) := dk_27 (dk_at dksX0_drop_0 0 rfl rfl)
theorem dX0_drop_1 : decode cX0_drop 1 = .ok (.invokestatic 103, 3) := dk_184 0 103 (dk_at dksX0_drop_0 1 rfl rfl)
theorem dX0_drop_4 : decode cX0_drop 4 = .ok (.ifCond .ne 6, 3) := dk_154 0 6 (dk_at dksX0_drop_0 4 rfl rfl)
theorem dX0_drop_7 : decode cX0_drop 7 = .ok (.ldc 109, 2) := dk_18 109 (dk_at dksX0_drop_0 7 rfl rfl)
theorem dX0_drop_9 : decode cX0_drop 9 = .ok (.ireturn, 1) := dk_172 (dk_at dksX0_drop_0 9 rfl rfl)
theorem dX0_drop_10 : decode cX0_drop 10 = .ok (.aload_n 0, 1) := dk_42 (dk_at dksX0_drop_0 10 rfl rfl)
theorem dX0_drop_11 : decode cX0_drop 11 = .ok (.iload_n 1, 1) := dk_27 (dk_at dksX0_drop_0 11 rfl rfl)
theorem dX0_drop_12 : decode cX0_drop 12 = .ok (.invokevirtual 121, 3) := dk_182 0 121 (dk_at dksX0_drop_0 12 rfl rfl)
theorem dX0_drop_15 : decode cX0_drop 15 = .ok (.getfield 125, 3) := dk_180 0 125 (dk_at dksX0_drop_0 15 rfl rfl)
theorem dX0_drop_18 : decode cX0_drop 18 = .ok (.arraylength, 1) := dk_190 (dk_at dksX0_drop_0 18 rfl rfl)
theorem dX0_drop_19 : decode cX0_drop 19 = .ok (.istore_n 2, 1) := dk_61 (dk_at dksX0_drop_0 19 rfl rfl)
theorem dX0_drop_20 : decode cX0_drop 20 = .ok (.aload_n 0, 1) := dk_42 (dk_at dksX0_drop_0 20 rfl rfl)
theorem dX0_drop_21 : decode cX0_drop 21 = .ok (.getfield 11, 3) := dk_180 0 11 (dk_at dksX0_drop_0 21 rfl rfl)
theorem dX0_drop_24 : decode cX0_drop 24 = .ok (.iload_n 1, 1) := dk_27 (dk_at dksX0_drop_1 0 rfl rfl)
theorem dX0_drop_25 : decode cX0_drop 25 = .ok (.aconst_null, 1) := dk_1 (dk_at dksX0_drop_1 1 rfl rfl)
theorem dX0_drop_26 : decode cX0_drop 26 = .ok (.aastore, 1) := dk_83 (dk_at dksX0_drop_1 2 rfl rfl)
theorem dX0_drop_27 : decode cX0_drop 27 = .ok (.aload_n 0, 1) := dk_42 (dk_at dksX0_drop_1 3 rfl rfl)
theorem dX0_drop_28 : decode cX0_drop 28 = .ok (.iload_n 2, 1) := dk_28 (dk_at dksX0_drop_1 4 rfl rfl)
theorem dX0_drop_29 : decode cX0_drop 29 = .ok (.invokevirtual 113, 3) := dk_182 0 113 (dk_at dksX0_drop_1 5 rfl rfl)
theorem dX0_drop_32 : decode cX0_drop 32 = .ok (.ireturn, 1) := dk_172 (dk_at dksX0_drop_1 8 rfl rfl)
theorem dX0_drop_33 : decode cX0_drop 33 = .ok (.astore_n 2, 1) := dk_77 (dk_at dksX0_drop_1 9 rfl rfl)
theorem dX0_drop_34 : decode cX0_drop 34 = .ok (.aload_n 0, 1) := dk_42 (dk_at dksX0_drop_1 10 rfl rfl)
theorem dX0_drop_35 : decode cX0_drop 35 = .ok (.aload_n 2, 1) := dk_44 (dk_at dksX0_drop_1 11 rfl rfl)
theorem dX0_drop_36 : decode cX0_drop 36 = .ok (.invokevirtual 117, 3) := dk_182 0 117 (dk_at dksX0_drop_1 12 rfl rfl)
theorem dX0_drop_39 : decode cX0_drop 39 = .ok (.ireturn, 1) := dk_172 (dk_at dksX0_drop_1 15 rfl rfl)
abbrev cX0_bell : ByteArray := prog_1_method_17_code
def yX0_bell : MethodName := ⟨RX0, "bell", "(III)I"⟩
def dkwX0_bell_2 : List UInt8 := [27, 29, 79, 4, 172]
abbrev dktX0_bell_2 : List UInt8 := dkwX0_bell_2 ++ []
def dkwX0_bell_1 : List UInt8 := [133, 20, 0, 154, 184, 0, 95, 154, 0, 6, 18, 109, 172, 42, 180, 0, 15, 27, 28, 79, 42, 180, 0, 19]
abbrev dktX0_bell_1 : List UInt8 := dkwX0_bell_1 ++ dktX0_bell_2
def dkwX0_bell_0 : List UInt8 := [27, 184, 0, 151, 153, 0, 30, 28, 133, 9, 20, 0, 154, 184, 0, 95, 153, 0, 18, 29, 133, 28, 4, 96]
abbrev dktX0_bell_0 : List UInt8 := dkwX0_bell_0 ++ dktX0_bell_1
theorem dksX0_bell_0 : cX0_bell.data.toList.drop 0 = dktX0_bell_0 := by decide +kernel
theorem dksX0_bell_1 : cX0_bell.data.toList.drop 24 = dktX0_bell_1 := dk_seg dksX0_bell_0 24 rfl rfl
theorem dksX0_bell_2 : cX0_bell.data.toList.drop 48 = dktX0_bell_2 := dk_seg dksX0_bell_1 24 rfl rfl
theorem dX0_bell_0 : decode cX0_bell 0 = .ok (.iload_n 1, 1) := dk_27 (dk_at dksX0_bell_0 0 rfl rfl)
theorem dX0_bell_1 : decode cX0_bell 1 = .ok (.invokestatic 151, 3) := dk_184 0 151 (dk_at dksX0_bell_0 1 rfl rfl)
theorem dX0_bell_4 : decode cX0_bell 4 = .ok (.ifCond .eq 30, 3) := dk_153 0 30 (dk_at dksX0_bell_0 4 rfl rfl)
theorem dX0_bell_7 : decode cX0_bell 7 = .ok (.iload_n 2, 1) := dk_28 (dk_at dksX0_bell_0 7 rfl rfl)
theorem dX0_bell_8 : decode cX0_bell 8 = .ok (.i2l, 1) := dk_133 (dk_at dksX0_bell_0 8 rfl rfl)
theorem dX0_bell_9 : decode cX0_bell 9 = .ok (.lconst 0, 1) := dk_9 (dk_at dksX0_bell_0 9 rfl rfl)
theorem dX0_bell_10 : decode cX0_bell 10 = .ok (.ldc2_w 154, 3) := dk_20 0 154 (dk_at dksX0_bell_0 10 rfl rfl)
theorem dX0_bell_13 : decode cX0_bell 13 = .ok (.invokestatic 95, 3) := dk_184 0 95 (dk_at dksX0_bell_0 13 rfl rfl)
theorem dX0_bell_16 : decode cX0_bell 16 = .ok (.ifCond .eq 18, 3) := dk_153 0 18 (dk_at dksX0_bell_0 16 rfl rfl)
theorem dX0_bell_19 : decode cX0_bell 19 = .ok (.iload_n 3, 1) := dk_29 (dk_at dksX0_bell_0 19 rfl rfl)
theorem dX0_bell_20 : decode cX0_bell 20 = .ok (.i2l, 1) := dk_133 (dk_at dksX0_bell_0 20 rfl rfl)
theorem dX0_bell_21 : decode cX0_bell 21 = .ok (.iload_n 2, 1) := dk_28 (dk_at dksX0_bell_0 21 rfl rfl)
theorem dX0_bell_22 : decode cX0_bell 22 = .ok (.iconst 1, 1) := dk_4 (dk_at dksX0_bell_0 22 rfl rfl)
theorem dX0_bell_23 : decode cX0_bell 23 = .ok (.iadd, 1) := dk_96 (dk_at dksX0_bell_0 23 rfl rfl)
theorem dX0_bell_24 : decode cX0_bell 24 = .ok (.i2l, 1) := dk_133 (dk_at dksX0_bell_1 0 rfl rfl)
theorem dX0_bell_25 : decode cX0_bell 25 = .ok (.ldc2_w 154, 3) := dk_20 0 154 (dk_at dksX0_bell_1 1 rfl rfl)
theorem dX0_bell_28 : decode cX0_bell 28 = .ok (.invokestatic 95, 3) := dk_184 0 95 (dk_at dksX0_bell_1 4 rfl rfl)
theorem dX0_bell_31 : decode cX0_bell 31 = .ok (.ifCond .ne 6, 3) := dk_154 0 6 (dk_at dksX0_bell_1 7 rfl rfl)
theorem dX0_bell_34 : decode cX0_bell 34 = .ok (.ldc 109, 2) := dk_18 109 (dk_at dksX0_bell_1 10 rfl rfl)
theorem dX0_bell_36 : decode cX0_bell 36 = .ok (.ireturn, 1) := dk_172 (dk_at dksX0_bell_1 12 rfl rfl)
theorem dX0_bell_37 : decode cX0_bell 37 = .ok (.aload_n 0, 1) := dk_42 (dk_at dksX0_bell_1 13 rfl rfl)
theorem dX0_bell_38 : decode cX0_bell 38 = .ok (.getfield 15, 3) := dk_180 0 15 (dk_at dksX0_bell_1 14 rfl rfl)
theorem dX0_bell_41 : decode cX0_bell 41 = .ok (.iload_n 1, 1) := dk_27 (dk_at dksX0_bell_1 17 rfl rfl)
theorem dX0_bell_42 : decode cX0_bell 42 = .ok (.iload_n 2, 1) := dk_28 (dk_at dksX0_bell_1 18 rfl rfl)
theorem dX0_bell_43 : decode cX0_bell 43 = .ok (.iastore, 1) := dk_79 (dk_at dksX0_bell_1 19 rfl rfl)
theorem dX0_bell_44 : decode cX0_bell 44 = .ok (.aload_n 0, 1) := dk_42 (dk_at dksX0_bell_1 20 rfl rfl)
theorem dX0_bell_45 : decode cX0_bell 45 = .ok (.getfield 19, 3) := dk_180 0 19 (dk_at dksX0_bell_1 21 rfl rfl)
theorem dX0_bell_48 : decode cX0_bell 48 = .ok (.iload_n 1, 1) := dk_27 (dk_at dksX0_bell_2 0 rfl rfl)
theorem dX0_bell_49 : decode cX0_bell 49 = .ok (.iload_n 3, 1) := dk_29 (dk_at dksX0_bell_2 1 rfl rfl)
theorem dX0_bell_50 : decode cX0_bell 50 = .ok (.iastore, 1) := dk_79 (dk_at dksX0_bell_2 2 rfl rfl)
theorem dX0_bell_51 : decode cX0_bell 51 = .ok (.iconst 1, 1) := dk_4 (dk_at dksX0_bell_2 3 rfl rfl)
theorem dX0_bell_52 : decode cX0_bell 52 = .ok (.ireturn, 1) := dk_172 (dk_at dksX0_bell_2 4 rfl rfl)
abbrev cX0_isGate : ByteArray := prog_1_method_12_code
def yX0_isGate : MethodName := ⟨RX0, "isGate", "(I)Z"⟩
def dkwX0_isGate_0 : List UInt8 := [26, 133, 9, 20, 0, 142, 184, 0, 95, 172]
abbrev dktX0_isGate_0 : List UInt8 := dkwX0_isGate_0 ++ []
theorem dksX0_isGate_0 : cX0_isGate.data.toList.drop 0 = dktX0_isGate_0 := by decide +kernel
theorem dX0_isGate_0 : decode cX0_isGate 0 = .ok (.iload_n 0, 1) := dk_26 (dk_at dksX0_isGate_0 0 rfl rfl)
theorem dX0_isGate_1 : decode cX0_isGate 1 = .ok (.i2l, 1) := dk_133 (dk_at dksX0_isGate_0 1 rfl rfl)
theorem dX0_isGate_2 : decode cX0_isGate 2 = .ok (.lconst 0, 1) := dk_9 (dk_at dksX0_isGate_0 2 rfl rfl)
theorem dX0_isGate_3 : decode cX0_isGate 3 = .ok (.ldc2_w 142, 3) := dk_20 0 142 (dk_at dksX0_isGate_0 3 rfl rfl)
theorem dX0_isGate_6 : decode cX0_isGate 6 = .ok (.invokestatic 95, 3) := dk_184 0 95 (dk_at dksX0_isGate_0 6 rfl rfl)
theorem dX0_isGate_9 : decode cX0_isGate 9 = .ok (.ireturn, 1) := dk_172 (dk_at dksX0_isGate_0 9 rfl rfl)
abbrev cX0_part : ByteArray := prog_1_method_18_code
def yX0_part : MethodName := ⟨RX0, "part", "(II)I"⟩
def dkwX0_part_1 : List UInt8 := [180, 0, 22, 27, 46, 62, 42, 180, 0, 22, 27, 28, 79, 29, 172]
abbrev dktX0_part_1 : List UInt8 := dkwX0_part_1 ++ []
def dkwX0_part_0 : List UInt8 := [27, 184, 0, 151, 153, 0, 15, 28, 133, 10, 20, 0, 156, 184, 0, 95, 154, 0, 6, 18, 109, 172, 42]
abbrev dktX0_part_0 : List UInt8 := dkwX0_part_0 ++ dktX0_part_1
theorem dksX0_part_0 : cX0_part.data.toList.drop 0 = dktX0_part_0 := by decide +kernel
theorem dksX0_part_1 : cX0_part.data.toList.drop 23 = dktX0_part_1 := dk_seg dksX0_part_0 23 rfl rfl
theorem dX0_part_0 : decode cX0_part 0 = .ok (.iload_n 1, 1) := dk_27 (dk_at dksX0_part_0 0 rfl rfl)
theorem dX0_part_1 : decode cX0_part 1 = .ok (.invokestatic 151, 3) := dk_184 0 151 (dk_at dksX0_part_0 1 rfl rfl)
theorem dX0_part_4 : decode cX0_part 4 = .ok (.ifCond .eq 15, 3) := dk_153 0 15 (dk_at dksX0_part_0 4 rfl rfl)
theorem dX0_part_7 : decode cX0_part 7 = .ok (.iload_n 2, 1) := dk_28 (dk_at dksX0_part_0 7 rfl rfl)
theorem dX0_part_8 : decode cX0_part 8 = .ok (.i2l, 1) := dk_133 (dk_at dksX0_part_0 8 rfl rfl)
theorem dX0_part_9 : decode cX0_part 9 = .ok (.lconst 1, 1) := dk_10 (dk_at dksX0_part_0 9 rfl rfl)
theorem dX0_part_10 : decode cX0_part 10 = .ok (.ldc2_w 156, 3) := dk_20 0 156 (dk_at dksX0_part_0 10 rfl rfl)
theorem dX0_part_13 : decode cX0_part 13 = .ok (.invokestatic 95, 3) := dk_184 0 95 (dk_at dksX0_part_0 13 rfl rfl)
theorem dX0_part_16 : decode cX0_part 16 = .ok (.ifCond .ne 6, 3) := dk_154 0 6 (dk_at dksX0_part_0 16 rfl rfl)
theorem dX0_part_19 : decode cX0_part 19 = .ok (.ldc 109, 2) := dk_18 109 (dk_at dksX0_part_0 19 rfl rfl)
theorem dX0_part_21 : decode cX0_part 21 = .ok (.ireturn, 1) := dk_172 (dk_at dksX0_part_0 21 rfl rfl)
theorem dX0_part_22 : decode cX0_part 22 = .ok (.aload_n 0, 1) := dk_42 (dk_at dksX0_part_0 22 rfl rfl)
theorem dX0_part_23 : decode cX0_part 23 = .ok (.getfield 22, 3) := dk_180 0 22 (dk_at dksX0_part_1 0 rfl rfl)
theorem dX0_part_26 : decode cX0_part 26 = .ok (.iload_n 1, 1) := dk_27 (dk_at dksX0_part_1 3 rfl rfl)
theorem dX0_part_27 : decode cX0_part 27 = .ok (.iaload, 1) := dk_46 (dk_at dksX0_part_1 4 rfl rfl)
theorem dX0_part_28 : decode cX0_part 28 = .ok (.istore_n 3, 1) := dk_62 (dk_at dksX0_part_1 5 rfl rfl)
theorem dX0_part_29 : decode cX0_part 29 = .ok (.aload_n 0, 1) := dk_42 (dk_at dksX0_part_1 6 rfl rfl)
theorem dX0_part_30 : decode cX0_part 30 = .ok (.getfield 22, 3) := dk_180 0 22 (dk_at dksX0_part_1 7 rfl rfl)
theorem dX0_part_33 : decode cX0_part 33 = .ok (.iload_n 1, 1) := dk_27 (dk_at dksX0_part_1 10 rfl rfl)
theorem dX0_part_34 : decode cX0_part 34 = .ok (.iload_n 2, 1) := dk_28 (dk_at dksX0_part_1 11 rfl rfl)
theorem dX0_part_35 : decode cX0_part 35 = .ok (.iastore, 1) := dk_79 (dk_at dksX0_part_1 12 rfl rfl)
theorem dX0_part_36 : decode cX0_part 36 = .ok (.iload_n 3, 1) := dk_29 (dk_at dksX0_part_1 13 rfl rfl)
theorem dX0_part_37 : decode cX0_part 37 = .ok (.ireturn, 1) := dk_172 (dk_at dksX0_part_1 14 rfl rfl)
abbrev cX0_stands : ByteArray := prog_1_method_19_code
def yX0_stands : MethodName := ⟨RX0, "stands", "(III)I"⟩
def dkwX0_stands_1 : List UInt8 := [79, 42, 180, 0, 28, 27, 29, 79, 4, 172]
abbrev dktX0_stands_1 : List UInt8 := dkwX0_stands_1 ++ []
def dkwX0_stands_0 : List UInt8 := [27, 184, 0, 151, 153, 0, 11, 28, 29, 184, 0, 158, 154, 0, 6, 18, 109, 172, 42, 180, 0, 25, 27, 28]
abbrev dktX0_stands_0 : List UInt8 := dkwX0_stands_0 ++ dktX0_stands_1
theorem dksX0_stands_0 : cX0_stands.data.toList.drop 0 = dktX0_stands_0 := by decide +kernel
theorem dksX0_stands_1 : cX0_stands.data.toList.drop 24 = dktX0_stands_1 := dk_seg dksX0_stands_0 24 rfl rfl
theorem dX0_stands_0 : decode cX0_stands 0 = .ok (.iload_n 1, 1) := dk_27 (dk_at dksX0_stands_0 0 rfl rfl)
theorem dX0_stands_1 : decode cX0_stands 1 = .ok (.invokestatic 151, 3) := dk_184 0 151 (dk_at dksX0_stands_0 1 rfl rfl)
theorem dX0_stands_4 : decode cX0_stands 4 = .ok (.ifCond .eq 11, 3) := dk_153 0 11 (dk_at dksX0_stands_0 4 rfl rfl)
theorem dX0_stands_7 : decode cX0_stands 7 = .ok (.iload_n 2, 1) := dk_28 (dk_at dksX0_stands_0 7 rfl rfl)
theorem dX0_stands_8 : decode cX0_stands 8 = .ok (.iload_n 3, 1) := dk_29 (dk_at dksX0_stands_0 8 rfl rfl)
theorem dX0_stands_9 : decode cX0_stands 9 = .ok (.invokestatic 158, 3) := dk_184 0 158 (dk_at dksX0_stands_0 9 rfl rfl)
theorem dX0_stands_12 : decode cX0_stands 12 = .ok (.ifCond .ne 6, 3) := dk_154 0 6 (dk_at dksX0_stands_0 12 rfl rfl)
theorem dX0_stands_15 : decode cX0_stands 15 = .ok (.ldc 109, 2) := dk_18 109 (dk_at dksX0_stands_0 15 rfl rfl)
theorem dX0_stands_17 : decode cX0_stands 17 = .ok (.ireturn, 1) := dk_172 (dk_at dksX0_stands_0 17 rfl rfl)
theorem dX0_stands_18 : decode cX0_stands 18 = .ok (.aload_n 0, 1) := dk_42 (dk_at dksX0_stands_0 18 rfl rfl)
theorem dX0_stands_19 : decode cX0_stands 19 = .ok (.getfield 25, 3) := dk_180 0 25 (dk_at dksX0_stands_0 19 rfl rfl)
theorem dX0_stands_22 : decode cX0_stands 22 = .ok (.iload_n 1, 1) := dk_27 (dk_at dksX0_stands_0 22 rfl rfl)
theorem dX0_stands_23 : decode cX0_stands 23 = .ok (.iload_n 2, 1) := dk_28 (dk_at dksX0_stands_0 23 rfl rfl)
theorem dX0_stands_24 : decode cX0_stands 24 = .ok (.iastore, 1) := dk_79 (dk_at dksX0_stands_1 0 rfl rfl)
theorem dX0_stands_25 : decode cX0_stands 25 = .ok (.aload_n 0, 1) := dk_42 (dk_at dksX0_stands_1 1 rfl rfl)
theorem dX0_stands_26 : decode cX0_stands 26 = .ok (.getfield 28, 3) := dk_180 0 28 (dk_at dksX0_stands_1 2 rfl rfl)
theorem dX0_stands_29 : decode cX0_stands 29 = .ok (.iload_n 1, 1) := dk_27 (dk_at dksX0_stands_1 5 rfl rfl)
theorem dX0_stands_30 : decode cX0_stands 30 = .ok (.iload_n 3, 1) := dk_29 (dk_at dksX0_stands_1 6 rfl rfl)
theorem dX0_stands_31 : decode cX0_stands 31 = .ok (.iastore, 1) := dk_79 (dk_at dksX0_stands_1 7 rfl rfl)
theorem dX0_stands_32 : decode cX0_stands 32 = .ok (.iconst 1, 1) := dk_4 (dk_at dksX0_stands_1 8 rfl rfl)
theorem dX0_stands_33 : decode cX0_stands 33 = .ok (.ireturn, 1) := dk_172 (dk_at dksX0_stands_1 9 rfl rfl)
abbrev cX0_isPlace : ByteArray := prog_1_method_16_code
def yX0_isPlace : MethodName := ⟨RX0, "isPlace", "(II)Z"⟩
def dkwX0_isPlace_1 : List UInt8 := [4, 167, 0, 4, 3, 172]
abbrev dktX0_isPlace_1 : List UInt8 := dkwX0_isPlace_1 ++ []
def dkwX0_isPlace_0 : List UInt8 := [26, 133, 9, 20, 0, 144, 184, 0, 95, 153, 0, 19, 27, 133, 9, 20, 0, 144, 184, 0, 95, 153, 0, 7]
abbrev dktX0_isPlace_0 : List UInt8 := dkwX0_isPlace_0 ++ dktX0_isPlace_1
theorem dksX0_isPlace_0 : cX0_isPlace.data.toList.drop 0 = dktX0_isPlace_0 := by decide +kernel
theorem dksX0_isPlace_1 : cX0_isPlace.data.toList.drop 24 = dktX0_isPlace_1 := dk_seg dksX0_isPlace_0 24 rfl rfl
theorem dX0_isPlace_0 : decode cX0_isPlace 0 = .ok (.iload_n 0, 1) := dk_26 (dk_at dksX0_isPlace_0 0 rfl rfl)
theorem dX0_isPlace_1 : decode cX0_isPlace 1 = .ok (.i2l, 1) := dk_133 (dk_at dksX0_isPlace_0 1 rfl rfl)
theorem dX0_isPlace_2 : decode cX0_isPlace 2 = .ok (.lconst 0, 1) := dk_9 (dk_at dksX0_isPlace_0 2 rfl rfl)
theorem dX0_isPlace_3 : decode cX0_isPlace 3 = .ok (.ldc2_w 144, 3) := dk_20 0 144 (dk_at dksX0_isPlace_0 3 rfl rfl)
theorem dX0_isPlace_6 : decode cX0_isPlace 6 = .ok (.invokestatic 95, 3) := dk_184 0 95 (dk_at dksX0_isPlace_0 6 rfl rfl)
theorem dX0_isPlace_9 : decode cX0_isPlace 9 = .ok (.ifCond .eq 19, 3) := dk_153 0 19 (dk_at dksX0_isPlace_0 9 rfl rfl)
theorem dX0_isPlace_12 : decode cX0_isPlace 12 = .ok (.iload_n 1, 1) := dk_27 (dk_at dksX0_isPlace_0 12 rfl rfl)
theorem dX0_isPlace_13 : decode cX0_isPlace 13 = .ok (.i2l, 1) := dk_133 (dk_at dksX0_isPlace_0 13 rfl rfl)
theorem dX0_isPlace_14 : decode cX0_isPlace 14 = .ok (.lconst 0, 1) := dk_9 (dk_at dksX0_isPlace_0 14 rfl rfl)
theorem dX0_isPlace_15 : decode cX0_isPlace 15 = .ok (.ldc2_w 144, 3) := dk_20 0 144 (dk_at dksX0_isPlace_0 15 rfl rfl)
theorem dX0_isPlace_18 : decode cX0_isPlace 18 = .ok (.invokestatic 95, 3) := dk_184 0 95 (dk_at dksX0_isPlace_0 18 rfl rfl)
theorem dX0_isPlace_21 : decode cX0_isPlace 21 = .ok (.ifCond .eq 7, 3) := dk_153 0 7 (dk_at dksX0_isPlace_0 21 rfl rfl)
theorem dX0_isPlace_24 : decode cX0_isPlace 24 = .ok (.iconst 1, 1) := dk_4 (dk_at dksX0_isPlace_1 0 rfl rfl)
theorem dX0_isPlace_25 : decode cX0_isPlace 25 = .ok (.goto 4, 3) := dk_167 0 4 (dk_at dksX0_isPlace_1 1 rfl rfl)
theorem dX0_isPlace_28 : decode cX0_isPlace 28 = .ok (.iconst 0, 1) := dk_3 (dk_at dksX0_isPlace_1 4 rfl rfl)
theorem dX0_isPlace_29 : decode cX0_isPlace 29 = .ok (.ireturn, 1) := dk_172 (dk_at dksX0_isPlace_1 5 rfl rfl)
abbrev cX0_feed : ByteArray := prog_1_method_21_code
def yX0_feed : MethodName := ⟨RX0, "feed", "(JI)I"⟩
def dkwX0_feed_3 : List UInt8 := [167, 255, 223, 42, 180, 0, 162, 172]
abbrev dktX0_feed_3 : List UInt8 := dkwX0_feed_3 ++ []
def dkwX0_feed_2 : List UInt8 := [180, 0, 162, 90, 4, 96, 181, 0, 162, 31, 16, 8, 21, 4, 104, 123, 136, 145, 84, 132, 4, 255]
abbrev dktX0_feed_2 : List UInt8 := dkwX0_feed_2 ++ dktX0_feed_3
def dkwX0_feed_1 : List UInt8 := [164, 0, 6, 18, 165, 172, 29, 4, 100, 54, 4, 21, 4, 155, 0, 34, 42, 180, 0, 38, 42, 89]
abbrev dktX0_feed_1 : List UInt8 := dkwX0_feed_1 ++ dktX0_feed_2
def dkwX0_feed_0 : List UInt8 := [29, 133, 10, 20, 0, 142, 184, 0, 95, 154, 0, 6, 18, 109, 172, 42, 180, 0, 162, 29, 96, 17, 1, 144]
abbrev dktX0_feed_0 : List UInt8 := dkwX0_feed_0 ++ dktX0_feed_1
theorem dksX0_feed_0 : cX0_feed.data.toList.drop 0 = dktX0_feed_0 := by decide +kernel
theorem dksX0_feed_1 : cX0_feed.data.toList.drop 24 = dktX0_feed_1 := dk_seg dksX0_feed_0 24 rfl rfl
theorem dksX0_feed_2 : cX0_feed.data.toList.drop 46 = dktX0_feed_2 := dk_seg dksX0_feed_1 22 rfl rfl
theorem dksX0_feed_3 : cX0_feed.data.toList.drop 68 = dktX0_feed_3 := dk_seg dksX0_feed_2 22 rfl rfl
theorem dX0_feed_0 : decode cX0_feed 0 = .ok (.iload_n 3, 1) := dk_29 (dk_at dksX0_feed_0 0 rfl rfl)
theorem dX0_feed_1 : decode cX0_feed 1 = .ok (.i2l, 1) := dk_133 (dk_at dksX0_feed_0 1 rfl rfl)
theorem dX0_feed_2 : decode cX0_feed 2 = .ok (.lconst 1, 1) := dk_10 (dk_at dksX0_feed_0 2 rfl rfl)
theorem dX0_feed_3 : decode cX0_feed 3 = .ok (.ldc2_w 142, 3) := dk_20 0 142 (dk_at dksX0_feed_0 3 rfl rfl)
theorem dX0_feed_6 : decode cX0_feed 6 = .ok (.invokestatic 95, 3) := dk_184 0 95 (dk_at dksX0_feed_0 6 rfl rfl)
theorem dX0_feed_9 : decode cX0_feed 9 = .ok (.ifCond .ne 6, 3) := dk_154 0 6 (dk_at dksX0_feed_0 9 rfl rfl)
theorem dX0_feed_12 : decode cX0_feed 12 = .ok (.ldc 109, 2) := dk_18 109 (dk_at dksX0_feed_0 12 rfl rfl)
theorem dX0_feed_14 : decode cX0_feed 14 = .ok (.ireturn, 1) := dk_172 (dk_at dksX0_feed_0 14 rfl rfl)
theorem dX0_feed_15 : decode cX0_feed 15 = .ok (.aload_n 0, 1) := dk_42 (dk_at dksX0_feed_0 15 rfl rfl)
theorem dX0_feed_16 : decode cX0_feed 16 = .ok (.getfield 162, 3) := dk_180 0 162 (dk_at dksX0_feed_0 16 rfl rfl)
theorem dX0_feed_19 : decode cX0_feed 19 = .ok (.iload_n 3, 1) := dk_29 (dk_at dksX0_feed_0 19 rfl rfl)
theorem dX0_feed_20 : decode cX0_feed 20 = .ok (.iadd, 1) := dk_96 (dk_at dksX0_feed_0 20 rfl rfl)
theorem dX0_feed_21 : decode cX0_feed 21 = .ok (.sipush 400, 3) := dk_17 1 144 (dk_at dksX0_feed_0 21 rfl rfl)
theorem dX0_feed_24 : decode cX0_feed 24 = .ok (.if_icmp .le 6, 3) := dk_164 0 6 (dk_at dksX0_feed_1 0 rfl rfl)
theorem dX0_feed_27 : decode cX0_feed 27 = .ok (.ldc 165, 2) := dk_18 165 (dk_at dksX0_feed_1 3 rfl rfl)
theorem dX0_feed_29 : decode cX0_feed 29 = .ok (.ireturn, 1) := dk_172 (dk_at dksX0_feed_1 5 rfl rfl)
theorem dX0_feed_30 : decode cX0_feed 30 = .ok (.iload_n 3, 1) := dk_29 (dk_at dksX0_feed_1 6 rfl rfl)
theorem dX0_feed_31 : decode cX0_feed 31 = .ok (.iconst 1, 1) := dk_4 (dk_at dksX0_feed_1 7 rfl rfl)
theorem dX0_feed_32 : decode cX0_feed 32 = .ok (.isub, 1) := dk_100 (dk_at dksX0_feed_1 8 rfl rfl)
theorem dX0_feed_33 : decode cX0_feed 33 = .ok (.istore 4, 2) := dk_54 4 (dk_at dksX0_feed_1 9 rfl rfl)
theorem dX0_feed_35 : decode cX0_feed 35 = .ok (.iload 4, 2) := dk_21 4 (dk_at dksX0_feed_1 11 rfl rfl)
theorem dX0_feed_37 : decode cX0_feed 37 = .ok (.ifCond .lt 34, 3) := dk_155 0 34 (dk_at dksX0_feed_1 13 rfl rfl)
theorem dX0_feed_40 : decode cX0_feed 40 = .ok (.aload_n 0, 1) := dk_42 (dk_at dksX0_feed_1 16 rfl rfl)
theorem dX0_feed_41 : decode cX0_feed 41 = .ok (.getfield 38, 3) := dk_180 0 38 (dk_at dksX0_feed_1 17 rfl rfl)
theorem dX0_feed_44 : decode cX0_feed 44 = .ok (.aload_n 0, 1) := dk_42 (dk_at dksX0_feed_1 20 rfl rfl)
theorem dX0_feed_45 : decode cX0_feed 45 = .ok (.dup, 1) := dk_89 (dk_at dksX0_feed_1 21 rfl rfl)
theorem dX0_feed_46 : decode cX0_feed 46 = .ok (.getfield 162, 3) := dk_180 0 162 (dk_at dksX0_feed_2 0 rfl rfl)
theorem dX0_feed_49 : decode cX0_feed 49 = .ok (.dup_x1, 1) := dk_90 (dk_at dksX0_feed_2 3 rfl rfl)
theorem dX0_feed_50 : decode cX0_feed 50 = .ok (.iconst 1, 1) := dk_4 (dk_at dksX0_feed_2 4 rfl rfl)
theorem dX0_feed_51 : decode cX0_feed 51 = .ok (.iadd, 1) := dk_96 (dk_at dksX0_feed_2 5 rfl rfl)
theorem dX0_feed_52 : decode cX0_feed 52 = .ok (.putfield 162, 3) := dk_181 0 162 (dk_at dksX0_feed_2 6 rfl rfl)
theorem dX0_feed_55 : decode cX0_feed 55 = .ok (.lload_n 1, 1) := dk_31 (dk_at dksX0_feed_2 9 rfl rfl)
theorem dX0_feed_56 : decode cX0_feed 56 = .ok (.bipush 8, 2) := dk_16 8 (dk_at dksX0_feed_2 10 rfl rfl)
theorem dX0_feed_58 : decode cX0_feed 58 = .ok (.iload 4, 2) := dk_21 4 (dk_at dksX0_feed_2 12 rfl rfl)
theorem dX0_feed_60 : decode cX0_feed 60 = .ok (.imul, 1) := dk_104 (dk_at dksX0_feed_2 14 rfl rfl)
theorem dX0_feed_61 : decode cX0_feed 61 = .ok (.lshr, 1) := dk_123 (dk_at dksX0_feed_2 15 rfl rfl)
theorem dX0_feed_62 : decode cX0_feed 62 = .ok (.l2i, 1) := dk_136 (dk_at dksX0_feed_2 16 rfl rfl)
theorem dX0_feed_63 : decode cX0_feed 63 = .ok (.i2b, 1) := dk_145 (dk_at dksX0_feed_2 17 rfl rfl)
theorem dX0_feed_64 : decode cX0_feed 64 = .ok (.bastore, 1) := dk_84 (dk_at dksX0_feed_2 18 rfl rfl)
theorem dX0_feed_65 : decode cX0_feed 65 = .ok (.iinc 4 (-1), 3) := dk_132 4 255 (dk_at dksX0_feed_2 19 rfl rfl)
theorem dX0_feed_68 : decode cX0_feed 68 = .ok (.goto (-33), 3) := dk_167 255 223 (dk_at dksX0_feed_3 0 rfl rfl)
theorem dX0_feed_71 : decode cX0_feed 71 = .ok (.aload_n 0, 1) := dk_42 (dk_at dksX0_feed_3 3 rfl rfl)
theorem dX0_feed_72 : decode cX0_feed 72 = .ok (.getfield 162, 3) := dk_180 0 162 (dk_at dksX0_feed_3 4 rfl rfl)
theorem dX0_feed_75 : decode cX0_feed 75 = .ok (.ireturn, 1) := dk_172 (dk_at dksX0_feed_3 7 rfl rfl)
abbrev cX0_laws : ByteArray := prog_1_method_22_code
def yX0_laws : MethodName := ⟨RX0, "laws", "()I"⟩
def dkwX0_laws_4 : List UInt8 := [185, 0, 201, 2, 0, 87, 132, 2, 1, 167, 255, 217, 42, 180, 0, 34, 185, 0, 168, 1, 0, 172]
abbrev dktX0_laws_4 : List UInt8 := dkwX0_laws_4 ++ []
def dkwX0_laws_3 : List UInt8 := [162, 0, 32, 42, 180, 0, 34, 43, 180, 0, 192, 28, 185, 0, 195, 2, 0, 192, 0, 199]
abbrev dktX0_laws_3 : List UInt8 := dkwX0_laws_3 ++ dktX0_laws_4
def dkwX0_laws_2 : List UInt8 := [181, 0, 185, 18, 188, 44, 180, 0, 189, 100, 172, 3, 61, 28, 43, 180, 0, 192, 185, 0, 168, 1, 0]
abbrev dktX0_laws_2 : List UInt8 := dkwX0_laws_2 ++ dktX0_laws_3
def dkwX0_laws_1 : List UInt8 := [183, 0, 174, 76, 42, 3, 181, 0, 162, 43, 182, 0, 177, 167, 0, 20, 77, 42, 44, 180, 0, 182]
abbrev dktX0_laws_1 : List UInt8 := dkwX0_laws_1 ++ dktX0_laws_2
def dkwX0_laws_0 : List UInt8 := [187, 0, 166, 89, 42, 180, 0, 38, 42, 180, 0, 162, 16, 30, 42, 180, 0, 34, 185, 0, 168, 1, 0, 100]
abbrev dktX0_laws_0 : List UInt8 := dkwX0_laws_0 ++ dktX0_laws_1
theorem dksX0_laws_0 : cX0_laws.data.toList.drop 0 = dktX0_laws_0 := by decide +kernel
theorem dksX0_laws_1 : cX0_laws.data.toList.drop 24 = dktX0_laws_1 := dk_seg dksX0_laws_0 24 rfl rfl
theorem dksX0_laws_2 : cX0_laws.data.toList.drop 46 = dktX0_laws_2 := dk_seg dksX0_laws_1 22 rfl rfl
theorem dksX0_laws_3 : cX0_laws.data.toList.drop 69 = dktX0_laws_3 := dk_seg dksX0_laws_2 23 rfl rfl
theorem dksX0_laws_4 : cX0_laws.data.toList.drop 89 = dktX0_laws_4 := dk_seg dksX0_laws_3 20 rfl rfl
theorem dX0_laws_0 : decode cX0_laws 0 = .ok (.new 166, 3) := dk_187 0 166 (dk_at dksX0_laws_0 0 rfl rfl)
theorem dX0_laws_3 : decode cX0_laws 3 = .ok (.dup, 1) := dk_89 (dk_at dksX0_laws_0 3 rfl rfl)
theorem dX0_laws_4 : decode cX0_laws 4 = .ok (.aload_n 0, 1) := dk_42 (dk_at dksX0_laws_0 4 rfl rfl)
theorem dX0_laws_5 : decode cX0_laws 5 = .ok (.getfield 38, 3) := dk_180 0 38 (dk_at dksX0_laws_0 5 rfl rfl)
theorem dX0_laws_8 : decode cX0_laws 8 = .ok (.aload_n 0, 1) := dk_42 (dk_at dksX0_laws_0 8 rfl rfl)
theorem dX0_laws_9 : decode cX0_laws 9 = .ok (.getfield 162, 3) := dk_180 0 162 (dk_at dksX0_laws_0 9 rfl rfl)
theorem dX0_laws_12 : decode cX0_laws 12 = .ok (.bipush 30, 2) := dk_16 30 (dk_at dksX0_laws_0 12 rfl rfl)
theorem dX0_laws_14 : decode cX0_laws 14 = .ok (.aload_n 0, 1) := dk_42 (dk_at dksX0_laws_0 14 rfl rfl)
theorem dX0_laws_15 : decode cX0_laws 15 = .ok (.getfield 34, 3) := dk_180 0 34 (dk_at dksX0_laws_0 15 rfl rfl)
theorem dX0_laws_18 : decode cX0_laws 18 = .ok (.invokeinterface 168 1, 5) := by decide +kernel
theorem dX0_laws_23 : decode cX0_laws 23 = .ok (.isub, 1) := dk_100 (dk_at dksX0_laws_0 23 rfl rfl)
theorem dX0_laws_24 : decode cX0_laws 24 = .ok (.invokespecial 174, 3) := dk_183 0 174 (dk_at dksX0_laws_1 0 rfl rfl)
theorem dX0_laws_27 : decode cX0_laws 27 = .ok (.astore_n 1, 1) := dk_76 (dk_at dksX0_laws_1 3 rfl rfl)
theorem dX0_laws_28 : decode cX0_laws 28 = .ok (.aload_n 0, 1) := dk_42 (dk_at dksX0_laws_1 4 rfl rfl)
theorem dX0_laws_29 : decode cX0_laws 29 = .ok (.iconst 0, 1) := dk_3 (dk_at dksX0_laws_1 5 rfl rfl)
theorem dX0_laws_30 : decode cX0_laws 30 = .ok (.putfield 162, 3) := dk_181 0 162 (dk_at dksX0_laws_1 6 rfl rfl)
theorem dX0_laws_33 : decode cX0_laws 33 = .ok (.aload_n 1, 1) := dk_43 (dk_at dksX0_laws_1 9 rfl rfl)
theorem dX0_laws_34 : decode cX0_laws 34 = .ok (.invokevirtual 177, 3) := dk_182 0 177 (dk_at dksX0_laws_1 10 rfl rfl)
theorem dX0_laws_37 : decode cX0_laws 37 = .ok (.goto 20, 3) := dk_167 0 20 (dk_at dksX0_laws_1 13 rfl rfl)
theorem dX0_laws_40 : decode cX0_laws 40 = .ok (.astore_n 2, 1) := dk_77 (dk_at dksX0_laws_1 16 rfl rfl)
theorem dX0_laws_41 : decode cX0_laws 41 = .ok (.aload_n 0, 1) := dk_42 (dk_at dksX0_laws_1 17 rfl rfl)
theorem dX0_laws_42 : decode cX0_laws 42 = .ok (.aload_n 2, 1) := dk_44 (dk_at dksX0_laws_1 18 rfl rfl)
theorem dX0_laws_43 : decode cX0_laws 43 = .ok (.getfield 182, 3) := dk_180 0 182 (dk_at dksX0_laws_1 19 rfl rfl)
theorem dX0_laws_46 : decode cX0_laws 46 = .ok (.putfield 185, 3) := dk_181 0 185 (dk_at dksX0_laws_2 0 rfl rfl)
theorem dX0_laws_49 : decode cX0_laws 49 = .ok (.ldc 188, 2) := dk_18 188 (dk_at dksX0_laws_2 3 rfl rfl)
theorem dX0_laws_51 : decode cX0_laws 51 = .ok (.aload_n 2, 1) := dk_44 (dk_at dksX0_laws_2 5 rfl rfl)
theorem dX0_laws_52 : decode cX0_laws 52 = .ok (.getfield 189, 3) := dk_180 0 189 (dk_at dksX0_laws_2 6 rfl rfl)
theorem dX0_laws_55 : decode cX0_laws 55 = .ok (.isub, 1) := dk_100 (dk_at dksX0_laws_2 9 rfl rfl)
theorem dX0_laws_56 : decode cX0_laws 56 = .ok (.ireturn, 1) := dk_172 (dk_at dksX0_laws_2 10 rfl rfl)
theorem dX0_laws_57 : decode cX0_laws 57 = .ok (.iconst 0, 1) := dk_3 (dk_at dksX0_laws_2 11 rfl rfl)
theorem dX0_laws_58 : decode cX0_laws 58 = .ok (.istore_n 2, 1) := dk_61 (dk_at dksX0_laws_2 12 rfl rfl)
theorem dX0_laws_59 : decode cX0_laws 59 = .ok (.iload_n 2, 1) := dk_28 (dk_at dksX0_laws_2 13 rfl rfl)
theorem dX0_laws_60 : decode cX0_laws 60 = .ok (.aload_n 1, 1) := dk_43 (dk_at dksX0_laws_2 14 rfl rfl)
theorem dX0_laws_61 : decode cX0_laws 61 = .ok (.getfield 192, 3) := dk_180 0 192 (dk_at dksX0_laws_2 15 rfl rfl)
theorem dX0_laws_64 : decode cX0_laws 64 = .ok (.invokeinterface 168 1, 5) := by decide +kernel
theorem dX0_laws_69 : decode cX0_laws 69 = .ok (.if_icmp .ge 32, 3) := dk_162 0 32 (dk_at dksX0_laws_3 0 rfl rfl)
theorem dX0_laws_72 : decode cX0_laws 72 = .ok (.aload_n 0, 1) := dk_42 (dk_at dksX0_laws_3 3 rfl rfl)
theorem dX0_laws_73 : decode cX0_laws 73 = .ok (.getfield 34, 3) := dk_180 0 34 (dk_at dksX0_laws_3 4 rfl rfl)
theorem dX0_laws_76 : decode cX0_laws 76 = .ok (.aload_n 1, 1) := dk_43 (dk_at dksX0_laws_3 7 rfl rfl)
theorem dX0_laws_77 : decode cX0_laws 77 = .ok (.getfield 192, 3) := dk_180 0 192 (dk_at dksX0_laws_3 8 rfl rfl)
theorem dX0_laws_80 : decode cX0_laws 80 = .ok (.iload_n 2, 1) := dk_28 (dk_at dksX0_laws_3 11 rfl rfl)
theorem dX0_laws_81 : decode cX0_laws 81 = .ok (.invokeinterface 195 2, 5) := by decide +kernel
theorem dX0_laws_86 : decode cX0_laws 86 = .ok (.checkcast 199, 3) := dk_192 0 199 (dk_at dksX0_laws_3 17 rfl rfl)
theorem dX0_laws_89 : decode cX0_laws 89 = .ok (.invokeinterface 201 2, 5) := by decide +kernel
theorem dX0_laws_94 : decode cX0_laws 94 = .ok (.pop, 1) := dk_87 (dk_at dksX0_laws_4 5 rfl rfl)
theorem dX0_laws_95 : decode cX0_laws 95 = .ok (.iinc 2 1, 3) := dk_132 2 1 (dk_at dksX0_laws_4 6 rfl rfl)
theorem dX0_laws_98 : decode cX0_laws 98 = .ok (.goto (-39), 3) := dk_167 255 217 (dk_at dksX0_laws_4 9 rfl rfl)
theorem dX0_laws_101 : decode cX0_laws 101 = .ok (.aload_n 0, 1) := dk_42 (dk_at dksX0_laws_4 12 rfl rfl)
theorem dX0_laws_102 : decode cX0_laws 102 = .ok (.getfield 34, 3) := dk_180 0 34 (dk_at dksX0_laws_4 13 rfl rfl)
theorem dX0_laws_105 : decode cX0_laws 105 = .ok (.invokeinterface 168 1, 5) := by decide +kernel
theorem dX0_laws_110 : decode cX0_laws 110 = .ok (.ireturn, 1) := dk_172 (dk_at dksX0_laws_4 21 rfl rfl)
abbrev cX0_fault : ByteArray := prog_1_method_23_code
def yX0_fault : MethodName := ⟨RX0, "fault", "()I"⟩
theorem dX0_fault_0 : decode cX0_fault 0 = .ok (.aload_n 0, 1) := by decide +kernel
theorem dX0_fault_1 : decode cX0_fault 1 = .ok (.getfield 185, 3) := by decide +kernel
theorem dX0_fault_4 : decode cX0_fault 4 = .ok (.ireturn, 1) := by decide +kernel
abbrev cX0_holds : ByteArray := prog_1_method_25_code
def yX0_holds : MethodName := ⟨RX0, "holds", "(II)I"⟩
def dkwX0_holds_5 : List UInt8 := [16, 40, 100, 3, 182, 0, 215, 167, 0, 5, 18, 109, 172]
abbrev dktX0_holds_5 : List UInt8 := dkwX0_holds_5 ++ []
def dkwX0_holds_4 : List UInt8 := [100, 4, 182, 0, 215, 172, 28, 133, 20, 0, 231, 20, 0, 233, 184, 0, 95, 153, 0, 17, 42, 27, 7, 28]
abbrev dktX0_holds_4 : List UInt8 := dkwX0_holds_4 ++ dktX0_holds_5
def dkwX0_holds_3 : List UInt8 := [182, 0, 215, 172, 28, 133, 20, 0, 227, 20, 0, 229, 184, 0, 95, 153, 0, 15, 42, 27, 6, 28, 16, 30]
abbrev dktX0_holds_3 : List UInt8 := dkwX0_holds_3 ++ dktX0_holds_4
def dkwX0_holds_2 : List UInt8 := [172, 28, 133, 20, 0, 223, 20, 0, 225, 184, 0, 95, 153, 0, 15, 42, 27, 5, 28, 16, 20, 100, 3]
abbrev dktX0_holds_2 : List UInt8 := dkwX0_holds_2 ++ dktX0_holds_3
def dkwX0_holds_1 : List UInt8 := [133, 20, 0, 219, 20, 0, 221, 184, 0, 95, 153, 0, 15, 42, 27, 4, 28, 16, 10, 100, 3, 182, 0, 215]
abbrev dktX0_holds_1 : List UInt8 := dkwX0_holds_1 ++ dktX0_holds_2
def dkwX0_holds_0 : List UInt8 := [27, 184, 0, 148, 154, 0, 6, 18, 109, 172, 28, 154, 0, 12, 42, 27, 3, 3, 3, 182, 0, 215, 172, 28]
abbrev dktX0_holds_0 : List UInt8 := dkwX0_holds_0 ++ dktX0_holds_1
theorem dksX0_holds_0 : cX0_holds.data.toList.drop 0 = dktX0_holds_0 := by decide +kernel
theorem dksX0_holds_1 : cX0_holds.data.toList.drop 24 = dktX0_holds_1 := dk_seg dksX0_holds_0 24 rfl rfl
theorem dksX0_holds_2 : cX0_holds.data.toList.drop 48 = dktX0_holds_2 := dk_seg dksX0_holds_1 24 rfl rfl
theorem dksX0_holds_3 : cX0_holds.data.toList.drop 71 = dktX0_holds_3 := dk_seg dksX0_holds_2 23 rfl rfl
theorem dksX0_holds_4 : cX0_holds.data.toList.drop 95 = dktX0_holds_4 := dk_seg dksX0_holds_3 24 rfl rfl
theorem dksX0_holds_5 : cX0_holds.data.toList.drop 119 = dktX0_holds_5 := dk_seg dksX0_holds_4 24 rfl rfl
theorem dX0_holds_0 : decode cX0_holds 0 = .ok (.iload_n 1, 1) := dk_27 (dk_at dksX0_holds_0 0 rfl rfl)
theorem dX0_holds_1 : decode cX0_holds 1 = .ok (.invokestatic 148, 3) := dk_184 0 148 (dk_at dksX0_holds_0 1 rfl rfl)
theorem dX0_holds_4 : decode cX0_holds 4 = .ok (.ifCond .ne 6, 3) := dk_154 0 6 (dk_at dksX0_holds_0 4 rfl rfl)
theorem dX0_holds_7 : decode cX0_holds 7 = .ok (.ldc 109, 2) := dk_18 109 (dk_at dksX0_holds_0 7 rfl rfl)
theorem dX0_holds_9 : decode cX0_holds 9 = .ok (.ireturn, 1) := dk_172 (dk_at dksX0_holds_0 9 rfl rfl)
theorem dX0_holds_10 : decode cX0_holds 10 = .ok (.iload_n 2, 1) := dk_28 (dk_at dksX0_holds_0 10 rfl rfl)
theorem dX0_holds_11 : decode cX0_holds 11 = .ok (.ifCond .ne 12, 3) := dk_154 0 12 (dk_at dksX0_holds_0 11 rfl rfl)
theorem dX0_holds_14 : decode cX0_holds 14 = .ok (.aload_n 0, 1) := dk_42 (dk_at dksX0_holds_0 14 rfl rfl)
theorem dX0_holds_15 : decode cX0_holds 15 = .ok (.iload_n 1, 1) := dk_27 (dk_at dksX0_holds_0 15 rfl rfl)
theorem dX0_holds_16 : decode cX0_holds 16 = .ok (.iconst 0, 1) := dk_3 (dk_at dksX0_holds_0 16 rfl rfl)
theorem dX0_holds_17 : decode cX0_holds 17 = .ok (.iconst 0, 1) := dk_3 (dk_at dksX0_holds_0 17 rfl rfl)
theorem dX0_holds_18 : decode cX0_holds 18 = .ok (.iconst 0, 1) := dk_3 (dk_at dksX0_holds_0 18 rfl rfl)
theorem dX0_holds_19 : decode cX0_holds 19 = .ok (.invokevirtual 215, 3) := dk_182 0 215 (dk_at dksX0_holds_0 19 rfl rfl)
theorem dX0_holds_22 : decode cX0_holds 22 = .ok (.ireturn, 1) := dk_172 (dk_at dksX0_holds_0 22 rfl rfl)
theorem dX0_holds_23 : decode cX0_holds 23 = .ok (.iload_n 2, 1) := dk_28 (dk_at dksX0_holds_0 23 rfl rfl)
theorem dX0_holds_24 : decode cX0_holds 24 = .ok (.i2l, 1) := dk_133 (dk_at dksX0_holds_1 0 rfl rfl)
theorem dX0_holds_25 : decode cX0_holds 25 = .ok (.ldc2_w 219, 3) := dk_20 0 219 (dk_at dksX0_holds_1 1 rfl rfl)
theorem dX0_holds_28 : decode cX0_holds 28 = .ok (.ldc2_w 221, 3) := dk_20 0 221 (dk_at dksX0_holds_1 4 rfl rfl)
theorem dX0_holds_31 : decode cX0_holds 31 = .ok (.invokestatic 95, 3) := dk_184 0 95 (dk_at dksX0_holds_1 7 rfl rfl)
theorem dX0_holds_34 : decode cX0_holds 34 = .ok (.ifCond .eq 15, 3) := dk_153 0 15 (dk_at dksX0_holds_1 10 rfl rfl)
theorem dX0_holds_37 : decode cX0_holds 37 = .ok (.aload_n 0, 1) := dk_42 (dk_at dksX0_holds_1 13 rfl rfl)
theorem dX0_holds_38 : decode cX0_holds 38 = .ok (.iload_n 1, 1) := dk_27 (dk_at dksX0_holds_1 14 rfl rfl)
theorem dX0_holds_39 : decode cX0_holds 39 = .ok (.iconst 1, 1) := dk_4 (dk_at dksX0_holds_1 15 rfl rfl)
theorem dX0_holds_40 : decode cX0_holds 40 = .ok (.iload_n 2, 1) := dk_28 (dk_at dksX0_holds_1 16 rfl rfl)
theorem dX0_holds_41 : decode cX0_holds 41 = .ok (.bipush 10, 2) := dk_16 10 (dk_at dksX0_holds_1 17 rfl rfl)
theorem dX0_holds_43 : decode cX0_holds 43 = .ok (.isub, 1) := dk_100 (dk_at dksX0_holds_1 19 rfl rfl)
theorem dX0_holds_44 : decode cX0_holds 44 = .ok (.iconst 0, 1) := dk_3 (dk_at dksX0_holds_1 20 rfl rfl)
theorem dX0_holds_45 : decode cX0_holds 45 = .ok (.invokevirtual 215, 3) := dk_182 0 215 (dk_at dksX0_holds_1 21 rfl rfl)
theorem dX0_holds_48 : decode cX0_holds 48 = .ok (.ireturn, 1) := dk_172 (dk_at dksX0_holds_2 0 rfl rfl)
theorem dX0_holds_49 : decode cX0_holds 49 = .ok (.iload_n 2, 1) := dk_28 (dk_at dksX0_holds_2 1 rfl rfl)
theorem dX0_holds_50 : decode cX0_holds 50 = .ok (.i2l, 1) := dk_133 (dk_at dksX0_holds_2 2 rfl rfl)
theorem dX0_holds_51 : decode cX0_holds 51 = .ok (.ldc2_w 223, 3) := dk_20 0 223 (dk_at dksX0_holds_2 3 rfl rfl)
theorem dX0_holds_54 : decode cX0_holds 54 = .ok (.ldc2_w 225, 3) := dk_20 0 225 (dk_at dksX0_holds_2 6 rfl rfl)
theorem dX0_holds_57 : decode cX0_holds 57 = .ok (.invokestatic 95, 3) := dk_184 0 95 (dk_at dksX0_holds_2 9 rfl rfl)
theorem dX0_holds_60 : decode cX0_holds 60 = .ok (.ifCond .eq 15, 3) := dk_153 0 15 (dk_at dksX0_holds_2 12 rfl rfl)
theorem dX0_holds_63 : decode cX0_holds 63 = .ok (.aload_n 0, 1) := dk_42 (dk_at dksX0_holds_2 15 rfl rfl)
theorem dX0_holds_64 : decode cX0_holds 64 = .ok (.iload_n 1, 1) := dk_27 (dk_at dksX0_holds_2 16 rfl rfl)
theorem dX0_holds_65 : decode cX0_holds 65 = .ok (.iconst 2, 1) := dk_5 (dk_at dksX0_holds_2 17 rfl rfl)
theorem dX0_holds_66 : decode cX0_holds 66 = .ok (.iload_n 2, 1) := dk_28 (dk_at dksX0_holds_2 18 rfl rfl)
theorem dX0_holds_67 : decode cX0_holds 67 = .ok (.bipush 20, 2) := dk_16 20 (dk_at dksX0_holds_2 19 rfl rfl)
theorem dX0_holds_69 : decode cX0_holds 69 = .ok (.isub, 1) := dk_100 (dk_at dksX0_holds_2 21 rfl rfl)
theorem dX0_holds_70 : decode cX0_holds 70 = .ok (.iconst 0, 1) := dk_3 (dk_at dksX0_holds_2 22 rfl rfl)
theorem dX0_holds_71 : decode cX0_holds 71 = .ok (.invokevirtual 215, 3) := dk_182 0 215 (dk_at dksX0_holds_3 0 rfl rfl)
theorem dX0_holds_74 : decode cX0_holds 74 = .ok (.ireturn, 1) := dk_172 (dk_at dksX0_holds_3 3 rfl rfl)
theorem dX0_holds_75 : decode cX0_holds 75 = .ok (.iload_n 2, 1) := dk_28 (dk_at dksX0_holds_3 4 rfl rfl)
theorem dX0_holds_76 : decode cX0_holds 76 = .ok (.i2l, 1) := dk_133 (dk_at dksX0_holds_3 5 rfl rfl)
theorem dX0_holds_77 : decode cX0_holds 77 = .ok (.ldc2_w 227, 3) := dk_20 0 227 (dk_at dksX0_holds_3 6 rfl rfl)
theorem dX0_holds_80 : decode cX0_holds 80 = .ok (.ldc2_w 229, 3) := dk_20 0 229 (dk_at dksX0_holds_3 9 rfl rfl)
theorem dX0_holds_83 : decode cX0_holds 83 = .ok (.invokestatic 95, 3) := dk_184 0 95 (dk_at dksX0_holds_3 12 rfl rfl)
theorem dX0_holds_86 : decode cX0_holds 86 = .ok (.ifCond .eq 15, 3) := dk_153 0 15 (dk_at dksX0_holds_3 15 rfl rfl)
theorem dX0_holds_89 : decode cX0_holds 89 = .ok (.aload_n 0, 1) := dk_42 (dk_at dksX0_holds_3 18 rfl rfl)
theorem dX0_holds_90 : decode cX0_holds 90 = .ok (.iload_n 1, 1) := dk_27 (dk_at dksX0_holds_3 19 rfl rfl)
theorem dX0_holds_91 : decode cX0_holds 91 = .ok (.iconst 3, 1) := dk_6 (dk_at dksX0_holds_3 20 rfl rfl)
theorem dX0_holds_92 : decode cX0_holds 92 = .ok (.iload_n 2, 1) := dk_28 (dk_at dksX0_holds_3 21 rfl rfl)
theorem dX0_holds_93 : decode cX0_holds 93 = .ok (.bipush 30, 2) := dk_16 30 (dk_at dksX0_holds_3 22 rfl rfl)
theorem dX0_holds_95 : decode cX0_holds 95 = .ok (.isub, 1) := dk_100 (dk_at dksX0_holds_4 0 rfl rfl)
theorem dX0_holds_96 : decode cX0_holds 96 = .ok (.iconst 1, 1) := dk_4 (dk_at dksX0_holds_4 1 rfl rfl)
theorem dX0_holds_97 : decode cX0_holds 97 = .ok (.invokevirtual 215, 3) := dk_182 0 215 (dk_at dksX0_holds_4 2 rfl rfl)
theorem dX0_holds_100 : decode cX0_holds 100 = .ok (.ireturn, 1) := dk_172 (dk_at dksX0_holds_4 5 rfl rfl)
theorem dX0_holds_101 : decode cX0_holds 101 = .ok (.iload_n 2, 1) := dk_28 (dk_at dksX0_holds_4 6 rfl rfl)
theorem dX0_holds_102 : decode cX0_holds 102 = .ok (.i2l, 1) := dk_133 (dk_at dksX0_holds_4 7 rfl rfl)
theorem dX0_holds_103 : decode cX0_holds 103 = .ok (.ldc2_w 231, 3) := dk_20 0 231 (dk_at dksX0_holds_4 8 rfl rfl)
theorem dX0_holds_106 : decode cX0_holds 106 = .ok (.ldc2_w 233, 3) := dk_20 0 233 (dk_at dksX0_holds_4 11 rfl rfl)
theorem dX0_holds_109 : decode cX0_holds 109 = .ok (.invokestatic 95, 3) := dk_184 0 95 (dk_at dksX0_holds_4 14 rfl rfl)
theorem dX0_holds_112 : decode cX0_holds 112 = .ok (.ifCond .eq 17, 3) := dk_153 0 17 (dk_at dksX0_holds_4 17 rfl rfl)
theorem dX0_holds_115 : decode cX0_holds 115 = .ok (.aload_n 0, 1) := dk_42 (dk_at dksX0_holds_4 20 rfl rfl)
theorem dX0_holds_116 : decode cX0_holds 116 = .ok (.iload_n 1, 1) := dk_27 (dk_at dksX0_holds_4 21 rfl rfl)
theorem dX0_holds_117 : decode cX0_holds 117 = .ok (.iconst 4, 1) := dk_7 (dk_at dksX0_holds_4 22 rfl rfl)
theorem dX0_holds_118 : decode cX0_holds 118 = .ok (.iload_n 2, 1) := dk_28 (dk_at dksX0_holds_4 23 rfl rfl)
theorem dX0_holds_119 : decode cX0_holds 119 = .ok (.bipush 40, 2) := dk_16 40 (dk_at dksX0_holds_5 0 rfl rfl)
theorem dX0_holds_121 : decode cX0_holds 121 = .ok (.isub, 1) := dk_100 (dk_at dksX0_holds_5 2 rfl rfl)
theorem dX0_holds_122 : decode cX0_holds 122 = .ok (.iconst 0, 1) := dk_3 (dk_at dksX0_holds_5 3 rfl rfl)
theorem dX0_holds_123 : decode cX0_holds 123 = .ok (.invokevirtual 215, 3) := dk_182 0 215 (dk_at dksX0_holds_5 4 rfl rfl)
theorem dX0_holds_126 : decode cX0_holds 126 = .ok (.goto 5, 3) := dk_167 0 5 (dk_at dksX0_holds_5 7 rfl rfl)
theorem dX0_holds_129 : decode cX0_holds 129 = .ok (.ldc 109, 2) := dk_18 109 (dk_at dksX0_holds_5 10 rfl rfl)
theorem dX0_holds_131 : decode cX0_holds 131 = .ok (.ireturn, 1) := dk_172 (dk_at dksX0_holds_5 12 rfl rfl)
abbrev cX0_isDay : ByteArray := prog_1_method_13_code
def yX0_isDay : MethodName := ⟨RX0, "isDay", "(I)Z"⟩
def dkwX0_isDay_0 : List UInt8 := [26, 133, 9, 20, 0, 144, 184, 0, 95, 172]
abbrev dktX0_isDay_0 : List UInt8 := dkwX0_isDay_0 ++ []
theorem dksX0_isDay_0 : cX0_isDay.data.toList.drop 0 = dktX0_isDay_0 := by decide +kernel
theorem dX0_isDay_0 : decode cX0_isDay 0 = .ok (.iload_n 0, 1) := dk_26 (dk_at dksX0_isDay_0 0 rfl rfl)
theorem dX0_isDay_1 : decode cX0_isDay 1 = .ok (.i2l, 1) := dk_133 (dk_at dksX0_isDay_0 1 rfl rfl)
theorem dX0_isDay_2 : decode cX0_isDay 2 = .ok (.lconst 0, 1) := dk_9 (dk_at dksX0_isDay_0 2 rfl rfl)
theorem dX0_isDay_3 : decode cX0_isDay 3 = .ok (.ldc2_w 144, 3) := dk_20 0 144 (dk_at dksX0_isDay_0 3 rfl rfl)
theorem dX0_isDay_6 : decode cX0_isDay 6 = .ok (.invokestatic 95, 3) := dk_184 0 95 (dk_at dksX0_isDay_0 6 rfl rfl)
theorem dX0_isDay_9 : decode cX0_isDay 9 = .ok (.ireturn, 1) := dk_172 (dk_at dksX0_isDay_0 9 rfl rfl)
abbrev cX0_law : ByteArray := prog_1_method_24_code
def yX0_law : MethodName := ⟨RX0, "law", "(IIII)I"⟩
def dkwX0_law_5 : List UInt8 := [21, 4, 167, 0, 20, 42, 180, 0, 34, 21, 5, 185, 0, 195, 2, 0, 192, 0, 199, 180, 0, 214, 172]
abbrev dktX0_law_5 : List UInt8 := dkwX0_law_5 ++ []
def dkwX0_law_4 : List UInt8 := [180, 0, 211, 161, 0, 7, 21, 6, 54, 5, 132, 6, 1, 167, 255, 160, 21, 5, 18, 79, 160, 0, 8]
abbrev dktX0_law_4 : List UInt8 := dkwX0_law_4 ++ dktX0_law_5
def dkwX0_law_3 : List UInt8 := [159, 0, 28, 25, 7, 180, 0, 211, 42, 180, 0, 34, 21, 5, 185, 0, 195, 2, 0, 192, 0, 199]
abbrev dktX0_law_3 : List UInt8 := dkwX0_law_3 ++ dktX0_law_4
def dkwX0_law_2 : List UInt8 := [25, 7, 180, 0, 208, 29, 160, 0, 48, 25, 7, 180, 0, 211, 27, 163, 0, 39, 21, 5, 18, 79]
abbrev dktX0_law_2 : List UInt8 := dkwX0_law_2 ++ dktX0_law_3
def dkwX0_law_1 : List UInt8 := [180, 0, 34, 21, 6, 185, 0, 195, 2, 0, 192, 0, 199, 58, 7, 25, 7, 180, 0, 205, 28, 160, 0, 57]
abbrev dktX0_law_1 : List UInt8 := dkwX0_law_1 ++ dktX0_law_2
def dkwX0_law_0 : List UInt8 := [18, 79, 54, 5, 3, 54, 6, 21, 6, 42, 180, 0, 34, 185, 0, 168, 1, 0, 162, 0, 88, 42]
abbrev dktX0_law_0 : List UInt8 := dkwX0_law_0 ++ dktX0_law_1
theorem dksX0_law_0 : cX0_law.data.toList.drop 0 = dktX0_law_0 := by decide +kernel
theorem dksX0_law_1 : cX0_law.data.toList.drop 22 = dktX0_law_1 := dk_seg dksX0_law_0 22 rfl rfl
theorem dksX0_law_2 : cX0_law.data.toList.drop 46 = dktX0_law_2 := dk_seg dksX0_law_1 24 rfl rfl
theorem dksX0_law_3 : cX0_law.data.toList.drop 68 = dktX0_law_3 := dk_seg dksX0_law_2 22 rfl rfl
theorem dksX0_law_4 : cX0_law.data.toList.drop 90 = dktX0_law_4 := dk_seg dksX0_law_3 22 rfl rfl
theorem dksX0_law_5 : cX0_law.data.toList.drop 113 = dktX0_law_5 := dk_seg dksX0_law_4 23 rfl rfl
theorem dX0_law_0 : decode cX0_law 0 = .ok (.ldc 79, 2) := dk_18 79 (dk_at dksX0_law_0 0 rfl rfl)
theorem dX0_law_2 : decode cX0_law 2 = .ok (.istore 5, 2) := dk_54 5 (dk_at dksX0_law_0 2 rfl rfl)
theorem dX0_law_4 : decode cX0_law 4 = .ok (.iconst 0, 1) := dk_3 (dk_at dksX0_law_0 4 rfl rfl)
theorem dX0_law_5 : decode cX0_law 5 = .ok (.istore 6, 2) := dk_54 6 (dk_at dksX0_law_0 5 rfl rfl)
theorem dX0_law_7 : decode cX0_law 7 = .ok (.iload 6, 2) := dk_21 6 (dk_at dksX0_law_0 7 rfl rfl)
theorem dX0_law_9 : decode cX0_law 9 = .ok (.aload_n 0, 1) := dk_42 (dk_at dksX0_law_0 9 rfl rfl)
theorem dX0_law_10 : decode cX0_law 10 = .ok (.getfield 34, 3) := dk_180 0 34 (dk_at dksX0_law_0 10 rfl rfl)
theorem dX0_law_13 : decode cX0_law 13 = .ok (.invokeinterface 168 1, 5) := by decide +kernel
theorem dX0_law_18 : decode cX0_law 18 = .ok (.if_icmp .ge 88, 3) := dk_162 0 88 (dk_at dksX0_law_0 18 rfl rfl)
theorem dX0_law_21 : decode cX0_law 21 = .ok (.aload_n 0, 1) := dk_42 (dk_at dksX0_law_0 21 rfl rfl)
theorem dX0_law_22 : decode cX0_law 22 = .ok (.getfield 34, 3) := dk_180 0 34 (dk_at dksX0_law_1 0 rfl rfl)
theorem dX0_law_25 : decode cX0_law 25 = .ok (.iload 6, 2) := dk_21 6 (dk_at dksX0_law_1 3 rfl rfl)
theorem dX0_law_27 : decode cX0_law 27 = .ok (.invokeinterface 195 2, 5) := by decide +kernel
theorem dX0_law_32 : decode cX0_law 32 = .ok (.checkcast 199, 3) := dk_192 0 199 (dk_at dksX0_law_1 10 rfl rfl)
theorem dX0_law_35 : decode cX0_law 35 = .ok (.astore 7, 2) := dk_58 7 (dk_at dksX0_law_1 13 rfl rfl)
theorem dX0_law_37 : decode cX0_law 37 = .ok (.aload 7, 2) := dk_25 7 (dk_at dksX0_law_1 15 rfl rfl)
theorem dX0_law_39 : decode cX0_law 39 = .ok (.getfield 205, 3) := dk_180 0 205 (dk_at dksX0_law_1 17 rfl rfl)
theorem dX0_law_42 : decode cX0_law 42 = .ok (.iload_n 2, 1) := dk_28 (dk_at dksX0_law_1 20 rfl rfl)
theorem dX0_law_43 : decode cX0_law 43 = .ok (.if_icmp .ne 57, 3) := dk_160 0 57 (dk_at dksX0_law_1 21 rfl rfl)
theorem dX0_law_46 : decode cX0_law 46 = .ok (.aload 7, 2) := dk_25 7 (dk_at dksX0_law_2 0 rfl rfl)
theorem dX0_law_48 : decode cX0_law 48 = .ok (.getfield 208, 3) := dk_180 0 208 (dk_at dksX0_law_2 2 rfl rfl)
theorem dX0_law_51 : decode cX0_law 51 = .ok (.iload_n 3, 1) := dk_29 (dk_at dksX0_law_2 5 rfl rfl)
theorem dX0_law_52 : decode cX0_law 52 = .ok (.if_icmp .ne 48, 3) := dk_160 0 48 (dk_at dksX0_law_2 6 rfl rfl)
theorem dX0_law_55 : decode cX0_law 55 = .ok (.aload 7, 2) := dk_25 7 (dk_at dksX0_law_2 9 rfl rfl)
theorem dX0_law_57 : decode cX0_law 57 = .ok (.getfield 211, 3) := dk_180 0 211 (dk_at dksX0_law_2 11 rfl rfl)
theorem dX0_law_60 : decode cX0_law 60 = .ok (.iload_n 1, 1) := dk_27 (dk_at dksX0_law_2 14 rfl rfl)
theorem dX0_law_61 : decode cX0_law 61 = .ok (.if_icmp .gt 39, 3) := dk_163 0 39 (dk_at dksX0_law_2 15 rfl rfl)
theorem dX0_law_64 : decode cX0_law 64 = .ok (.iload 5, 2) := dk_21 5 (dk_at dksX0_law_2 18 rfl rfl)
theorem dX0_law_66 : decode cX0_law 66 = .ok (.ldc 79, 2) := dk_18 79 (dk_at dksX0_law_2 20 rfl rfl)
theorem dX0_law_68 : decode cX0_law 68 = .ok (.if_icmp .eq 28, 3) := dk_159 0 28 (dk_at dksX0_law_3 0 rfl rfl)
theorem dX0_law_71 : decode cX0_law 71 = .ok (.aload 7, 2) := dk_25 7 (dk_at dksX0_law_3 3 rfl rfl)
theorem dX0_law_73 : decode cX0_law 73 = .ok (.getfield 211, 3) := dk_180 0 211 (dk_at dksX0_law_3 5 rfl rfl)
theorem dX0_law_76 : decode cX0_law 76 = .ok (.aload_n 0, 1) := dk_42 (dk_at dksX0_law_3 8 rfl rfl)
theorem dX0_law_77 : decode cX0_law 77 = .ok (.getfield 34, 3) := dk_180 0 34 (dk_at dksX0_law_3 9 rfl rfl)
theorem dX0_law_80 : decode cX0_law 80 = .ok (.iload 5, 2) := dk_21 5 (dk_at dksX0_law_3 12 rfl rfl)
theorem dX0_law_82 : decode cX0_law 82 = .ok (.invokeinterface 195 2, 5) := by decide +kernel
theorem dX0_law_87 : decode cX0_law 87 = .ok (.checkcast 199, 3) := dk_192 0 199 (dk_at dksX0_law_3 19 rfl rfl)
theorem dX0_law_90 : decode cX0_law 90 = .ok (.getfield 211, 3) := dk_180 0 211 (dk_at dksX0_law_4 0 rfl rfl)
theorem dX0_law_93 : decode cX0_law 93 = .ok (.if_icmp .lt 7, 3) := dk_161 0 7 (dk_at dksX0_law_4 3 rfl rfl)
theorem dX0_law_96 : decode cX0_law 96 = .ok (.iload 6, 2) := dk_21 6 (dk_at dksX0_law_4 6 rfl rfl)
theorem dX0_law_98 : decode cX0_law 98 = .ok (.istore 5, 2) := dk_54 5 (dk_at dksX0_law_4 8 rfl rfl)
theorem dX0_law_100 : decode cX0_law 100 = .ok (.iinc 6 1, 3) := dk_132 6 1 (dk_at dksX0_law_4 10 rfl rfl)
theorem dX0_law_103 : decode cX0_law 103 = .ok (.goto (-96), 3) := dk_167 255 160 (dk_at dksX0_law_4 13 rfl rfl)
theorem dX0_law_106 : decode cX0_law 106 = .ok (.iload 5, 2) := dk_21 5 (dk_at dksX0_law_4 16 rfl rfl)
theorem dX0_law_108 : decode cX0_law 108 = .ok (.ldc 79, 2) := dk_18 79 (dk_at dksX0_law_4 18 rfl rfl)
theorem dX0_law_110 : decode cX0_law 110 = .ok (.if_icmp .ne 8, 3) := dk_160 0 8 (dk_at dksX0_law_4 20 rfl rfl)
theorem dX0_law_113 : decode cX0_law 113 = .ok (.iload 4, 2) := dk_21 4 (dk_at dksX0_law_5 0 rfl rfl)
theorem dX0_law_115 : decode cX0_law 115 = .ok (.goto 20, 3) := dk_167 0 20 (dk_at dksX0_law_5 2 rfl rfl)
theorem dX0_law_118 : decode cX0_law 118 = .ok (.aload_n 0, 1) := dk_42 (dk_at dksX0_law_5 5 rfl rfl)
theorem dX0_law_119 : decode cX0_law 119 = .ok (.getfield 34, 3) := dk_180 0 34 (dk_at dksX0_law_5 6 rfl rfl)
theorem dX0_law_122 : decode cX0_law 122 = .ok (.iload 5, 2) := dk_21 5 (dk_at dksX0_law_5 9 rfl rfl)
theorem dX0_law_124 : decode cX0_law 124 = .ok (.invokeinterface 195 2, 5) := by decide +kernel
theorem dX0_law_129 : decode cX0_law 129 = .ok (.checkcast 199, 3) := dk_192 0 199 (dk_at dksX0_law_5 16 rfl rfl)
theorem dX0_law_132 : decode cX0_law 132 = .ok (.getfield 214, 3) := dk_180 0 214 (dk_at dksX0_law_5 19 rfl rfl)
theorem dX0_law_135 : decode cX0_law 135 = .ok (.ireturn, 1) := dk_172 (dk_at dksX0_law_5 22 rfl rfl)
abbrev cX0_cart : ByteArray := prog_1_method_26_code
def yX0_cart : MethodName := ⟨RX0, "cart", "(II)I"⟩
def dkwX0_cart_5 : List UInt8 := [45, 182, 0, 117, 172]
abbrev dktX0_cart_5 : List UInt8 := dkwX0_cart_5 ++ []
def dkwX0_cart_4 : List UInt8 := [185, 0, 201, 2, 0, 87, 42, 42, 180, 0, 42, 185, 0, 168, 1, 0, 4, 100, 182, 0, 113, 172, 78, 42]
abbrev dktX0_cart_4 : List UInt8 := dkwX0_cart_4 ++ dktX0_cart_5
def dkwX0_cart_3 : List UInt8 := [184, 0, 95, 154, 0, 6, 18, 109, 172, 132, 4, 1, 167, 255, 217, 42, 180, 0, 42, 45]
abbrev dktX0_cart_3 : List UInt8 := dkwX0_cart_3 ++ dktX0_cart_4
def dkwX0_cart_2 : List UInt8 := [162, 0, 38, 45, 21, 4, 46, 133, 9, 21, 4, 154, 0, 9, 20, 0, 239, 167, 0, 6, 20, 0, 241]
abbrev dktX0_cart_2 : List UInt8 := dkwX0_cart_2 ++ dktX0_cart_3
def dkwX0_cart_1 : List UInt8 := [18, 165, 172, 42, 27, 182, 0, 121, 28, 16, 9, 182, 0, 235, 78, 3, 54, 4, 21, 4, 45, 190]
abbrev dktX0_cart_1 : List UInt8 := dkwX0_cart_1 ++ dktX0_cart_2
def dkwX0_cart_0 : List UInt8 := [27, 184, 0, 103, 154, 0, 6, 18, 109, 172, 42, 180, 0, 42, 185, 0, 168, 1, 0, 16, 16, 160, 0, 6]
abbrev dktX0_cart_0 : List UInt8 := dkwX0_cart_0 ++ dktX0_cart_1
theorem dksX0_cart_0 : cX0_cart.data.toList.drop 0 = dktX0_cart_0 := by decide +kernel
theorem dksX0_cart_1 : cX0_cart.data.toList.drop 24 = dktX0_cart_1 := dk_seg dksX0_cart_0 24 rfl rfl
theorem dksX0_cart_2 : cX0_cart.data.toList.drop 46 = dktX0_cart_2 := dk_seg dksX0_cart_1 22 rfl rfl
theorem dksX0_cart_3 : cX0_cart.data.toList.drop 69 = dktX0_cart_3 := dk_seg dksX0_cart_2 23 rfl rfl
theorem dksX0_cart_4 : cX0_cart.data.toList.drop 89 = dktX0_cart_4 := dk_seg dksX0_cart_3 20 rfl rfl
theorem dksX0_cart_5 : cX0_cart.data.toList.drop 113 = dktX0_cart_5 := dk_seg dksX0_cart_4 24 rfl rfl
theorem dX0_cart_0 : decode cX0_cart 0 = .ok (.iload_n 1, 1) := dk_27 (dk_at dksX0_cart_0 0 rfl rfl)
theorem dX0_cart_1 : decode cX0_cart 1 = .ok (.invokestatic 103, 3) := dk_184 0 103 (dk_at dksX0_cart_0 1 rfl rfl)
theorem dX0_cart_4 : decode cX0_cart 4 = .ok (.ifCond .ne 6, 3) := dk_154 0 6 (dk_at dksX0_cart_0 4 rfl rfl)
theorem dX0_cart_7 : decode cX0_cart 7 = .ok (.ldc 109, 2) := dk_18 109 (dk_at dksX0_cart_0 7 rfl rfl)
theorem dX0_cart_9 : decode cX0_cart 9 = .ok (.ireturn, 1) := dk_172 (dk_at dksX0_cart_0 9 rfl rfl)
theorem dX0_cart_10 : decode cX0_cart 10 = .ok (.aload_n 0, 1) := dk_42 (dk_at dksX0_cart_0 10 rfl rfl)
theorem dX0_cart_11 : decode cX0_cart 11 = .ok (.getfield 42, 3) := dk_180 0 42 (dk_at dksX0_cart_0 11 rfl rfl)
theorem dX0_cart_14 : decode cX0_cart 14 = .ok (.invokeinterface 168 1, 5) := by decide +kernel
theorem dX0_cart_19 : decode cX0_cart 19 = .ok (.bipush 16, 2) := dk_16 16 (dk_at dksX0_cart_0 19 rfl rfl)
theorem dX0_cart_21 : decode cX0_cart 21 = .ok (.if_icmp .ne 6, 3) := dk_160 0 6 (dk_at dksX0_cart_0 21 rfl rfl)
theorem dX0_cart_24 : decode cX0_cart 24 = .ok (.ldc 165, 2) := dk_18 165 (dk_at dksX0_cart_1 0 rfl rfl)
theorem dX0_cart_26 : decode cX0_cart 26 = .ok (.ireturn, 1) := dk_172 (dk_at dksX0_cart_1 2 rfl rfl)
theorem dX0_cart_27 : decode cX0_cart 27 = .ok (.aload_n 0, 1) := dk_42 (dk_at dksX0_cart_1 3 rfl rfl)
theorem dX0_cart_28 : decode cX0_cart 28 = .ok (.iload_n 1, 1) := dk_27 (dk_at dksX0_cart_1 4 rfl rfl)
theorem dX0_cart_29 : decode cX0_cart 29 = .ok (.invokevirtual 121, 3) := dk_182 0 121 (dk_at dksX0_cart_1 5 rfl rfl)
theorem dX0_cart_32 : decode cX0_cart 32 = .ok (.iload_n 2, 1) := dk_28 (dk_at dksX0_cart_1 8 rfl rfl)
theorem dX0_cart_33 : decode cX0_cart 33 = .ok (.bipush 9, 2) := dk_16 9 (dk_at dksX0_cart_1 9 rfl rfl)
theorem dX0_cart_35 : decode cX0_cart 35 = .ok (.invokevirtual 235, 3) := dk_182 0 235 (dk_at dksX0_cart_1 11 rfl rfl)
theorem dX0_cart_38 : decode cX0_cart 38 = .ok (.astore_n 3, 1) := dk_78 (dk_at dksX0_cart_1 14 rfl rfl)
theorem dX0_cart_39 : decode cX0_cart 39 = .ok (.iconst 0, 1) := dk_3 (dk_at dksX0_cart_1 15 rfl rfl)
theorem dX0_cart_40 : decode cX0_cart 40 = .ok (.istore 4, 2) := dk_54 4 (dk_at dksX0_cart_1 16 rfl rfl)
theorem dX0_cart_42 : decode cX0_cart 42 = .ok (.iload 4, 2) := dk_21 4 (dk_at dksX0_cart_1 18 rfl rfl)
theorem dX0_cart_44 : decode cX0_cart 44 = .ok (.aload_n 3, 1) := dk_45 (dk_at dksX0_cart_1 20 rfl rfl)
theorem dX0_cart_45 : decode cX0_cart 45 = .ok (.arraylength, 1) := dk_190 (dk_at dksX0_cart_1 21 rfl rfl)
theorem dX0_cart_46 : decode cX0_cart 46 = .ok (.if_icmp .ge 38, 3) := dk_162 0 38 (dk_at dksX0_cart_2 0 rfl rfl)
theorem dX0_cart_49 : decode cX0_cart 49 = .ok (.aload_n 3, 1) := dk_45 (dk_at dksX0_cart_2 3 rfl rfl)
theorem dX0_cart_50 : decode cX0_cart 50 = .ok (.iload 4, 2) := dk_21 4 (dk_at dksX0_cart_2 4 rfl rfl)
theorem dX0_cart_52 : decode cX0_cart 52 = .ok (.iaload, 1) := dk_46 (dk_at dksX0_cart_2 6 rfl rfl)
theorem dX0_cart_53 : decode cX0_cart 53 = .ok (.i2l, 1) := dk_133 (dk_at dksX0_cart_2 7 rfl rfl)
theorem dX0_cart_54 : decode cX0_cart 54 = .ok (.lconst 0, 1) := dk_9 (dk_at dksX0_cart_2 8 rfl rfl)
theorem dX0_cart_55 : decode cX0_cart 55 = .ok (.iload 4, 2) := dk_21 4 (dk_at dksX0_cart_2 9 rfl rfl)
theorem dX0_cart_57 : decode cX0_cart 57 = .ok (.ifCond .ne 9, 3) := dk_154 0 9 (dk_at dksX0_cart_2 11 rfl rfl)
theorem dX0_cart_60 : decode cX0_cart 60 = .ok (.ldc2_w 239, 3) := dk_20 0 239 (dk_at dksX0_cart_2 14 rfl rfl)
theorem dX0_cart_63 : decode cX0_cart 63 = .ok (.goto 6, 3) := dk_167 0 6 (dk_at dksX0_cart_2 17 rfl rfl)
theorem dX0_cart_66 : decode cX0_cart 66 = .ok (.ldc2_w 241, 3) := dk_20 0 241 (dk_at dksX0_cart_2 20 rfl rfl)
theorem dX0_cart_69 : decode cX0_cart 69 = .ok (.invokestatic 95, 3) := dk_184 0 95 (dk_at dksX0_cart_3 0 rfl rfl)
theorem dX0_cart_72 : decode cX0_cart 72 = .ok (.ifCond .ne 6, 3) := dk_154 0 6 (dk_at dksX0_cart_3 3 rfl rfl)
theorem dX0_cart_75 : decode cX0_cart 75 = .ok (.ldc 109, 2) := dk_18 109 (dk_at dksX0_cart_3 6 rfl rfl)
theorem dX0_cart_77 : decode cX0_cart 77 = .ok (.ireturn, 1) := dk_172 (dk_at dksX0_cart_3 8 rfl rfl)
theorem dX0_cart_78 : decode cX0_cart 78 = .ok (.iinc 4 1, 3) := dk_132 4 1 (dk_at dksX0_cart_3 9 rfl rfl)
theorem dX0_cart_81 : decode cX0_cart 81 = .ok (.goto (-39), 3) := dk_167 255 217 (dk_at dksX0_cart_3 12 rfl rfl)
theorem dX0_cart_84 : decode cX0_cart 84 = .ok (.aload_n 0, 1) := dk_42 (dk_at dksX0_cart_3 15 rfl rfl)
theorem dX0_cart_85 : decode cX0_cart 85 = .ok (.getfield 42, 3) := dk_180 0 42 (dk_at dksX0_cart_3 16 rfl rfl)
theorem dX0_cart_88 : decode cX0_cart 88 = .ok (.aload_n 3, 1) := dk_45 (dk_at dksX0_cart_3 19 rfl rfl)
theorem dX0_cart_89 : decode cX0_cart 89 = .ok (.invokeinterface 201 2, 5) := by decide +kernel
theorem dX0_cart_94 : decode cX0_cart 94 = .ok (.pop, 1) := dk_87 (dk_at dksX0_cart_4 5 rfl rfl)
theorem dX0_cart_95 : decode cX0_cart 95 = .ok (.aload_n 0, 1) := dk_42 (dk_at dksX0_cart_4 6 rfl rfl)
theorem dX0_cart_96 : decode cX0_cart 96 = .ok (.aload_n 0, 1) := dk_42 (dk_at dksX0_cart_4 7 rfl rfl)
theorem dX0_cart_97 : decode cX0_cart 97 = .ok (.getfield 42, 3) := dk_180 0 42 (dk_at dksX0_cart_4 8 rfl rfl)
theorem dX0_cart_100 : decode cX0_cart 100 = .ok (.invokeinterface 168 1, 5) := by decide +kernel
theorem dX0_cart_105 : decode cX0_cart 105 = .ok (.iconst 1, 1) := dk_4 (dk_at dksX0_cart_4 16 rfl rfl)
theorem dX0_cart_106 : decode cX0_cart 106 = .ok (.isub, 1) := dk_100 (dk_at dksX0_cart_4 17 rfl rfl)
theorem dX0_cart_107 : decode cX0_cart 107 = .ok (.invokevirtual 113, 3) := dk_182 0 113 (dk_at dksX0_cart_4 18 rfl rfl)
theorem dX0_cart_110 : decode cX0_cart 110 = .ok (.ireturn, 1) := dk_172 (dk_at dksX0_cart_4 21 rfl rfl)
theorem dX0_cart_111 : decode cX0_cart 111 = .ok (.astore_n 3, 1) := dk_78 (dk_at dksX0_cart_4 22 rfl rfl)
theorem dX0_cart_112 : decode cX0_cart 112 = .ok (.aload_n 0, 1) := dk_42 (dk_at dksX0_cart_4 23 rfl rfl)
theorem dX0_cart_113 : decode cX0_cart 113 = .ok (.aload_n 3, 1) := dk_45 (dk_at dksX0_cart_5 0 rfl rfl)
theorem dX0_cart_114 : decode cX0_cart 114 = .ok (.invokevirtual 117, 3) := dk_182 0 117 (dk_at dksX0_cart_5 1 rfl rfl)
theorem dX0_cart_117 : decode cX0_cart 117 = .ok (.ireturn, 1) := dk_172 (dk_at dksX0_cart_5 4 rfl rfl)
abbrev cX0_owed : ByteArray := prog_1_method_29_code
def yX0_owed : MethodName := ⟨RX0, "owed", "(III)I"⟩
def dkwX0_owed_4 : List UInt8 := [172]
abbrev dktX0_owed_4 : List UInt8 := dkwX0_owed_4 ++ []
def dkwX0_owed_3 : List UInt8 := [29, 182, 0, 247, 162, 0, 8, 21, 5, 167, 0, 5, 21, 4, 54, 4, 132, 5, 1, 167, 255, 218, 21, 4]
abbrev dktX0_owed_3 : List UInt8 := dkwX0_owed_3 ++ dktX0_owed_4
def dkwX0_owed_2 : List UInt8 := [54, 4, 4, 54, 5, 21, 5, 16, 9, 162, 0, 37, 42, 27, 21, 5, 29, 182, 0, 247, 42, 27, 21, 4]
abbrev dktX0_owed_2 : List UInt8 := dkwX0_owed_2 ++ dktX0_owed_3
def dkwX0_owed_1 : List UInt8 := [184, 0, 148, 154, 0, 6, 18, 109, 172, 28, 18, 79, 159, 0, 11, 42, 27, 28, 29, 182, 0, 247, 172, 3]
abbrev dktX0_owed_1 : List UInt8 := dkwX0_owed_1 ++ dktX0_owed_2
def dkwX0_owed_0 : List UInt8 := [42, 27, 182, 0, 244, 153, 0, 23, 28, 18, 79, 159, 0, 10, 28, 184, 0, 151, 153, 0, 10, 29]
abbrev dktX0_owed_0 : List UInt8 := dkwX0_owed_0 ++ dktX0_owed_1
theorem dksX0_owed_0 : cX0_owed.data.toList.drop 0 = dktX0_owed_0 := by decide +kernel
theorem dksX0_owed_1 : cX0_owed.data.toList.drop 22 = dktX0_owed_1 := dk_seg dksX0_owed_0 22 rfl rfl
theorem dksX0_owed_2 : cX0_owed.data.toList.drop 46 = dktX0_owed_2 := dk_seg dksX0_owed_1 24 rfl rfl
theorem dksX0_owed_3 : cX0_owed.data.toList.drop 70 = dktX0_owed_3 := dk_seg dksX0_owed_2 24 rfl rfl
theorem dksX0_owed_4 : cX0_owed.data.toList.drop 94 = dktX0_owed_4 := dk_seg dksX0_owed_3 24 rfl rfl
theorem dX0_owed_0 : decode cX0_owed 0 = .ok (.aload_n 0, 1) := dk_42 (dk_at dksX0_owed_0 0 rfl rfl)
theorem dX0_owed_1 : decode cX0_owed 1 = .ok (.iload_n 1, 1) := dk_27 (dk_at dksX0_owed_0 1 rfl rfl)
theorem dX0_owed_2 : decode cX0_owed 2 = .ok (.invokevirtual 244, 3) := dk_182 0 244 (dk_at dksX0_owed_0 2 rfl rfl)
theorem dX0_owed_5 : decode cX0_owed 5 = .ok (.ifCond .eq 23, 3) := dk_153 0 23 (dk_at dksX0_owed_0 5 rfl rfl)
theorem dX0_owed_8 : decode cX0_owed 8 = .ok (.iload_n 2, 1) := dk_28 (dk_at dksX0_owed_0 8 rfl rfl)
theorem dX0_owed_9 : decode cX0_owed 9 = .ok (.ldc 79, 2) := dk_18 79 (dk_at dksX0_owed_0 9 rfl rfl)
theorem dX0_owed_11 : decode cX0_owed 11 = .ok (.if_icmp .eq 10, 3) := dk_159 0 10 (dk_at dksX0_owed_0 11 rfl rfl)
theorem dX0_owed_14 : decode cX0_owed 14 = .ok (.iload_n 2, 1) := dk_28 (dk_at dksX0_owed_0 14 rfl rfl)
theorem dX0_owed_15 : decode cX0_owed 15 = .ok (.invokestatic 151, 3) := dk_184 0 151 (dk_at dksX0_owed_0 15 rfl rfl)
theorem dX0_owed_18 : decode cX0_owed 18 = .ok (.ifCond .eq 10, 3) := dk_153 0 10 (dk_at dksX0_owed_0 18 rfl rfl)
theorem dX0_owed_21 : decode cX0_owed 21 = .ok (.iload_n 3, 1) := dk_29 (dk_at dksX0_owed_0 21 rfl rfl)
theorem dX0_owed_22 : decode cX0_owed 22 = .ok (.invokestatic 148, 3) := dk_184 0 148 (dk_at dksX0_owed_1 0 rfl rfl)
theorem dX0_owed_25 : decode cX0_owed 25 = .ok (.ifCond .ne 6, 3) := dk_154 0 6 (dk_at dksX0_owed_1 3 rfl rfl)
theorem dX0_owed_28 : decode cX0_owed 28 = .ok (.ldc 109, 2) := dk_18 109 (dk_at dksX0_owed_1 6 rfl rfl)
theorem dX0_owed_30 : decode cX0_owed 30 = .ok (.ireturn, 1) := dk_172 (dk_at dksX0_owed_1 8 rfl rfl)
theorem dX0_owed_31 : decode cX0_owed 31 = .ok (.iload_n 2, 1) := dk_28 (dk_at dksX0_owed_1 9 rfl rfl)
theorem dX0_owed_32 : decode cX0_owed 32 = .ok (.ldc 79, 2) := dk_18 79 (dk_at dksX0_owed_1 10 rfl rfl)
theorem dX0_owed_34 : decode cX0_owed 34 = .ok (.if_icmp .eq 11, 3) := dk_159 0 11 (dk_at dksX0_owed_1 12 rfl rfl)
theorem dX0_owed_37 : decode cX0_owed 37 = .ok (.aload_n 0, 1) := dk_42 (dk_at dksX0_owed_1 15 rfl rfl)
theorem dX0_owed_38 : decode cX0_owed 38 = .ok (.iload_n 1, 1) := dk_27 (dk_at dksX0_owed_1 16 rfl rfl)
theorem dX0_owed_39 : decode cX0_owed 39 = .ok (.iload_n 2, 1) := dk_28 (dk_at dksX0_owed_1 17 rfl rfl)
theorem dX0_owed_40 : decode cX0_owed 40 = .ok (.iload_n 3, 1) := dk_29 (dk_at dksX0_owed_1 18 rfl rfl)
theorem dX0_owed_41 : decode cX0_owed 41 = .ok (.invokevirtual 247, 3) := dk_182 0 247 (dk_at dksX0_owed_1 19 rfl rfl)
theorem dX0_owed_44 : decode cX0_owed 44 = .ok (.ireturn, 1) := dk_172 (dk_at dksX0_owed_1 22 rfl rfl)
theorem dX0_owed_45 : decode cX0_owed 45 = .ok (.iconst 0, 1) := dk_3 (dk_at dksX0_owed_1 23 rfl rfl)
theorem dX0_owed_46 : decode cX0_owed 46 = .ok (.istore 4, 2) := dk_54 4 (dk_at dksX0_owed_2 0 rfl rfl)
theorem dX0_owed_48 : decode cX0_owed 48 = .ok (.iconst 1, 1) := dk_4 (dk_at dksX0_owed_2 2 rfl rfl)
theorem dX0_owed_49 : decode cX0_owed 49 = .ok (.istore 5, 2) := dk_54 5 (dk_at dksX0_owed_2 3 rfl rfl)
theorem dX0_owed_51 : decode cX0_owed 51 = .ok (.iload 5, 2) := dk_21 5 (dk_at dksX0_owed_2 5 rfl rfl)
theorem dX0_owed_53 : decode cX0_owed 53 = .ok (.bipush 9, 2) := dk_16 9 (dk_at dksX0_owed_2 7 rfl rfl)
theorem dX0_owed_55 : decode cX0_owed 55 = .ok (.if_icmp .ge 37, 3) := dk_162 0 37 (dk_at dksX0_owed_2 9 rfl rfl)
theorem dX0_owed_58 : decode cX0_owed 58 = .ok (.aload_n 0, 1) := dk_42 (dk_at dksX0_owed_2 12 rfl rfl)
theorem dX0_owed_59 : decode cX0_owed 59 = .ok (.iload_n 1, 1) := dk_27 (dk_at dksX0_owed_2 13 rfl rfl)
theorem dX0_owed_60 : decode cX0_owed 60 = .ok (.iload 5, 2) := dk_21 5 (dk_at dksX0_owed_2 14 rfl rfl)
theorem dX0_owed_62 : decode cX0_owed 62 = .ok (.iload_n 3, 1) := dk_29 (dk_at dksX0_owed_2 16 rfl rfl)
theorem dX0_owed_63 : decode cX0_owed 63 = .ok (.invokevirtual 247, 3) := dk_182 0 247 (dk_at dksX0_owed_2 17 rfl rfl)
theorem dX0_owed_66 : decode cX0_owed 66 = .ok (.aload_n 0, 1) := dk_42 (dk_at dksX0_owed_2 20 rfl rfl)
theorem dX0_owed_67 : decode cX0_owed 67 = .ok (.iload_n 1, 1) := dk_27 (dk_at dksX0_owed_2 21 rfl rfl)
theorem dX0_owed_68 : decode cX0_owed 68 = .ok (.iload 4, 2) := dk_21 4 (dk_at dksX0_owed_2 22 rfl rfl)
theorem dX0_owed_70 : decode cX0_owed 70 = .ok (.iload_n 3, 1) := dk_29 (dk_at dksX0_owed_3 0 rfl rfl)
theorem dX0_owed_71 : decode cX0_owed 71 = .ok (.invokevirtual 247, 3) := dk_182 0 247 (dk_at dksX0_owed_3 1 rfl rfl)
theorem dX0_owed_74 : decode cX0_owed 74 = .ok (.if_icmp .ge 8, 3) := dk_162 0 8 (dk_at dksX0_owed_3 4 rfl rfl)
theorem dX0_owed_77 : decode cX0_owed 77 = .ok (.iload 5, 2) := dk_21 5 (dk_at dksX0_owed_3 7 rfl rfl)
theorem dX0_owed_79 : decode cX0_owed 79 = .ok (.goto 5, 3) := dk_167 0 5 (dk_at dksX0_owed_3 9 rfl rfl)
theorem dX0_owed_82 : decode cX0_owed 82 = .ok (.iload 4, 2) := dk_21 4 (dk_at dksX0_owed_3 12 rfl rfl)
theorem dX0_owed_84 : decode cX0_owed 84 = .ok (.istore 4, 2) := dk_54 4 (dk_at dksX0_owed_3 14 rfl rfl)
theorem dX0_owed_86 : decode cX0_owed 86 = .ok (.iinc 5 1, 3) := dk_132 5 1 (dk_at dksX0_owed_3 16 rfl rfl)
theorem dX0_owed_89 : decode cX0_owed 89 = .ok (.goto (-38), 3) := dk_167 255 218 (dk_at dksX0_owed_3 19 rfl rfl)
theorem dX0_owed_92 : decode cX0_owed 92 = .ok (.iload 4, 2) := dk_21 4 (dk_at dksX0_owed_3 22 rfl rfl)
theorem dX0_owed_94 : decode cX0_owed 94 = .ok (.ireturn, 1) := dk_172 (dk_at dksX0_owed_4 0 rfl rfl)
abbrev cX0_isCart : ByteArray := prog_1_method_27_code
def yX0_isCart : MethodName := ⟨RX0, "isCart", "(I)Z"⟩
def dkwX0_isCart_0 : List UInt8 := [27, 133, 9, 42, 180, 0, 42, 185, 0, 168, 1, 0, 4, 100, 133, 184, 0, 95, 172]
abbrev dktX0_isCart_0 : List UInt8 := dkwX0_isCart_0 ++ []
theorem dksX0_isCart_0 : cX0_isCart.data.toList.drop 0 = dktX0_isCart_0 := by decide +kernel
theorem dX0_isCart_0 : decode cX0_isCart 0 = .ok (.iload_n 1, 1) := dk_27 (dk_at dksX0_isCart_0 0 rfl rfl)
theorem dX0_isCart_1 : decode cX0_isCart 1 = .ok (.i2l, 1) := dk_133 (dk_at dksX0_isCart_0 1 rfl rfl)
theorem dX0_isCart_2 : decode cX0_isCart 2 = .ok (.lconst 0, 1) := dk_9 (dk_at dksX0_isCart_0 2 rfl rfl)
theorem dX0_isCart_3 : decode cX0_isCart 3 = .ok (.aload_n 0, 1) := dk_42 (dk_at dksX0_isCart_0 3 rfl rfl)
theorem dX0_isCart_4 : decode cX0_isCart 4 = .ok (.getfield 42, 3) := dk_180 0 42 (dk_at dksX0_isCart_0 4 rfl rfl)
theorem dX0_isCart_7 : decode cX0_isCart 7 = .ok (.invokeinterface 168 1, 5) := by decide +kernel
theorem dX0_isCart_12 : decode cX0_isCart 12 = .ok (.iconst 1, 1) := dk_4 (dk_at dksX0_isCart_0 12 rfl rfl)
theorem dX0_isCart_13 : decode cX0_isCart 13 = .ok (.isub, 1) := dk_100 (dk_at dksX0_isCart_0 13 rfl rfl)
theorem dX0_isCart_14 : decode cX0_isCart 14 = .ok (.i2l, 1) := dk_133 (dk_at dksX0_isCart_0 14 rfl rfl)
theorem dX0_isCart_15 : decode cX0_isCart 15 = .ok (.invokestatic 95, 3) := dk_184 0 95 (dk_at dksX0_isCart_0 15 rfl rfl)
theorem dX0_isCart_18 : decode cX0_isCart 18 = .ok (.ireturn, 1) := dk_172 (dk_at dksX0_isCart_0 18 rfl rfl)
abbrev cX0_owedBy : ByteArray := prog_1_method_28_code
def yX0_owedBy : MethodName := ⟨RX0, "owedBy", "(III)I"⟩
def dkwX0_owedBy_4 : List UInt8 := [180, 0, 22, 28, 46, 104, 16, 100, 108, 172]
abbrev dktX0_owedBy_4 : List UInt8 := dkwX0_owedBy_4 ++ []
def dkwX0_owedBy_3 : List UInt8 := [21, 6, 3, 182, 0, 215, 104, 167, 0, 4, 3, 96, 54, 5, 132, 6, 1, 167, 255, 201, 21, 5, 42]
abbrev dktX0_owedBy_3 : List UInt8 := dkwX0_owedBy_3 ++ dktX0_owedBy_4
def dkwX0_owedBy_2 : List UInt8 := [46, 42, 29, 5, 21, 6, 3, 182, 0, 215, 164, 0, 23, 25, 4, 21, 6, 4, 96, 46, 42, 29, 4]
abbrev dktX0_owedBy_2 : List UInt8 := dkwX0_owedBy_2 ++ dktX0_owedBy_3
def dkwX0_owedBy_1 : List UInt8 := [182, 0, 215, 104, 54, 5, 3, 54, 6, 21, 6, 16, 8, 162, 0, 54, 21, 5, 25, 4, 21, 6, 4, 96]
abbrev dktX0_owedBy_1 : List UInt8 := dkwX0_owedBy_1 ++ dktX0_owedBy_2
def dkwX0_owedBy_0 : List UInt8 := [42, 180, 0, 42, 27, 185, 0, 195, 2, 0, 192, 0, 243, 58, 4, 25, 4, 3, 46, 42, 29, 3, 3, 3]
abbrev dktX0_owedBy_0 : List UInt8 := dkwX0_owedBy_0 ++ dktX0_owedBy_1
theorem dksX0_owedBy_0 : cX0_owedBy.data.toList.drop 0 = dktX0_owedBy_0 := by decide +kernel
theorem dksX0_owedBy_1 : cX0_owedBy.data.toList.drop 24 = dktX0_owedBy_1 := dk_seg dksX0_owedBy_0 24 rfl rfl
theorem dksX0_owedBy_2 : cX0_owedBy.data.toList.drop 48 = dktX0_owedBy_2 := dk_seg dksX0_owedBy_1 24 rfl rfl
theorem dksX0_owedBy_3 : cX0_owedBy.data.toList.drop 71 = dktX0_owedBy_3 := dk_seg dksX0_owedBy_2 23 rfl rfl
theorem dksX0_owedBy_4 : cX0_owedBy.data.toList.drop 94 = dktX0_owedBy_4 := dk_seg dksX0_owedBy_3 23 rfl rfl
theorem dX0_owedBy_0 : decode cX0_owedBy 0 = .ok (.aload_n 0, 1) := dk_42 (dk_at dksX0_owedBy_0 0 rfl rfl)
theorem dX0_owedBy_1 : decode cX0_owedBy 1 = .ok (.getfield 42, 3) := dk_180 0 42 (dk_at dksX0_owedBy_0 1 rfl rfl)
theorem dX0_owedBy_4 : decode cX0_owedBy 4 = .ok (.iload_n 1, 1) := dk_27 (dk_at dksX0_owedBy_0 4 rfl rfl)
theorem dX0_owedBy_5 : decode cX0_owedBy 5 = .ok (.invokeinterface 195 2, 5) := by decide +kernel
theorem dX0_owedBy_10 : decode cX0_owedBy 10 = .ok (.checkcast 243, 3) := dk_192 0 243 (dk_at dksX0_owedBy_0 10 rfl rfl)
theorem dX0_owedBy_13 : decode cX0_owedBy 13 = .ok (.astore 4, 2) := dk_58 4 (dk_at dksX0_owedBy_0 13 rfl rfl)
theorem dX0_owedBy_15 : decode cX0_owedBy 15 = .ok (.aload 4, 2) := dk_25 4 (dk_at dksX0_owedBy_0 15 rfl rfl)
theorem dX0_owedBy_17 : decode cX0_owedBy 17 = .ok (.iconst 0, 1) := dk_3 (dk_at dksX0_owedBy_0 17 rfl rfl)
theorem dX0_owedBy_18 : decode cX0_owedBy 18 = .ok (.iaload, 1) := dk_46 (dk_at dksX0_owedBy_0 18 rfl rfl)
theorem dX0_owedBy_19 : decode cX0_owedBy 19 = .ok (.aload_n 0, 1) := dk_42 (dk_at dksX0_owedBy_0 19 rfl rfl)
theorem dX0_owedBy_20 : decode cX0_owedBy 20 = .ok (.iload_n 3, 1) := dk_29 (dk_at dksX0_owedBy_0 20 rfl rfl)
theorem dX0_owedBy_21 : decode cX0_owedBy 21 = .ok (.iconst 0, 1) := dk_3 (dk_at dksX0_owedBy_0 21 rfl rfl)
theorem dX0_owedBy_22 : decode cX0_owedBy 22 = .ok (.iconst 0, 1) := dk_3 (dk_at dksX0_owedBy_0 22 rfl rfl)
theorem dX0_owedBy_23 : decode cX0_owedBy 23 = .ok (.iconst 0, 1) := dk_3 (dk_at dksX0_owedBy_0 23 rfl rfl)
theorem dX0_owedBy_24 : decode cX0_owedBy 24 = .ok (.invokevirtual 215, 3) := dk_182 0 215 (dk_at dksX0_owedBy_1 0 rfl rfl)
theorem dX0_owedBy_27 : decode cX0_owedBy 27 = .ok (.imul, 1) := dk_104 (dk_at dksX0_owedBy_1 3 rfl rfl)
theorem dX0_owedBy_28 : decode cX0_owedBy 28 = .ok (.istore 5, 2) := dk_54 5 (dk_at dksX0_owedBy_1 4 rfl rfl)
theorem dX0_owedBy_30 : decode cX0_owedBy 30 = .ok (.iconst 0, 1) := dk_3 (dk_at dksX0_owedBy_1 6 rfl rfl)
theorem dX0_owedBy_31 : decode cX0_owedBy 31 = .ok (.istore 6, 2) := dk_54 6 (dk_at dksX0_owedBy_1 7 rfl rfl)
theorem dX0_owedBy_33 : decode cX0_owedBy 33 = .ok (.iload 6, 2) := dk_21 6 (dk_at dksX0_owedBy_1 9 rfl rfl)
theorem dX0_owedBy_35 : decode cX0_owedBy 35 = .ok (.bipush 8, 2) := dk_16 8 (dk_at dksX0_owedBy_1 11 rfl rfl)
theorem dX0_owedBy_37 : decode cX0_owedBy 37 = .ok (.if_icmp .ge 54, 3) := dk_162 0 54 (dk_at dksX0_owedBy_1 13 rfl rfl)
theorem dX0_owedBy_40 : decode cX0_owedBy 40 = .ok (.iload 5, 2) := dk_21 5 (dk_at dksX0_owedBy_1 16 rfl rfl)
theorem dX0_owedBy_42 : decode cX0_owedBy 42 = .ok (.aload 4, 2) := dk_25 4 (dk_at dksX0_owedBy_1 18 rfl rfl)
theorem dX0_owedBy_44 : decode cX0_owedBy 44 = .ok (.iload 6, 2) := dk_21 6 (dk_at dksX0_owedBy_1 20 rfl rfl)
theorem dX0_owedBy_46 : decode cX0_owedBy 46 = .ok (.iconst 1, 1) := dk_4 (dk_at dksX0_owedBy_1 22 rfl rfl)
theorem dX0_owedBy_47 : decode cX0_owedBy 47 = .ok (.iadd, 1) := dk_96 (dk_at dksX0_owedBy_1 23 rfl rfl)
theorem dX0_owedBy_48 : decode cX0_owedBy 48 = .ok (.iaload, 1) := dk_46 (dk_at dksX0_owedBy_2 0 rfl rfl)
theorem dX0_owedBy_49 : decode cX0_owedBy 49 = .ok (.aload_n 0, 1) := dk_42 (dk_at dksX0_owedBy_2 1 rfl rfl)
theorem dX0_owedBy_50 : decode cX0_owedBy 50 = .ok (.iload_n 3, 1) := dk_29 (dk_at dksX0_owedBy_2 2 rfl rfl)
theorem dX0_owedBy_51 : decode cX0_owedBy 51 = .ok (.iconst 2, 1) := dk_5 (dk_at dksX0_owedBy_2 3 rfl rfl)
theorem dX0_owedBy_52 : decode cX0_owedBy 52 = .ok (.iload 6, 2) := dk_21 6 (dk_at dksX0_owedBy_2 4 rfl rfl)
theorem dX0_owedBy_54 : decode cX0_owedBy 54 = .ok (.iconst 0, 1) := dk_3 (dk_at dksX0_owedBy_2 6 rfl rfl)
theorem dX0_owedBy_55 : decode cX0_owedBy 55 = .ok (.invokevirtual 215, 3) := dk_182 0 215 (dk_at dksX0_owedBy_2 7 rfl rfl)
theorem dX0_owedBy_58 : decode cX0_owedBy 58 = .ok (.if_icmp .le 23, 3) := dk_164 0 23 (dk_at dksX0_owedBy_2 10 rfl rfl)
theorem dX0_owedBy_61 : decode cX0_owedBy 61 = .ok (.aload 4, 2) := dk_25 4 (dk_at dksX0_owedBy_2 13 rfl rfl)
theorem dX0_owedBy_63 : decode cX0_owedBy 63 = .ok (.iload 6, 2) := dk_21 6 (dk_at dksX0_owedBy_2 15 rfl rfl)
theorem dX0_owedBy_65 : decode cX0_owedBy 65 = .ok (.iconst 1, 1) := dk_4 (dk_at dksX0_owedBy_2 17 rfl rfl)
theorem dX0_owedBy_66 : decode cX0_owedBy 66 = .ok (.iadd, 1) := dk_96 (dk_at dksX0_owedBy_2 18 rfl rfl)
theorem dX0_owedBy_67 : decode cX0_owedBy 67 = .ok (.iaload, 1) := dk_46 (dk_at dksX0_owedBy_2 19 rfl rfl)
theorem dX0_owedBy_68 : decode cX0_owedBy 68 = .ok (.aload_n 0, 1) := dk_42 (dk_at dksX0_owedBy_2 20 rfl rfl)
theorem dX0_owedBy_69 : decode cX0_owedBy 69 = .ok (.iload_n 3, 1) := dk_29 (dk_at dksX0_owedBy_2 21 rfl rfl)
theorem dX0_owedBy_70 : decode cX0_owedBy 70 = .ok (.iconst 1, 1) := dk_4 (dk_at dksX0_owedBy_2 22 rfl rfl)
theorem dX0_owedBy_71 : decode cX0_owedBy 71 = .ok (.iload 6, 2) := dk_21 6 (dk_at dksX0_owedBy_3 0 rfl rfl)
theorem dX0_owedBy_73 : decode cX0_owedBy 73 = .ok (.iconst 0, 1) := dk_3 (dk_at dksX0_owedBy_3 2 rfl rfl)
theorem dX0_owedBy_74 : decode cX0_owedBy 74 = .ok (.invokevirtual 215, 3) := dk_182 0 215 (dk_at dksX0_owedBy_3 3 rfl rfl)
theorem dX0_owedBy_77 : decode cX0_owedBy 77 = .ok (.imul, 1) := dk_104 (dk_at dksX0_owedBy_3 6 rfl rfl)
theorem dX0_owedBy_78 : decode cX0_owedBy 78 = .ok (.goto 4, 3) := dk_167 0 4 (dk_at dksX0_owedBy_3 7 rfl rfl)
theorem dX0_owedBy_81 : decode cX0_owedBy 81 = .ok (.iconst 0, 1) := dk_3 (dk_at dksX0_owedBy_3 10 rfl rfl)
theorem dX0_owedBy_82 : decode cX0_owedBy 82 = .ok (.iadd, 1) := dk_96 (dk_at dksX0_owedBy_3 11 rfl rfl)
theorem dX0_owedBy_83 : decode cX0_owedBy 83 = .ok (.istore 5, 2) := dk_54 5 (dk_at dksX0_owedBy_3 12 rfl rfl)
theorem dX0_owedBy_85 : decode cX0_owedBy 85 = .ok (.iinc 6 1, 3) := dk_132 6 1 (dk_at dksX0_owedBy_3 14 rfl rfl)
theorem dX0_owedBy_88 : decode cX0_owedBy 88 = .ok (.goto (-55), 3) := dk_167 255 201 (dk_at dksX0_owedBy_3 17 rfl rfl)
theorem dX0_owedBy_91 : decode cX0_owedBy 91 = .ok (.iload 5, 2) := dk_21 5 (dk_at dksX0_owedBy_3 20 rfl rfl)
theorem dX0_owedBy_93 : decode cX0_owedBy 93 = .ok (.aload_n 0, 1) := dk_42 (dk_at dksX0_owedBy_3 22 rfl rfl)
theorem dX0_owedBy_94 : decode cX0_owedBy 94 = .ok (.getfield 22, 3) := dk_180 0 22 (dk_at dksX0_owedBy_4 0 rfl rfl)
theorem dX0_owedBy_97 : decode cX0_owedBy 97 = .ok (.iload_n 2, 1) := dk_28 (dk_at dksX0_owedBy_4 3 rfl rfl)
theorem dX0_owedBy_98 : decode cX0_owedBy 98 = .ok (.iaload, 1) := dk_46 (dk_at dksX0_owedBy_4 4 rfl rfl)
theorem dX0_owedBy_99 : decode cX0_owedBy 99 = .ok (.imul, 1) := dk_104 (dk_at dksX0_owedBy_4 5 rfl rfl)
theorem dX0_owedBy_100 : decode cX0_owedBy 100 = .ok (.bipush 100, 2) := dk_16 100 (dk_at dksX0_owedBy_4 6 rfl rfl)
theorem dX0_owedBy_102 : decode cX0_owedBy 102 = .ok (.idiv, 1) := dk_108 (dk_at dksX0_owedBy_4 8 rfl rfl)
theorem dX0_owedBy_103 : decode cX0_owedBy 103 = .ok (.ireturn, 1) := dk_172 (dk_at dksX0_owedBy_4 9 rfl rfl)
abbrev cX0_pass : ByteArray := prog_1_method_30_code
def yX0_pass : MethodName := ⟨RX0, "pass", "(IIIIII)I"⟩
def dkwX0_pass_7 : List UInt8 := [180, 0, 45, 185, 0, 168, 1, 0, 172]
abbrev dktX0_pass_7 : List UInt8 := dkwX0_pass_7 ++ []
def dkwX0_pass_6 : List UInt8 := [153, 0, 9, 132, 8, 255, 167, 255, 224, 42, 180, 0, 45, 21, 8, 25, 7, 185, 1, 9, 3, 0, 42]
abbrev dktX0_pass_6 : List UInt8 := dkwX0_pass_6 ++ dktX0_pass_7
def dkwX0_pass_5 : List UInt8 := [158, 0, 33, 25, 7, 42, 180, 0, 45, 21, 8, 4, 100, 185, 0, 195, 2, 0, 192, 1, 0, 182, 1, 5]
abbrev dktX0_pass_5 : List UInt8 := dkwX0_pass_5 ++ dktX0_pass_6
def dkwX0_pass_4 : List UInt8 := [21, 5, 21, 6, 183, 1, 2, 58, 7, 42, 180, 0, 45, 185, 0, 168, 1, 0, 54, 8, 21, 8]
abbrev dktX0_pass_4 : List UInt8 := dkwX0_pass_4 ++ dktX0_pass_5
def dkwX0_pass_3 : List UInt8 := [160, 0, 6, 18, 165, 172, 187, 1, 0, 89, 27, 28, 4, 160, 0, 7, 4, 167, 0, 4, 3, 29, 21, 4]
abbrev dktX0_pass_3 : List UInt8 := dkwX0_pass_3 ++ dktX0_pass_4
def dkwX0_pass_2 : List UInt8 := [20, 0, 254, 184, 0, 95, 154, 0, 6, 18, 109, 172, 42, 180, 0, 45, 185, 0, 168, 1, 0, 16, 60]
abbrev dktX0_pass_2 : List UInt8 := dkwX0_pass_2 ++ dktX0_pass_3
def dkwX0_pass_1 : List UInt8 := [153, 0, 32, 21, 4, 184, 0, 148, 153, 0, 24, 21, 5, 184, 0, 251, 153, 0, 16, 21, 6, 133, 9]
abbrev dktX0_pass_1 : List UInt8 := dkwX0_pass_1 ++ dktX0_pass_2
def dkwX0_pass_0 : List UInt8 := [42, 27, 182, 0, 244, 153, 0, 49, 28, 133, 9, 10, 184, 0, 95, 153, 0, 39, 29, 184, 0, 151]
abbrev dktX0_pass_0 : List UInt8 := dkwX0_pass_0 ++ dktX0_pass_1
theorem dksX0_pass_0 : cX0_pass.data.toList.drop 0 = dktX0_pass_0 := by decide +kernel
theorem dksX0_pass_1 : cX0_pass.data.toList.drop 22 = dktX0_pass_1 := dk_seg dksX0_pass_0 22 rfl rfl
theorem dksX0_pass_2 : cX0_pass.data.toList.drop 45 = dktX0_pass_2 := dk_seg dksX0_pass_1 23 rfl rfl
theorem dksX0_pass_3 : cX0_pass.data.toList.drop 68 = dktX0_pass_3 := dk_seg dksX0_pass_2 23 rfl rfl
theorem dksX0_pass_4 : cX0_pass.data.toList.drop 92 = dktX0_pass_4 := dk_seg dksX0_pass_3 24 rfl rfl
theorem dksX0_pass_5 : cX0_pass.data.toList.drop 114 = dktX0_pass_5 := dk_seg dksX0_pass_4 22 rfl rfl
theorem dksX0_pass_6 : cX0_pass.data.toList.drop 138 = dktX0_pass_6 := dk_seg dksX0_pass_5 24 rfl rfl
theorem dksX0_pass_7 : cX0_pass.data.toList.drop 161 = dktX0_pass_7 := dk_seg dksX0_pass_6 23 rfl rfl
theorem dX0_pass_0 : decode cX0_pass 0 = .ok (.aload_n 0, 1) := dk_42 (dk_at dksX0_pass_0 0 rfl rfl)
theorem dX0_pass_1 : decode cX0_pass 1 = .ok (.iload_n 1, 1) := dk_27 (dk_at dksX0_pass_0 1 rfl rfl)
theorem dX0_pass_2 : decode cX0_pass 2 = .ok (.invokevirtual 244, 3) := dk_182 0 244 (dk_at dksX0_pass_0 2 rfl rfl)
theorem dX0_pass_5 : decode cX0_pass 5 = .ok (.ifCond .eq 49, 3) := dk_153 0 49 (dk_at dksX0_pass_0 5 rfl rfl)
theorem dX0_pass_8 : decode cX0_pass 8 = .ok (.iload_n 2, 1) := dk_28 (dk_at dksX0_pass_0 8 rfl rfl)
theorem dX0_pass_9 : decode cX0_pass 9 = .ok (.i2l, 1) := dk_133 (dk_at dksX0_pass_0 9 rfl rfl)
theorem dX0_pass_10 : decode cX0_pass 10 = .ok (.lconst 0, 1) := dk_9 (dk_at dksX0_pass_0 10 rfl rfl)
theorem dX0_pass_11 : decode cX0_pass 11 = .ok (.lconst 1, 1) := dk_10 (dk_at dksX0_pass_0 11 rfl rfl)
theorem dX0_pass_12 : decode cX0_pass 12 = .ok (.invokestatic 95, 3) := dk_184 0 95 (dk_at dksX0_pass_0 12 rfl rfl)
theorem dX0_pass_15 : decode cX0_pass 15 = .ok (.ifCond .eq 39, 3) := dk_153 0 39 (dk_at dksX0_pass_0 15 rfl rfl)
theorem dX0_pass_18 : decode cX0_pass 18 = .ok (.iload_n 3, 1) := dk_29 (dk_at dksX0_pass_0 18 rfl rfl)
theorem dX0_pass_19 : decode cX0_pass 19 = .ok (.invokestatic 151, 3) := dk_184 0 151 (dk_at dksX0_pass_0 19 rfl rfl)
theorem dX0_pass_22 : decode cX0_pass 22 = .ok (.ifCond .eq 32, 3) := dk_153 0 32 (dk_at dksX0_pass_1 0 rfl rfl)
theorem dX0_pass_25 : decode cX0_pass 25 = .ok (.iload 4, 2) := dk_21 4 (dk_at dksX0_pass_1 3 rfl rfl)
theorem dX0_pass_27 : decode cX0_pass 27 = .ok (.invokestatic 148, 3) := dk_184 0 148 (dk_at dksX0_pass_1 5 rfl rfl)
theorem dX0_pass_30 : decode cX0_pass 30 = .ok (.ifCond .eq 24, 3) := dk_153 0 24 (dk_at dksX0_pass_1 8 rfl rfl)
theorem dX0_pass_33 : decode cX0_pass 33 = .ok (.iload 5, 2) := dk_21 5 (dk_at dksX0_pass_1 11 rfl rfl)
theorem dX0_pass_35 : decode cX0_pass 35 = .ok (.invokestatic 251, 3) := dk_184 0 251 (dk_at dksX0_pass_1 13 rfl rfl)
theorem dX0_pass_38 : decode cX0_pass 38 = .ok (.ifCond .eq 16, 3) := dk_153 0 16 (dk_at dksX0_pass_1 16 rfl rfl)
theorem dX0_pass_41 : decode cX0_pass 41 = .ok (.iload 6, 2) := dk_21 6 (dk_at dksX0_pass_1 19 rfl rfl)
theorem dX0_pass_43 : decode cX0_pass 43 = .ok (.i2l, 1) := dk_133 (dk_at dksX0_pass_1 21 rfl rfl)
theorem dX0_pass_44 : decode cX0_pass 44 = .ok (.lconst 0, 1) := dk_9 (dk_at dksX0_pass_1 22 rfl rfl)
theorem dX0_pass_45 : decode cX0_pass 45 = .ok (.ldc2_w 254, 3) := dk_20 0 254 (dk_at dksX0_pass_2 0 rfl rfl)
theorem dX0_pass_48 : decode cX0_pass 48 = .ok (.invokestatic 95, 3) := dk_184 0 95 (dk_at dksX0_pass_2 3 rfl rfl)
theorem dX0_pass_51 : decode cX0_pass 51 = .ok (.ifCond .ne 6, 3) := dk_154 0 6 (dk_at dksX0_pass_2 6 rfl rfl)
theorem dX0_pass_54 : decode cX0_pass 54 = .ok (.ldc 109, 2) := dk_18 109 (dk_at dksX0_pass_2 9 rfl rfl)
theorem dX0_pass_56 : decode cX0_pass 56 = .ok (.ireturn, 1) := dk_172 (dk_at dksX0_pass_2 11 rfl rfl)
theorem dX0_pass_57 : decode cX0_pass 57 = .ok (.aload_n 0, 1) := dk_42 (dk_at dksX0_pass_2 12 rfl rfl)
theorem dX0_pass_58 : decode cX0_pass 58 = .ok (.getfield 45, 3) := dk_180 0 45 (dk_at dksX0_pass_2 13 rfl rfl)
theorem dX0_pass_61 : decode cX0_pass 61 = .ok (.invokeinterface 168 1, 5) := by decide +kernel
theorem dX0_pass_66 : decode cX0_pass 66 = .ok (.bipush 60, 2) := dk_16 60 (dk_at dksX0_pass_2 21 rfl rfl)
theorem dX0_pass_68 : decode cX0_pass 68 = .ok (.if_icmp .ne 6, 3) := dk_160 0 6 (dk_at dksX0_pass_3 0 rfl rfl)
theorem dX0_pass_71 : decode cX0_pass 71 = .ok (.ldc 165, 2) := dk_18 165 (dk_at dksX0_pass_3 3 rfl rfl)
theorem dX0_pass_73 : decode cX0_pass 73 = .ok (.ireturn, 1) := dk_172 (dk_at dksX0_pass_3 5 rfl rfl)
theorem dX0_pass_74 : decode cX0_pass 74 = .ok (.new 256, 3) := dk_187 1 0 (dk_at dksX0_pass_3 6 rfl rfl)
theorem dX0_pass_77 : decode cX0_pass 77 = .ok (.dup, 1) := dk_89 (dk_at dksX0_pass_3 9 rfl rfl)
theorem dX0_pass_78 : decode cX0_pass 78 = .ok (.iload_n 1, 1) := dk_27 (dk_at dksX0_pass_3 10 rfl rfl)
theorem dX0_pass_79 : decode cX0_pass 79 = .ok (.iload_n 2, 1) := dk_28 (dk_at dksX0_pass_3 11 rfl rfl)
theorem dX0_pass_80 : decode cX0_pass 80 = .ok (.iconst 1, 1) := dk_4 (dk_at dksX0_pass_3 12 rfl rfl)
theorem dX0_pass_81 : decode cX0_pass 81 = .ok (.if_icmp .ne 7, 3) := dk_160 0 7 (dk_at dksX0_pass_3 13 rfl rfl)
theorem dX0_pass_84 : decode cX0_pass 84 = .ok (.iconst 1, 1) := dk_4 (dk_at dksX0_pass_3 16 rfl rfl)
theorem dX0_pass_85 : decode cX0_pass 85 = .ok (.goto 4, 3) := dk_167 0 4 (dk_at dksX0_pass_3 17 rfl rfl)
theorem dX0_pass_88 : decode cX0_pass 88 = .ok (.iconst 0, 1) := dk_3 (dk_at dksX0_pass_3 20 rfl rfl)
theorem dX0_pass_89 : decode cX0_pass 89 = .ok (.iload_n 3, 1) := dk_29 (dk_at dksX0_pass_3 21 rfl rfl)
theorem dX0_pass_90 : decode cX0_pass 90 = .ok (.iload 4, 2) := dk_21 4 (dk_at dksX0_pass_3 22 rfl rfl)
theorem dX0_pass_92 : decode cX0_pass 92 = .ok (.iload 5, 2) := dk_21 5 (dk_at dksX0_pass_4 0 rfl rfl)
theorem dX0_pass_94 : decode cX0_pass 94 = .ok (.iload 6, 2) := dk_21 6 (dk_at dksX0_pass_4 2 rfl rfl)
theorem dX0_pass_96 : decode cX0_pass 96 = .ok (.invokespecial 258, 3) := dk_183 1 2 (dk_at dksX0_pass_4 4 rfl rfl)
theorem dX0_pass_99 : decode cX0_pass 99 = .ok (.astore 7, 2) := dk_58 7 (dk_at dksX0_pass_4 7 rfl rfl)
theorem dX0_pass_101 : decode cX0_pass 101 = .ok (.aload_n 0, 1) := dk_42 (dk_at dksX0_pass_4 9 rfl rfl)
theorem dX0_pass_102 : decode cX0_pass 102 = .ok (.getfield 45, 3) := dk_180 0 45 (dk_at dksX0_pass_4 10 rfl rfl)
theorem dX0_pass_105 : decode cX0_pass 105 = .ok (.invokeinterface 168 1, 5) := by decide +kernel
theorem dX0_pass_110 : decode cX0_pass 110 = .ok (.istore 8, 2) := dk_54 8 (dk_at dksX0_pass_4 18 rfl rfl)
theorem dX0_pass_112 : decode cX0_pass 112 = .ok (.iload 8, 2) := dk_21 8 (dk_at dksX0_pass_4 20 rfl rfl)
theorem dX0_pass_114 : decode cX0_pass 114 = .ok (.ifCond .le 33, 3) := dk_158 0 33 (dk_at dksX0_pass_5 0 rfl rfl)
theorem dX0_pass_117 : decode cX0_pass 117 = .ok (.aload 7, 2) := dk_25 7 (dk_at dksX0_pass_5 3 rfl rfl)
theorem dX0_pass_119 : decode cX0_pass 119 = .ok (.aload_n 0, 1) := dk_42 (dk_at dksX0_pass_5 5 rfl rfl)
theorem dX0_pass_120 : decode cX0_pass 120 = .ok (.getfield 45, 3) := dk_180 0 45 (dk_at dksX0_pass_5 6 rfl rfl)
theorem dX0_pass_123 : decode cX0_pass 123 = .ok (.iload 8, 2) := dk_21 8 (dk_at dksX0_pass_5 9 rfl rfl)
theorem dX0_pass_125 : decode cX0_pass 125 = .ok (.iconst 1, 1) := dk_4 (dk_at dksX0_pass_5 11 rfl rfl)
theorem dX0_pass_126 : decode cX0_pass 126 = .ok (.isub, 1) := dk_100 (dk_at dksX0_pass_5 12 rfl rfl)
theorem dX0_pass_127 : decode cX0_pass 127 = .ok (.invokeinterface 195 2, 5) := by decide +kernel
theorem dX0_pass_132 : decode cX0_pass 132 = .ok (.checkcast 256, 3) := dk_192 1 0 (dk_at dksX0_pass_5 18 rfl rfl)
theorem dX0_pass_135 : decode cX0_pass 135 = .ok (.invokevirtual 261, 3) := dk_182 1 5 (dk_at dksX0_pass_5 21 rfl rfl)
theorem dX0_pass_138 : decode cX0_pass 138 = .ok (.ifCond .eq 9, 3) := dk_153 0 9 (dk_at dksX0_pass_6 0 rfl rfl)
theorem dX0_pass_141 : decode cX0_pass 141 = .ok (.iinc 8 (-1), 3) := dk_132 8 255 (dk_at dksX0_pass_6 3 rfl rfl)
theorem dX0_pass_144 : decode cX0_pass 144 = .ok (.goto (-32), 3) := dk_167 255 224 (dk_at dksX0_pass_6 6 rfl rfl)
theorem dX0_pass_147 : decode cX0_pass 147 = .ok (.aload_n 0, 1) := dk_42 (dk_at dksX0_pass_6 9 rfl rfl)
theorem dX0_pass_148 : decode cX0_pass 148 = .ok (.getfield 45, 3) := dk_180 0 45 (dk_at dksX0_pass_6 10 rfl rfl)
theorem dX0_pass_151 : decode cX0_pass 151 = .ok (.iload 8, 2) := dk_21 8 (dk_at dksX0_pass_6 13 rfl rfl)
theorem dX0_pass_153 : decode cX0_pass 153 = .ok (.aload 7, 2) := dk_25 7 (dk_at dksX0_pass_6 15 rfl rfl)
theorem dX0_pass_155 : decode cX0_pass 155 = .ok (.invokeinterface 265 3, 5) := by decide +kernel
theorem dX0_pass_160 : decode cX0_pass 160 = .ok (.aload_n 0, 1) := dk_42 (dk_at dksX0_pass_6 22 rfl rfl)
theorem dX0_pass_161 : decode cX0_pass 161 = .ok (.getfield 45, 3) := dk_180 0 45 (dk_at dksX0_pass_7 0 rfl rfl)
theorem dX0_pass_164 : decode cX0_pass 164 = .ok (.invokeinterface 168 1, 5) := by decide +kernel
theorem dX0_pass_169 : decode cX0_pass 169 = .ok (.ireturn, 1) := dk_172 (dk_at dksX0_pass_7 8 rfl rfl)
abbrev cX0_isMinute : ByteArray := prog_1_method_14_code
def yX0_isMinute : MethodName := ⟨RX0, "isMinute", "(I)Z"⟩
def dkwX0_isMinute_0 : List UInt8 := [26, 133, 9, 20, 0, 146, 184, 0, 95, 172]
abbrev dktX0_isMinute_0 : List UInt8 := dkwX0_isMinute_0 ++ []
theorem dksX0_isMinute_0 : cX0_isMinute.data.toList.drop 0 = dktX0_isMinute_0 := by decide +kernel
theorem dX0_isMinute_0 : decode cX0_isMinute 0 = .ok (.iload_n 0, 1) := dk_26 (dk_at dksX0_isMinute_0 0 rfl rfl)
theorem dX0_isMinute_1 : decode cX0_isMinute 1 = .ok (.i2l, 1) := dk_133 (dk_at dksX0_isMinute_0 1 rfl rfl)
theorem dX0_isMinute_2 : decode cX0_isMinute 2 = .ok (.lconst 0, 1) := dk_9 (dk_at dksX0_isMinute_0 2 rfl rfl)
theorem dX0_isMinute_3 : decode cX0_isMinute 3 = .ok (.ldc2_w 146, 3) := dk_20 0 146 (dk_at dksX0_isMinute_0 3 rfl rfl)
theorem dX0_isMinute_6 : decode cX0_isMinute 6 = .ok (.invokestatic 95, 3) := dk_184 0 95 (dk_at dksX0_isMinute_0 6 rfl rfl)
theorem dX0_isMinute_9 : decode cX0_isMinute 9 = .ok (.ireturn, 1) := dk_172 (dk_at dksX0_isMinute_0 9 rfl rfl)
abbrev cX0_agree : ByteArray := prog_1_method_31_code
def yX0_agree : MethodName := ⟨RX0, "agree", "(I)I"⟩
def dkwX0_agree_9 : List UInt8 := [21, 5, 172]
abbrev dktX0_agree_9 : List UInt8 := dkwX0_agree_9 ++ []
def dkwX0_agree_8 : List UInt8 := [167, 0, 15, 45, 21, 6, 46, 156, 0, 7, 4, 167, 0, 4, 3, 96, 54, 5, 132, 6, 1, 167, 255, 209]
abbrev dktX0_agree_8 : List UInt8 := dkwX0_agree_8 ++ dktX0_agree_9
def dkwX0_agree_7 : List UInt8 := [162, 0, 46, 21, 5, 27, 4, 160, 0, 18, 44, 21, 6, 51, 153, 0, 7, 4, 167, 0, 19, 3]
abbrev dktX0_agree_7 : List UInt8 := dkwX0_agree_7 ++ dktX0_agree_8
def dkwX0_agree_6 : List UInt8 := [132, 5, 1, 167, 255, 146, 27, 154, 0, 6, 21, 4, 172, 3, 54, 5, 3, 54, 6, 21, 6, 16, 16]
abbrev dktX0_agree_6 : List UInt8 := dkwX0_agree_6 ++ dktX0_agree_7
def dkwX0_agree_5 : List UInt8 := [25, 6, 180, 1, 21, 92, 46, 25, 6, 180, 1, 24, 153, 0, 7, 4, 167, 0, 4, 2, 96, 79]
abbrev dktX0_agree_5 : List UInt8 := dkwX0_agree_5 ++ dktX0_agree_6
def dkwX0_agree_4 : List UInt8 := [160, 0, 7, 4, 167, 0, 4, 3, 96, 54, 4, 44, 25, 6, 180, 1, 21, 25, 6, 180, 1, 24, 84, 45]
abbrev dktX0_agree_4 : List UInt8 := dkwX0_agree_4 ++ dktX0_agree_5
def dkwX0_agree_3 : List UInt8 := [25, 6, 180, 1, 15, 182, 1, 18, 153, 0, 18, 44, 25, 6, 180, 1, 21, 51, 25, 6, 180, 1, 24]
abbrev dktX0_agree_3 : List UInt8 := dkwX0_agree_3 ++ dktX0_agree_4
def dkwX0_agree_2 : List UInt8 := [180, 0, 45, 21, 5, 185, 0, 195, 2, 0, 192, 1, 0, 58, 6, 21, 4, 42, 25, 6, 180, 1, 12]
abbrev dktX0_agree_2 : List UInt8 := dkwX0_agree_2 ++ dktX0_agree_3
def dkwX0_agree_1 : List UInt8 := [78, 3, 54, 4, 3, 54, 5, 21, 5, 42, 180, 0, 45, 185, 0, 168, 1, 0, 162, 0, 102, 42]
abbrev dktX0_agree_1 : List UInt8 := dkwX0_agree_1 ++ dktX0_agree_2
def dkwX0_agree_0 : List UInt8 := [27, 133, 9, 20, 0, 107, 184, 0, 95, 154, 0, 6, 18, 109, 172, 16, 16, 188, 4, 77, 16, 16, 188, 10]
abbrev dktX0_agree_0 : List UInt8 := dkwX0_agree_0 ++ dktX0_agree_1
theorem dksX0_agree_0 : cX0_agree.data.toList.drop 0 = dktX0_agree_0 := by decide +kernel
theorem dksX0_agree_1 : cX0_agree.data.toList.drop 24 = dktX0_agree_1 := dk_seg dksX0_agree_0 24 rfl rfl
theorem dksX0_agree_2 : cX0_agree.data.toList.drop 46 = dktX0_agree_2 := dk_seg dksX0_agree_1 22 rfl rfl
theorem dksX0_agree_3 : cX0_agree.data.toList.drop 69 = dktX0_agree_3 := dk_seg dksX0_agree_2 23 rfl rfl
theorem dksX0_agree_4 : cX0_agree.data.toList.drop 92 = dktX0_agree_4 := dk_seg dksX0_agree_3 23 rfl rfl
theorem dksX0_agree_5 : cX0_agree.data.toList.drop 116 = dktX0_agree_5 := dk_seg dksX0_agree_4 24 rfl rfl
theorem dksX0_agree_6 : cX0_agree.data.toList.drop 138 = dktX0_agree_6 := dk_seg dksX0_agree_5 22 rfl rfl
theorem dksX0_agree_7 : cX0_agree.data.toList.drop 161 = dktX0_agree_7 := dk_seg dksX0_agree_6 23 rfl rfl
theorem dksX0_agree_8 : cX0_agree.data.toList.drop 183 = dktX0_agree_8 := dk_seg dksX0_agree_7 22 rfl rfl
theorem dksX0_agree_9 : cX0_agree.data.toList.drop 207 = dktX0_agree_9 := dk_seg dksX0_agree_8 24 rfl rfl
theorem dX0_agree_0 : decode cX0_agree 0 = .ok (.iload_n 1, 1) := dk_27 (dk_at dksX0_agree_0 0 rfl rfl)
theorem dX0_agree_1 : decode cX0_agree 1 = .ok (.i2l, 1) := dk_133 (dk_at dksX0_agree_0 1 rfl rfl)
theorem dX0_agree_2 : decode cX0_agree 2 = .ok (.lconst 0, 1) := dk_9 (dk_at dksX0_agree_0 2 rfl rfl)
theorem dX0_agree_3 : decode cX0_agree 3 = .ok (.ldc2_w 107, 3) := dk_20 0 107 (dk_at dksX0_agree_0 3 rfl rfl)
theorem dX0_agree_6 : decode cX0_agree 6 = .ok (.invokestatic 95, 3) := dk_184 0 95 (dk_at dksX0_agree_0 6 rfl rfl)
theorem dX0_agree_9 : decode cX0_agree 9 = .ok (.ifCond .ne 6, 3) := dk_154 0 6 (dk_at dksX0_agree_0 9 rfl rfl)
theorem dX0_agree_12 : decode cX0_agree 12 = .ok (.ldc 109, 2) := dk_18 109 (dk_at dksX0_agree_0 12 rfl rfl)
theorem dX0_agree_14 : decode cX0_agree 14 = .ok (.ireturn, 1) := dk_172 (dk_at dksX0_agree_0 14 rfl rfl)
theorem dX0_agree_15 : decode cX0_agree 15 = .ok (.bipush 16, 2) := dk_16 16 (dk_at dksX0_agree_0 15 rfl rfl)
theorem dX0_agree_17 : decode cX0_agree 17 = .ok (.newarray .boolean, 2) := dk_188_4 (dk_at dksX0_agree_0 17 rfl rfl)
theorem dX0_agree_19 : decode cX0_agree 19 = .ok (.astore_n 2, 1) := dk_77 (dk_at dksX0_agree_0 19 rfl rfl)
theorem dX0_agree_20 : decode cX0_agree 20 = .ok (.bipush 16, 2) := dk_16 16 (dk_at dksX0_agree_0 20 rfl rfl)
theorem dX0_agree_22 : decode cX0_agree 22 = .ok (.newarray .int, 2) := dk_188_10 (dk_at dksX0_agree_0 22 rfl rfl)
theorem dX0_agree_24 : decode cX0_agree 24 = .ok (.astore_n 3, 1) := dk_78 (dk_at dksX0_agree_1 0 rfl rfl)
theorem dX0_agree_25 : decode cX0_agree 25 = .ok (.iconst 0, 1) := dk_3 (dk_at dksX0_agree_1 1 rfl rfl)
theorem dX0_agree_26 : decode cX0_agree 26 = .ok (.istore 4, 2) := dk_54 4 (dk_at dksX0_agree_1 2 rfl rfl)
theorem dX0_agree_28 : decode cX0_agree 28 = .ok (.iconst 0, 1) := dk_3 (dk_at dksX0_agree_1 4 rfl rfl)
theorem dX0_agree_29 : decode cX0_agree 29 = .ok (.istore 5, 2) := dk_54 5 (dk_at dksX0_agree_1 5 rfl rfl)
theorem dX0_agree_31 : decode cX0_agree 31 = .ok (.iload 5, 2) := dk_21 5 (dk_at dksX0_agree_1 7 rfl rfl)
theorem dX0_agree_33 : decode cX0_agree 33 = .ok (.aload_n 0, 1) := dk_42 (dk_at dksX0_agree_1 9 rfl rfl)
theorem dX0_agree_34 : decode cX0_agree 34 = .ok (.getfield 45, 3) := dk_180 0 45 (dk_at dksX0_agree_1 10 rfl rfl)
theorem dX0_agree_37 : decode cX0_agree 37 = .ok (.invokeinterface 168 1, 5) := by decide +kernel
theorem dX0_agree_42 : decode cX0_agree 42 = .ok (.if_icmp .ge 102, 3) := dk_162 0 102 (dk_at dksX0_agree_1 18 rfl rfl)
theorem dX0_agree_45 : decode cX0_agree 45 = .ok (.aload_n 0, 1) := dk_42 (dk_at dksX0_agree_1 21 rfl rfl)
theorem dX0_agree_46 : decode cX0_agree 46 = .ok (.getfield 45, 3) := dk_180 0 45 (dk_at dksX0_agree_2 0 rfl rfl)
theorem dX0_agree_49 : decode cX0_agree 49 = .ok (.iload 5, 2) := dk_21 5 (dk_at dksX0_agree_2 3 rfl rfl)
theorem dX0_agree_51 : decode cX0_agree 51 = .ok (.invokeinterface 195 2, 5) := by decide +kernel
theorem dX0_agree_56 : decode cX0_agree 56 = .ok (.checkcast 256, 3) := dk_192 1 0 (dk_at dksX0_agree_2 10 rfl rfl)
theorem dX0_agree_59 : decode cX0_agree 59 = .ok (.astore 6, 2) := dk_58 6 (dk_at dksX0_agree_2 13 rfl rfl)
theorem dX0_agree_61 : decode cX0_agree 61 = .ok (.iload 4, 2) := dk_21 4 (dk_at dksX0_agree_2 15 rfl rfl)
theorem dX0_agree_63 : decode cX0_agree 63 = .ok (.aload_n 0, 1) := dk_42 (dk_at dksX0_agree_2 17 rfl rfl)
theorem dX0_agree_64 : decode cX0_agree 64 = .ok (.aload 6, 2) := dk_25 6 (dk_at dksX0_agree_2 18 rfl rfl)
theorem dX0_agree_66 : decode cX0_agree 66 = .ok (.getfield 268, 3) := dk_180 1 12 (dk_at dksX0_agree_2 20 rfl rfl)
theorem dX0_agree_69 : decode cX0_agree 69 = .ok (.aload 6, 2) := dk_25 6 (dk_at dksX0_agree_3 0 rfl rfl)
theorem dX0_agree_71 : decode cX0_agree 71 = .ok (.getfield 271, 3) := dk_180 1 15 (dk_at dksX0_agree_3 2 rfl rfl)
theorem dX0_agree_74 : decode cX0_agree 74 = .ok (.invokevirtual 274, 3) := dk_182 1 18 (dk_at dksX0_agree_3 5 rfl rfl)
theorem dX0_agree_77 : decode cX0_agree 77 = .ok (.ifCond .eq 18, 3) := dk_153 0 18 (dk_at dksX0_agree_3 8 rfl rfl)
theorem dX0_agree_80 : decode cX0_agree 80 = .ok (.aload_n 2, 1) := dk_44 (dk_at dksX0_agree_3 11 rfl rfl)
theorem dX0_agree_81 : decode cX0_agree 81 = .ok (.aload 6, 2) := dk_25 6 (dk_at dksX0_agree_3 12 rfl rfl)
theorem dX0_agree_83 : decode cX0_agree 83 = .ok (.getfield 277, 3) := dk_180 1 21 (dk_at dksX0_agree_3 14 rfl rfl)
theorem dX0_agree_86 : decode cX0_agree 86 = .ok (.baload, 1) := dk_51 (dk_at dksX0_agree_3 17 rfl rfl)
theorem dX0_agree_87 : decode cX0_agree 87 = .ok (.aload 6, 2) := dk_25 6 (dk_at dksX0_agree_3 18 rfl rfl)
theorem dX0_agree_89 : decode cX0_agree 89 = .ok (.getfield 280, 3) := dk_180 1 24 (dk_at dksX0_agree_3 20 rfl rfl)
theorem dX0_agree_92 : decode cX0_agree 92 = .ok (.if_icmp .ne 7, 3) := dk_160 0 7 (dk_at dksX0_agree_4 0 rfl rfl)
theorem dX0_agree_95 : decode cX0_agree 95 = .ok (.iconst 1, 1) := dk_4 (dk_at dksX0_agree_4 3 rfl rfl)
theorem dX0_agree_96 : decode cX0_agree 96 = .ok (.goto 4, 3) := dk_167 0 4 (dk_at dksX0_agree_4 4 rfl rfl)
theorem dX0_agree_99 : decode cX0_agree 99 = .ok (.iconst 0, 1) := dk_3 (dk_at dksX0_agree_4 7 rfl rfl)
theorem dX0_agree_100 : decode cX0_agree 100 = .ok (.iadd, 1) := dk_96 (dk_at dksX0_agree_4 8 rfl rfl)
theorem dX0_agree_101 : decode cX0_agree 101 = .ok (.istore 4, 2) := dk_54 4 (dk_at dksX0_agree_4 9 rfl rfl)
theorem dX0_agree_103 : decode cX0_agree 103 = .ok (.aload_n 2, 1) := dk_44 (dk_at dksX0_agree_4 11 rfl rfl)
theorem dX0_agree_104 : decode cX0_agree 104 = .ok (.aload 6, 2) := dk_25 6 (dk_at dksX0_agree_4 12 rfl rfl)
theorem dX0_agree_106 : decode cX0_agree 106 = .ok (.getfield 277, 3) := dk_180 1 21 (dk_at dksX0_agree_4 14 rfl rfl)
theorem dX0_agree_109 : decode cX0_agree 109 = .ok (.aload 6, 2) := dk_25 6 (dk_at dksX0_agree_4 17 rfl rfl)
theorem dX0_agree_111 : decode cX0_agree 111 = .ok (.getfield 280, 3) := dk_180 1 24 (dk_at dksX0_agree_4 19 rfl rfl)
theorem dX0_agree_114 : decode cX0_agree 114 = .ok (.bastore, 1) := dk_84 (dk_at dksX0_agree_4 22 rfl rfl)
theorem dX0_agree_115 : decode cX0_agree 115 = .ok (.aload_n 3, 1) := dk_45 (dk_at dksX0_agree_4 23 rfl rfl)
theorem dX0_agree_116 : decode cX0_agree 116 = .ok (.aload 6, 2) := dk_25 6 (dk_at dksX0_agree_5 0 rfl rfl)
theorem dX0_agree_118 : decode cX0_agree 118 = .ok (.getfield 277, 3) := dk_180 1 21 (dk_at dksX0_agree_5 2 rfl rfl)
theorem dX0_agree_121 : decode cX0_agree 121 = .ok (.dup2, 1) := dk_92 (dk_at dksX0_agree_5 5 rfl rfl)
theorem dX0_agree_122 : decode cX0_agree 122 = .ok (.iaload, 1) := dk_46 (dk_at dksX0_agree_5 6 rfl rfl)
theorem dX0_agree_123 : decode cX0_agree 123 = .ok (.aload 6, 2) := dk_25 6 (dk_at dksX0_agree_5 7 rfl rfl)
theorem dX0_agree_125 : decode cX0_agree 125 = .ok (.getfield 280, 3) := dk_180 1 24 (dk_at dksX0_agree_5 9 rfl rfl)
theorem dX0_agree_128 : decode cX0_agree 128 = .ok (.ifCond .eq 7, 3) := dk_153 0 7 (dk_at dksX0_agree_5 12 rfl rfl)
theorem dX0_agree_131 : decode cX0_agree 131 = .ok (.iconst 1, 1) := dk_4 (dk_at dksX0_agree_5 15 rfl rfl)
theorem dX0_agree_132 : decode cX0_agree 132 = .ok (.goto 4, 3) := dk_167 0 4 (dk_at dksX0_agree_5 16 rfl rfl)
theorem dX0_agree_135 : decode cX0_agree 135 = .ok (.iconst (-1), 1) := dk_2 (dk_at dksX0_agree_5 19 rfl rfl)
theorem dX0_agree_136 : decode cX0_agree 136 = .ok (.iadd, 1) := dk_96 (dk_at dksX0_agree_5 20 rfl rfl)
theorem dX0_agree_137 : decode cX0_agree 137 = .ok (.iastore, 1) := dk_79 (dk_at dksX0_agree_5 21 rfl rfl)
theorem dX0_agree_138 : decode cX0_agree 138 = .ok (.iinc 5 1, 3) := dk_132 5 1 (dk_at dksX0_agree_6 0 rfl rfl)
theorem dX0_agree_141 : decode cX0_agree 141 = .ok (.goto (-110), 3) := dk_167 255 146 (dk_at dksX0_agree_6 3 rfl rfl)
theorem dX0_agree_144 : decode cX0_agree 144 = .ok (.iload_n 1, 1) := dk_27 (dk_at dksX0_agree_6 6 rfl rfl)
theorem dX0_agree_145 : decode cX0_agree 145 = .ok (.ifCond .ne 6, 3) := dk_154 0 6 (dk_at dksX0_agree_6 7 rfl rfl)
theorem dX0_agree_148 : decode cX0_agree 148 = .ok (.iload 4, 2) := dk_21 4 (dk_at dksX0_agree_6 10 rfl rfl)
theorem dX0_agree_150 : decode cX0_agree 150 = .ok (.ireturn, 1) := dk_172 (dk_at dksX0_agree_6 12 rfl rfl)
theorem dX0_agree_151 : decode cX0_agree 151 = .ok (.iconst 0, 1) := dk_3 (dk_at dksX0_agree_6 13 rfl rfl)
theorem dX0_agree_152 : decode cX0_agree 152 = .ok (.istore 5, 2) := dk_54 5 (dk_at dksX0_agree_6 14 rfl rfl)
theorem dX0_agree_154 : decode cX0_agree 154 = .ok (.iconst 0, 1) := dk_3 (dk_at dksX0_agree_6 16 rfl rfl)
theorem dX0_agree_155 : decode cX0_agree 155 = .ok (.istore 6, 2) := dk_54 6 (dk_at dksX0_agree_6 17 rfl rfl)
theorem dX0_agree_157 : decode cX0_agree 157 = .ok (.iload 6, 2) := dk_21 6 (dk_at dksX0_agree_6 19 rfl rfl)
theorem dX0_agree_159 : decode cX0_agree 159 = .ok (.bipush 16, 2) := dk_16 16 (dk_at dksX0_agree_6 21 rfl rfl)
theorem dX0_agree_161 : decode cX0_agree 161 = .ok (.if_icmp .ge 46, 3) := dk_162 0 46 (dk_at dksX0_agree_7 0 rfl rfl)
theorem dX0_agree_164 : decode cX0_agree 164 = .ok (.iload 5, 2) := dk_21 5 (dk_at dksX0_agree_7 3 rfl rfl)
theorem dX0_agree_166 : decode cX0_agree 166 = .ok (.iload_n 1, 1) := dk_27 (dk_at dksX0_agree_7 5 rfl rfl)
theorem dX0_agree_167 : decode cX0_agree 167 = .ok (.iconst 1, 1) := dk_4 (dk_at dksX0_agree_7 6 rfl rfl)
theorem dX0_agree_168 : decode cX0_agree 168 = .ok (.if_icmp .ne 18, 3) := dk_160 0 18 (dk_at dksX0_agree_7 7 rfl rfl)
theorem dX0_agree_171 : decode cX0_agree 171 = .ok (.aload_n 2, 1) := dk_44 (dk_at dksX0_agree_7 10 rfl rfl)
theorem dX0_agree_172 : decode cX0_agree 172 = .ok (.iload 6, 2) := dk_21 6 (dk_at dksX0_agree_7 11 rfl rfl)
theorem dX0_agree_174 : decode cX0_agree 174 = .ok (.baload, 1) := dk_51 (dk_at dksX0_agree_7 13 rfl rfl)
theorem dX0_agree_175 : decode cX0_agree 175 = .ok (.ifCond .eq 7, 3) := dk_153 0 7 (dk_at dksX0_agree_7 14 rfl rfl)
theorem dX0_agree_178 : decode cX0_agree 178 = .ok (.iconst 1, 1) := dk_4 (dk_at dksX0_agree_7 17 rfl rfl)
theorem dX0_agree_179 : decode cX0_agree 179 = .ok (.goto 19, 3) := dk_167 0 19 (dk_at dksX0_agree_7 18 rfl rfl)
theorem dX0_agree_182 : decode cX0_agree 182 = .ok (.iconst 0, 1) := dk_3 (dk_at dksX0_agree_7 21 rfl rfl)
theorem dX0_agree_183 : decode cX0_agree 183 = .ok (.goto 15, 3) := dk_167 0 15 (dk_at dksX0_agree_8 0 rfl rfl)
theorem dX0_agree_186 : decode cX0_agree 186 = .ok (.aload_n 3, 1) := dk_45 (dk_at dksX0_agree_8 3 rfl rfl)
theorem dX0_agree_187 : decode cX0_agree 187 = .ok (.iload 6, 2) := dk_21 6 (dk_at dksX0_agree_8 4 rfl rfl)
theorem dX0_agree_189 : decode cX0_agree 189 = .ok (.iaload, 1) := dk_46 (dk_at dksX0_agree_8 6 rfl rfl)
theorem dX0_agree_190 : decode cX0_agree 190 = .ok (.ifCond .ge 7, 3) := dk_156 0 7 (dk_at dksX0_agree_8 7 rfl rfl)
theorem dX0_agree_193 : decode cX0_agree 193 = .ok (.iconst 1, 1) := dk_4 (dk_at dksX0_agree_8 10 rfl rfl)
theorem dX0_agree_194 : decode cX0_agree 194 = .ok (.goto 4, 3) := dk_167 0 4 (dk_at dksX0_agree_8 11 rfl rfl)
theorem dX0_agree_197 : decode cX0_agree 197 = .ok (.iconst 0, 1) := dk_3 (dk_at dksX0_agree_8 14 rfl rfl)
theorem dX0_agree_198 : decode cX0_agree 198 = .ok (.iadd, 1) := dk_96 (dk_at dksX0_agree_8 15 rfl rfl)
theorem dX0_agree_199 : decode cX0_agree 199 = .ok (.istore 5, 2) := dk_54 5 (dk_at dksX0_agree_8 16 rfl rfl)
theorem dX0_agree_201 : decode cX0_agree 201 = .ok (.iinc 6 1, 3) := dk_132 6 1 (dk_at dksX0_agree_8 18 rfl rfl)
theorem dX0_agree_204 : decode cX0_agree 204 = .ok (.goto (-47), 3) := dk_167 255 209 (dk_at dksX0_agree_8 21 rfl rfl)
theorem dX0_agree_207 : decode cX0_agree 207 = .ok (.iload 5, 2) := dk_21 5 (dk_at dksX0_agree_9 0 rfl rfl)
theorem dX0_agree_209 : decode cX0_agree 209 = .ok (.ireturn, 1) := dk_172 (dk_at dksX0_agree_9 2 rfl rfl)
abbrev cX0_isOpen : ByteArray := prog_1_method_20_code
def yX0_isOpen : MethodName := ⟨RX0, "isOpen", "(II)Z"⟩
def dkwX0_isOpen_0 : List UInt8 := [28, 133, 42, 180, 0, 15, 27, 46, 133, 42, 180, 0, 19, 27, 46, 4, 100, 133, 184, 0, 95, 172]
abbrev dktX0_isOpen_0 : List UInt8 := dkwX0_isOpen_0 ++ []
theorem dksX0_isOpen_0 : cX0_isOpen.data.toList.drop 0 = dktX0_isOpen_0 := by decide +kernel
theorem dX0_isOpen_0 : decode cX0_isOpen 0 = .ok (.iload_n 2, 1) := dk_28 (dk_at dksX0_isOpen_0 0 rfl rfl)
theorem dX0_isOpen_1 : decode cX0_isOpen 1 = .ok (.i2l, 1) := dk_133 (dk_at dksX0_isOpen_0 1 rfl rfl)
theorem dX0_isOpen_2 : decode cX0_isOpen 2 = .ok (.aload_n 0, 1) := dk_42 (dk_at dksX0_isOpen_0 2 rfl rfl)
theorem dX0_isOpen_3 : decode cX0_isOpen 3 = .ok (.getfield 15, 3) := dk_180 0 15 (dk_at dksX0_isOpen_0 3 rfl rfl)
theorem dX0_isOpen_6 : decode cX0_isOpen 6 = .ok (.iload_n 1, 1) := dk_27 (dk_at dksX0_isOpen_0 6 rfl rfl)
theorem dX0_isOpen_7 : decode cX0_isOpen 7 = .ok (.iaload, 1) := dk_46 (dk_at dksX0_isOpen_0 7 rfl rfl)
theorem dX0_isOpen_8 : decode cX0_isOpen 8 = .ok (.i2l, 1) := dk_133 (dk_at dksX0_isOpen_0 8 rfl rfl)
theorem dX0_isOpen_9 : decode cX0_isOpen 9 = .ok (.aload_n 0, 1) := dk_42 (dk_at dksX0_isOpen_0 9 rfl rfl)
theorem dX0_isOpen_10 : decode cX0_isOpen 10 = .ok (.getfield 19, 3) := dk_180 0 19 (dk_at dksX0_isOpen_0 10 rfl rfl)
theorem dX0_isOpen_13 : decode cX0_isOpen 13 = .ok (.iload_n 1, 1) := dk_27 (dk_at dksX0_isOpen_0 13 rfl rfl)
theorem dX0_isOpen_14 : decode cX0_isOpen 14 = .ok (.iaload, 1) := dk_46 (dk_at dksX0_isOpen_0 14 rfl rfl)
theorem dX0_isOpen_15 : decode cX0_isOpen 15 = .ok (.iconst 1, 1) := dk_4 (dk_at dksX0_isOpen_0 15 rfl rfl)
theorem dX0_isOpen_16 : decode cX0_isOpen 16 = .ok (.isub, 1) := dk_100 (dk_at dksX0_isOpen_0 16 rfl rfl)
theorem dX0_isOpen_17 : decode cX0_isOpen 17 = .ok (.i2l, 1) := dk_133 (dk_at dksX0_isOpen_0 17 rfl rfl)
theorem dX0_isOpen_18 : decode cX0_isOpen 18 = .ok (.invokestatic 95, 3) := dk_184 0 95 (dk_at dksX0_isOpen_0 18 rfl rfl)
theorem dX0_isOpen_21 : decode cX0_isOpen 21 = .ok (.ireturn, 1) := dk_172 (dk_at dksX0_isOpen_0 21 rfl rfl)
abbrev cX0_amiss : ByteArray := prog_1_method_32_code
def yX0_amiss : MethodName := ⟨RX0, "amiss", "(III)I"⟩
def dkwX0_amiss_6 : List UInt8 := [172]
abbrev dktX0_amiss_6 : List UInt8 := dkwX0_amiss_6 ++ []
def dkwX0_amiss_5 : List UInt8 := [182, 0, 247, 25, 6, 180, 1, 31, 100, 167, 0, 4, 3, 96, 54, 4, 132, 5, 1, 167, 255, 150, 21, 4]
abbrev dktX0_amiss_5 : List UInt8 := dkwX0_amiss_5 ++ dktX0_amiss_6
def dkwX0_amiss_4 : List UInt8 := [184, 0, 95, 153, 0, 31, 42, 25, 6, 180, 1, 21, 25, 6, 180, 1, 12, 25, 6, 180, 1, 30]
abbrev dktX0_amiss_4 : List UInt8 := dkwX0_amiss_4 ++ dktX0_amiss_5
def dkwX0_amiss_3 : List UInt8 := [18, 79, 159, 0, 12, 25, 6, 180, 1, 12, 27, 160, 0, 47, 25, 6, 180, 1, 30, 133, 28, 133, 29, 133]
abbrev dktX0_amiss_3 : List UInt8 := dkwX0_amiss_3 ++ dktX0_amiss_4
def dkwX0_amiss_2 : List UInt8 := [21, 5, 185, 0, 195, 2, 0, 192, 1, 0, 58, 6, 21, 4, 25, 6, 180, 1, 24, 153, 0, 62, 27]
abbrev dktX0_amiss_2 : List UInt8 := dkwX0_amiss_2 ++ dktX0_amiss_3
def dkwX0_amiss_1 : List UInt8 := [3, 54, 4, 3, 54, 5, 21, 5, 42, 180, 0, 45, 185, 0, 168, 1, 0, 162, 0, 98, 42, 180, 0, 45]
abbrev dktX0_amiss_1 : List UInt8 := dkwX0_amiss_1 ++ dktX0_amiss_2
def dkwX0_amiss_0 : List UInt8 := [27, 18, 79, 159, 0, 10, 27, 184, 0, 151, 153, 0, 11, 28, 29, 184, 1, 27, 154, 0, 6, 18, 109, 172]
abbrev dktX0_amiss_0 : List UInt8 := dkwX0_amiss_0 ++ dktX0_amiss_1
theorem dksX0_amiss_0 : cX0_amiss.data.toList.drop 0 = dktX0_amiss_0 := by decide +kernel
theorem dksX0_amiss_1 : cX0_amiss.data.toList.drop 24 = dktX0_amiss_1 := dk_seg dksX0_amiss_0 24 rfl rfl
theorem dksX0_amiss_2 : cX0_amiss.data.toList.drop 48 = dktX0_amiss_2 := dk_seg dksX0_amiss_1 24 rfl rfl
theorem dksX0_amiss_3 : cX0_amiss.data.toList.drop 71 = dktX0_amiss_3 := dk_seg dksX0_amiss_2 23 rfl rfl
theorem dksX0_amiss_4 : cX0_amiss.data.toList.drop 95 = dktX0_amiss_4 := dk_seg dksX0_amiss_3 24 rfl rfl
theorem dksX0_amiss_5 : cX0_amiss.data.toList.drop 117 = dktX0_amiss_5 := dk_seg dksX0_amiss_4 22 rfl rfl
theorem dksX0_amiss_6 : cX0_amiss.data.toList.drop 141 = dktX0_amiss_6 := dk_seg dksX0_amiss_5 24 rfl rfl
theorem dX0_amiss_0 : decode cX0_amiss 0 = .ok (.iload_n 1, 1) := dk_27 (dk_at dksX0_amiss_0 0 rfl rfl)
theorem dX0_amiss_1 : decode cX0_amiss 1 = .ok (.ldc 79, 2) := dk_18 79 (dk_at dksX0_amiss_0 1 rfl rfl)
theorem dX0_amiss_3 : decode cX0_amiss 3 = .ok (.if_icmp .eq 10, 3) := dk_159 0 10 (dk_at dksX0_amiss_0 3 rfl rfl)
theorem dX0_amiss_6 : decode cX0_amiss 6 = .ok (.iload_n 1, 1) := dk_27 (dk_at dksX0_amiss_0 6 rfl rfl)
theorem dX0_amiss_7 : decode cX0_amiss 7 = .ok (.invokestatic 151, 3) := dk_184 0 151 (dk_at dksX0_amiss_0 7 rfl rfl)
theorem dX0_amiss_10 : decode cX0_amiss 10 = .ok (.ifCond .eq 11, 3) := dk_153 0 11 (dk_at dksX0_amiss_0 10 rfl rfl)
theorem dX0_amiss_13 : decode cX0_amiss 13 = .ok (.iload_n 2, 1) := dk_28 (dk_at dksX0_amiss_0 13 rfl rfl)
theorem dX0_amiss_14 : decode cX0_amiss 14 = .ok (.iload_n 3, 1) := dk_29 (dk_at dksX0_amiss_0 14 rfl rfl)
theorem dX0_amiss_15 : decode cX0_amiss 15 = .ok (.invokestatic 283, 3) := dk_184 1 27 (dk_at dksX0_amiss_0 15 rfl rfl)
theorem dX0_amiss_18 : decode cX0_amiss 18 = .ok (.ifCond .ne 6, 3) := dk_154 0 6 (dk_at dksX0_amiss_0 18 rfl rfl)
theorem dX0_amiss_21 : decode cX0_amiss 21 = .ok (.ldc 109, 2) := dk_18 109 (dk_at dksX0_amiss_0 21 rfl rfl)
theorem dX0_amiss_23 : decode cX0_amiss 23 = .ok (.ireturn, 1) := dk_172 (dk_at dksX0_amiss_0 23 rfl rfl)
theorem dX0_amiss_24 : decode cX0_amiss 24 = .ok (.iconst 0, 1) := dk_3 (dk_at dksX0_amiss_1 0 rfl rfl)
theorem dX0_amiss_25 : decode cX0_amiss 25 = .ok (.istore 4, 2) := dk_54 4 (dk_at dksX0_amiss_1 1 rfl rfl)
theorem dX0_amiss_27 : decode cX0_amiss 27 = .ok (.iconst 0, 1) := dk_3 (dk_at dksX0_amiss_1 3 rfl rfl)
theorem dX0_amiss_28 : decode cX0_amiss 28 = .ok (.istore 5, 2) := dk_54 5 (dk_at dksX0_amiss_1 4 rfl rfl)
theorem dX0_amiss_30 : decode cX0_amiss 30 = .ok (.iload 5, 2) := dk_21 5 (dk_at dksX0_amiss_1 6 rfl rfl)
theorem dX0_amiss_32 : decode cX0_amiss 32 = .ok (.aload_n 0, 1) := dk_42 (dk_at dksX0_amiss_1 8 rfl rfl)
theorem dX0_amiss_33 : decode cX0_amiss 33 = .ok (.getfield 45, 3) := dk_180 0 45 (dk_at dksX0_amiss_1 9 rfl rfl)
theorem dX0_amiss_36 : decode cX0_amiss 36 = .ok (.invokeinterface 168 1, 5) := by decide +kernel
theorem dX0_amiss_41 : decode cX0_amiss 41 = .ok (.if_icmp .ge 98, 3) := dk_162 0 98 (dk_at dksX0_amiss_1 17 rfl rfl)
theorem dX0_amiss_44 : decode cX0_amiss 44 = .ok (.aload_n 0, 1) := dk_42 (dk_at dksX0_amiss_1 20 rfl rfl)
theorem dX0_amiss_45 : decode cX0_amiss 45 = .ok (.getfield 45, 3) := dk_180 0 45 (dk_at dksX0_amiss_1 21 rfl rfl)
theorem dX0_amiss_48 : decode cX0_amiss 48 = .ok (.iload 5, 2) := dk_21 5 (dk_at dksX0_amiss_2 0 rfl rfl)
theorem dX0_amiss_50 : decode cX0_amiss 50 = .ok (.invokeinterface 195 2, 5) := by decide +kernel
theorem dX0_amiss_55 : decode cX0_amiss 55 = .ok (.checkcast 256, 3) := dk_192 1 0 (dk_at dksX0_amiss_2 7 rfl rfl)
theorem dX0_amiss_58 : decode cX0_amiss 58 = .ok (.astore 6, 2) := dk_58 6 (dk_at dksX0_amiss_2 10 rfl rfl)
theorem dX0_amiss_60 : decode cX0_amiss 60 = .ok (.iload 4, 2) := dk_21 4 (dk_at dksX0_amiss_2 12 rfl rfl)
theorem dX0_amiss_62 : decode cX0_amiss 62 = .ok (.aload 6, 2) := dk_25 6 (dk_at dksX0_amiss_2 14 rfl rfl)
theorem dX0_amiss_64 : decode cX0_amiss 64 = .ok (.getfield 280, 3) := dk_180 1 24 (dk_at dksX0_amiss_2 16 rfl rfl)
theorem dX0_amiss_67 : decode cX0_amiss 67 = .ok (.ifCond .eq 62, 3) := dk_153 0 62 (dk_at dksX0_amiss_2 19 rfl rfl)
theorem dX0_amiss_70 : decode cX0_amiss 70 = .ok (.iload_n 1, 1) := dk_27 (dk_at dksX0_amiss_2 22 rfl rfl)
theorem dX0_amiss_71 : decode cX0_amiss 71 = .ok (.ldc 79, 2) := dk_18 79 (dk_at dksX0_amiss_3 0 rfl rfl)
theorem dX0_amiss_73 : decode cX0_amiss 73 = .ok (.if_icmp .eq 12, 3) := dk_159 0 12 (dk_at dksX0_amiss_3 2 rfl rfl)
theorem dX0_amiss_76 : decode cX0_amiss 76 = .ok (.aload 6, 2) := dk_25 6 (dk_at dksX0_amiss_3 5 rfl rfl)
theorem dX0_amiss_78 : decode cX0_amiss 78 = .ok (.getfield 268, 3) := dk_180 1 12 (dk_at dksX0_amiss_3 7 rfl rfl)
theorem dX0_amiss_81 : decode cX0_amiss 81 = .ok (.iload_n 1, 1) := dk_27 (dk_at dksX0_amiss_3 10 rfl rfl)
theorem dX0_amiss_82 : decode cX0_amiss 82 = .ok (.if_icmp .ne 47, 3) := dk_160 0 47 (dk_at dksX0_amiss_3 11 rfl rfl)
theorem dX0_amiss_85 : decode cX0_amiss 85 = .ok (.aload 6, 2) := dk_25 6 (dk_at dksX0_amiss_3 14 rfl rfl)
theorem dX0_amiss_87 : decode cX0_amiss 87 = .ok (.getfield 286, 3) := dk_180 1 30 (dk_at dksX0_amiss_3 16 rfl rfl)
theorem dX0_amiss_90 : decode cX0_amiss 90 = .ok (.i2l, 1) := dk_133 (dk_at dksX0_amiss_3 19 rfl rfl)
theorem dX0_amiss_91 : decode cX0_amiss 91 = .ok (.iload_n 2, 1) := dk_28 (dk_at dksX0_amiss_3 20 rfl rfl)
theorem dX0_amiss_92 : decode cX0_amiss 92 = .ok (.i2l, 1) := dk_133 (dk_at dksX0_amiss_3 21 rfl rfl)
theorem dX0_amiss_93 : decode cX0_amiss 93 = .ok (.iload_n 3, 1) := dk_29 (dk_at dksX0_amiss_3 22 rfl rfl)
theorem dX0_amiss_94 : decode cX0_amiss 94 = .ok (.i2l, 1) := dk_133 (dk_at dksX0_amiss_3 23 rfl rfl)
theorem dX0_amiss_95 : decode cX0_amiss 95 = .ok (.invokestatic 95, 3) := dk_184 0 95 (dk_at dksX0_amiss_4 0 rfl rfl)
theorem dX0_amiss_98 : decode cX0_amiss 98 = .ok (.ifCond .eq 31, 3) := dk_153 0 31 (dk_at dksX0_amiss_4 3 rfl rfl)
theorem dX0_amiss_101 : decode cX0_amiss 101 = .ok (.aload_n 0, 1) := dk_42 (dk_at dksX0_amiss_4 6 rfl rfl)
theorem dX0_amiss_102 : decode cX0_amiss 102 = .ok (.aload 6, 2) := dk_25 6 (dk_at dksX0_amiss_4 7 rfl rfl)
theorem dX0_amiss_104 : decode cX0_amiss 104 = .ok (.getfield 277, 3) := dk_180 1 21 (dk_at dksX0_amiss_4 9 rfl rfl)
theorem dX0_amiss_107 : decode cX0_amiss 107 = .ok (.aload 6, 2) := dk_25 6 (dk_at dksX0_amiss_4 12 rfl rfl)
theorem dX0_amiss_109 : decode cX0_amiss 109 = .ok (.getfield 268, 3) := dk_180 1 12 (dk_at dksX0_amiss_4 14 rfl rfl)
theorem dX0_amiss_112 : decode cX0_amiss 112 = .ok (.aload 6, 2) := dk_25 6 (dk_at dksX0_amiss_4 17 rfl rfl)
theorem dX0_amiss_114 : decode cX0_amiss 114 = .ok (.getfield 286, 3) := dk_180 1 30 (dk_at dksX0_amiss_4 19 rfl rfl)
theorem dX0_amiss_117 : decode cX0_amiss 117 = .ok (.invokevirtual 247, 3) := dk_182 0 247 (dk_at dksX0_amiss_5 0 rfl rfl)
theorem dX0_amiss_120 : decode cX0_amiss 120 = .ok (.aload 6, 2) := dk_25 6 (dk_at dksX0_amiss_5 3 rfl rfl)
theorem dX0_amiss_122 : decode cX0_amiss 122 = .ok (.getfield 287, 3) := dk_180 1 31 (dk_at dksX0_amiss_5 5 rfl rfl)
theorem dX0_amiss_125 : decode cX0_amiss 125 = .ok (.isub, 1) := dk_100 (dk_at dksX0_amiss_5 8 rfl rfl)
theorem dX0_amiss_126 : decode cX0_amiss 126 = .ok (.goto 4, 3) := dk_167 0 4 (dk_at dksX0_amiss_5 9 rfl rfl)
theorem dX0_amiss_129 : decode cX0_amiss 129 = .ok (.iconst 0, 1) := dk_3 (dk_at dksX0_amiss_5 12 rfl rfl)
theorem dX0_amiss_130 : decode cX0_amiss 130 = .ok (.iadd, 1) := dk_96 (dk_at dksX0_amiss_5 13 rfl rfl)
theorem dX0_amiss_131 : decode cX0_amiss 131 = .ok (.istore 4, 2) := dk_54 4 (dk_at dksX0_amiss_5 14 rfl rfl)
theorem dX0_amiss_133 : decode cX0_amiss 133 = .ok (.iinc 5 1, 3) := dk_132 5 1 (dk_at dksX0_amiss_5 16 rfl rfl)
theorem dX0_amiss_136 : decode cX0_amiss 136 = .ok (.goto (-106), 3) := dk_167 255 150 (dk_at dksX0_amiss_5 19 rfl rfl)
theorem dX0_amiss_139 : decode cX0_amiss 139 = .ok (.iload 4, 2) := dk_21 4 (dk_at dksX0_amiss_5 22 rfl rfl)
theorem dX0_amiss_141 : decode cX0_amiss 141 = .ok (.ireturn, 1) := dk_172 (dk_at dksX0_amiss_6 0 rfl rfl)
abbrev cX0_areDays : ByteArray := prog_1_method_15_code
def yX0_areDays : MethodName := ⟨RX0, "areDays", "(II)Z"⟩
def dkwX0_areDays_1 : List UInt8 := [3, 172]
abbrev dktX0_areDays_1 : List UInt8 := dkwX0_areDays_1 ++ []
def dkwX0_areDays_0 : List UInt8 := [26, 184, 0, 148, 153, 0, 20, 27, 133, 26, 133, 20, 0, 144, 184, 0, 95, 153, 0, 7, 4, 167, 0, 4]
abbrev dktX0_areDays_0 : List UInt8 := dkwX0_areDays_0 ++ dktX0_areDays_1
theorem dksX0_areDays_0 : cX0_areDays.data.toList.drop 0 = dktX0_areDays_0 := by decide +kernel
theorem dksX0_areDays_1 : cX0_areDays.data.toList.drop 24 = dktX0_areDays_1 := dk_seg dksX0_areDays_0 24 rfl rfl
theorem dX0_areDays_0 : decode cX0_areDays 0 = .ok (.iload_n 0, 1) := dk_26 (dk_at dksX0_areDays_0 0 rfl rfl)
theorem dX0_areDays_1 : decode cX0_areDays 1 = .ok (.invokestatic 148, 3) := dk_184 0 148 (dk_at dksX0_areDays_0 1 rfl rfl)
theorem dX0_areDays_4 : decode cX0_areDays 4 = .ok (.ifCond .eq 20, 3) := dk_153 0 20 (dk_at dksX0_areDays_0 4 rfl rfl)
theorem dX0_areDays_7 : decode cX0_areDays 7 = .ok (.iload_n 1, 1) := dk_27 (dk_at dksX0_areDays_0 7 rfl rfl)
theorem dX0_areDays_8 : decode cX0_areDays 8 = .ok (.i2l, 1) := dk_133 (dk_at dksX0_areDays_0 8 rfl rfl)
theorem dX0_areDays_9 : decode cX0_areDays 9 = .ok (.iload_n 0, 1) := dk_26 (dk_at dksX0_areDays_0 9 rfl rfl)
theorem dX0_areDays_10 : decode cX0_areDays 10 = .ok (.i2l, 1) := dk_133 (dk_at dksX0_areDays_0 10 rfl rfl)
theorem dX0_areDays_11 : decode cX0_areDays 11 = .ok (.ldc2_w 144, 3) := dk_20 0 144 (dk_at dksX0_areDays_0 11 rfl rfl)
theorem dX0_areDays_14 : decode cX0_areDays 14 = .ok (.invokestatic 95, 3) := dk_184 0 95 (dk_at dksX0_areDays_0 14 rfl rfl)
theorem dX0_areDays_17 : decode cX0_areDays 17 = .ok (.ifCond .eq 7, 3) := dk_153 0 7 (dk_at dksX0_areDays_0 17 rfl rfl)
theorem dX0_areDays_20 : decode cX0_areDays 20 = .ok (.iconst 1, 1) := dk_4 (dk_at dksX0_areDays_0 20 rfl rfl)
theorem dX0_areDays_21 : decode cX0_areDays 21 = .ok (.goto 4, 3) := dk_167 0 4 (dk_at dksX0_areDays_0 21 rfl rfl)
theorem dX0_areDays_24 : decode cX0_areDays 24 = .ok (.iconst 0, 1) := dk_3 (dk_at dksX0_areDays_1 0 rfl rfl)
theorem dX0_areDays_25 : decode cX0_areDays 25 = .ok (.ireturn, 1) := dk_172 (dk_at dksX0_areDays_1 1 rfl rfl)
abbrev cX0_road : ByteArray := prog_1_method_35_code
def yX0_road : MethodName := ⟨RX0, "road", "(III)I"⟩
def dkwX0_road_3 : List UInt8 := [79, 28, 18, 79, 159, 0, 15, 42, 180, 0, 48, 16, 9, 28, 104, 27, 96, 29, 79, 21, 4, 172]
abbrev dktX0_road_3 : List UInt8 := dkwX0_road_3 ++ []
def dkwX0_road_2 : List UInt8 := [54, 4, 42, 180, 0, 48, 16, 9, 27, 104, 28, 18, 79, 160, 0, 8, 16, 8, 167, 0, 4, 28, 96, 29]
abbrev dktX0_road_2 : List UInt8 := dkwX0_road_2 ++ dktX0_road_3
def dkwX0_road_1 : List UInt8 := [159, 0, 15, 29, 133, 10, 20, 1, 37, 184, 0, 95, 154, 0, 6, 18, 109, 172, 42, 27, 28, 182, 1, 39]
abbrev dktX0_road_1 : List UInt8 := dkwX0_road_1 ++ dktX0_road_2
def dkwX0_road_0 : List UInt8 := [27, 184, 1, 34, 153, 0, 33, 28, 18, 79, 159, 0, 10, 28, 184, 1, 34, 153, 0, 20, 27, 28]
abbrev dktX0_road_0 : List UInt8 := dkwX0_road_0 ++ dktX0_road_1
theorem dksX0_road_0 : cX0_road.data.toList.drop 0 = dktX0_road_0 := by decide +kernel
theorem dksX0_road_1 : cX0_road.data.toList.drop 22 = dktX0_road_1 := dk_seg dksX0_road_0 22 rfl rfl
theorem dksX0_road_2 : cX0_road.data.toList.drop 46 = dktX0_road_2 := dk_seg dksX0_road_1 24 rfl rfl
theorem dksX0_road_3 : cX0_road.data.toList.drop 70 = dktX0_road_3 := dk_seg dksX0_road_2 24 rfl rfl
theorem dX0_road_0 : decode cX0_road 0 = .ok (.iload_n 1, 1) := dk_27 (dk_at dksX0_road_0 0 rfl rfl)
theorem dX0_road_1 : decode cX0_road 1 = .ok (.invokestatic 290, 3) := dk_184 1 34 (dk_at dksX0_road_0 1 rfl rfl)
theorem dX0_road_4 : decode cX0_road 4 = .ok (.ifCond .eq 33, 3) := dk_153 0 33 (dk_at dksX0_road_0 4 rfl rfl)
theorem dX0_road_7 : decode cX0_road 7 = .ok (.iload_n 2, 1) := dk_28 (dk_at dksX0_road_0 7 rfl rfl)
theorem dX0_road_8 : decode cX0_road 8 = .ok (.ldc 79, 2) := dk_18 79 (dk_at dksX0_road_0 8 rfl rfl)
theorem dX0_road_10 : decode cX0_road 10 = .ok (.if_icmp .eq 10, 3) := dk_159 0 10 (dk_at dksX0_road_0 10 rfl rfl)
theorem dX0_road_13 : decode cX0_road 13 = .ok (.iload_n 2, 1) := dk_28 (dk_at dksX0_road_0 13 rfl rfl)
theorem dX0_road_14 : decode cX0_road 14 = .ok (.invokestatic 290, 3) := dk_184 1 34 (dk_at dksX0_road_0 14 rfl rfl)
theorem dX0_road_17 : decode cX0_road 17 = .ok (.ifCond .eq 20, 3) := dk_153 0 20 (dk_at dksX0_road_0 17 rfl rfl)
theorem dX0_road_20 : decode cX0_road 20 = .ok (.iload_n 1, 1) := dk_27 (dk_at dksX0_road_0 20 rfl rfl)
theorem dX0_road_21 : decode cX0_road 21 = .ok (.iload_n 2, 1) := dk_28 (dk_at dksX0_road_0 21 rfl rfl)
theorem dX0_road_22 : decode cX0_road 22 = .ok (.if_icmp .eq 15, 3) := dk_159 0 15 (dk_at dksX0_road_1 0 rfl rfl)
theorem dX0_road_25 : decode cX0_road 25 = .ok (.iload_n 3, 1) := dk_29 (dk_at dksX0_road_1 3 rfl rfl)
theorem dX0_road_26 : decode cX0_road 26 = .ok (.i2l, 1) := dk_133 (dk_at dksX0_road_1 4 rfl rfl)
theorem dX0_road_27 : decode cX0_road 27 = .ok (.lconst 1, 1) := dk_10 (dk_at dksX0_road_1 5 rfl rfl)
theorem dX0_road_28 : decode cX0_road 28 = .ok (.ldc2_w 293, 3) := dk_20 1 37 (dk_at dksX0_road_1 6 rfl rfl)
theorem dX0_road_31 : decode cX0_road 31 = .ok (.invokestatic 95, 3) := dk_184 0 95 (dk_at dksX0_road_1 9 rfl rfl)
theorem dX0_road_34 : decode cX0_road 34 = .ok (.ifCond .ne 6, 3) := dk_154 0 6 (dk_at dksX0_road_1 12 rfl rfl)
theorem dX0_road_37 : decode cX0_road 37 = .ok (.ldc 109, 2) := dk_18 109 (dk_at dksX0_road_1 15 rfl rfl)
theorem dX0_road_39 : decode cX0_road 39 = .ok (.ireturn, 1) := dk_172 (dk_at dksX0_road_1 17 rfl rfl)
theorem dX0_road_40 : decode cX0_road 40 = .ok (.aload_n 0, 1) := dk_42 (dk_at dksX0_road_1 18 rfl rfl)
theorem dX0_road_41 : decode cX0_road 41 = .ok (.iload_n 1, 1) := dk_27 (dk_at dksX0_road_1 19 rfl rfl)
theorem dX0_road_42 : decode cX0_road 42 = .ok (.iload_n 2, 1) := dk_28 (dk_at dksX0_road_1 20 rfl rfl)
theorem dX0_road_43 : decode cX0_road 43 = .ok (.invokevirtual 295, 3) := dk_182 1 39 (dk_at dksX0_road_1 21 rfl rfl)
theorem dX0_road_46 : decode cX0_road 46 = .ok (.istore 4, 2) := dk_54 4 (dk_at dksX0_road_2 0 rfl rfl)
theorem dX0_road_48 : decode cX0_road 48 = .ok (.aload_n 0, 1) := dk_42 (dk_at dksX0_road_2 2 rfl rfl)
theorem dX0_road_49 : decode cX0_road 49 = .ok (.getfield 48, 3) := dk_180 0 48 (dk_at dksX0_road_2 3 rfl rfl)
theorem dX0_road_52 : decode cX0_road 52 = .ok (.bipush 9, 2) := dk_16 9 (dk_at dksX0_road_2 6 rfl rfl)
theorem dX0_road_54 : decode cX0_road 54 = .ok (.iload_n 1, 1) := dk_27 (dk_at dksX0_road_2 8 rfl rfl)
theorem dX0_road_55 : decode cX0_road 55 = .ok (.imul, 1) := dk_104 (dk_at dksX0_road_2 9 rfl rfl)
theorem dX0_road_56 : decode cX0_road 56 = .ok (.iload_n 2, 1) := dk_28 (dk_at dksX0_road_2 10 rfl rfl)
theorem dX0_road_57 : decode cX0_road 57 = .ok (.ldc 79, 2) := dk_18 79 (dk_at dksX0_road_2 11 rfl rfl)
theorem dX0_road_59 : decode cX0_road 59 = .ok (.if_icmp .ne 8, 3) := dk_160 0 8 (dk_at dksX0_road_2 13 rfl rfl)
theorem dX0_road_62 : decode cX0_road 62 = .ok (.bipush 8, 2) := dk_16 8 (dk_at dksX0_road_2 16 rfl rfl)
theorem dX0_road_64 : decode cX0_road 64 = .ok (.goto 4, 3) := dk_167 0 4 (dk_at dksX0_road_2 18 rfl rfl)
theorem dX0_road_67 : decode cX0_road 67 = .ok (.iload_n 2, 1) := dk_28 (dk_at dksX0_road_2 21 rfl rfl)
theorem dX0_road_68 : decode cX0_road 68 = .ok (.iadd, 1) := dk_96 (dk_at dksX0_road_2 22 rfl rfl)
theorem dX0_road_69 : decode cX0_road 69 = .ok (.iload_n 3, 1) := dk_29 (dk_at dksX0_road_2 23 rfl rfl)
theorem dX0_road_70 : decode cX0_road 70 = .ok (.iastore, 1) := dk_79 (dk_at dksX0_road_3 0 rfl rfl)
theorem dX0_road_71 : decode cX0_road 71 = .ok (.iload_n 2, 1) := dk_28 (dk_at dksX0_road_3 1 rfl rfl)
theorem dX0_road_72 : decode cX0_road 72 = .ok (.ldc 79, 2) := dk_18 79 (dk_at dksX0_road_3 2 rfl rfl)
theorem dX0_road_74 : decode cX0_road 74 = .ok (.if_icmp .eq 15, 3) := dk_159 0 15 (dk_at dksX0_road_3 4 rfl rfl)
theorem dX0_road_77 : decode cX0_road 77 = .ok (.aload_n 0, 1) := dk_42 (dk_at dksX0_road_3 7 rfl rfl)
theorem dX0_road_78 : decode cX0_road 78 = .ok (.getfield 48, 3) := dk_180 0 48 (dk_at dksX0_road_3 8 rfl rfl)
theorem dX0_road_81 : decode cX0_road 81 = .ok (.bipush 9, 2) := dk_16 9 (dk_at dksX0_road_3 11 rfl rfl)
theorem dX0_road_83 : decode cX0_road 83 = .ok (.iload_n 2, 1) := dk_28 (dk_at dksX0_road_3 13 rfl rfl)
theorem dX0_road_84 : decode cX0_road 84 = .ok (.imul, 1) := dk_104 (dk_at dksX0_road_3 14 rfl rfl)
theorem dX0_road_85 : decode cX0_road 85 = .ok (.iload_n 1, 1) := dk_27 (dk_at dksX0_road_3 15 rfl rfl)
theorem dX0_road_86 : decode cX0_road 86 = .ok (.iadd, 1) := dk_96 (dk_at dksX0_road_3 16 rfl rfl)
theorem dX0_road_87 : decode cX0_road 87 = .ok (.iload_n 3, 1) := dk_29 (dk_at dksX0_road_3 17 rfl rfl)
theorem dX0_road_88 : decode cX0_road 88 = .ok (.iastore, 1) := dk_79 (dk_at dksX0_road_3 18 rfl rfl)
theorem dX0_road_89 : decode cX0_road 89 = .ok (.iload 4, 2) := dk_21 4 (dk_at dksX0_road_3 19 rfl rfl)
theorem dX0_road_91 : decode cX0_road 91 = .ok (.ireturn, 1) := dk_172 (dk_at dksX0_road_3 21 rfl rfl)
abbrev cX0_isTown : ByteArray := prog_1_method_33_code
def yX0_isTown : MethodName := ⟨RX0, "isTown", "(I)Z"⟩
def dkwX0_isTown_0 : List UInt8 := [26, 133, 9, 20, 0, 93, 184, 0, 95, 172]
abbrev dktX0_isTown_0 : List UInt8 := dkwX0_isTown_0 ++ []
theorem dksX0_isTown_0 : cX0_isTown.data.toList.drop 0 = dktX0_isTown_0 := by decide +kernel
theorem dX0_isTown_0 : decode cX0_isTown 0 = .ok (.iload_n 0, 1) := dk_26 (dk_at dksX0_isTown_0 0 rfl rfl)
theorem dX0_isTown_1 : decode cX0_isTown 1 = .ok (.i2l, 1) := dk_133 (dk_at dksX0_isTown_0 1 rfl rfl)
theorem dX0_isTown_2 : decode cX0_isTown 2 = .ok (.lconst 0, 1) := dk_9 (dk_at dksX0_isTown_0 2 rfl rfl)
theorem dX0_isTown_3 : decode cX0_isTown 3 = .ok (.ldc2_w 93, 3) := dk_20 0 93 (dk_at dksX0_isTown_0 3 rfl rfl)
theorem dX0_isTown_6 : decode cX0_isTown 6 = .ok (.invokestatic 95, 3) := dk_184 0 95 (dk_at dksX0_isTown_0 6 rfl rfl)
theorem dX0_isTown_9 : decode cX0_isTown 9 = .ok (.ireturn, 1) := dk_172 (dk_at dksX0_isTown_0 9 rfl rfl)
abbrev cX0_roadOf : ByteArray := prog_1_method_34_code
def yX0_roadOf : MethodName := ⟨RX0, "roadOf", "(II)I"⟩
def dkwX0_roadOf_1 : List UInt8 := [16, 8, 167, 0, 4, 28, 96, 46, 172]
abbrev dktX0_roadOf_1 : List UInt8 := dkwX0_roadOf_1 ++ []
def dkwX0_roadOf_0 : List UInt8 := [27, 28, 160, 0, 7, 3, 167, 0, 25, 42, 180, 0, 48, 16, 9, 27, 104, 28, 18, 79, 160, 0, 8]
abbrev dktX0_roadOf_0 : List UInt8 := dkwX0_roadOf_0 ++ dktX0_roadOf_1
theorem dksX0_roadOf_0 : cX0_roadOf.data.toList.drop 0 = dktX0_roadOf_0 := by decide +kernel
theorem dksX0_roadOf_1 : cX0_roadOf.data.toList.drop 23 = dktX0_roadOf_1 := dk_seg dksX0_roadOf_0 23 rfl rfl
theorem dX0_roadOf_0 : decode cX0_roadOf 0 = .ok (.iload_n 1, 1) := dk_27 (dk_at dksX0_roadOf_0 0 rfl rfl)
theorem dX0_roadOf_1 : decode cX0_roadOf 1 = .ok (.iload_n 2, 1) := dk_28 (dk_at dksX0_roadOf_0 1 rfl rfl)
theorem dX0_roadOf_2 : decode cX0_roadOf 2 = .ok (.if_icmp .ne 7, 3) := dk_160 0 7 (dk_at dksX0_roadOf_0 2 rfl rfl)
theorem dX0_roadOf_5 : decode cX0_roadOf 5 = .ok (.iconst 0, 1) := dk_3 (dk_at dksX0_roadOf_0 5 rfl rfl)
theorem dX0_roadOf_6 : decode cX0_roadOf 6 = .ok (.goto 25, 3) := dk_167 0 25 (dk_at dksX0_roadOf_0 6 rfl rfl)
theorem dX0_roadOf_9 : decode cX0_roadOf 9 = .ok (.aload_n 0, 1) := dk_42 (dk_at dksX0_roadOf_0 9 rfl rfl)
theorem dX0_roadOf_10 : decode cX0_roadOf 10 = .ok (.getfield 48, 3) := dk_180 0 48 (dk_at dksX0_roadOf_0 10 rfl rfl)
theorem dX0_roadOf_13 : decode cX0_roadOf 13 = .ok (.bipush 9, 2) := dk_16 9 (dk_at dksX0_roadOf_0 13 rfl rfl)
theorem dX0_roadOf_15 : decode cX0_roadOf 15 = .ok (.iload_n 1, 1) := dk_27 (dk_at dksX0_roadOf_0 15 rfl rfl)
theorem dX0_roadOf_16 : decode cX0_roadOf 16 = .ok (.imul, 1) := dk_104 (dk_at dksX0_roadOf_0 16 rfl rfl)
theorem dX0_roadOf_17 : decode cX0_roadOf 17 = .ok (.iload_n 2, 1) := dk_28 (dk_at dksX0_roadOf_0 17 rfl rfl)
theorem dX0_roadOf_18 : decode cX0_roadOf 18 = .ok (.ldc 79, 2) := dk_18 79 (dk_at dksX0_roadOf_0 18 rfl rfl)
theorem dX0_roadOf_20 : decode cX0_roadOf 20 = .ok (.if_icmp .ne 8, 3) := dk_160 0 8 (dk_at dksX0_roadOf_0 20 rfl rfl)
theorem dX0_roadOf_23 : decode cX0_roadOf 23 = .ok (.bipush 8, 2) := dk_16 8 (dk_at dksX0_roadOf_1 0 rfl rfl)
theorem dX0_roadOf_25 : decode cX0_roadOf 25 = .ok (.goto 4, 3) := dk_167 0 4 (dk_at dksX0_roadOf_1 2 rfl rfl)
theorem dX0_roadOf_28 : decode cX0_roadOf 28 = .ok (.iload_n 2, 1) := dk_28 (dk_at dksX0_roadOf_1 5 rfl rfl)
theorem dX0_roadOf_29 : decode cX0_roadOf 29 = .ok (.iadd, 1) := dk_96 (dk_at dksX0_roadOf_1 6 rfl rfl)
theorem dX0_roadOf_30 : decode cX0_roadOf 30 = .ok (.iaload, 1) := dk_46 (dk_at dksX0_roadOf_1 7 rfl rfl)
theorem dX0_roadOf_31 : decode cX0_roadOf 31 = .ok (.ireturn, 1) := dk_172 (dk_at dksX0_roadOf_1 8 rfl rfl)
abbrev cX0_sick : ByteArray := prog_1_method_36_code
def yX0_sick : MethodName := ⟨RX0, "sick", "(III)I"⟩
def dkwX0_sick_2 : List UInt8 := [29, 183, 1, 45, 185, 0, 201, 2, 0, 87, 42, 180, 0, 51, 185, 0, 168, 1, 0, 172]
abbrev dktX0_sick_2 : List UInt8 := dkwX0_sick_2 ++ []
def dkwX0_sick_1 : List UInt8 := [185, 0, 168, 1, 0, 16, 20, 160, 0, 6, 18, 165, 172, 42, 180, 0, 51, 187, 1, 43, 89, 27, 3, 28]
abbrev dktX0_sick_1 : List UInt8 := dkwX0_sick_1 ++ dktX0_sick_2
def dkwX0_sick_0 : List UInt8 := [27, 184, 1, 34, 153, 0, 11, 28, 29, 184, 1, 27, 154, 0, 6, 18, 109, 172, 42, 180, 0, 51]
abbrev dktX0_sick_0 : List UInt8 := dkwX0_sick_0 ++ dktX0_sick_1
theorem dksX0_sick_0 : cX0_sick.data.toList.drop 0 = dktX0_sick_0 := by decide +kernel
theorem dksX0_sick_1 : cX0_sick.data.toList.drop 22 = dktX0_sick_1 := dk_seg dksX0_sick_0 22 rfl rfl
theorem dksX0_sick_2 : cX0_sick.data.toList.drop 46 = dktX0_sick_2 := dk_seg dksX0_sick_1 24 rfl rfl
theorem dX0_sick_0 : decode cX0_sick 0 = .ok (.iload_n 1, 1) := dk_27 (dk_at dksX0_sick_0 0 rfl rfl)
theorem dX0_sick_1 : decode cX0_sick 1 = .ok (.invokestatic 290, 3) := dk_184 1 34 (dk_at dksX0_sick_0 1 rfl rfl)
theorem dX0_sick_4 : decode cX0_sick 4 = .ok (.ifCond .eq 11, 3) := dk_153 0 11 (dk_at dksX0_sick_0 4 rfl rfl)
theorem dX0_sick_7 : decode cX0_sick 7 = .ok (.iload_n 2, 1) := dk_28 (dk_at dksX0_sick_0 7 rfl rfl)
theorem dX0_sick_8 : decode cX0_sick 8 = .ok (.iload_n 3, 1) := dk_29 (dk_at dksX0_sick_0 8 rfl rfl)
theorem dX0_sick_9 : decode cX0_sick 9 = .ok (.invokestatic 283, 3) := dk_184 1 27 (dk_at dksX0_sick_0 9 rfl rfl)
theorem dX0_sick_12 : decode cX0_sick 12 = .ok (.ifCond .ne 6, 3) := dk_154 0 6 (dk_at dksX0_sick_0 12 rfl rfl)
theorem dX0_sick_15 : decode cX0_sick 15 = .ok (.ldc 109, 2) := dk_18 109 (dk_at dksX0_sick_0 15 rfl rfl)
theorem dX0_sick_17 : decode cX0_sick 17 = .ok (.ireturn, 1) := dk_172 (dk_at dksX0_sick_0 17 rfl rfl)
theorem dX0_sick_18 : decode cX0_sick 18 = .ok (.aload_n 0, 1) := dk_42 (dk_at dksX0_sick_0 18 rfl rfl)
theorem dX0_sick_19 : decode cX0_sick 19 = .ok (.getfield 51, 3) := dk_180 0 51 (dk_at dksX0_sick_0 19 rfl rfl)
theorem dX0_sick_22 : decode cX0_sick 22 = .ok (.invokeinterface 168 1, 5) := by decide +kernel
theorem dX0_sick_27 : decode cX0_sick 27 = .ok (.bipush 20, 2) := dk_16 20 (dk_at dksX0_sick_1 5 rfl rfl)
theorem dX0_sick_29 : decode cX0_sick 29 = .ok (.if_icmp .ne 6, 3) := dk_160 0 6 (dk_at dksX0_sick_1 7 rfl rfl)
theorem dX0_sick_32 : decode cX0_sick 32 = .ok (.ldc 165, 2) := dk_18 165 (dk_at dksX0_sick_1 10 rfl rfl)
theorem dX0_sick_34 : decode cX0_sick 34 = .ok (.ireturn, 1) := dk_172 (dk_at dksX0_sick_1 12 rfl rfl)
theorem dX0_sick_35 : decode cX0_sick 35 = .ok (.aload_n 0, 1) := dk_42 (dk_at dksX0_sick_1 13 rfl rfl)
theorem dX0_sick_36 : decode cX0_sick 36 = .ok (.getfield 51, 3) := dk_180 0 51 (dk_at dksX0_sick_1 14 rfl rfl)
theorem dX0_sick_39 : decode cX0_sick 39 = .ok (.new 299, 3) := dk_187 1 43 (dk_at dksX0_sick_1 17 rfl rfl)
theorem dX0_sick_42 : decode cX0_sick 42 = .ok (.dup, 1) := dk_89 (dk_at dksX0_sick_1 20 rfl rfl)
theorem dX0_sick_43 : decode cX0_sick 43 = .ok (.iload_n 1, 1) := dk_27 (dk_at dksX0_sick_1 21 rfl rfl)
theorem dX0_sick_44 : decode cX0_sick 44 = .ok (.iconst 0, 1) := dk_3 (dk_at dksX0_sick_1 22 rfl rfl)
theorem dX0_sick_45 : decode cX0_sick 45 = .ok (.iload_n 2, 1) := dk_28 (dk_at dksX0_sick_1 23 rfl rfl)
theorem dX0_sick_46 : decode cX0_sick 46 = .ok (.iload_n 3, 1) := dk_29 (dk_at dksX0_sick_2 0 rfl rfl)
theorem dX0_sick_47 : decode cX0_sick 47 = .ok (.invokespecial 301, 3) := dk_183 1 45 (dk_at dksX0_sick_2 1 rfl rfl)
theorem dX0_sick_50 : decode cX0_sick 50 = .ok (.invokeinterface 201 2, 5) := by decide +kernel
theorem dX0_sick_55 : decode cX0_sick 55 = .ok (.pop, 1) := dk_87 (dk_at dksX0_sick_2 9 rfl rfl)
theorem dX0_sick_56 : decode cX0_sick 56 = .ok (.aload_n 0, 1) := dk_42 (dk_at dksX0_sick_2 10 rfl rfl)
theorem dX0_sick_57 : decode cX0_sick 57 = .ok (.getfield 51, 3) := dk_180 0 51 (dk_at dksX0_sick_2 11 rfl rfl)
theorem dX0_sick_60 : decode cX0_sick 60 = .ok (.invokeinterface 168 1, 5) := by decide +kernel
theorem dX0_sick_65 : decode cX0_sick 65 = .ok (.ireturn, 1) := dk_172 (dk_at dksX0_sick_2 19 rfl rfl)
abbrev cX0_seal : ByteArray := prog_1_method_39_code
def yX0_seal : MethodName := ⟨RX0, "seal", "(II)I"⟩
def dkwX0_seal_5 : List UInt8 := [87, 42, 42, 180, 0, 54, 185, 0, 168, 1, 0, 4, 100, 182, 0, 113, 172, 78, 42, 45, 182, 0, 117, 172]
abbrev dktX0_seal_5 : List UInt8 := dkwX0_seal_5 ++ []
def dkwX0_seal_4 : List UInt8 := [187, 1, 69, 89, 45, 183, 1, 71, 167, 0, 11, 187, 1, 72, 89, 45, 183, 1, 74, 185, 0, 201, 2, 0]
abbrev dktX0_seal_4 : List UInt8 := dkwX0_seal_4 ++ dktX0_seal_5
def dkwX0_seal_3 : List UInt8 := [46, 4, 160, 0, 14, 187, 1, 66, 89, 45, 183, 1, 68, 167, 0, 29, 45, 3, 46, 5, 160, 0, 14]
abbrev dktX0_seal_3 : List UInt8 := dkwX0_seal_3 ++ dktX0_seal_4
def dkwX0_seal_2 : List UInt8 := [172, 42, 180, 0, 54, 45, 3, 46, 154, 0, 14, 187, 1, 61, 89, 45, 183, 1, 63, 167, 0, 47, 45, 3]
abbrev dktX0_seal_2 : List UInt8 := dkwX0_seal_2 ++ dktX0_seal_3
def dkwX0_seal_1 : List UInt8 := [18, 165, 172, 42, 27, 182, 0, 121, 28, 16, 7, 182, 0, 235, 78, 45, 184, 1, 57, 154, 0, 6, 18, 109]
abbrev dktX0_seal_1 : List UInt8 := dkwX0_seal_1 ++ dktX0_seal_2
def dkwX0_seal_0 : List UInt8 := [27, 184, 0, 103, 154, 0, 6, 18, 109, 172, 42, 180, 0, 54, 185, 0, 168, 1, 0, 16, 16, 160, 0, 6]
abbrev dktX0_seal_0 : List UInt8 := dkwX0_seal_0 ++ dktX0_seal_1
theorem dksX0_seal_0 : cX0_seal.data.toList.drop 0 = dktX0_seal_0 := by decide +kernel
theorem dksX0_seal_1 : cX0_seal.data.toList.drop 24 = dktX0_seal_1 := dk_seg dksX0_seal_0 24 rfl rfl
theorem dksX0_seal_2 : cX0_seal.data.toList.drop 48 = dktX0_seal_2 := dk_seg dksX0_seal_1 24 rfl rfl
theorem dksX0_seal_3 : cX0_seal.data.toList.drop 72 = dktX0_seal_3 := dk_seg dksX0_seal_2 24 rfl rfl
theorem dksX0_seal_4 : cX0_seal.data.toList.drop 95 = dktX0_seal_4 := dk_seg dksX0_seal_3 23 rfl rfl
theorem dksX0_seal_5 : cX0_seal.data.toList.drop 119 = dktX0_seal_5 := dk_seg dksX0_seal_4 24 rfl rfl
theorem dX0_seal_0 : decode cX0_seal 0 = .ok (.iload_n 1, 1) := dk_27 (dk_at dksX0_seal_0 0 rfl rfl)
theorem dX0_seal_1 : decode cX0_seal 1 = .ok (.invokestatic 103, 3) := dk_184 0 103 (dk_at dksX0_seal_0 1 rfl rfl)
theorem dX0_seal_4 : decode cX0_seal 4 = .ok (.ifCond .ne 6, 3) := dk_154 0 6 (dk_at dksX0_seal_0 4 rfl rfl)
theorem dX0_seal_7 : decode cX0_seal 7 = .ok (.ldc 109, 2) := dk_18 109 (dk_at dksX0_seal_0 7 rfl rfl)
theorem dX0_seal_9 : decode cX0_seal 9 = .ok (.ireturn, 1) := dk_172 (dk_at dksX0_seal_0 9 rfl rfl)
theorem dX0_seal_10 : decode cX0_seal 10 = .ok (.aload_n 0, 1) := dk_42 (dk_at dksX0_seal_0 10 rfl rfl)
theorem dX0_seal_11 : decode cX0_seal 11 = .ok (.getfield 54, 3) := dk_180 0 54 (dk_at dksX0_seal_0 11 rfl rfl)
theorem dX0_seal_14 : decode cX0_seal 14 = .ok (.invokeinterface 168 1, 5) := by decide +kernel
theorem dX0_seal_19 : decode cX0_seal 19 = .ok (.bipush 16, 2) := dk_16 16 (dk_at dksX0_seal_0 19 rfl rfl)
theorem dX0_seal_21 : decode cX0_seal 21 = .ok (.if_icmp .ne 6, 3) := dk_160 0 6 (dk_at dksX0_seal_0 21 rfl rfl)
theorem dX0_seal_24 : decode cX0_seal 24 = .ok (.ldc 165, 2) := dk_18 165 (dk_at dksX0_seal_1 0 rfl rfl)
theorem dX0_seal_26 : decode cX0_seal 26 = .ok (.ireturn, 1) := dk_172 (dk_at dksX0_seal_1 2 rfl rfl)
theorem dX0_seal_27 : decode cX0_seal 27 = .ok (.aload_n 0, 1) := dk_42 (dk_at dksX0_seal_1 3 rfl rfl)
theorem dX0_seal_28 : decode cX0_seal 28 = .ok (.iload_n 1, 1) := dk_27 (dk_at dksX0_seal_1 4 rfl rfl)
theorem dX0_seal_29 : decode cX0_seal 29 = .ok (.invokevirtual 121, 3) := dk_182 0 121 (dk_at dksX0_seal_1 5 rfl rfl)
theorem dX0_seal_32 : decode cX0_seal 32 = .ok (.iload_n 2, 1) := dk_28 (dk_at dksX0_seal_1 8 rfl rfl)
theorem dX0_seal_33 : decode cX0_seal 33 = .ok (.bipush 7, 2) := dk_16 7 (dk_at dksX0_seal_1 9 rfl rfl)
theorem dX0_seal_35 : decode cX0_seal 35 = .ok (.invokevirtual 235, 3) := dk_182 0 235 (dk_at dksX0_seal_1 11 rfl rfl)
theorem dX0_seal_38 : decode cX0_seal 38 = .ok (.astore_n 3, 1) := dk_78 (dk_at dksX0_seal_1 14 rfl rfl)
theorem dX0_seal_39 : decode cX0_seal 39 = .ok (.aload_n 3, 1) := dk_45 (dk_at dksX0_seal_1 15 rfl rfl)
theorem dX0_seal_40 : decode cX0_seal 40 = .ok (.invokestatic 313, 3) := dk_184 1 57 (dk_at dksX0_seal_1 16 rfl rfl)
theorem dX0_seal_43 : decode cX0_seal 43 = .ok (.ifCond .ne 6, 3) := dk_154 0 6 (dk_at dksX0_seal_1 19 rfl rfl)
theorem dX0_seal_46 : decode cX0_seal 46 = .ok (.ldc 109, 2) := dk_18 109 (dk_at dksX0_seal_1 22 rfl rfl)
theorem dX0_seal_48 : decode cX0_seal 48 = .ok (.ireturn, 1) := dk_172 (dk_at dksX0_seal_2 0 rfl rfl)
theorem dX0_seal_49 : decode cX0_seal 49 = .ok (.aload_n 0, 1) := dk_42 (dk_at dksX0_seal_2 1 rfl rfl)
theorem dX0_seal_50 : decode cX0_seal 50 = .ok (.getfield 54, 3) := dk_180 0 54 (dk_at dksX0_seal_2 2 rfl rfl)
theorem dX0_seal_53 : decode cX0_seal 53 = .ok (.aload_n 3, 1) := dk_45 (dk_at dksX0_seal_2 5 rfl rfl)
theorem dX0_seal_54 : decode cX0_seal 54 = .ok (.iconst 0, 1) := dk_3 (dk_at dksX0_seal_2 6 rfl rfl)
theorem dX0_seal_55 : decode cX0_seal 55 = .ok (.iaload, 1) := dk_46 (dk_at dksX0_seal_2 7 rfl rfl)
theorem dX0_seal_56 : decode cX0_seal 56 = .ok (.ifCond .ne 14, 3) := dk_154 0 14 (dk_at dksX0_seal_2 8 rfl rfl)
theorem dX0_seal_59 : decode cX0_seal 59 = .ok (.new 317, 3) := dk_187 1 61 (dk_at dksX0_seal_2 11 rfl rfl)
theorem dX0_seal_62 : decode cX0_seal 62 = .ok (.dup, 1) := dk_89 (dk_at dksX0_seal_2 14 rfl rfl)
theorem dX0_seal_63 : decode cX0_seal 63 = .ok (.aload_n 3, 1) := dk_45 (dk_at dksX0_seal_2 15 rfl rfl)
theorem dX0_seal_64 : decode cX0_seal 64 = .ok (.invokespecial 319, 3) := dk_183 1 63 (dk_at dksX0_seal_2 16 rfl rfl)
theorem dX0_seal_67 : decode cX0_seal 67 = .ok (.goto 47, 3) := dk_167 0 47 (dk_at dksX0_seal_2 19 rfl rfl)
theorem dX0_seal_70 : decode cX0_seal 70 = .ok (.aload_n 3, 1) := dk_45 (dk_at dksX0_seal_2 22 rfl rfl)
theorem dX0_seal_71 : decode cX0_seal 71 = .ok (.iconst 0, 1) := dk_3 (dk_at dksX0_seal_2 23 rfl rfl)
theorem dX0_seal_72 : decode cX0_seal 72 = .ok (.iaload, 1) := dk_46 (dk_at dksX0_seal_3 0 rfl rfl)
theorem dX0_seal_73 : decode cX0_seal 73 = .ok (.iconst 1, 1) := dk_4 (dk_at dksX0_seal_3 1 rfl rfl)
theorem dX0_seal_74 : decode cX0_seal 74 = .ok (.if_icmp .ne 14, 3) := dk_160 0 14 (dk_at dksX0_seal_3 2 rfl rfl)
theorem dX0_seal_77 : decode cX0_seal 77 = .ok (.new 322, 3) := dk_187 1 66 (dk_at dksX0_seal_3 5 rfl rfl)
theorem dX0_seal_80 : decode cX0_seal 80 = .ok (.dup, 1) := dk_89 (dk_at dksX0_seal_3 8 rfl rfl)
theorem dX0_seal_81 : decode cX0_seal 81 = .ok (.aload_n 3, 1) := dk_45 (dk_at dksX0_seal_3 9 rfl rfl)
theorem dX0_seal_82 : decode cX0_seal 82 = .ok (.invokespecial 324, 3) := dk_183 1 68 (dk_at dksX0_seal_3 10 rfl rfl)
theorem dX0_seal_85 : decode cX0_seal 85 = .ok (.goto 29, 3) := dk_167 0 29 (dk_at dksX0_seal_3 13 rfl rfl)
theorem dX0_seal_88 : decode cX0_seal 88 = .ok (.aload_n 3, 1) := dk_45 (dk_at dksX0_seal_3 16 rfl rfl)
theorem dX0_seal_89 : decode cX0_seal 89 = .ok (.iconst 0, 1) := dk_3 (dk_at dksX0_seal_3 17 rfl rfl)
theorem dX0_seal_90 : decode cX0_seal 90 = .ok (.iaload, 1) := dk_46 (dk_at dksX0_seal_3 18 rfl rfl)
theorem dX0_seal_91 : decode cX0_seal 91 = .ok (.iconst 2, 1) := dk_5 (dk_at dksX0_seal_3 19 rfl rfl)
theorem dX0_seal_92 : decode cX0_seal 92 = .ok (.if_icmp .ne 14, 3) := dk_160 0 14 (dk_at dksX0_seal_3 20 rfl rfl)
theorem dX0_seal_95 : decode cX0_seal 95 = .ok (.new 325, 3) := dk_187 1 69 (dk_at dksX0_seal_4 0 rfl rfl)
theorem dX0_seal_98 : decode cX0_seal 98 = .ok (.dup, 1) := dk_89 (dk_at dksX0_seal_4 3 rfl rfl)
theorem dX0_seal_99 : decode cX0_seal 99 = .ok (.aload_n 3, 1) := dk_45 (dk_at dksX0_seal_4 4 rfl rfl)
theorem dX0_seal_100 : decode cX0_seal 100 = .ok (.invokespecial 327, 3) := dk_183 1 71 (dk_at dksX0_seal_4 5 rfl rfl)
theorem dX0_seal_103 : decode cX0_seal 103 = .ok (.goto 11, 3) := dk_167 0 11 (dk_at dksX0_seal_4 8 rfl rfl)
theorem dX0_seal_106 : decode cX0_seal 106 = .ok (.new 328, 3) := dk_187 1 72 (dk_at dksX0_seal_4 11 rfl rfl)
theorem dX0_seal_109 : decode cX0_seal 109 = .ok (.dup, 1) := dk_89 (dk_at dksX0_seal_4 14 rfl rfl)
theorem dX0_seal_110 : decode cX0_seal 110 = .ok (.aload_n 3, 1) := dk_45 (dk_at dksX0_seal_4 15 rfl rfl)
theorem dX0_seal_111 : decode cX0_seal 111 = .ok (.invokespecial 330, 3) := dk_183 1 74 (dk_at dksX0_seal_4 16 rfl rfl)
theorem dX0_seal_114 : decode cX0_seal 114 = .ok (.invokeinterface 201 2, 5) := by decide +kernel
theorem dX0_seal_119 : decode cX0_seal 119 = .ok (.pop, 1) := dk_87 (dk_at dksX0_seal_5 0 rfl rfl)
theorem dX0_seal_120 : decode cX0_seal 120 = .ok (.aload_n 0, 1) := dk_42 (dk_at dksX0_seal_5 1 rfl rfl)
theorem dX0_seal_121 : decode cX0_seal 121 = .ok (.aload_n 0, 1) := dk_42 (dk_at dksX0_seal_5 2 rfl rfl)
theorem dX0_seal_122 : decode cX0_seal 122 = .ok (.getfield 54, 3) := dk_180 0 54 (dk_at dksX0_seal_5 3 rfl rfl)
theorem dX0_seal_125 : decode cX0_seal 125 = .ok (.invokeinterface 168 1, 5) := by decide +kernel
theorem dX0_seal_130 : decode cX0_seal 130 = .ok (.iconst 1, 1) := dk_4 (dk_at dksX0_seal_5 11 rfl rfl)
theorem dX0_seal_131 : decode cX0_seal 131 = .ok (.isub, 1) := dk_100 (dk_at dksX0_seal_5 12 rfl rfl)
theorem dX0_seal_132 : decode cX0_seal 132 = .ok (.invokevirtual 113, 3) := dk_182 0 113 (dk_at dksX0_seal_5 13 rfl rfl)
theorem dX0_seal_135 : decode cX0_seal 135 = .ok (.ireturn, 1) := dk_172 (dk_at dksX0_seal_5 16 rfl rfl)
theorem dX0_seal_136 : decode cX0_seal 136 = .ok (.astore_n 3, 1) := dk_78 (dk_at dksX0_seal_5 17 rfl rfl)
theorem dX0_seal_137 : decode cX0_seal 137 = .ok (.aload_n 0, 1) := dk_42 (dk_at dksX0_seal_5 18 rfl rfl)
theorem dX0_seal_138 : decode cX0_seal 138 = .ok (.aload_n 3, 1) := dk_45 (dk_at dksX0_seal_5 19 rfl rfl)
theorem dX0_seal_139 : decode cX0_seal 139 = .ok (.invokevirtual 117, 3) := dk_182 0 117 (dk_at dksX0_seal_5 20 rfl rfl)
theorem dX0_seal_142 : decode cX0_seal 142 = .ok (.ireturn, 1) := dk_172 (dk_at dksX0_seal_5 23 rfl rfl)
abbrev cX0_isSealed : ByteArray := prog_1_method_38_code
def yX0_isSealed : MethodName := ⟨RX0, "isSealed", "([I)Z"⟩
def dkwX0_isSealed_3 : List UInt8 := [153, 0, 7, 4, 167, 0, 4, 3, 172]
abbrev dktX0_isSealed_3 : List UInt8 := dkwX0_isSealed_3 ++ []
def dkwX0_isSealed_2 : List UInt8 := [153, 0, 29, 42, 7, 46, 184, 1, 34, 153, 0, 20, 42, 8, 46, 42, 16, 6, 46, 184, 1, 27]
abbrev dktX0_isSealed_2 : List UInt8 := dkwX0_isSealed_2 ++ dktX0_isSealed_3
def dkwX0_isSealed_1 : List UInt8 := [5, 46, 133, 9, 20, 0, 241, 184, 0, 95, 153, 0, 43, 42, 6, 46, 133, 9, 20, 1, 55, 184, 0, 95]
abbrev dktX0_isSealed_1 : List UInt8 := dkwX0_isSealed_1 ++ dktX0_isSealed_2
def dkwX0_isSealed_0 : List UInt8 := [42, 3, 46, 133, 9, 20, 1, 50, 184, 0, 95, 153, 0, 66, 42, 4, 46, 184, 1, 52, 153, 0, 57, 42]
abbrev dktX0_isSealed_0 : List UInt8 := dkwX0_isSealed_0 ++ dktX0_isSealed_1
theorem dksX0_isSealed_0 : cX0_isSealed.data.toList.drop 0 = dktX0_isSealed_0 := by decide +kernel
theorem dksX0_isSealed_1 : cX0_isSealed.data.toList.drop 24 = dktX0_isSealed_1 := dk_seg dksX0_isSealed_0 24 rfl rfl
theorem dksX0_isSealed_2 : cX0_isSealed.data.toList.drop 48 = dktX0_isSealed_2 := dk_seg dksX0_isSealed_1 24 rfl rfl
theorem dksX0_isSealed_3 : cX0_isSealed.data.toList.drop 70 = dktX0_isSealed_3 := dk_seg dksX0_isSealed_2 22 rfl rfl
theorem dX0_isSealed_0 : decode cX0_isSealed 0 = .ok (.aload_n 0, 1) := dk_42 (dk_at dksX0_isSealed_0 0 rfl rfl)
theorem dX0_isSealed_1 : decode cX0_isSealed 1 = .ok (.iconst 0, 1) := dk_3 (dk_at dksX0_isSealed_0 1 rfl rfl)
theorem dX0_isSealed_2 : decode cX0_isSealed 2 = .ok (.iaload, 1) := dk_46 (dk_at dksX0_isSealed_0 2 rfl rfl)
theorem dX0_isSealed_3 : decode cX0_isSealed 3 = .ok (.i2l, 1) := dk_133 (dk_at dksX0_isSealed_0 3 rfl rfl)
theorem dX0_isSealed_4 : decode cX0_isSealed 4 = .ok (.lconst 0, 1) := dk_9 (dk_at dksX0_isSealed_0 4 rfl rfl)
theorem dX0_isSealed_5 : decode cX0_isSealed 5 = .ok (.ldc2_w 306, 3) := dk_20 1 50 (dk_at dksX0_isSealed_0 5 rfl rfl)
theorem dX0_isSealed_8 : decode cX0_isSealed 8 = .ok (.invokestatic 95, 3) := dk_184 0 95 (dk_at dksX0_isSealed_0 8 rfl rfl)
theorem dX0_isSealed_11 : decode cX0_isSealed 11 = .ok (.ifCond .eq 66, 3) := dk_153 0 66 (dk_at dksX0_isSealed_0 11 rfl rfl)
theorem dX0_isSealed_14 : decode cX0_isSealed 14 = .ok (.aload_n 0, 1) := dk_42 (dk_at dksX0_isSealed_0 14 rfl rfl)
theorem dX0_isSealed_15 : decode cX0_isSealed 15 = .ok (.iconst 1, 1) := dk_4 (dk_at dksX0_isSealed_0 15 rfl rfl)
theorem dX0_isSealed_16 : decode cX0_isSealed 16 = .ok (.iaload, 1) := dk_46 (dk_at dksX0_isSealed_0 16 rfl rfl)
theorem dX0_isSealed_17 : decode cX0_isSealed 17 = .ok (.invokestatic 308, 3) := dk_184 1 52 (dk_at dksX0_isSealed_0 17 rfl rfl)
theorem dX0_isSealed_20 : decode cX0_isSealed 20 = .ok (.ifCond .eq 57, 3) := dk_153 0 57 (dk_at dksX0_isSealed_0 20 rfl rfl)
theorem dX0_isSealed_23 : decode cX0_isSealed 23 = .ok (.aload_n 0, 1) := dk_42 (dk_at dksX0_isSealed_0 23 rfl rfl)
theorem dX0_isSealed_24 : decode cX0_isSealed 24 = .ok (.iconst 2, 1) := dk_5 (dk_at dksX0_isSealed_1 0 rfl rfl)
theorem dX0_isSealed_25 : decode cX0_isSealed 25 = .ok (.iaload, 1) := dk_46 (dk_at dksX0_isSealed_1 1 rfl rfl)
theorem dX0_isSealed_26 : decode cX0_isSealed 26 = .ok (.i2l, 1) := dk_133 (dk_at dksX0_isSealed_1 2 rfl rfl)
theorem dX0_isSealed_27 : decode cX0_isSealed 27 = .ok (.lconst 0, 1) := dk_9 (dk_at dksX0_isSealed_1 3 rfl rfl)
theorem dX0_isSealed_28 : decode cX0_isSealed 28 = .ok (.ldc2_w 241, 3) := dk_20 0 241 (dk_at dksX0_isSealed_1 4 rfl rfl)
theorem dX0_isSealed_31 : decode cX0_isSealed 31 = .ok (.invokestatic 95, 3) := dk_184 0 95 (dk_at dksX0_isSealed_1 7 rfl rfl)
theorem dX0_isSealed_34 : decode cX0_isSealed 34 = .ok (.ifCond .eq 43, 3) := dk_153 0 43 (dk_at dksX0_isSealed_1 10 rfl rfl)
theorem dX0_isSealed_37 : decode cX0_isSealed 37 = .ok (.aload_n 0, 1) := dk_42 (dk_at dksX0_isSealed_1 13 rfl rfl)
theorem dX0_isSealed_38 : decode cX0_isSealed 38 = .ok (.iconst 3, 1) := dk_6 (dk_at dksX0_isSealed_1 14 rfl rfl)
theorem dX0_isSealed_39 : decode cX0_isSealed 39 = .ok (.iaload, 1) := dk_46 (dk_at dksX0_isSealed_1 15 rfl rfl)
theorem dX0_isSealed_40 : decode cX0_isSealed 40 = .ok (.i2l, 1) := dk_133 (dk_at dksX0_isSealed_1 16 rfl rfl)
theorem dX0_isSealed_41 : decode cX0_isSealed 41 = .ok (.lconst 0, 1) := dk_9 (dk_at dksX0_isSealed_1 17 rfl rfl)
theorem dX0_isSealed_42 : decode cX0_isSealed 42 = .ok (.ldc2_w 311, 3) := dk_20 1 55 (dk_at dksX0_isSealed_1 18 rfl rfl)
theorem dX0_isSealed_45 : decode cX0_isSealed 45 = .ok (.invokestatic 95, 3) := dk_184 0 95 (dk_at dksX0_isSealed_1 21 rfl rfl)
theorem dX0_isSealed_48 : decode cX0_isSealed 48 = .ok (.ifCond .eq 29, 3) := dk_153 0 29 (dk_at dksX0_isSealed_2 0 rfl rfl)
theorem dX0_isSealed_51 : decode cX0_isSealed 51 = .ok (.aload_n 0, 1) := dk_42 (dk_at dksX0_isSealed_2 3 rfl rfl)
theorem dX0_isSealed_52 : decode cX0_isSealed 52 = .ok (.iconst 4, 1) := dk_7 (dk_at dksX0_isSealed_2 4 rfl rfl)
theorem dX0_isSealed_53 : decode cX0_isSealed 53 = .ok (.iaload, 1) := dk_46 (dk_at dksX0_isSealed_2 5 rfl rfl)
theorem dX0_isSealed_54 : decode cX0_isSealed 54 = .ok (.invokestatic 290, 3) := dk_184 1 34 (dk_at dksX0_isSealed_2 6 rfl rfl)
theorem dX0_isSealed_57 : decode cX0_isSealed 57 = .ok (.ifCond .eq 20, 3) := dk_153 0 20 (dk_at dksX0_isSealed_2 9 rfl rfl)
theorem dX0_isSealed_60 : decode cX0_isSealed 60 = .ok (.aload_n 0, 1) := dk_42 (dk_at dksX0_isSealed_2 12 rfl rfl)
theorem dX0_isSealed_61 : decode cX0_isSealed 61 = .ok (.iconst 5, 1) := dk_8 (dk_at dksX0_isSealed_2 13 rfl rfl)
theorem dX0_isSealed_62 : decode cX0_isSealed 62 = .ok (.iaload, 1) := dk_46 (dk_at dksX0_isSealed_2 14 rfl rfl)
theorem dX0_isSealed_63 : decode cX0_isSealed 63 = .ok (.aload_n 0, 1) := dk_42 (dk_at dksX0_isSealed_2 15 rfl rfl)
theorem dX0_isSealed_64 : decode cX0_isSealed 64 = .ok (.bipush 6, 2) := dk_16 6 (dk_at dksX0_isSealed_2 16 rfl rfl)
theorem dX0_isSealed_66 : decode cX0_isSealed 66 = .ok (.iaload, 1) := dk_46 (dk_at dksX0_isSealed_2 18 rfl rfl)
theorem dX0_isSealed_67 : decode cX0_isSealed 67 = .ok (.invokestatic 283, 3) := dk_184 1 27 (dk_at dksX0_isSealed_2 19 rfl rfl)
theorem dX0_isSealed_70 : decode cX0_isSealed 70 = .ok (.ifCond .eq 7, 3) := dk_153 0 7 (dk_at dksX0_isSealed_3 0 rfl rfl)
theorem dX0_isSealed_73 : decode cX0_isSealed 73 = .ok (.iconst 1, 1) := dk_4 (dk_at dksX0_isSealed_3 3 rfl rfl)
theorem dX0_isSealed_74 : decode cX0_isSealed 74 = .ok (.goto 4, 3) := dk_167 0 4 (dk_at dksX0_isSealed_3 4 rfl rfl)
theorem dX0_isSealed_77 : decode cX0_isSealed 77 = .ok (.iconst 0, 1) := dk_3 (dk_at dksX0_isSealed_3 7 rfl rfl)
theorem dX0_isSealed_78 : decode cX0_isSealed 78 = .ok (.ireturn, 1) := dk_172 (dk_at dksX0_isSealed_3 8 rfl rfl)
abbrev cX0_isPerson : ByteArray := prog_1_method_37_code
def yX0_isPerson : MethodName := ⟨RX0, "isPerson", "(I)Z"⟩
def dkwX0_isPerson_0 : List UInt8 := [26, 133, 9, 20, 1, 48, 184, 0, 95, 172]
abbrev dktX0_isPerson_0 : List UInt8 := dkwX0_isPerson_0 ++ []
theorem dksX0_isPerson_0 : cX0_isPerson.data.toList.drop 0 = dktX0_isPerson_0 := by decide +kernel
theorem dX0_isPerson_0 : decode cX0_isPerson 0 = .ok (.iload_n 0, 1) := dk_26 (dk_at dksX0_isPerson_0 0 rfl rfl)
theorem dX0_isPerson_1 : decode cX0_isPerson 1 = .ok (.i2l, 1) := dk_133 (dk_at dksX0_isPerson_0 1 rfl rfl)
theorem dX0_isPerson_2 : decode cX0_isPerson 2 = .ok (.lconst 0, 1) := dk_9 (dk_at dksX0_isPerson_0 2 rfl rfl)
theorem dX0_isPerson_3 : decode cX0_isPerson 3 = .ok (.ldc2_w 304, 3) := dk_20 1 48 (dk_at dksX0_isPerson_0 3 rfl rfl)
theorem dX0_isPerson_6 : decode cX0_isPerson 6 = .ok (.invokestatic 95, 3) := dk_184 0 95 (dk_at dksX0_isPerson_0 6 rfl rfl)
theorem dX0_isPerson_9 : decode cX0_isPerson 9 = .ok (.ireturn, 1) := dk_172 (dk_at dksX0_isPerson_0 9 rfl rfl)
abbrev cX0_canbe : ByteArray := prog_1_method_41_code
def yX0_canbe : MethodName := ⟨RX0, "canbe", "(I)I"⟩
def dkwX0_canbe_5 : List UInt8 := [182, 1, 39, 162, 0, 5, 3, 172, 132, 3, 1, 167, 255, 159, 132, 2, 1, 167, 255, 136, 4, 172]
abbrev dktX0_canbe_5 : List UInt8 := dkwX0_canbe_5 ++ []
def dkwX0_canbe_4 : List UInt8 := [180, 1, 78, 25, 5, 180, 1, 78, 100, 184, 1, 79, 42, 25, 4, 180, 1, 84, 25, 5, 180, 1, 84]
abbrev dktX0_canbe_4 : List UInt8 := dkwX0_canbe_4 ++ dktX0_canbe_5
def dkwX0_canbe_3 : List UInt8 := [58, 5, 25, 4, 180, 1, 75, 27, 160, 0, 45, 25, 5, 180, 1, 75, 27, 160, 0, 36, 25, 4]
abbrev dktX0_canbe_3 : List UInt8 := dkwX0_canbe_3 ++ dktX0_canbe_4
def dkwX0_canbe_2 : List UInt8 := [28, 185, 0, 195, 2, 0, 192, 1, 61, 58, 4, 42, 180, 0, 54, 29, 185, 0, 195, 2, 0, 192, 1, 61]
abbrev dktX0_canbe_2 : List UInt8 := dkwX0_canbe_2 ++ dktX0_canbe_3
def dkwX0_canbe_1 : List UInt8 := [162, 0, 113, 28, 4, 96, 62, 29, 42, 180, 0, 54, 185, 0, 168, 1, 0, 162, 0, 90, 42, 180, 0, 54]
abbrev dktX0_canbe_1 : List UInt8 := dkwX0_canbe_1 ++ dktX0_canbe_2
def dkwX0_canbe_0 : List UInt8 := [27, 184, 1, 52, 154, 0, 6, 18, 109, 172, 3, 61, 28, 42, 180, 0, 54, 185, 0, 168, 1, 0]
abbrev dktX0_canbe_0 : List UInt8 := dkwX0_canbe_0 ++ dktX0_canbe_1
theorem dksX0_canbe_0 : cX0_canbe.data.toList.drop 0 = dktX0_canbe_0 := by decide +kernel
theorem dksX0_canbe_1 : cX0_canbe.data.toList.drop 22 = dktX0_canbe_1 := dk_seg dksX0_canbe_0 22 rfl rfl
theorem dksX0_canbe_2 : cX0_canbe.data.toList.drop 46 = dktX0_canbe_2 := dk_seg dksX0_canbe_1 24 rfl rfl
theorem dksX0_canbe_3 : cX0_canbe.data.toList.drop 70 = dktX0_canbe_3 := dk_seg dksX0_canbe_2 24 rfl rfl
theorem dksX0_canbe_4 : cX0_canbe.data.toList.drop 92 = dktX0_canbe_4 := dk_seg dksX0_canbe_3 22 rfl rfl
theorem dksX0_canbe_5 : cX0_canbe.data.toList.drop 115 = dktX0_canbe_5 := dk_seg dksX0_canbe_4 23 rfl rfl
theorem dX0_canbe_0 : decode cX0_canbe 0 = .ok (.iload_n 1, 1) := dk_27 (dk_at dksX0_canbe_0 0 rfl rfl)
theorem dX0_canbe_1 : decode cX0_canbe 1 = .ok (.invokestatic 308, 3) := dk_184 1 52 (dk_at dksX0_canbe_0 1 rfl rfl)
theorem dX0_canbe_4 : decode cX0_canbe 4 = .ok (.ifCond .ne 6, 3) := dk_154 0 6 (dk_at dksX0_canbe_0 4 rfl rfl)
theorem dX0_canbe_7 : decode cX0_canbe 7 = .ok (.ldc 109, 2) := dk_18 109 (dk_at dksX0_canbe_0 7 rfl rfl)
theorem dX0_canbe_9 : decode cX0_canbe 9 = .ok (.ireturn, 1) := dk_172 (dk_at dksX0_canbe_0 9 rfl rfl)
theorem dX0_canbe_10 : decode cX0_canbe 10 = .ok (.iconst 0, 1) := dk_3 (dk_at dksX0_canbe_0 10 rfl rfl)
theorem dX0_canbe_11 : decode cX0_canbe 11 = .ok (.istore_n 2, 1) := dk_61 (dk_at dksX0_canbe_0 11 rfl rfl)
theorem dX0_canbe_12 : decode cX0_canbe 12 = .ok (.iload_n 2, 1) := dk_28 (dk_at dksX0_canbe_0 12 rfl rfl)
theorem dX0_canbe_13 : decode cX0_canbe 13 = .ok (.aload_n 0, 1) := dk_42 (dk_at dksX0_canbe_0 13 rfl rfl)
theorem dX0_canbe_14 : decode cX0_canbe 14 = .ok (.getfield 54, 3) := dk_180 0 54 (dk_at dksX0_canbe_0 14 rfl rfl)
theorem dX0_canbe_17 : decode cX0_canbe 17 = .ok (.invokeinterface 168 1, 5) := by decide +kernel
theorem dX0_canbe_22 : decode cX0_canbe 22 = .ok (.if_icmp .ge 113, 3) := dk_162 0 113 (dk_at dksX0_canbe_1 0 rfl rfl)
theorem dX0_canbe_25 : decode cX0_canbe 25 = .ok (.iload_n 2, 1) := dk_28 (dk_at dksX0_canbe_1 3 rfl rfl)
theorem dX0_canbe_26 : decode cX0_canbe 26 = .ok (.iconst 1, 1) := dk_4 (dk_at dksX0_canbe_1 4 rfl rfl)
theorem dX0_canbe_27 : decode cX0_canbe 27 = .ok (.iadd, 1) := dk_96 (dk_at dksX0_canbe_1 5 rfl rfl)
theorem dX0_canbe_28 : decode cX0_canbe 28 = .ok (.istore_n 3, 1) := dk_62 (dk_at dksX0_canbe_1 6 rfl rfl)
theorem dX0_canbe_29 : decode cX0_canbe 29 = .ok (.iload_n 3, 1) := dk_29 (dk_at dksX0_canbe_1 7 rfl rfl)
theorem dX0_canbe_30 : decode cX0_canbe 30 = .ok (.aload_n 0, 1) := dk_42 (dk_at dksX0_canbe_1 8 rfl rfl)
theorem dX0_canbe_31 : decode cX0_canbe 31 = .ok (.getfield 54, 3) := dk_180 0 54 (dk_at dksX0_canbe_1 9 rfl rfl)
theorem dX0_canbe_34 : decode cX0_canbe 34 = .ok (.invokeinterface 168 1, 5) := by decide +kernel
theorem dX0_canbe_39 : decode cX0_canbe 39 = .ok (.if_icmp .ge 90, 3) := dk_162 0 90 (dk_at dksX0_canbe_1 17 rfl rfl)
theorem dX0_canbe_42 : decode cX0_canbe 42 = .ok (.aload_n 0, 1) := dk_42 (dk_at dksX0_canbe_1 20 rfl rfl)
theorem dX0_canbe_43 : decode cX0_canbe 43 = .ok (.getfield 54, 3) := dk_180 0 54 (dk_at dksX0_canbe_1 21 rfl rfl)
theorem dX0_canbe_46 : decode cX0_canbe 46 = .ok (.iload_n 2, 1) := dk_28 (dk_at dksX0_canbe_2 0 rfl rfl)
theorem dX0_canbe_47 : decode cX0_canbe 47 = .ok (.invokeinterface 195 2, 5) := by decide +kernel
theorem dX0_canbe_52 : decode cX0_canbe 52 = .ok (.checkcast 317, 3) := dk_192 1 61 (dk_at dksX0_canbe_2 6 rfl rfl)
theorem dX0_canbe_55 : decode cX0_canbe 55 = .ok (.astore 4, 2) := dk_58 4 (dk_at dksX0_canbe_2 9 rfl rfl)
theorem dX0_canbe_57 : decode cX0_canbe 57 = .ok (.aload_n 0, 1) := dk_42 (dk_at dksX0_canbe_2 11 rfl rfl)
theorem dX0_canbe_58 : decode cX0_canbe 58 = .ok (.getfield 54, 3) := dk_180 0 54 (dk_at dksX0_canbe_2 12 rfl rfl)
theorem dX0_canbe_61 : decode cX0_canbe 61 = .ok (.iload_n 3, 1) := dk_29 (dk_at dksX0_canbe_2 15 rfl rfl)
theorem dX0_canbe_62 : decode cX0_canbe 62 = .ok (.invokeinterface 195 2, 5) := by decide +kernel
theorem dX0_canbe_67 : decode cX0_canbe 67 = .ok (.checkcast 317, 3) := dk_192 1 61 (dk_at dksX0_canbe_2 21 rfl rfl)
theorem dX0_canbe_70 : decode cX0_canbe 70 = .ok (.astore 5, 2) := dk_58 5 (dk_at dksX0_canbe_3 0 rfl rfl)
theorem dX0_canbe_72 : decode cX0_canbe 72 = .ok (.aload 4, 2) := dk_25 4 (dk_at dksX0_canbe_3 2 rfl rfl)
theorem dX0_canbe_74 : decode cX0_canbe 74 = .ok (.getfield 331, 3) := dk_180 1 75 (dk_at dksX0_canbe_3 4 rfl rfl)
theorem dX0_canbe_77 : decode cX0_canbe 77 = .ok (.iload_n 1, 1) := dk_27 (dk_at dksX0_canbe_3 7 rfl rfl)
theorem dX0_canbe_78 : decode cX0_canbe 78 = .ok (.if_icmp .ne 45, 3) := dk_160 0 45 (dk_at dksX0_canbe_3 8 rfl rfl)
theorem dX0_canbe_81 : decode cX0_canbe 81 = .ok (.aload 5, 2) := dk_25 5 (dk_at dksX0_canbe_3 11 rfl rfl)
theorem dX0_canbe_83 : decode cX0_canbe 83 = .ok (.getfield 331, 3) := dk_180 1 75 (dk_at dksX0_canbe_3 13 rfl rfl)
theorem dX0_canbe_86 : decode cX0_canbe 86 = .ok (.iload_n 1, 1) := dk_27 (dk_at dksX0_canbe_3 16 rfl rfl)
theorem dX0_canbe_87 : decode cX0_canbe 87 = .ok (.if_icmp .ne 36, 3) := dk_160 0 36 (dk_at dksX0_canbe_3 17 rfl rfl)
theorem dX0_canbe_90 : decode cX0_canbe 90 = .ok (.aload 4, 2) := dk_25 4 (dk_at dksX0_canbe_3 20 rfl rfl)
theorem dX0_canbe_92 : decode cX0_canbe 92 = .ok (.getfield 334, 3) := dk_180 1 78 (dk_at dksX0_canbe_4 0 rfl rfl)
theorem dX0_canbe_95 : decode cX0_canbe 95 = .ok (.aload 5, 2) := dk_25 5 (dk_at dksX0_canbe_4 3 rfl rfl)
theorem dX0_canbe_97 : decode cX0_canbe 97 = .ok (.getfield 334, 3) := dk_180 1 78 (dk_at dksX0_canbe_4 5 rfl rfl)
theorem dX0_canbe_100 : decode cX0_canbe 100 = .ok (.isub, 1) := dk_100 (dk_at dksX0_canbe_4 8 rfl rfl)
theorem dX0_canbe_101 : decode cX0_canbe 101 = .ok (.invokestatic 335, 3) := dk_184 1 79 (dk_at dksX0_canbe_4 9 rfl rfl)
theorem dX0_canbe_104 : decode cX0_canbe 104 = .ok (.aload_n 0, 1) := dk_42 (dk_at dksX0_canbe_4 12 rfl rfl)
theorem dX0_canbe_105 : decode cX0_canbe 105 = .ok (.aload 4, 2) := dk_25 4 (dk_at dksX0_canbe_4 13 rfl rfl)
theorem dX0_canbe_107 : decode cX0_canbe 107 = .ok (.getfield 340, 3) := dk_180 1 84 (dk_at dksX0_canbe_4 15 rfl rfl)
theorem dX0_canbe_110 : decode cX0_canbe 110 = .ok (.aload 5, 2) := dk_25 5 (dk_at dksX0_canbe_4 18 rfl rfl)
theorem dX0_canbe_112 : decode cX0_canbe 112 = .ok (.getfield 340, 3) := dk_180 1 84 (dk_at dksX0_canbe_4 20 rfl rfl)
theorem dX0_canbe_115 : decode cX0_canbe 115 = .ok (.invokevirtual 295, 3) := dk_182 1 39 (dk_at dksX0_canbe_5 0 rfl rfl)
theorem dX0_canbe_118 : decode cX0_canbe 118 = .ok (.if_icmp .ge 5, 3) := dk_162 0 5 (dk_at dksX0_canbe_5 3 rfl rfl)
theorem dX0_canbe_121 : decode cX0_canbe 121 = .ok (.iconst 0, 1) := dk_3 (dk_at dksX0_canbe_5 6 rfl rfl)
theorem dX0_canbe_122 : decode cX0_canbe 122 = .ok (.ireturn, 1) := dk_172 (dk_at dksX0_canbe_5 7 rfl rfl)
theorem dX0_canbe_123 : decode cX0_canbe 123 = .ok (.iinc 3 1, 3) := dk_132 3 1 (dk_at dksX0_canbe_5 8 rfl rfl)
theorem dX0_canbe_126 : decode cX0_canbe 126 = .ok (.goto (-97), 3) := dk_167 255 159 (dk_at dksX0_canbe_5 11 rfl rfl)
theorem dX0_canbe_129 : decode cX0_canbe 129 = .ok (.iinc 2 1, 3) := dk_132 2 1 (dk_at dksX0_canbe_5 14 rfl rfl)
theorem dX0_canbe_132 : decode cX0_canbe 132 = .ok (.goto (-120), 3) := dk_167 255 136 (dk_at dksX0_canbe_5 17 rfl rfl)
theorem dX0_canbe_135 : decode cX0_canbe 135 = .ok (.iconst 1, 1) := dk_4 (dk_at dksX0_canbe_5 20 rfl rfl)
theorem dX0_canbe_136 : decode cX0_canbe 136 = .ok (.ireturn, 1) := dk_172 (dk_at dksX0_canbe_5 21 rfl rfl)
abbrev cX0_lets : ByteArray := prog_1_method_45_code
def yX0_lets : MethodName := ⟨RX0, "lets", "(IIII)I"⟩
def dkwX0_lets_5 : List UInt8 := [167, 0, 4, 3, 54, 6, 21, 6, 153, 0, 7, 4, 167, 0, 4, 3, 172]
abbrev dktX0_lets_5 : List UInt8 := dkwX0_lets_5 ++ []
def dkwX0_lets_4 : List UInt8 := [154, 0, 25, 25, 5, 182, 1, 120, 154, 0, 13, 42, 29, 21, 4, 182, 1, 18, 153, 0, 7, 4]
abbrev dktX0_lets_4 : List UInt8 := dkwX0_lets_4 ++ dktX0_lets_5
def dkwX0_lets_3 : List UInt8 := [180, 1, 78, 42, 25, 5, 180, 1, 84, 18, 79, 182, 1, 39, 96, 161, 0, 33, 25, 5, 193, 1, 105]
abbrev dktX0_lets_3 : List UInt8 := dkwX0_lets_3 ++ dktX0_lets_4
def dkwX0_lets_2 : List UInt8 := [180, 1, 75, 3, 182, 0, 215, 154, 0, 63, 28, 25, 5, 180, 1, 117, 163, 0, 54, 28, 25, 5]
abbrev dktX0_lets_2 : List UInt8 := dkwX0_lets_2 ++ dktX0_lets_3
def dkwX0_lets_1 : List UInt8 := [184, 0, 251, 154, 0, 6, 18, 109, 172, 42, 27, 28, 182, 1, 113, 58, 5, 42, 28, 7, 25, 5]
abbrev dktX0_lets_1 : List UInt8 := dkwX0_lets_1 ++ dktX0_lets_2
def dkwX0_lets_0 : List UInt8 := [42, 27, 182, 1, 110, 153, 0, 25, 28, 184, 0, 148, 153, 0, 18, 29, 184, 0, 151, 153, 0, 11, 21, 4]
abbrev dktX0_lets_0 : List UInt8 := dkwX0_lets_0 ++ dktX0_lets_1
theorem dksX0_lets_0 : cX0_lets.data.toList.drop 0 = dktX0_lets_0 := by decide +kernel
theorem dksX0_lets_1 : cX0_lets.data.toList.drop 24 = dktX0_lets_1 := dk_seg dksX0_lets_0 24 rfl rfl
theorem dksX0_lets_2 : cX0_lets.data.toList.drop 46 = dktX0_lets_2 := dk_seg dksX0_lets_1 22 rfl rfl
theorem dksX0_lets_3 : cX0_lets.data.toList.drop 68 = dktX0_lets_3 := dk_seg dksX0_lets_2 22 rfl rfl
theorem dksX0_lets_4 : cX0_lets.data.toList.drop 91 = dktX0_lets_4 := dk_seg dksX0_lets_3 23 rfl rfl
theorem dksX0_lets_5 : cX0_lets.data.toList.drop 113 = dktX0_lets_5 := dk_seg dksX0_lets_4 22 rfl rfl
theorem dX0_lets_0 : decode cX0_lets 0 = .ok (.aload_n 0, 1) := dk_42 (dk_at dksX0_lets_0 0 rfl rfl)
theorem dX0_lets_1 : decode cX0_lets 1 = .ok (.iload_n 1, 1) := dk_27 (dk_at dksX0_lets_0 1 rfl rfl)
theorem dX0_lets_2 : decode cX0_lets 2 = .ok (.invokevirtual 366, 3) := dk_182 1 110 (dk_at dksX0_lets_0 2 rfl rfl)
theorem dX0_lets_5 : decode cX0_lets 5 = .ok (.ifCond .eq 25, 3) := dk_153 0 25 (dk_at dksX0_lets_0 5 rfl rfl)
theorem dX0_lets_8 : decode cX0_lets 8 = .ok (.iload_n 2, 1) := dk_28 (dk_at dksX0_lets_0 8 rfl rfl)
theorem dX0_lets_9 : decode cX0_lets 9 = .ok (.invokestatic 148, 3) := dk_184 0 148 (dk_at dksX0_lets_0 9 rfl rfl)
theorem dX0_lets_12 : decode cX0_lets 12 = .ok (.ifCond .eq 18, 3) := dk_153 0 18 (dk_at dksX0_lets_0 12 rfl rfl)
theorem dX0_lets_15 : decode cX0_lets 15 = .ok (.iload_n 3, 1) := dk_29 (dk_at dksX0_lets_0 15 rfl rfl)
theorem dX0_lets_16 : decode cX0_lets 16 = .ok (.invokestatic 151, 3) := dk_184 0 151 (dk_at dksX0_lets_0 16 rfl rfl)
theorem dX0_lets_19 : decode cX0_lets 19 = .ok (.ifCond .eq 11, 3) := dk_153 0 11 (dk_at dksX0_lets_0 19 rfl rfl)
theorem dX0_lets_22 : decode cX0_lets 22 = .ok (.iload 4, 2) := dk_21 4 (dk_at dksX0_lets_0 22 rfl rfl)
theorem dX0_lets_24 : decode cX0_lets 24 = .ok (.invokestatic 251, 3) := dk_184 0 251 (dk_at dksX0_lets_1 0 rfl rfl)
theorem dX0_lets_27 : decode cX0_lets 27 = .ok (.ifCond .ne 6, 3) := dk_154 0 6 (dk_at dksX0_lets_1 3 rfl rfl)
theorem dX0_lets_30 : decode cX0_lets 30 = .ok (.ldc 109, 2) := dk_18 109 (dk_at dksX0_lets_1 6 rfl rfl)
theorem dX0_lets_32 : decode cX0_lets 32 = .ok (.ireturn, 1) := dk_172 (dk_at dksX0_lets_1 8 rfl rfl)
theorem dX0_lets_33 : decode cX0_lets 33 = .ok (.aload_n 0, 1) := dk_42 (dk_at dksX0_lets_1 9 rfl rfl)
theorem dX0_lets_34 : decode cX0_lets 34 = .ok (.iload_n 1, 1) := dk_27 (dk_at dksX0_lets_1 10 rfl rfl)
theorem dX0_lets_35 : decode cX0_lets 35 = .ok (.iload_n 2, 1) := dk_28 (dk_at dksX0_lets_1 11 rfl rfl)
theorem dX0_lets_36 : decode cX0_lets 36 = .ok (.invokevirtual 369, 3) := dk_182 1 113 (dk_at dksX0_lets_1 12 rfl rfl)
theorem dX0_lets_39 : decode cX0_lets 39 = .ok (.astore 5, 2) := dk_58 5 (dk_at dksX0_lets_1 15 rfl rfl)
theorem dX0_lets_41 : decode cX0_lets 41 = .ok (.aload_n 0, 1) := dk_42 (dk_at dksX0_lets_1 17 rfl rfl)
theorem dX0_lets_42 : decode cX0_lets 42 = .ok (.iload_n 2, 1) := dk_28 (dk_at dksX0_lets_1 18 rfl rfl)
theorem dX0_lets_43 : decode cX0_lets 43 = .ok (.iconst 4, 1) := dk_7 (dk_at dksX0_lets_1 19 rfl rfl)
theorem dX0_lets_44 : decode cX0_lets 44 = .ok (.aload 5, 2) := dk_25 5 (dk_at dksX0_lets_1 20 rfl rfl)
theorem dX0_lets_46 : decode cX0_lets 46 = .ok (.getfield 331, 3) := dk_180 1 75 (dk_at dksX0_lets_2 0 rfl rfl)
theorem dX0_lets_49 : decode cX0_lets 49 = .ok (.iconst 0, 1) := dk_3 (dk_at dksX0_lets_2 3 rfl rfl)
theorem dX0_lets_50 : decode cX0_lets 50 = .ok (.invokevirtual 215, 3) := dk_182 0 215 (dk_at dksX0_lets_2 4 rfl rfl)
theorem dX0_lets_53 : decode cX0_lets 53 = .ok (.ifCond .ne 63, 3) := dk_154 0 63 (dk_at dksX0_lets_2 7 rfl rfl)
theorem dX0_lets_56 : decode cX0_lets 56 = .ok (.iload_n 2, 1) := dk_28 (dk_at dksX0_lets_2 10 rfl rfl)
theorem dX0_lets_57 : decode cX0_lets 57 = .ok (.aload 5, 2) := dk_25 5 (dk_at dksX0_lets_2 11 rfl rfl)
theorem dX0_lets_59 : decode cX0_lets 59 = .ok (.getfield 373, 3) := dk_180 1 117 (dk_at dksX0_lets_2 13 rfl rfl)
theorem dX0_lets_62 : decode cX0_lets 62 = .ok (.if_icmp .gt 54, 3) := dk_163 0 54 (dk_at dksX0_lets_2 16 rfl rfl)
theorem dX0_lets_65 : decode cX0_lets 65 = .ok (.iload_n 2, 1) := dk_28 (dk_at dksX0_lets_2 19 rfl rfl)
theorem dX0_lets_66 : decode cX0_lets 66 = .ok (.aload 5, 2) := dk_25 5 (dk_at dksX0_lets_2 20 rfl rfl)
theorem dX0_lets_68 : decode cX0_lets 68 = .ok (.getfield 334, 3) := dk_180 1 78 (dk_at dksX0_lets_3 0 rfl rfl)
theorem dX0_lets_71 : decode cX0_lets 71 = .ok (.aload_n 0, 1) := dk_42 (dk_at dksX0_lets_3 3 rfl rfl)
theorem dX0_lets_72 : decode cX0_lets 72 = .ok (.aload 5, 2) := dk_25 5 (dk_at dksX0_lets_3 4 rfl rfl)
theorem dX0_lets_74 : decode cX0_lets 74 = .ok (.getfield 340, 3) := dk_180 1 84 (dk_at dksX0_lets_3 6 rfl rfl)
theorem dX0_lets_77 : decode cX0_lets 77 = .ok (.ldc 79, 2) := dk_18 79 (dk_at dksX0_lets_3 9 rfl rfl)
theorem dX0_lets_79 : decode cX0_lets 79 = .ok (.invokevirtual 295, 3) := dk_182 1 39 (dk_at dksX0_lets_3 11 rfl rfl)
theorem dX0_lets_82 : decode cX0_lets 82 = .ok (.iadd, 1) := dk_96 (dk_at dksX0_lets_3 14 rfl rfl)
theorem dX0_lets_83 : decode cX0_lets 83 = .ok (.if_icmp .lt 33, 3) := dk_161 0 33 (dk_at dksX0_lets_3 15 rfl rfl)
theorem dX0_lets_86 : decode cX0_lets 86 = .ok (.aload 5, 2) := dk_25 5 (dk_at dksX0_lets_3 18 rfl rfl)
theorem dX0_lets_88 : decode cX0_lets 88 = .ok (.instanceof 361, 3) := dk_193 1 105 (dk_at dksX0_lets_3 20 rfl rfl)
theorem dX0_lets_91 : decode cX0_lets 91 = .ok (.ifCond .ne 25, 3) := dk_154 0 25 (dk_at dksX0_lets_4 0 rfl rfl)
theorem dX0_lets_94 : decode cX0_lets 94 = .ok (.aload 5, 2) := dk_25 5 (dk_at dksX0_lets_4 3 rfl rfl)
theorem dX0_lets_96 : decode cX0_lets 96 = .ok (.invokevirtual 376, 3) := dk_182 1 120 (dk_at dksX0_lets_4 5 rfl rfl)
theorem dX0_lets_99 : decode cX0_lets 99 = .ok (.ifCond .ne 13, 3) := dk_154 0 13 (dk_at dksX0_lets_4 8 rfl rfl)
theorem dX0_lets_102 : decode cX0_lets 102 = .ok (.aload_n 0, 1) := dk_42 (dk_at dksX0_lets_4 11 rfl rfl)
theorem dX0_lets_103 : decode cX0_lets 103 = .ok (.iload_n 3, 1) := dk_29 (dk_at dksX0_lets_4 12 rfl rfl)
theorem dX0_lets_104 : decode cX0_lets 104 = .ok (.iload 4, 2) := dk_21 4 (dk_at dksX0_lets_4 13 rfl rfl)
theorem dX0_lets_106 : decode cX0_lets 106 = .ok (.invokevirtual 274, 3) := dk_182 1 18 (dk_at dksX0_lets_4 15 rfl rfl)
theorem dX0_lets_109 : decode cX0_lets 109 = .ok (.ifCond .eq 7, 3) := dk_153 0 7 (dk_at dksX0_lets_4 18 rfl rfl)
theorem dX0_lets_112 : decode cX0_lets 112 = .ok (.iconst 1, 1) := dk_4 (dk_at dksX0_lets_4 21 rfl rfl)
theorem dX0_lets_113 : decode cX0_lets 113 = .ok (.goto 4, 3) := dk_167 0 4 (dk_at dksX0_lets_5 0 rfl rfl)
theorem dX0_lets_116 : decode cX0_lets 116 = .ok (.iconst 0, 1) := dk_3 (dk_at dksX0_lets_5 3 rfl rfl)
theorem dX0_lets_117 : decode cX0_lets 117 = .ok (.istore 6, 2) := dk_54 6 (dk_at dksX0_lets_5 4 rfl rfl)
theorem dX0_lets_119 : decode cX0_lets 119 = .ok (.iload 6, 2) := dk_21 6 (dk_at dksX0_lets_5 6 rfl rfl)
theorem dX0_lets_121 : decode cX0_lets 121 = .ok (.ifCond .eq 7, 3) := dk_153 0 7 (dk_at dksX0_lets_5 8 rfl rfl)
theorem dX0_lets_124 : decode cX0_lets 124 = .ok (.iconst 1, 1) := dk_4 (dk_at dksX0_lets_5 11 rfl rfl)
theorem dX0_lets_125 : decode cX0_lets 125 = .ok (.goto 4, 3) := dk_167 0 4 (dk_at dksX0_lets_5 12 rfl rfl)
theorem dX0_lets_128 : decode cX0_lets 128 = .ok (.iconst 0, 1) := dk_3 (dk_at dksX0_lets_5 15 rfl rfl)
theorem dX0_lets_129 : decode cX0_lets 129 = .ok (.ireturn, 1) := dk_172 (dk_at dksX0_lets_5 16 rfl rfl)
abbrev cX0_isPass : ByteArray := prog_1_method_40_code
def yX0_isPass : MethodName := ⟨RX0, "isPass", "(I)Z"⟩
def dkwX0_isPass_0 : List UInt8 := [27, 133, 9, 42, 180, 0, 54, 185, 0, 168, 1, 0, 4, 100, 133, 184, 0, 95, 172]
abbrev dktX0_isPass_0 : List UInt8 := dkwX0_isPass_0 ++ []
theorem dksX0_isPass_0 : cX0_isPass.data.toList.drop 0 = dktX0_isPass_0 := by decide +kernel
theorem dX0_isPass_0 : decode cX0_isPass 0 = .ok (.iload_n 1, 1) := dk_27 (dk_at dksX0_isPass_0 0 rfl rfl)
theorem dX0_isPass_1 : decode cX0_isPass 1 = .ok (.i2l, 1) := dk_133 (dk_at dksX0_isPass_0 1 rfl rfl)
theorem dX0_isPass_2 : decode cX0_isPass 2 = .ok (.lconst 0, 1) := dk_9 (dk_at dksX0_isPass_0 2 rfl rfl)
theorem dX0_isPass_3 : decode cX0_isPass 3 = .ok (.aload_n 0, 1) := dk_42 (dk_at dksX0_isPass_0 3 rfl rfl)
theorem dX0_isPass_4 : decode cX0_isPass 4 = .ok (.getfield 54, 3) := dk_180 0 54 (dk_at dksX0_isPass_0 4 rfl rfl)
theorem dX0_isPass_7 : decode cX0_isPass 7 = .ok (.invokeinterface 168 1, 5) := by decide +kernel
theorem dX0_isPass_12 : decode cX0_isPass 12 = .ok (.iconst 1, 1) := dk_4 (dk_at dksX0_isPass_0 12 rfl rfl)
theorem dX0_isPass_13 : decode cX0_isPass 13 = .ok (.isub, 1) := dk_100 (dk_at dksX0_isPass_0 13 rfl rfl)
theorem dX0_isPass_14 : decode cX0_isPass 14 = .ok (.i2l, 1) := dk_133 (dk_at dksX0_isPass_0 14 rfl rfl)
theorem dX0_isPass_15 : decode cX0_isPass 15 = .ok (.invokestatic 95, 3) := dk_184 0 95 (dk_at dksX0_isPass_0 15 rfl rfl)
theorem dX0_isPass_18 : decode cX0_isPass 18 = .ok (.ireturn, 1) := dk_172 (dk_at dksX0_isPass_0 18 rfl rfl)
abbrev cX0_askedOn : ByteArray := prog_1_method_44_code
def yX0_askedOn : MethodName := ⟨RX0, "askedOn", "(II)LDuskGates$Pass;"⟩
def dkwX0_askedOn_1 : List UInt8 := [182, 1, 102, 153, 0, 17, 187, 1, 105, 89, 45, 192, 1, 69, 183, 1, 107, 167, 0, 4, 45, 176]
abbrev dktX0_askedOn_1 : List UInt8 := dkwX0_askedOn_1 ++ []
def dkwX0_askedOn_0 : List UInt8 := [42, 180, 0, 54, 27, 185, 0, 195, 2, 0, 192, 1, 61, 78, 45, 193, 1, 69, 153, 0, 26, 42, 27, 28]
abbrev dktX0_askedOn_0 : List UInt8 := dkwX0_askedOn_0 ++ dktX0_askedOn_1
theorem dksX0_askedOn_0 : cX0_askedOn.data.toList.drop 0 = dktX0_askedOn_0 := by decide +kernel
theorem dksX0_askedOn_1 : cX0_askedOn.data.toList.drop 24 = dktX0_askedOn_1 := dk_seg dksX0_askedOn_0 24 rfl rfl
theorem dX0_askedOn_0 : decode cX0_askedOn 0 = .ok (.aload_n 0, 1) := dk_42 (dk_at dksX0_askedOn_0 0 rfl rfl)
theorem dX0_askedOn_1 : decode cX0_askedOn 1 = .ok (.getfield 54, 3) := dk_180 0 54 (dk_at dksX0_askedOn_0 1 rfl rfl)
theorem dX0_askedOn_4 : decode cX0_askedOn 4 = .ok (.iload_n 1, 1) := dk_27 (dk_at dksX0_askedOn_0 4 rfl rfl)
theorem dX0_askedOn_5 : decode cX0_askedOn 5 = .ok (.invokeinterface 195 2, 5) := by decide +kernel
theorem dX0_askedOn_10 : decode cX0_askedOn 10 = .ok (.checkcast 317, 3) := dk_192 1 61 (dk_at dksX0_askedOn_0 10 rfl rfl)
theorem dX0_askedOn_13 : decode cX0_askedOn 13 = .ok (.astore_n 3, 1) := dk_78 (dk_at dksX0_askedOn_0 13 rfl rfl)
theorem dX0_askedOn_14 : decode cX0_askedOn 14 = .ok (.aload_n 3, 1) := dk_45 (dk_at dksX0_askedOn_0 14 rfl rfl)
theorem dX0_askedOn_15 : decode cX0_askedOn 15 = .ok (.instanceof 325, 3) := dk_193 1 69 (dk_at dksX0_askedOn_0 15 rfl rfl)
theorem dX0_askedOn_18 : decode cX0_askedOn 18 = .ok (.ifCond .eq 26, 3) := dk_153 0 26 (dk_at dksX0_askedOn_0 18 rfl rfl)
theorem dX0_askedOn_21 : decode cX0_askedOn 21 = .ok (.aload_n 0, 1) := dk_42 (dk_at dksX0_askedOn_0 21 rfl rfl)
theorem dX0_askedOn_22 : decode cX0_askedOn 22 = .ok (.iload_n 1, 1) := dk_27 (dk_at dksX0_askedOn_0 22 rfl rfl)
theorem dX0_askedOn_23 : decode cX0_askedOn 23 = .ok (.iload_n 2, 1) := dk_28 (dk_at dksX0_askedOn_0 23 rfl rfl)
theorem dX0_askedOn_24 : decode cX0_askedOn 24 = .ok (.invokevirtual 358, 3) := dk_182 1 102 (dk_at dksX0_askedOn_1 0 rfl rfl)
theorem dX0_askedOn_27 : decode cX0_askedOn 27 = .ok (.ifCond .eq 17, 3) := dk_153 0 17 (dk_at dksX0_askedOn_1 3 rfl rfl)
theorem dX0_askedOn_30 : decode cX0_askedOn 30 = .ok (.new 361, 3) := dk_187 1 105 (dk_at dksX0_askedOn_1 6 rfl rfl)
theorem dX0_askedOn_33 : decode cX0_askedOn 33 = .ok (.dup, 1) := dk_89 (dk_at dksX0_askedOn_1 9 rfl rfl)
theorem dX0_askedOn_34 : decode cX0_askedOn 34 = .ok (.aload_n 3, 1) := dk_45 (dk_at dksX0_askedOn_1 10 rfl rfl)
theorem dX0_askedOn_35 : decode cX0_askedOn 35 = .ok (.checkcast 325, 3) := dk_192 1 69 (dk_at dksX0_askedOn_1 11 rfl rfl)
theorem dX0_askedOn_38 : decode cX0_askedOn 38 = .ok (.invokespecial 363, 3) := dk_183 1 107 (dk_at dksX0_askedOn_1 14 rfl rfl)
theorem dX0_askedOn_41 : decode cX0_askedOn 41 = .ok (.goto 4, 3) := dk_167 0 4 (dk_at dksX0_askedOn_1 17 rfl rfl)
theorem dX0_askedOn_44 : decode cX0_askedOn 44 = .ok (.aload_n 3, 1) := dk_45 (dk_at dksX0_askedOn_1 20 rfl rfl)
theorem dX0_askedOn_45 : decode cX0_askedOn 45 = .ok (.areturn, 1) := dk_176 (dk_at dksX0_askedOn_1 21 rfl rfl)
abbrev cX0_isForged : ByteArray := prog_1_method_43_code
def yX0_isForged : MethodName := ⟨RX0, "isForged", "(II)Z"⟩
def dkwX0_isForged_4 : List UInt8 := [180, 1, 99, 45, 180, 1, 99, 159, 0, 5, 4, 172, 132, 4, 1, 167, 255, 197, 3, 172]
abbrev dktX0_isForged_4 : List UInt8 := dkwX0_isForged_4 ++ []
def dkwX0_isForged_3 : List UInt8 := [180, 1, 96, 45, 180, 1, 96, 160, 0, 29, 42, 180, 0, 54, 21, 4, 185, 0, 195, 2, 0, 192, 1, 61]
abbrev dktX0_isForged_3 : List UInt8 := dkwX0_isForged_3 ++ dktX0_isForged_4
def dkwX0_isForged_2 : List UInt8 := [54, 4, 21, 4, 27, 162, 0, 59, 42, 180, 0, 54, 21, 4, 185, 0, 195, 2, 0, 192, 1, 61]
abbrev dktX0_isForged_2 : List UInt8 := dkwX0_isForged_2 ++ dktX0_isForged_3
def dkwX0_isForged_1 : List UInt8 := [182, 1, 93, 154, 0, 17, 42, 28, 6, 45, 180, 1, 84, 4, 182, 0, 215, 154, 0, 5, 4, 172, 3]
abbrev dktX0_isForged_1 : List UInt8 := dkwX0_isForged_1 ++ dktX0_isForged_2
def dkwX0_isForged_0 : List UInt8 := [42, 180, 0, 54, 27, 185, 0, 195, 2, 0, 192, 1, 61, 78, 42, 45, 180, 1, 84, 45, 180, 1, 78]
abbrev dktX0_isForged_0 : List UInt8 := dkwX0_isForged_0 ++ dktX0_isForged_1
theorem dksX0_isForged_0 : cX0_isForged.data.toList.drop 0 = dktX0_isForged_0 := by decide +kernel
theorem dksX0_isForged_1 : cX0_isForged.data.toList.drop 23 = dktX0_isForged_1 := dk_seg dksX0_isForged_0 23 rfl rfl
theorem dksX0_isForged_2 : cX0_isForged.data.toList.drop 46 = dktX0_isForged_2 := dk_seg dksX0_isForged_1 23 rfl rfl
theorem dksX0_isForged_3 : cX0_isForged.data.toList.drop 68 = dktX0_isForged_3 := dk_seg dksX0_isForged_2 22 rfl rfl
theorem dksX0_isForged_4 : cX0_isForged.data.toList.drop 92 = dktX0_isForged_4 := dk_seg dksX0_isForged_3 24 rfl rfl
theorem dX0_isForged_0 : decode cX0_isForged 0 = .ok (.aload_n 0, 1) := dk_42 (dk_at dksX0_isForged_0 0 rfl rfl)
theorem dX0_isForged_1 : decode cX0_isForged 1 = .ok (.getfield 54, 3) := dk_180 0 54 (dk_at dksX0_isForged_0 1 rfl rfl)
theorem dX0_isForged_4 : decode cX0_isForged 4 = .ok (.iload_n 1, 1) := dk_27 (dk_at dksX0_isForged_0 4 rfl rfl)
theorem dX0_isForged_5 : decode cX0_isForged 5 = .ok (.invokeinterface 195 2, 5) := by decide +kernel
theorem dX0_isForged_10 : decode cX0_isForged 10 = .ok (.checkcast 317, 3) := dk_192 1 61 (dk_at dksX0_isForged_0 10 rfl rfl)
theorem dX0_isForged_13 : decode cX0_isForged 13 = .ok (.astore_n 3, 1) := dk_78 (dk_at dksX0_isForged_0 13 rfl rfl)
theorem dX0_isForged_14 : decode cX0_isForged 14 = .ok (.aload_n 0, 1) := dk_42 (dk_at dksX0_isForged_0 14 rfl rfl)
theorem dX0_isForged_15 : decode cX0_isForged 15 = .ok (.aload_n 3, 1) := dk_45 (dk_at dksX0_isForged_0 15 rfl rfl)
theorem dX0_isForged_16 : decode cX0_isForged 16 = .ok (.getfield 340, 3) := dk_180 1 84 (dk_at dksX0_isForged_0 16 rfl rfl)
theorem dX0_isForged_19 : decode cX0_isForged 19 = .ok (.aload_n 3, 1) := dk_45 (dk_at dksX0_isForged_0 19 rfl rfl)
theorem dX0_isForged_20 : decode cX0_isForged 20 = .ok (.getfield 334, 3) := dk_180 1 78 (dk_at dksX0_isForged_0 20 rfl rfl)
theorem dX0_isForged_23 : decode cX0_isForged 23 = .ok (.invokevirtual 349, 3) := dk_182 1 93 (dk_at dksX0_isForged_1 0 rfl rfl)
theorem dX0_isForged_26 : decode cX0_isForged 26 = .ok (.ifCond .ne 17, 3) := dk_154 0 17 (dk_at dksX0_isForged_1 3 rfl rfl)
theorem dX0_isForged_29 : decode cX0_isForged 29 = .ok (.aload_n 0, 1) := dk_42 (dk_at dksX0_isForged_1 6 rfl rfl)
theorem dX0_isForged_30 : decode cX0_isForged 30 = .ok (.iload_n 2, 1) := dk_28 (dk_at dksX0_isForged_1 7 rfl rfl)
theorem dX0_isForged_31 : decode cX0_isForged 31 = .ok (.iconst 3, 1) := dk_6 (dk_at dksX0_isForged_1 8 rfl rfl)
theorem dX0_isForged_32 : decode cX0_isForged 32 = .ok (.aload_n 3, 1) := dk_45 (dk_at dksX0_isForged_1 9 rfl rfl)
theorem dX0_isForged_33 : decode cX0_isForged 33 = .ok (.getfield 340, 3) := dk_180 1 84 (dk_at dksX0_isForged_1 10 rfl rfl)
theorem dX0_isForged_36 : decode cX0_isForged 36 = .ok (.iconst 1, 1) := dk_4 (dk_at dksX0_isForged_1 13 rfl rfl)
theorem dX0_isForged_37 : decode cX0_isForged 37 = .ok (.invokevirtual 215, 3) := dk_182 0 215 (dk_at dksX0_isForged_1 14 rfl rfl)
theorem dX0_isForged_40 : decode cX0_isForged 40 = .ok (.ifCond .ne 5, 3) := dk_154 0 5 (dk_at dksX0_isForged_1 17 rfl rfl)
theorem dX0_isForged_43 : decode cX0_isForged 43 = .ok (.iconst 1, 1) := dk_4 (dk_at dksX0_isForged_1 20 rfl rfl)
theorem dX0_isForged_44 : decode cX0_isForged 44 = .ok (.ireturn, 1) := dk_172 (dk_at dksX0_isForged_1 21 rfl rfl)
theorem dX0_isForged_45 : decode cX0_isForged 45 = .ok (.iconst 0, 1) := dk_3 (dk_at dksX0_isForged_1 22 rfl rfl)
theorem dX0_isForged_46 : decode cX0_isForged 46 = .ok (.istore 4, 2) := dk_54 4 (dk_at dksX0_isForged_2 0 rfl rfl)
theorem dX0_isForged_48 : decode cX0_isForged 48 = .ok (.iload 4, 2) := dk_21 4 (dk_at dksX0_isForged_2 2 rfl rfl)
theorem dX0_isForged_50 : decode cX0_isForged 50 = .ok (.iload_n 1, 1) := dk_27 (dk_at dksX0_isForged_2 4 rfl rfl)
theorem dX0_isForged_51 : decode cX0_isForged 51 = .ok (.if_icmp .ge 59, 3) := dk_162 0 59 (dk_at dksX0_isForged_2 5 rfl rfl)
theorem dX0_isForged_54 : decode cX0_isForged 54 = .ok (.aload_n 0, 1) := dk_42 (dk_at dksX0_isForged_2 8 rfl rfl)
theorem dX0_isForged_55 : decode cX0_isForged 55 = .ok (.getfield 54, 3) := dk_180 0 54 (dk_at dksX0_isForged_2 9 rfl rfl)
theorem dX0_isForged_58 : decode cX0_isForged 58 = .ok (.iload 4, 2) := dk_21 4 (dk_at dksX0_isForged_2 12 rfl rfl)
theorem dX0_isForged_60 : decode cX0_isForged 60 = .ok (.invokeinterface 195 2, 5) := by decide +kernel
theorem dX0_isForged_65 : decode cX0_isForged 65 = .ok (.checkcast 317, 3) := dk_192 1 61 (dk_at dksX0_isForged_2 19 rfl rfl)
theorem dX0_isForged_68 : decode cX0_isForged 68 = .ok (.getfield 352, 3) := dk_180 1 96 (dk_at dksX0_isForged_3 0 rfl rfl)
theorem dX0_isForged_71 : decode cX0_isForged 71 = .ok (.aload_n 3, 1) := dk_45 (dk_at dksX0_isForged_3 3 rfl rfl)
theorem dX0_isForged_72 : decode cX0_isForged 72 = .ok (.getfield 352, 3) := dk_180 1 96 (dk_at dksX0_isForged_3 4 rfl rfl)
theorem dX0_isForged_75 : decode cX0_isForged 75 = .ok (.if_icmp .ne 29, 3) := dk_160 0 29 (dk_at dksX0_isForged_3 7 rfl rfl)
theorem dX0_isForged_78 : decode cX0_isForged 78 = .ok (.aload_n 0, 1) := dk_42 (dk_at dksX0_isForged_3 10 rfl rfl)
theorem dX0_isForged_79 : decode cX0_isForged 79 = .ok (.getfield 54, 3) := dk_180 0 54 (dk_at dksX0_isForged_3 11 rfl rfl)
theorem dX0_isForged_82 : decode cX0_isForged 82 = .ok (.iload 4, 2) := dk_21 4 (dk_at dksX0_isForged_3 14 rfl rfl)
theorem dX0_isForged_84 : decode cX0_isForged 84 = .ok (.invokeinterface 195 2, 5) := by decide +kernel
theorem dX0_isForged_89 : decode cX0_isForged 89 = .ok (.checkcast 317, 3) := dk_192 1 61 (dk_at dksX0_isForged_3 21 rfl rfl)
theorem dX0_isForged_92 : decode cX0_isForged 92 = .ok (.getfield 355, 3) := dk_180 1 99 (dk_at dksX0_isForged_4 0 rfl rfl)
theorem dX0_isForged_95 : decode cX0_isForged 95 = .ok (.aload_n 3, 1) := dk_45 (dk_at dksX0_isForged_4 3 rfl rfl)
theorem dX0_isForged_96 : decode cX0_isForged 96 = .ok (.getfield 355, 3) := dk_180 1 99 (dk_at dksX0_isForged_4 4 rfl rfl)
theorem dX0_isForged_99 : decode cX0_isForged 99 = .ok (.if_icmp .eq 5, 3) := dk_159 0 5 (dk_at dksX0_isForged_4 7 rfl rfl)
theorem dX0_isForged_102 : decode cX0_isForged 102 = .ok (.iconst 1, 1) := dk_4 (dk_at dksX0_isForged_4 10 rfl rfl)
theorem dX0_isForged_103 : decode cX0_isForged 103 = .ok (.ireturn, 1) := dk_172 (dk_at dksX0_isForged_4 11 rfl rfl)
theorem dX0_isForged_104 : decode cX0_isForged 104 = .ok (.iinc 4 1, 3) := dk_132 4 1 (dk_at dksX0_isForged_4 12 rfl rfl)
theorem dX0_isForged_107 : decode cX0_isForged 107 = .ok (.goto (-59), 3) := dk_167 255 197 (dk_at dksX0_isForged_4 15 rfl rfl)
theorem dX0_isForged_110 : decode cX0_isForged 110 = .ok (.iconst 0, 1) := dk_3 (dk_at dksX0_isForged_4 18 rfl rfl)
theorem dX0_isForged_111 : decode cX0_isForged 111 = .ok (.ireturn, 1) := dk_172 (dk_at dksX0_isForged_4 19 rfl rfl)
abbrev cX0_isSick : ByteArray := prog_1_method_42_code
def yX0_isSick : MethodName := ⟨RX0, "isSick", "(II)Z"⟩
def dkwX0_isSick_3 : List UInt8 := [3, 172]
abbrev dktX0_isSick_3 : List UInt8 := dkwX0_isSick_3 ++ []
def dkwX0_isSick_2 : List UInt8 := [185, 0, 195, 2, 0, 192, 1, 43, 28, 28, 182, 1, 90, 153, 0, 5, 4, 172, 132, 3, 1, 167, 255, 197]
abbrev dktX0_isSick_2 : List UInt8 := dkwX0_isSick_2 ++ dktX0_isSick_3
def dkwX0_isSick_1 : List UInt8 := [185, 0, 195, 2, 0, 192, 1, 43, 180, 1, 87, 27, 160, 0, 26, 42, 180, 0, 51, 29]
abbrev dktX0_isSick_1 : List UInt8 := dkwX0_isSick_1 ++ dktX0_isSick_2
def dkwX0_isSick_0 : List UInt8 := [3, 62, 29, 42, 180, 0, 51, 185, 0, 168, 1, 0, 162, 0, 52, 42, 180, 0, 51, 29]
abbrev dktX0_isSick_0 : List UInt8 := dkwX0_isSick_0 ++ dktX0_isSick_1
theorem dksX0_isSick_0 : cX0_isSick.data.toList.drop 0 = dktX0_isSick_0 := by decide +kernel
theorem dksX0_isSick_1 : cX0_isSick.data.toList.drop 20 = dktX0_isSick_1 := dk_seg dksX0_isSick_0 20 rfl rfl
theorem dksX0_isSick_2 : cX0_isSick.data.toList.drop 40 = dktX0_isSick_2 := dk_seg dksX0_isSick_1 20 rfl rfl
theorem dksX0_isSick_3 : cX0_isSick.data.toList.drop 64 = dktX0_isSick_3 := dk_seg dksX0_isSick_2 24 rfl rfl
theorem dX0_isSick_0 : decode cX0_isSick 0 = .ok (.iconst 0, 1) := dk_3 (dk_at dksX0_isSick_0 0 rfl rfl)
theorem dX0_isSick_1 : decode cX0_isSick 1 = .ok (.istore_n 3, 1) := dk_62 (dk_at dksX0_isSick_0 1 rfl rfl)
theorem dX0_isSick_2 : decode cX0_isSick 2 = .ok (.iload_n 3, 1) := dk_29 (dk_at dksX0_isSick_0 2 rfl rfl)
theorem dX0_isSick_3 : decode cX0_isSick 3 = .ok (.aload_n 0, 1) := dk_42 (dk_at dksX0_isSick_0 3 rfl rfl)
theorem dX0_isSick_4 : decode cX0_isSick 4 = .ok (.getfield 51, 3) := dk_180 0 51 (dk_at dksX0_isSick_0 4 rfl rfl)
theorem dX0_isSick_7 : decode cX0_isSick 7 = .ok (.invokeinterface 168 1, 5) := by decide +kernel
theorem dX0_isSick_12 : decode cX0_isSick 12 = .ok (.if_icmp .ge 52, 3) := dk_162 0 52 (dk_at dksX0_isSick_0 12 rfl rfl)
theorem dX0_isSick_15 : decode cX0_isSick 15 = .ok (.aload_n 0, 1) := dk_42 (dk_at dksX0_isSick_0 15 rfl rfl)
theorem dX0_isSick_16 : decode cX0_isSick 16 = .ok (.getfield 51, 3) := dk_180 0 51 (dk_at dksX0_isSick_0 16 rfl rfl)
theorem dX0_isSick_19 : decode cX0_isSick 19 = .ok (.iload_n 3, 1) := dk_29 (dk_at dksX0_isSick_0 19 rfl rfl)
theorem dX0_isSick_20 : decode cX0_isSick 20 = .ok (.invokeinterface 195 2, 5) := by decide +kernel
theorem dX0_isSick_25 : decode cX0_isSick 25 = .ok (.checkcast 299, 3) := dk_192 1 43 (dk_at dksX0_isSick_1 5 rfl rfl)
theorem dX0_isSick_28 : decode cX0_isSick 28 = .ok (.getfield 343, 3) := dk_180 1 87 (dk_at dksX0_isSick_1 8 rfl rfl)
theorem dX0_isSick_31 : decode cX0_isSick 31 = .ok (.iload_n 1, 1) := dk_27 (dk_at dksX0_isSick_1 11 rfl rfl)
theorem dX0_isSick_32 : decode cX0_isSick 32 = .ok (.if_icmp .ne 26, 3) := dk_160 0 26 (dk_at dksX0_isSick_1 12 rfl rfl)
theorem dX0_isSick_35 : decode cX0_isSick 35 = .ok (.aload_n 0, 1) := dk_42 (dk_at dksX0_isSick_1 15 rfl rfl)
theorem dX0_isSick_36 : decode cX0_isSick 36 = .ok (.getfield 51, 3) := dk_180 0 51 (dk_at dksX0_isSick_1 16 rfl rfl)
theorem dX0_isSick_39 : decode cX0_isSick 39 = .ok (.iload_n 3, 1) := dk_29 (dk_at dksX0_isSick_1 19 rfl rfl)
theorem dX0_isSick_40 : decode cX0_isSick 40 = .ok (.invokeinterface 195 2, 5) := by decide +kernel
theorem dX0_isSick_45 : decode cX0_isSick 45 = .ok (.checkcast 299, 3) := dk_192 1 43 (dk_at dksX0_isSick_2 5 rfl rfl)
theorem dX0_isSick_48 : decode cX0_isSick 48 = .ok (.iload_n 2, 1) := dk_28 (dk_at dksX0_isSick_2 8 rfl rfl)
theorem dX0_isSick_49 : decode cX0_isSick 49 = .ok (.iload_n 2, 1) := dk_28 (dk_at dksX0_isSick_2 9 rfl rfl)
theorem dX0_isSick_50 : decode cX0_isSick 50 = .ok (.invokevirtual 346, 3) := dk_182 1 90 (dk_at dksX0_isSick_2 10 rfl rfl)
theorem dX0_isSick_53 : decode cX0_isSick 53 = .ok (.ifCond .eq 5, 3) := dk_153 0 5 (dk_at dksX0_isSick_2 13 rfl rfl)
theorem dX0_isSick_56 : decode cX0_isSick 56 = .ok (.iconst 1, 1) := dk_4 (dk_at dksX0_isSick_2 16 rfl rfl)
theorem dX0_isSick_57 : decode cX0_isSick 57 = .ok (.ireturn, 1) := dk_172 (dk_at dksX0_isSick_2 17 rfl rfl)
theorem dX0_isSick_58 : decode cX0_isSick 58 = .ok (.iinc 3 1, 3) := dk_132 3 1 (dk_at dksX0_isSick_2 18 rfl rfl)
theorem dX0_isSick_61 : decode cX0_isSick 61 = .ok (.goto (-59), 3) := dk_167 255 197 (dk_at dksX0_isSick_2 21 rfl rfl)
theorem dX0_isSick_64 : decode cX0_isSick 64 = .ok (.iconst 0, 1) := dk_3 (dk_at dksX0_isSick_3 0 rfl rfl)
theorem dX0_isSick_65 : decode cX0_isSick 65 = .ok (.ireturn, 1) := dk_172 (dk_at dksX0_isSick_3 1 rfl rfl)
abbrev cX0_dusk : ByteArray := prog_1_method_46_code
def yX0_dusk : MethodName := ⟨RX0, "dusk", "(IIII)I"⟩
def dkwX0_dusk_6 : List UInt8 := [167, 255, 157, 21, 5, 172]
abbrev dktX0_dusk_6 : List UInt8 := dkwX0_dusk_6 ++ []
def dkwX0_dusk_5 : List UInt8 := [159, 0, 13, 21, 8, 21, 6, 161, 0, 6, 167, 0, 11, 21, 7, 54, 5, 21, 8, 54, 6, 132, 7, 1]
abbrev dktX0_dusk_5 : List UInt8 := dkwX0_dusk_5 ++ dktX0_dusk_6
def dkwX0_dusk_4 : List UInt8 := [161, 0, 6, 167, 0, 42, 21, 8, 42, 180, 0, 15, 21, 7, 46, 184, 1, 124, 54, 8, 21, 5, 18, 79]
abbrev dktX0_dusk_4 : List UInt8 := dkwX0_dusk_4 ++ dktX0_dusk_5
def dkwX0_dusk_3 : List UInt8 := [100, 184, 1, 79, 96, 21, 4, 104, 16, 100, 108, 96, 54, 8, 21, 8, 42, 180, 0, 19, 21, 7, 46]
abbrev dktX0_dusk_3 : List UInt8 := dkwX0_dusk_3 ++ dktX0_dusk_4
def dkwX0_dusk_2 : List UInt8 := [162, 0, 98, 29, 27, 42, 180, 0, 25, 21, 7, 46, 100, 184, 1, 79, 28, 42, 180, 0, 28, 21, 7, 46]
abbrev dktX0_dusk_2 : List UInt8 := dkwX0_dusk_2 ++ dktX0_dusk_3
def dkwX0_dusk_1 : List UInt8 := [184, 0, 95, 154, 0, 6, 18, 109, 172, 18, 79, 54, 5, 3, 54, 6, 3, 54, 7, 21, 7, 16, 9]
abbrev dktX0_dusk_1 : List UInt8 := dkwX0_dusk_1 ++ dktX0_dusk_2
def dkwX0_dusk_0 : List UInt8 := [27, 28, 184, 0, 158, 153, 0, 23, 29, 184, 0, 251, 153, 0, 16, 21, 4, 133, 10, 20, 1, 37]
abbrev dktX0_dusk_0 : List UInt8 := dkwX0_dusk_0 ++ dktX0_dusk_1
theorem dksX0_dusk_0 : cX0_dusk.data.toList.drop 0 = dktX0_dusk_0 := by decide +kernel
theorem dksX0_dusk_1 : cX0_dusk.data.toList.drop 22 = dktX0_dusk_1 := dk_seg dksX0_dusk_0 22 rfl rfl
theorem dksX0_dusk_2 : cX0_dusk.data.toList.drop 45 = dktX0_dusk_2 := dk_seg dksX0_dusk_1 23 rfl rfl
theorem dksX0_dusk_3 : cX0_dusk.data.toList.drop 69 = dktX0_dusk_3 := dk_seg dksX0_dusk_2 24 rfl rfl
theorem dksX0_dusk_4 : cX0_dusk.data.toList.drop 92 = dktX0_dusk_4 := dk_seg dksX0_dusk_3 23 rfl rfl
theorem dksX0_dusk_5 : cX0_dusk.data.toList.drop 116 = dktX0_dusk_5 := dk_seg dksX0_dusk_4 24 rfl rfl
theorem dksX0_dusk_6 : cX0_dusk.data.toList.drop 140 = dktX0_dusk_6 := dk_seg dksX0_dusk_5 24 rfl rfl
theorem dX0_dusk_0 : decode cX0_dusk 0 = .ok (.iload_n 1, 1) := dk_27 (dk_at dksX0_dusk_0 0 rfl rfl)
theorem dX0_dusk_1 : decode cX0_dusk 1 = .ok (.iload_n 2, 1) := dk_28 (dk_at dksX0_dusk_0 1 rfl rfl)
theorem dX0_dusk_2 : decode cX0_dusk 2 = .ok (.invokestatic 158, 3) := dk_184 0 158 (dk_at dksX0_dusk_0 2 rfl rfl)
theorem dX0_dusk_5 : decode cX0_dusk 5 = .ok (.ifCond .eq 23, 3) := dk_153 0 23 (dk_at dksX0_dusk_0 5 rfl rfl)
theorem dX0_dusk_8 : decode cX0_dusk 8 = .ok (.iload_n 3, 1) := dk_29 (dk_at dksX0_dusk_0 8 rfl rfl)
theorem dX0_dusk_9 : decode cX0_dusk 9 = .ok (.invokestatic 251, 3) := dk_184 0 251 (dk_at dksX0_dusk_0 9 rfl rfl)
theorem dX0_dusk_12 : decode cX0_dusk 12 = .ok (.ifCond .eq 16, 3) := dk_153 0 16 (dk_at dksX0_dusk_0 12 rfl rfl)
theorem dX0_dusk_15 : decode cX0_dusk 15 = .ok (.iload 4, 2) := dk_21 4 (dk_at dksX0_dusk_0 15 rfl rfl)
theorem dX0_dusk_17 : decode cX0_dusk 17 = .ok (.i2l, 1) := dk_133 (dk_at dksX0_dusk_0 17 rfl rfl)
theorem dX0_dusk_18 : decode cX0_dusk 18 = .ok (.lconst 1, 1) := dk_10 (dk_at dksX0_dusk_0 18 rfl rfl)
theorem dX0_dusk_19 : decode cX0_dusk 19 = .ok (.ldc2_w 293, 3) := dk_20 1 37 (dk_at dksX0_dusk_0 19 rfl rfl)
theorem dX0_dusk_22 : decode cX0_dusk 22 = .ok (.invokestatic 95, 3) := dk_184 0 95 (dk_at dksX0_dusk_1 0 rfl rfl)
theorem dX0_dusk_25 : decode cX0_dusk 25 = .ok (.ifCond .ne 6, 3) := dk_154 0 6 (dk_at dksX0_dusk_1 3 rfl rfl)
theorem dX0_dusk_28 : decode cX0_dusk 28 = .ok (.ldc 109, 2) := dk_18 109 (dk_at dksX0_dusk_1 6 rfl rfl)
theorem dX0_dusk_30 : decode cX0_dusk 30 = .ok (.ireturn, 1) := dk_172 (dk_at dksX0_dusk_1 8 rfl rfl)
theorem dX0_dusk_31 : decode cX0_dusk 31 = .ok (.ldc 79, 2) := dk_18 79 (dk_at dksX0_dusk_1 9 rfl rfl)
theorem dX0_dusk_33 : decode cX0_dusk 33 = .ok (.istore 5, 2) := dk_54 5 (dk_at dksX0_dusk_1 11 rfl rfl)
theorem dX0_dusk_35 : decode cX0_dusk 35 = .ok (.iconst 0, 1) := dk_3 (dk_at dksX0_dusk_1 13 rfl rfl)
theorem dX0_dusk_36 : decode cX0_dusk 36 = .ok (.istore 6, 2) := dk_54 6 (dk_at dksX0_dusk_1 14 rfl rfl)
theorem dX0_dusk_38 : decode cX0_dusk 38 = .ok (.iconst 0, 1) := dk_3 (dk_at dksX0_dusk_1 16 rfl rfl)
theorem dX0_dusk_39 : decode cX0_dusk 39 = .ok (.istore 7, 2) := dk_54 7 (dk_at dksX0_dusk_1 17 rfl rfl)
theorem dX0_dusk_41 : decode cX0_dusk 41 = .ok (.iload 7, 2) := dk_21 7 (dk_at dksX0_dusk_1 19 rfl rfl)
theorem dX0_dusk_43 : decode cX0_dusk 43 = .ok (.bipush 9, 2) := dk_16 9 (dk_at dksX0_dusk_1 21 rfl rfl)
theorem dX0_dusk_45 : decode cX0_dusk 45 = .ok (.if_icmp .ge 98, 3) := dk_162 0 98 (dk_at dksX0_dusk_2 0 rfl rfl)
theorem dX0_dusk_48 : decode cX0_dusk 48 = .ok (.iload_n 3, 1) := dk_29 (dk_at dksX0_dusk_2 3 rfl rfl)
theorem dX0_dusk_49 : decode cX0_dusk 49 = .ok (.iload_n 1, 1) := dk_27 (dk_at dksX0_dusk_2 4 rfl rfl)
theorem dX0_dusk_50 : decode cX0_dusk 50 = .ok (.aload_n 0, 1) := dk_42 (dk_at dksX0_dusk_2 5 rfl rfl)
theorem dX0_dusk_51 : decode cX0_dusk 51 = .ok (.getfield 25, 3) := dk_180 0 25 (dk_at dksX0_dusk_2 6 rfl rfl)
theorem dX0_dusk_54 : decode cX0_dusk 54 = .ok (.iload 7, 2) := dk_21 7 (dk_at dksX0_dusk_2 9 rfl rfl)
theorem dX0_dusk_56 : decode cX0_dusk 56 = .ok (.iaload, 1) := dk_46 (dk_at dksX0_dusk_2 11 rfl rfl)
theorem dX0_dusk_57 : decode cX0_dusk 57 = .ok (.isub, 1) := dk_100 (dk_at dksX0_dusk_2 12 rfl rfl)
theorem dX0_dusk_58 : decode cX0_dusk 58 = .ok (.invokestatic 335, 3) := dk_184 1 79 (dk_at dksX0_dusk_2 13 rfl rfl)
theorem dX0_dusk_61 : decode cX0_dusk 61 = .ok (.iload_n 2, 1) := dk_28 (dk_at dksX0_dusk_2 16 rfl rfl)
theorem dX0_dusk_62 : decode cX0_dusk 62 = .ok (.aload_n 0, 1) := dk_42 (dk_at dksX0_dusk_2 17 rfl rfl)
theorem dX0_dusk_63 : decode cX0_dusk 63 = .ok (.getfield 28, 3) := dk_180 0 28 (dk_at dksX0_dusk_2 18 rfl rfl)
theorem dX0_dusk_66 : decode cX0_dusk 66 = .ok (.iload 7, 2) := dk_21 7 (dk_at dksX0_dusk_2 21 rfl rfl)
theorem dX0_dusk_68 : decode cX0_dusk 68 = .ok (.iaload, 1) := dk_46 (dk_at dksX0_dusk_2 23 rfl rfl)
theorem dX0_dusk_69 : decode cX0_dusk 69 = .ok (.isub, 1) := dk_100 (dk_at dksX0_dusk_3 0 rfl rfl)
theorem dX0_dusk_70 : decode cX0_dusk 70 = .ok (.invokestatic 335, 3) := dk_184 1 79 (dk_at dksX0_dusk_3 1 rfl rfl)
theorem dX0_dusk_73 : decode cX0_dusk 73 = .ok (.iadd, 1) := dk_96 (dk_at dksX0_dusk_3 4 rfl rfl)
theorem dX0_dusk_74 : decode cX0_dusk 74 = .ok (.iload 4, 2) := dk_21 4 (dk_at dksX0_dusk_3 5 rfl rfl)
theorem dX0_dusk_76 : decode cX0_dusk 76 = .ok (.imul, 1) := dk_104 (dk_at dksX0_dusk_3 7 rfl rfl)
theorem dX0_dusk_77 : decode cX0_dusk 77 = .ok (.bipush 100, 2) := dk_16 100 (dk_at dksX0_dusk_3 8 rfl rfl)
theorem dX0_dusk_79 : decode cX0_dusk 79 = .ok (.idiv, 1) := dk_108 (dk_at dksX0_dusk_3 10 rfl rfl)
theorem dX0_dusk_80 : decode cX0_dusk 80 = .ok (.iadd, 1) := dk_96 (dk_at dksX0_dusk_3 11 rfl rfl)
theorem dX0_dusk_81 : decode cX0_dusk 81 = .ok (.istore 8, 2) := dk_54 8 (dk_at dksX0_dusk_3 12 rfl rfl)
theorem dX0_dusk_83 : decode cX0_dusk 83 = .ok (.iload 8, 2) := dk_21 8 (dk_at dksX0_dusk_3 14 rfl rfl)
theorem dX0_dusk_85 : decode cX0_dusk 85 = .ok (.aload_n 0, 1) := dk_42 (dk_at dksX0_dusk_3 16 rfl rfl)
theorem dX0_dusk_86 : decode cX0_dusk 86 = .ok (.getfield 19, 3) := dk_180 0 19 (dk_at dksX0_dusk_3 17 rfl rfl)
theorem dX0_dusk_89 : decode cX0_dusk 89 = .ok (.iload 7, 2) := dk_21 7 (dk_at dksX0_dusk_3 20 rfl rfl)
theorem dX0_dusk_91 : decode cX0_dusk 91 = .ok (.iaload, 1) := dk_46 (dk_at dksX0_dusk_3 22 rfl rfl)
theorem dX0_dusk_92 : decode cX0_dusk 92 = .ok (.if_icmp .lt 6, 3) := dk_161 0 6 (dk_at dksX0_dusk_4 0 rfl rfl)
theorem dX0_dusk_95 : decode cX0_dusk 95 = .ok (.goto 42, 3) := dk_167 0 42 (dk_at dksX0_dusk_4 3 rfl rfl)
theorem dX0_dusk_98 : decode cX0_dusk 98 = .ok (.iload 8, 2) := dk_21 8 (dk_at dksX0_dusk_4 6 rfl rfl)
theorem dX0_dusk_100 : decode cX0_dusk 100 = .ok (.aload_n 0, 1) := dk_42 (dk_at dksX0_dusk_4 8 rfl rfl)
theorem dX0_dusk_101 : decode cX0_dusk 101 = .ok (.getfield 15, 3) := dk_180 0 15 (dk_at dksX0_dusk_4 9 rfl rfl)
theorem dX0_dusk_104 : decode cX0_dusk 104 = .ok (.iload 7, 2) := dk_21 7 (dk_at dksX0_dusk_4 12 rfl rfl)
theorem dX0_dusk_106 : decode cX0_dusk 106 = .ok (.iaload, 1) := dk_46 (dk_at dksX0_dusk_4 14 rfl rfl)
theorem dX0_dusk_107 : decode cX0_dusk 107 = .ok (.invokestatic 380, 3) := dk_184 1 124 (dk_at dksX0_dusk_4 15 rfl rfl)
theorem dX0_dusk_110 : decode cX0_dusk 110 = .ok (.istore 8, 2) := dk_54 8 (dk_at dksX0_dusk_4 18 rfl rfl)
theorem dX0_dusk_112 : decode cX0_dusk 112 = .ok (.iload 5, 2) := dk_21 5 (dk_at dksX0_dusk_4 20 rfl rfl)
theorem dX0_dusk_114 : decode cX0_dusk 114 = .ok (.ldc 79, 2) := dk_18 79 (dk_at dksX0_dusk_4 22 rfl rfl)
theorem dX0_dusk_116 : decode cX0_dusk 116 = .ok (.if_icmp .eq 13, 3) := dk_159 0 13 (dk_at dksX0_dusk_5 0 rfl rfl)
theorem dX0_dusk_119 : decode cX0_dusk 119 = .ok (.iload 8, 2) := dk_21 8 (dk_at dksX0_dusk_5 3 rfl rfl)
theorem dX0_dusk_121 : decode cX0_dusk 121 = .ok (.iload 6, 2) := dk_21 6 (dk_at dksX0_dusk_5 5 rfl rfl)
theorem dX0_dusk_123 : decode cX0_dusk 123 = .ok (.if_icmp .lt 6, 3) := dk_161 0 6 (dk_at dksX0_dusk_5 7 rfl rfl)
theorem dX0_dusk_126 : decode cX0_dusk 126 = .ok (.goto 11, 3) := dk_167 0 11 (dk_at dksX0_dusk_5 10 rfl rfl)
theorem dX0_dusk_129 : decode cX0_dusk 129 = .ok (.iload 7, 2) := dk_21 7 (dk_at dksX0_dusk_5 13 rfl rfl)
theorem dX0_dusk_131 : decode cX0_dusk 131 = .ok (.istore 5, 2) := dk_54 5 (dk_at dksX0_dusk_5 15 rfl rfl)
theorem dX0_dusk_133 : decode cX0_dusk 133 = .ok (.iload 8, 2) := dk_21 8 (dk_at dksX0_dusk_5 17 rfl rfl)
theorem dX0_dusk_135 : decode cX0_dusk 135 = .ok (.istore 6, 2) := dk_54 6 (dk_at dksX0_dusk_5 19 rfl rfl)
theorem dX0_dusk_137 : decode cX0_dusk 137 = .ok (.iinc 7 1, 3) := dk_132 7 1 (dk_at dksX0_dusk_5 21 rfl rfl)
theorem dX0_dusk_140 : decode cX0_dusk 140 = .ok (.goto (-99), 3) := dk_167 255 157 (dk_at dksX0_dusk_6 0 rfl rfl)
theorem dX0_dusk_143 : decode cX0_dusk 143 = .ok (.iload 5, 2) := dk_21 5 (dk_at dksX0_dusk_6 3 rfl rfl)
theorem dX0_dusk_145 : decode cX0_dusk 145 = .ok (.ireturn, 1) := dk_172 (dk_at dksX0_dusk_6 5 rfl rfl)
abbrev cX0_clerks : ByteArray := prog_1_method_50_code
def yX0_clerks : MethodName := ⟨RX0, "clerks", "(IIIIII)I"⟩
def dkwX0_clerks_9 : List UInt8 := [21, 5, 21, 6, 184, 1, 139, 182, 0, 113, 172, 58, 7, 42, 25, 7, 182, 0, 117, 172]
abbrev dktX0_clerks_9 : List UInt8 := dkwX0_clerks_9 ++ []
def dkwX0_clerks_8 : List UInt8 := [21, 10, 21, 4, 184, 1, 135, 79, 132, 10, 1, 167, 255, 200, 132, 9, 1, 167, 255, 185, 42, 25, 8]
abbrev dktX0_clerks_8 : List UInt8 := dkwX0_clerks_8 ++ dktX0_clerks_9
def dkwX0_clerks_7 : List UInt8 := [184, 1, 131, 154, 0, 7, 3, 167, 0, 24, 21, 10, 154, 0, 8, 18, 79, 167, 0, 14, 25, 7, 21, 9]
abbrev dktX0_clerks_7 : List UInt8 := dkwX0_clerks_7 ++ dktX0_clerks_8
def dkwX0_clerks_6 : List UInt8 := [54, 10, 21, 10, 21, 5, 163, 0, 55, 25, 8, 16, 9, 21, 9, 104, 21, 10, 96, 25, 7, 21, 9]
abbrev dktX0_clerks_6 : List UInt8 := dkwX0_clerks_6 ++ dktX0_clerks_7
def dkwX0_clerks_5 : List UInt8 := [172, 132, 8, 1, 167, 255, 213, 16, 36, 188, 10, 58, 8, 3, 54, 9, 21, 9, 7, 162, 0, 71, 3]
abbrev dktX0_clerks_5 : List UInt8 := dkwX0_clerks_5 ++ dktX0_clerks_6
def dkwX0_clerks_4 : List UInt8 := [21, 8, 5, 112, 154, 0, 9, 20, 1, 50, 167, 0, 6, 20, 0, 146, 184, 0, 95, 154, 0, 6, 18, 109]
abbrev dktX0_clerks_4 : List UInt8 := dkwX0_clerks_4 ++ dktX0_clerks_5
def dkwX0_clerks_3 : List UInt8 := [182, 0, 235, 58, 7, 3, 54, 8, 21, 8, 25, 7, 190, 162, 0, 41, 25, 7, 21, 8, 46, 133, 9]
abbrev dktX0_clerks_3 : List UInt8 := dkwX0_clerks_3 ++ dktX0_clerks_4
def dkwX0_clerks_2 : List UInt8 := [133, 9, 20, 0, 239, 184, 0, 95, 154, 0, 6, 18, 109, 172, 42, 27, 182, 0, 121, 28, 5, 29, 104]
abbrev dktX0_clerks_2 : List UInt8 := dkwX0_clerks_2 ++ dktX0_clerks_3
def dkwX0_clerks_1 : List UInt8 := [20, 1, 37, 184, 0, 95, 153, 0, 29, 21, 5, 133, 10, 20, 0, 142, 184, 0, 95, 153, 0, 16, 21, 6]
abbrev dktX0_clerks_1 : List UInt8 := dkwX0_clerks_1 ++ dktX0_clerks_2
def dkwX0_clerks_0 : List UInt8 := [27, 184, 0, 103, 153, 0, 54, 29, 133, 10, 20, 0, 223, 184, 0, 95, 153, 0, 42, 21, 4, 133, 10]
abbrev dktX0_clerks_0 : List UInt8 := dkwX0_clerks_0 ++ dktX0_clerks_1
theorem dksX0_clerks_0 : cX0_clerks.data.toList.drop 0 = dktX0_clerks_0 := by decide +kernel
theorem dksX0_clerks_1 : cX0_clerks.data.toList.drop 23 = dktX0_clerks_1 := dk_seg dksX0_clerks_0 23 rfl rfl
theorem dksX0_clerks_2 : cX0_clerks.data.toList.drop 47 = dktX0_clerks_2 := dk_seg dksX0_clerks_1 24 rfl rfl
theorem dksX0_clerks_3 : cX0_clerks.data.toList.drop 70 = dktX0_clerks_3 := dk_seg dksX0_clerks_2 23 rfl rfl
theorem dksX0_clerks_4 : cX0_clerks.data.toList.drop 93 = dktX0_clerks_4 := dk_seg dksX0_clerks_3 23 rfl rfl
theorem dksX0_clerks_5 : cX0_clerks.data.toList.drop 117 = dktX0_clerks_5 := dk_seg dksX0_clerks_4 24 rfl rfl
theorem dksX0_clerks_6 : cX0_clerks.data.toList.drop 140 = dktX0_clerks_6 := dk_seg dksX0_clerks_5 23 rfl rfl
theorem dksX0_clerks_7 : cX0_clerks.data.toList.drop 163 = dktX0_clerks_7 := dk_seg dksX0_clerks_6 23 rfl rfl
theorem dksX0_clerks_8 : cX0_clerks.data.toList.drop 187 = dktX0_clerks_8 := dk_seg dksX0_clerks_7 24 rfl rfl
theorem dksX0_clerks_9 : cX0_clerks.data.toList.drop 210 = dktX0_clerks_9 := dk_seg dksX0_clerks_8 23 rfl rfl
theorem dX0_clerks_0 : decode cX0_clerks 0 = .ok (.iload_n 1, 1) := dk_27 (dk_at dksX0_clerks_0 0 rfl rfl)
theorem dX0_clerks_1 : decode cX0_clerks 1 = .ok (.invokestatic 103, 3) := dk_184 0 103 (dk_at dksX0_clerks_0 1 rfl rfl)
theorem dX0_clerks_4 : decode cX0_clerks 4 = .ok (.ifCond .eq 54, 3) := dk_153 0 54 (dk_at dksX0_clerks_0 4 rfl rfl)
theorem dX0_clerks_7 : decode cX0_clerks 7 = .ok (.iload_n 3, 1) := dk_29 (dk_at dksX0_clerks_0 7 rfl rfl)
theorem dX0_clerks_8 : decode cX0_clerks 8 = .ok (.i2l, 1) := dk_133 (dk_at dksX0_clerks_0 8 rfl rfl)
theorem dX0_clerks_9 : decode cX0_clerks 9 = .ok (.lconst 1, 1) := dk_10 (dk_at dksX0_clerks_0 9 rfl rfl)
theorem dX0_clerks_10 : decode cX0_clerks 10 = .ok (.ldc2_w 223, 3) := dk_20 0 223 (dk_at dksX0_clerks_0 10 rfl rfl)
theorem dX0_clerks_13 : decode cX0_clerks 13 = .ok (.invokestatic 95, 3) := dk_184 0 95 (dk_at dksX0_clerks_0 13 rfl rfl)
theorem dX0_clerks_16 : decode cX0_clerks 16 = .ok (.ifCond .eq 42, 3) := dk_153 0 42 (dk_at dksX0_clerks_0 16 rfl rfl)
theorem dX0_clerks_19 : decode cX0_clerks 19 = .ok (.iload 4, 2) := dk_21 4 (dk_at dksX0_clerks_0 19 rfl rfl)
theorem dX0_clerks_21 : decode cX0_clerks 21 = .ok (.i2l, 1) := dk_133 (dk_at dksX0_clerks_0 21 rfl rfl)
theorem dX0_clerks_22 : decode cX0_clerks 22 = .ok (.lconst 1, 1) := dk_10 (dk_at dksX0_clerks_0 22 rfl rfl)
theorem dX0_clerks_23 : decode cX0_clerks 23 = .ok (.ldc2_w 293, 3) := dk_20 1 37 (dk_at dksX0_clerks_1 0 rfl rfl)
theorem dX0_clerks_26 : decode cX0_clerks 26 = .ok (.invokestatic 95, 3) := dk_184 0 95 (dk_at dksX0_clerks_1 3 rfl rfl)
theorem dX0_clerks_29 : decode cX0_clerks 29 = .ok (.ifCond .eq 29, 3) := dk_153 0 29 (dk_at dksX0_clerks_1 6 rfl rfl)
theorem dX0_clerks_32 : decode cX0_clerks 32 = .ok (.iload 5, 2) := dk_21 5 (dk_at dksX0_clerks_1 9 rfl rfl)
theorem dX0_clerks_34 : decode cX0_clerks 34 = .ok (.i2l, 1) := dk_133 (dk_at dksX0_clerks_1 11 rfl rfl)
theorem dX0_clerks_35 : decode cX0_clerks 35 = .ok (.lconst 1, 1) := dk_10 (dk_at dksX0_clerks_1 12 rfl rfl)
theorem dX0_clerks_36 : decode cX0_clerks 36 = .ok (.ldc2_w 142, 3) := dk_20 0 142 (dk_at dksX0_clerks_1 13 rfl rfl)
theorem dX0_clerks_39 : decode cX0_clerks 39 = .ok (.invokestatic 95, 3) := dk_184 0 95 (dk_at dksX0_clerks_1 16 rfl rfl)
theorem dX0_clerks_42 : decode cX0_clerks 42 = .ok (.ifCond .eq 16, 3) := dk_153 0 16 (dk_at dksX0_clerks_1 19 rfl rfl)
theorem dX0_clerks_45 : decode cX0_clerks 45 = .ok (.iload 6, 2) := dk_21 6 (dk_at dksX0_clerks_1 22 rfl rfl)
theorem dX0_clerks_47 : decode cX0_clerks 47 = .ok (.i2l, 1) := dk_133 (dk_at dksX0_clerks_2 0 rfl rfl)
theorem dX0_clerks_48 : decode cX0_clerks 48 = .ok (.lconst 0, 1) := dk_9 (dk_at dksX0_clerks_2 1 rfl rfl)
theorem dX0_clerks_49 : decode cX0_clerks 49 = .ok (.ldc2_w 239, 3) := dk_20 0 239 (dk_at dksX0_clerks_2 2 rfl rfl)
theorem dX0_clerks_52 : decode cX0_clerks 52 = .ok (.invokestatic 95, 3) := dk_184 0 95 (dk_at dksX0_clerks_2 5 rfl rfl)
theorem dX0_clerks_55 : decode cX0_clerks 55 = .ok (.ifCond .ne 6, 3) := dk_154 0 6 (dk_at dksX0_clerks_2 8 rfl rfl)
theorem dX0_clerks_58 : decode cX0_clerks 58 = .ok (.ldc 109, 2) := dk_18 109 (dk_at dksX0_clerks_2 11 rfl rfl)
theorem dX0_clerks_60 : decode cX0_clerks 60 = .ok (.ireturn, 1) := dk_172 (dk_at dksX0_clerks_2 13 rfl rfl)
theorem dX0_clerks_61 : decode cX0_clerks 61 = .ok (.aload_n 0, 1) := dk_42 (dk_at dksX0_clerks_2 14 rfl rfl)
theorem dX0_clerks_62 : decode cX0_clerks 62 = .ok (.iload_n 1, 1) := dk_27 (dk_at dksX0_clerks_2 15 rfl rfl)
theorem dX0_clerks_63 : decode cX0_clerks 63 = .ok (.invokevirtual 121, 3) := dk_182 0 121 (dk_at dksX0_clerks_2 16 rfl rfl)
theorem dX0_clerks_66 : decode cX0_clerks 66 = .ok (.iload_n 2, 1) := dk_28 (dk_at dksX0_clerks_2 19 rfl rfl)
theorem dX0_clerks_67 : decode cX0_clerks 67 = .ok (.iconst 2, 1) := dk_5 (dk_at dksX0_clerks_2 20 rfl rfl)
theorem dX0_clerks_68 : decode cX0_clerks 68 = .ok (.iload_n 3, 1) := dk_29 (dk_at dksX0_clerks_2 21 rfl rfl)
theorem dX0_clerks_69 : decode cX0_clerks 69 = .ok (.imul, 1) := dk_104 (dk_at dksX0_clerks_2 22 rfl rfl)
theorem dX0_clerks_70 : decode cX0_clerks 70 = .ok (.invokevirtual 235, 3) := dk_182 0 235 (dk_at dksX0_clerks_3 0 rfl rfl)
theorem dX0_clerks_73 : decode cX0_clerks 73 = .ok (.astore 7, 2) := dk_58 7 (dk_at dksX0_clerks_3 3 rfl rfl)
theorem dX0_clerks_75 : decode cX0_clerks 75 = .ok (.iconst 0, 1) := dk_3 (dk_at dksX0_clerks_3 5 rfl rfl)
theorem dX0_clerks_76 : decode cX0_clerks 76 = .ok (.istore 8, 2) := dk_54 8 (dk_at dksX0_clerks_3 6 rfl rfl)
theorem dX0_clerks_78 : decode cX0_clerks 78 = .ok (.iload 8, 2) := dk_21 8 (dk_at dksX0_clerks_3 8 rfl rfl)
theorem dX0_clerks_80 : decode cX0_clerks 80 = .ok (.aload 7, 2) := dk_25 7 (dk_at dksX0_clerks_3 10 rfl rfl)
theorem dX0_clerks_82 : decode cX0_clerks 82 = .ok (.arraylength, 1) := dk_190 (dk_at dksX0_clerks_3 12 rfl rfl)
theorem dX0_clerks_83 : decode cX0_clerks 83 = .ok (.if_icmp .ge 41, 3) := dk_162 0 41 (dk_at dksX0_clerks_3 13 rfl rfl)
theorem dX0_clerks_86 : decode cX0_clerks 86 = .ok (.aload 7, 2) := dk_25 7 (dk_at dksX0_clerks_3 16 rfl rfl)
theorem dX0_clerks_88 : decode cX0_clerks 88 = .ok (.iload 8, 2) := dk_21 8 (dk_at dksX0_clerks_3 18 rfl rfl)
theorem dX0_clerks_90 : decode cX0_clerks 90 = .ok (.iaload, 1) := dk_46 (dk_at dksX0_clerks_3 20 rfl rfl)
theorem dX0_clerks_91 : decode cX0_clerks 91 = .ok (.i2l, 1) := dk_133 (dk_at dksX0_clerks_3 21 rfl rfl)
theorem dX0_clerks_92 : decode cX0_clerks 92 = .ok (.lconst 0, 1) := dk_9 (dk_at dksX0_clerks_3 22 rfl rfl)
theorem dX0_clerks_93 : decode cX0_clerks 93 = .ok (.iload 8, 2) := dk_21 8 (dk_at dksX0_clerks_4 0 rfl rfl)
theorem dX0_clerks_95 : decode cX0_clerks 95 = .ok (.iconst 2, 1) := dk_5 (dk_at dksX0_clerks_4 2 rfl rfl)
theorem dX0_clerks_96 : decode cX0_clerks 96 = .ok (.irem, 1) := dk_112 (dk_at dksX0_clerks_4 3 rfl rfl)
theorem dX0_clerks_97 : decode cX0_clerks 97 = .ok (.ifCond .ne 9, 3) := dk_154 0 9 (dk_at dksX0_clerks_4 4 rfl rfl)
theorem dX0_clerks_100 : decode cX0_clerks 100 = .ok (.ldc2_w 306, 3) := dk_20 1 50 (dk_at dksX0_clerks_4 7 rfl rfl)
theorem dX0_clerks_103 : decode cX0_clerks 103 = .ok (.goto 6, 3) := dk_167 0 6 (dk_at dksX0_clerks_4 10 rfl rfl)
theorem dX0_clerks_106 : decode cX0_clerks 106 = .ok (.ldc2_w 146, 3) := dk_20 0 146 (dk_at dksX0_clerks_4 13 rfl rfl)
theorem dX0_clerks_109 : decode cX0_clerks 109 = .ok (.invokestatic 95, 3) := dk_184 0 95 (dk_at dksX0_clerks_4 16 rfl rfl)
theorem dX0_clerks_112 : decode cX0_clerks 112 = .ok (.ifCond .ne 6, 3) := dk_154 0 6 (dk_at dksX0_clerks_4 19 rfl rfl)
theorem dX0_clerks_115 : decode cX0_clerks 115 = .ok (.ldc 109, 2) := dk_18 109 (dk_at dksX0_clerks_4 22 rfl rfl)
theorem dX0_clerks_117 : decode cX0_clerks 117 = .ok (.ireturn, 1) := dk_172 (dk_at dksX0_clerks_5 0 rfl rfl)
theorem dX0_clerks_118 : decode cX0_clerks 118 = .ok (.iinc 8 1, 3) := dk_132 8 1 (dk_at dksX0_clerks_5 1 rfl rfl)
theorem dX0_clerks_121 : decode cX0_clerks 121 = .ok (.goto (-43), 3) := dk_167 255 213 (dk_at dksX0_clerks_5 4 rfl rfl)
theorem dX0_clerks_124 : decode cX0_clerks 124 = .ok (.bipush 36, 2) := dk_16 36 (dk_at dksX0_clerks_5 7 rfl rfl)
theorem dX0_clerks_126 : decode cX0_clerks 126 = .ok (.newarray .int, 2) := dk_188_10 (dk_at dksX0_clerks_5 9 rfl rfl)
theorem dX0_clerks_128 : decode cX0_clerks 128 = .ok (.astore 8, 2) := dk_58 8 (dk_at dksX0_clerks_5 11 rfl rfl)
theorem dX0_clerks_130 : decode cX0_clerks 130 = .ok (.iconst 0, 1) := dk_3 (dk_at dksX0_clerks_5 13 rfl rfl)
theorem dX0_clerks_131 : decode cX0_clerks 131 = .ok (.istore 9, 2) := dk_54 9 (dk_at dksX0_clerks_5 14 rfl rfl)
theorem dX0_clerks_133 : decode cX0_clerks 133 = .ok (.iload 9, 2) := dk_21 9 (dk_at dksX0_clerks_5 16 rfl rfl)
theorem dX0_clerks_135 : decode cX0_clerks 135 = .ok (.iconst 4, 1) := dk_7 (dk_at dksX0_clerks_5 18 rfl rfl)
theorem dX0_clerks_136 : decode cX0_clerks 136 = .ok (.if_icmp .ge 71, 3) := dk_162 0 71 (dk_at dksX0_clerks_5 19 rfl rfl)
theorem dX0_clerks_139 : decode cX0_clerks 139 = .ok (.iconst 0, 1) := dk_3 (dk_at dksX0_clerks_5 22 rfl rfl)
theorem dX0_clerks_140 : decode cX0_clerks 140 = .ok (.istore 10, 2) := dk_54 10 (dk_at dksX0_clerks_6 0 rfl rfl)
theorem dX0_clerks_142 : decode cX0_clerks 142 = .ok (.iload 10, 2) := dk_21 10 (dk_at dksX0_clerks_6 2 rfl rfl)
theorem dX0_clerks_144 : decode cX0_clerks 144 = .ok (.iload 5, 2) := dk_21 5 (dk_at dksX0_clerks_6 4 rfl rfl)
theorem dX0_clerks_146 : decode cX0_clerks 146 = .ok (.if_icmp .gt 55, 3) := dk_163 0 55 (dk_at dksX0_clerks_6 6 rfl rfl)
theorem dX0_clerks_149 : decode cX0_clerks 149 = .ok (.aload 8, 2) := dk_25 8 (dk_at dksX0_clerks_6 9 rfl rfl)
theorem dX0_clerks_151 : decode cX0_clerks 151 = .ok (.bipush 9, 2) := dk_16 9 (dk_at dksX0_clerks_6 11 rfl rfl)
theorem dX0_clerks_153 : decode cX0_clerks 153 = .ok (.iload 9, 2) := dk_21 9 (dk_at dksX0_clerks_6 13 rfl rfl)
theorem dX0_clerks_155 : decode cX0_clerks 155 = .ok (.imul, 1) := dk_104 (dk_at dksX0_clerks_6 15 rfl rfl)
theorem dX0_clerks_156 : decode cX0_clerks 156 = .ok (.iload 10, 2) := dk_21 10 (dk_at dksX0_clerks_6 16 rfl rfl)
theorem dX0_clerks_158 : decode cX0_clerks 158 = .ok (.iadd, 1) := dk_96 (dk_at dksX0_clerks_6 18 rfl rfl)
theorem dX0_clerks_159 : decode cX0_clerks 159 = .ok (.aload 7, 2) := dk_25 7 (dk_at dksX0_clerks_6 19 rfl rfl)
theorem dX0_clerks_161 : decode cX0_clerks 161 = .ok (.iload 9, 2) := dk_21 9 (dk_at dksX0_clerks_6 21 rfl rfl)
theorem dX0_clerks_163 : decode cX0_clerks 163 = .ok (.invokestatic 387, 3) := dk_184 1 131 (dk_at dksX0_clerks_7 0 rfl rfl)
theorem dX0_clerks_166 : decode cX0_clerks 166 = .ok (.ifCond .ne 7, 3) := dk_154 0 7 (dk_at dksX0_clerks_7 3 rfl rfl)
theorem dX0_clerks_169 : decode cX0_clerks 169 = .ok (.iconst 0, 1) := dk_3 (dk_at dksX0_clerks_7 6 rfl rfl)
theorem dX0_clerks_170 : decode cX0_clerks 170 = .ok (.goto 24, 3) := dk_167 0 24 (dk_at dksX0_clerks_7 7 rfl rfl)
theorem dX0_clerks_173 : decode cX0_clerks 173 = .ok (.iload 10, 2) := dk_21 10 (dk_at dksX0_clerks_7 10 rfl rfl)
theorem dX0_clerks_175 : decode cX0_clerks 175 = .ok (.ifCond .ne 8, 3) := dk_154 0 8 (dk_at dksX0_clerks_7 12 rfl rfl)
theorem dX0_clerks_178 : decode cX0_clerks 178 = .ok (.ldc 79, 2) := dk_18 79 (dk_at dksX0_clerks_7 15 rfl rfl)
theorem dX0_clerks_180 : decode cX0_clerks 180 = .ok (.goto 14, 3) := dk_167 0 14 (dk_at dksX0_clerks_7 17 rfl rfl)
theorem dX0_clerks_183 : decode cX0_clerks 183 = .ok (.aload 7, 2) := dk_25 7 (dk_at dksX0_clerks_7 20 rfl rfl)
theorem dX0_clerks_185 : decode cX0_clerks 185 = .ok (.iload 9, 2) := dk_21 9 (dk_at dksX0_clerks_7 22 rfl rfl)
theorem dX0_clerks_187 : decode cX0_clerks 187 = .ok (.iload 10, 2) := dk_21 10 (dk_at dksX0_clerks_8 0 rfl rfl)
theorem dX0_clerks_189 : decode cX0_clerks 189 = .ok (.iload 4, 2) := dk_21 4 (dk_at dksX0_clerks_8 2 rfl rfl)
theorem dX0_clerks_191 : decode cX0_clerks 191 = .ok (.invokestatic 391, 3) := dk_184 1 135 (dk_at dksX0_clerks_8 4 rfl rfl)
theorem dX0_clerks_194 : decode cX0_clerks 194 = .ok (.iastore, 1) := dk_79 (dk_at dksX0_clerks_8 7 rfl rfl)
theorem dX0_clerks_195 : decode cX0_clerks 195 = .ok (.iinc 10 1, 3) := dk_132 10 1 (dk_at dksX0_clerks_8 8 rfl rfl)
theorem dX0_clerks_198 : decode cX0_clerks 198 = .ok (.goto (-56), 3) := dk_167 255 200 (dk_at dksX0_clerks_8 11 rfl rfl)
theorem dX0_clerks_201 : decode cX0_clerks 201 = .ok (.iinc 9 1, 3) := dk_132 9 1 (dk_at dksX0_clerks_8 14 rfl rfl)
theorem dX0_clerks_204 : decode cX0_clerks 204 = .ok (.goto (-71), 3) := dk_167 255 185 (dk_at dksX0_clerks_8 17 rfl rfl)
theorem dX0_clerks_207 : decode cX0_clerks 207 = .ok (.aload_n 0, 1) := dk_42 (dk_at dksX0_clerks_8 20 rfl rfl)
theorem dX0_clerks_208 : decode cX0_clerks 208 = .ok (.aload 8, 2) := dk_25 8 (dk_at dksX0_clerks_8 21 rfl rfl)
theorem dX0_clerks_210 : decode cX0_clerks 210 = .ok (.iload 5, 2) := dk_21 5 (dk_at dksX0_clerks_9 0 rfl rfl)
theorem dX0_clerks_212 : decode cX0_clerks 212 = .ok (.iload 6, 2) := dk_21 6 (dk_at dksX0_clerks_9 2 rfl rfl)
theorem dX0_clerks_214 : decode cX0_clerks 214 = .ok (.invokestatic 395, 3) := dk_184 1 139 (dk_at dksX0_clerks_9 4 rfl rfl)
theorem dX0_clerks_217 : decode cX0_clerks 217 = .ok (.invokevirtual 113, 3) := dk_182 0 113 (dk_at dksX0_clerks_9 7 rfl rfl)
theorem dX0_clerks_220 : decode cX0_clerks 220 = .ok (.ireturn, 1) := dk_172 (dk_at dksX0_clerks_9 10 rfl rfl)
theorem dX0_clerks_221 : decode cX0_clerks 221 = .ok (.astore 7, 2) := dk_58 7 (dk_at dksX0_clerks_9 11 rfl rfl)
theorem dX0_clerks_223 : decode cX0_clerks 223 = .ok (.aload_n 0, 1) := dk_42 (dk_at dksX0_clerks_9 13 rfl rfl)
theorem dX0_clerks_224 : decode cX0_clerks 224 = .ok (.aload 7, 2) := dk_25 7 (dk_at dksX0_clerks_9 14 rfl rfl)
theorem dX0_clerks_226 : decode cX0_clerks 226 = .ok (.invokevirtual 117, 3) := dk_182 0 117 (dk_at dksX0_clerks_9 16 rfl rfl)
theorem dX0_clerks_229 : decode cX0_clerks 229 = .ok (.ireturn, 1) := dk_172 (dk_at dksX0_clerks_9 19 rfl rfl)
abbrev cX0_isComing : ByteArray := prog_1_method_49_code
def yX0_isComing : MethodName := ⟨RX0, "isComing", "([II)Z"⟩
def dkwX0_isComing_0 : List UInt8 := [42, 27, 42, 190, 5, 108, 188, 4, 184, 1, 127, 18, 79, 159, 0, 7, 4, 167, 0, 4, 3, 172]
abbrev dktX0_isComing_0 : List UInt8 := dkwX0_isComing_0 ++ []
theorem dksX0_isComing_0 : cX0_isComing.data.toList.drop 0 = dktX0_isComing_0 := by decide +kernel
theorem dX0_isComing_0 : decode cX0_isComing 0 = .ok (.aload_n 0, 1) := dk_42 (dk_at dksX0_isComing_0 0 rfl rfl)
theorem dX0_isComing_1 : decode cX0_isComing 1 = .ok (.iload_n 1, 1) := dk_27 (dk_at dksX0_isComing_0 1 rfl rfl)
theorem dX0_isComing_2 : decode cX0_isComing 2 = .ok (.aload_n 0, 1) := dk_42 (dk_at dksX0_isComing_0 2 rfl rfl)
theorem dX0_isComing_3 : decode cX0_isComing 3 = .ok (.arraylength, 1) := dk_190 (dk_at dksX0_isComing_0 3 rfl rfl)
theorem dX0_isComing_4 : decode cX0_isComing 4 = .ok (.iconst 2, 1) := dk_5 (dk_at dksX0_isComing_0 4 rfl rfl)
theorem dX0_isComing_5 : decode cX0_isComing 5 = .ok (.idiv, 1) := dk_108 (dk_at dksX0_isComing_0 5 rfl rfl)
theorem dX0_isComing_6 : decode cX0_isComing 6 = .ok (.newarray .boolean, 2) := dk_188_4 (dk_at dksX0_isComing_0 6 rfl rfl)
theorem dX0_isComing_8 : decode cX0_isComing 8 = .ok (.invokestatic 383, 3) := dk_184 1 127 (dk_at dksX0_isComing_0 8 rfl rfl)
theorem dX0_isComing_11 : decode cX0_isComing 11 = .ok (.ldc 79, 2) := dk_18 79 (dk_at dksX0_isComing_0 11 rfl rfl)
theorem dX0_isComing_13 : decode cX0_isComing 13 = .ok (.if_icmp .eq 7, 3) := dk_159 0 7 (dk_at dksX0_isComing_0 13 rfl rfl)
theorem dX0_isComing_16 : decode cX0_isComing 16 = .ok (.iconst 1, 1) := dk_4 (dk_at dksX0_isComing_0 16 rfl rfl)
theorem dX0_isComing_17 : decode cX0_isComing 17 = .ok (.goto 4, 3) := dk_167 0 4 (dk_at dksX0_isComing_0 17 rfl rfl)
theorem dX0_isComing_20 : decode cX0_isComing 20 = .ok (.iconst 0, 1) := dk_3 (dk_at dksX0_isComing_0 20 rfl rfl)
theorem dX0_isComing_21 : decode cX0_isComing 21 = .ok (.ireturn, 1) := dk_172 (dk_at dksX0_isComing_0 21 rfl rfl)
abbrev cX0_firstAt : ByteArray := prog_1_method_48_code
def yX0_firstAt : MethodName := ⟨RX0, "firstAt", "([II[Z)I"⟩
def dkwX0_firstAt_2 : List UInt8 := [4, 96, 46, 162, 0, 6, 21, 4, 62, 132, 4, 1, 167, 255, 202, 29, 172]
abbrev dktX0_firstAt_2 : List UInt8 := dkwX0_firstAt_2 ++ []
def dkwX0_firstAt_1 : List UInt8 := [104, 46, 27, 160, 0, 30, 29, 18, 79, 159, 0, 21, 42, 5, 21, 4, 104, 4, 96, 46, 42, 5, 29, 104]
abbrev dktX0_firstAt_1 : List UInt8 := dkwX0_firstAt_1 ++ dktX0_firstAt_2
def dkwX0_firstAt_0 : List UInt8 := [18, 79, 62, 3, 54, 4, 21, 4, 44, 190, 162, 0, 53, 44, 21, 4, 51, 154, 0, 40, 42, 5, 21, 4]
abbrev dktX0_firstAt_0 : List UInt8 := dkwX0_firstAt_0 ++ dktX0_firstAt_1
theorem dksX0_firstAt_0 : cX0_firstAt.data.toList.drop 0 = dktX0_firstAt_0 := by decide +kernel
theorem dksX0_firstAt_1 : cX0_firstAt.data.toList.drop 24 = dktX0_firstAt_1 := dk_seg dksX0_firstAt_0 24 rfl rfl
theorem dksX0_firstAt_2 : cX0_firstAt.data.toList.drop 48 = dktX0_firstAt_2 := dk_seg dksX0_firstAt_1 24 rfl rfl
theorem dX0_firstAt_0 : decode cX0_firstAt 0 = .ok (.ldc 79, 2) := dk_18 79 (dk_at dksX0_firstAt_0 0 rfl rfl)
theorem dX0_firstAt_2 : decode cX0_firstAt 2 = .ok (.istore_n 3, 1) := dk_62 (dk_at dksX0_firstAt_0 2 rfl rfl)
theorem dX0_firstAt_3 : decode cX0_firstAt 3 = .ok (.iconst 0, 1) := dk_3 (dk_at dksX0_firstAt_0 3 rfl rfl)
theorem dX0_firstAt_4 : decode cX0_firstAt 4 = .ok (.istore 4, 2) := dk_54 4 (dk_at dksX0_firstAt_0 4 rfl rfl)
theorem dX0_firstAt_6 : decode cX0_firstAt 6 = .ok (.iload 4, 2) := dk_21 4 (dk_at dksX0_firstAt_0 6 rfl rfl)
theorem dX0_firstAt_8 : decode cX0_firstAt 8 = .ok (.aload_n 2, 1) := dk_44 (dk_at dksX0_firstAt_0 8 rfl rfl)
theorem dX0_firstAt_9 : decode cX0_firstAt 9 = .ok (.arraylength, 1) := dk_190 (dk_at dksX0_firstAt_0 9 rfl rfl)
theorem dX0_firstAt_10 : decode cX0_firstAt 10 = .ok (.if_icmp .ge 53, 3) := dk_162 0 53 (dk_at dksX0_firstAt_0 10 rfl rfl)
theorem dX0_firstAt_13 : decode cX0_firstAt 13 = .ok (.aload_n 2, 1) := dk_44 (dk_at dksX0_firstAt_0 13 rfl rfl)
theorem dX0_firstAt_14 : decode cX0_firstAt 14 = .ok (.iload 4, 2) := dk_21 4 (dk_at dksX0_firstAt_0 14 rfl rfl)
theorem dX0_firstAt_16 : decode cX0_firstAt 16 = .ok (.baload, 1) := dk_51 (dk_at dksX0_firstAt_0 16 rfl rfl)
theorem dX0_firstAt_17 : decode cX0_firstAt 17 = .ok (.ifCond .ne 40, 3) := dk_154 0 40 (dk_at dksX0_firstAt_0 17 rfl rfl)
theorem dX0_firstAt_20 : decode cX0_firstAt 20 = .ok (.aload_n 0, 1) := dk_42 (dk_at dksX0_firstAt_0 20 rfl rfl)
theorem dX0_firstAt_21 : decode cX0_firstAt 21 = .ok (.iconst 2, 1) := dk_5 (dk_at dksX0_firstAt_0 21 rfl rfl)
theorem dX0_firstAt_22 : decode cX0_firstAt 22 = .ok (.iload 4, 2) := dk_21 4 (dk_at dksX0_firstAt_0 22 rfl rfl)
theorem dX0_firstAt_24 : decode cX0_firstAt 24 = .ok (.imul, 1) := dk_104 (dk_at dksX0_firstAt_1 0 rfl rfl)
theorem dX0_firstAt_25 : decode cX0_firstAt 25 = .ok (.iaload, 1) := dk_46 (dk_at dksX0_firstAt_1 1 rfl rfl)
theorem dX0_firstAt_26 : decode cX0_firstAt 26 = .ok (.iload_n 1, 1) := dk_27 (dk_at dksX0_firstAt_1 2 rfl rfl)
theorem dX0_firstAt_27 : decode cX0_firstAt 27 = .ok (.if_icmp .ne 30, 3) := dk_160 0 30 (dk_at dksX0_firstAt_1 3 rfl rfl)
theorem dX0_firstAt_30 : decode cX0_firstAt 30 = .ok (.iload_n 3, 1) := dk_29 (dk_at dksX0_firstAt_1 6 rfl rfl)
theorem dX0_firstAt_31 : decode cX0_firstAt 31 = .ok (.ldc 79, 2) := dk_18 79 (dk_at dksX0_firstAt_1 7 rfl rfl)
theorem dX0_firstAt_33 : decode cX0_firstAt 33 = .ok (.if_icmp .eq 21, 3) := dk_159 0 21 (dk_at dksX0_firstAt_1 9 rfl rfl)
theorem dX0_firstAt_36 : decode cX0_firstAt 36 = .ok (.aload_n 0, 1) := dk_42 (dk_at dksX0_firstAt_1 12 rfl rfl)
theorem dX0_firstAt_37 : decode cX0_firstAt 37 = .ok (.iconst 2, 1) := dk_5 (dk_at dksX0_firstAt_1 13 rfl rfl)
theorem dX0_firstAt_38 : decode cX0_firstAt 38 = .ok (.iload 4, 2) := dk_21 4 (dk_at dksX0_firstAt_1 14 rfl rfl)
theorem dX0_firstAt_40 : decode cX0_firstAt 40 = .ok (.imul, 1) := dk_104 (dk_at dksX0_firstAt_1 16 rfl rfl)
theorem dX0_firstAt_41 : decode cX0_firstAt 41 = .ok (.iconst 1, 1) := dk_4 (dk_at dksX0_firstAt_1 17 rfl rfl)
theorem dX0_firstAt_42 : decode cX0_firstAt 42 = .ok (.iadd, 1) := dk_96 (dk_at dksX0_firstAt_1 18 rfl rfl)
theorem dX0_firstAt_43 : decode cX0_firstAt 43 = .ok (.iaload, 1) := dk_46 (dk_at dksX0_firstAt_1 19 rfl rfl)
theorem dX0_firstAt_44 : decode cX0_firstAt 44 = .ok (.aload_n 0, 1) := dk_42 (dk_at dksX0_firstAt_1 20 rfl rfl)
theorem dX0_firstAt_45 : decode cX0_firstAt 45 = .ok (.iconst 2, 1) := dk_5 (dk_at dksX0_firstAt_1 21 rfl rfl)
theorem dX0_firstAt_46 : decode cX0_firstAt 46 = .ok (.iload_n 3, 1) := dk_29 (dk_at dksX0_firstAt_1 22 rfl rfl)
theorem dX0_firstAt_47 : decode cX0_firstAt 47 = .ok (.imul, 1) := dk_104 (dk_at dksX0_firstAt_1 23 rfl rfl)
theorem dX0_firstAt_48 : decode cX0_firstAt 48 = .ok (.iconst 1, 1) := dk_4 (dk_at dksX0_firstAt_2 0 rfl rfl)
theorem dX0_firstAt_49 : decode cX0_firstAt 49 = .ok (.iadd, 1) := dk_96 (dk_at dksX0_firstAt_2 1 rfl rfl)
theorem dX0_firstAt_50 : decode cX0_firstAt 50 = .ok (.iaload, 1) := dk_46 (dk_at dksX0_firstAt_2 2 rfl rfl)
theorem dX0_firstAt_51 : decode cX0_firstAt 51 = .ok (.if_icmp .ge 6, 3) := dk_162 0 6 (dk_at dksX0_firstAt_2 3 rfl rfl)
theorem dX0_firstAt_54 : decode cX0_firstAt 54 = .ok (.iload 4, 2) := dk_21 4 (dk_at dksX0_firstAt_2 6 rfl rfl)
theorem dX0_firstAt_56 : decode cX0_firstAt 56 = .ok (.istore_n 3, 1) := dk_62 (dk_at dksX0_firstAt_2 8 rfl rfl)
theorem dX0_firstAt_57 : decode cX0_firstAt 57 = .ok (.iinc 4 1, 3) := dk_132 4 1 (dk_at dksX0_firstAt_2 9 rfl rfl)
theorem dX0_firstAt_60 : decode cX0_firstAt 60 = .ok (.goto (-54), 3) := dk_167 255 202 (dk_at dksX0_firstAt_2 12 rfl rfl)
theorem dX0_firstAt_63 : decode cX0_firstAt 63 = .ok (.iload_n 3, 1) := dk_29 (dk_at dksX0_firstAt_2 15 rfl rfl)
theorem dX0_firstAt_64 : decode cX0_firstAt 64 = .ok (.ireturn, 1) := dk_172 (dk_at dksX0_firstAt_2 16 rfl rfl)
abbrev cX0_waitedAt : ByteArray := prog_1_method_47_code
def yX0_waitedAt : MethodName := ⟨RX0, "waitedAt", "([IIII)I"⟩
def dkwX0_waitedAt_5 : List UInt8 := [29, 96, 79, 42, 27, 25, 5, 184, 1, 127, 54, 7, 167, 255, 151, 21, 6, 172]
abbrev dktX0_waitedAt_5 : List UInt8 := dkwX0_waitedAt_5 ++ []
def dkwX0_waitedAt_4 : List UInt8 := [54, 9, 21, 6, 21, 9, 42, 5, 21, 7, 104, 4, 96, 46, 100, 96, 54, 6, 25, 4, 21, 8, 21, 9]
abbrev dktX0_waitedAt_4 : List UInt8 := dkwX0_waitedAt_4 ++ dktX0_waitedAt_5
def dkwX0_waitedAt_3 : List UInt8 := [54, 8, 132, 9, 1, 167, 255, 225, 25, 4, 21, 8, 46, 42, 5, 21, 7, 104, 4, 96, 46, 184, 1, 124]
abbrev dktX0_waitedAt_3 : List UInt8 := dkwX0_waitedAt_3 ++ dktX0_waitedAt_4
def dkwX0_waitedAt_2 : List UInt8 := [162, 0, 31, 25, 4, 21, 9, 46, 25, 4, 21, 8, 46, 162, 0, 8, 21, 9, 167, 0, 5, 21, 8]
abbrev dktX0_waitedAt_2 : List UInt8 := dkwX0_waitedAt_2 ++ dktX0_waitedAt_3
def dkwX0_waitedAt_1 : List UInt8 := [54, 7, 21, 7, 18, 79, 159, 0, 104, 25, 5, 21, 7, 4, 84, 3, 54, 8, 4, 54, 9, 21, 9, 28]
abbrev dktX0_waitedAt_1 : List UInt8 := dkwX0_waitedAt_1 ++ dktX0_waitedAt_2
def dkwX0_waitedAt_0 : List UInt8 := [28, 188, 10, 58, 4, 42, 190, 5, 108, 188, 4, 58, 5, 3, 54, 6, 42, 27, 25, 5, 184, 1, 127]
abbrev dktX0_waitedAt_0 : List UInt8 := dkwX0_waitedAt_0 ++ dktX0_waitedAt_1
theorem dksX0_waitedAt_0 : cX0_waitedAt.data.toList.drop 0 = dktX0_waitedAt_0 := by decide +kernel
theorem dksX0_waitedAt_1 : cX0_waitedAt.data.toList.drop 23 = dktX0_waitedAt_1 := dk_seg dksX0_waitedAt_0 23 rfl rfl
theorem dksX0_waitedAt_2 : cX0_waitedAt.data.toList.drop 47 = dktX0_waitedAt_2 := dk_seg dksX0_waitedAt_1 24 rfl rfl
theorem dksX0_waitedAt_3 : cX0_waitedAt.data.toList.drop 70 = dktX0_waitedAt_3 := dk_seg dksX0_waitedAt_2 23 rfl rfl
theorem dksX0_waitedAt_4 : cX0_waitedAt.data.toList.drop 94 = dktX0_waitedAt_4 := dk_seg dksX0_waitedAt_3 24 rfl rfl
theorem dksX0_waitedAt_5 : cX0_waitedAt.data.toList.drop 118 = dktX0_waitedAt_5 := dk_seg dksX0_waitedAt_4 24 rfl rfl
theorem dX0_waitedAt_0 : decode cX0_waitedAt 0 = .ok (.iload_n 2, 1) := dk_28 (dk_at dksX0_waitedAt_0 0 rfl rfl)
theorem dX0_waitedAt_1 : decode cX0_waitedAt 1 = .ok (.newarray .int, 2) := dk_188_10 (dk_at dksX0_waitedAt_0 1 rfl rfl)
theorem dX0_waitedAt_3 : decode cX0_waitedAt 3 = .ok (.astore 4, 2) := dk_58 4 (dk_at dksX0_waitedAt_0 3 rfl rfl)
theorem dX0_waitedAt_5 : decode cX0_waitedAt 5 = .ok (.aload_n 0, 1) := dk_42 (dk_at dksX0_waitedAt_0 5 rfl rfl)
theorem dX0_waitedAt_6 : decode cX0_waitedAt 6 = .ok (.arraylength, 1) := dk_190 (dk_at dksX0_waitedAt_0 6 rfl rfl)
theorem dX0_waitedAt_7 : decode cX0_waitedAt 7 = .ok (.iconst 2, 1) := dk_5 (dk_at dksX0_waitedAt_0 7 rfl rfl)
theorem dX0_waitedAt_8 : decode cX0_waitedAt 8 = .ok (.idiv, 1) := dk_108 (dk_at dksX0_waitedAt_0 8 rfl rfl)
theorem dX0_waitedAt_9 : decode cX0_waitedAt 9 = .ok (.newarray .boolean, 2) := dk_188_4 (dk_at dksX0_waitedAt_0 9 rfl rfl)
theorem dX0_waitedAt_11 : decode cX0_waitedAt 11 = .ok (.astore 5, 2) := dk_58 5 (dk_at dksX0_waitedAt_0 11 rfl rfl)
theorem dX0_waitedAt_13 : decode cX0_waitedAt 13 = .ok (.iconst 0, 1) := dk_3 (dk_at dksX0_waitedAt_0 13 rfl rfl)
theorem dX0_waitedAt_14 : decode cX0_waitedAt 14 = .ok (.istore 6, 2) := dk_54 6 (dk_at dksX0_waitedAt_0 14 rfl rfl)
theorem dX0_waitedAt_16 : decode cX0_waitedAt 16 = .ok (.aload_n 0, 1) := dk_42 (dk_at dksX0_waitedAt_0 16 rfl rfl)
theorem dX0_waitedAt_17 : decode cX0_waitedAt 17 = .ok (.iload_n 1, 1) := dk_27 (dk_at dksX0_waitedAt_0 17 rfl rfl)
theorem dX0_waitedAt_18 : decode cX0_waitedAt 18 = .ok (.aload 5, 2) := dk_25 5 (dk_at dksX0_waitedAt_0 18 rfl rfl)
theorem dX0_waitedAt_20 : decode cX0_waitedAt 20 = .ok (.invokestatic 383, 3) := dk_184 1 127 (dk_at dksX0_waitedAt_0 20 rfl rfl)
theorem dX0_waitedAt_23 : decode cX0_waitedAt 23 = .ok (.istore 7, 2) := dk_54 7 (dk_at dksX0_waitedAt_1 0 rfl rfl)
theorem dX0_waitedAt_25 : decode cX0_waitedAt 25 = .ok (.iload 7, 2) := dk_21 7 (dk_at dksX0_waitedAt_1 2 rfl rfl)
theorem dX0_waitedAt_27 : decode cX0_waitedAt 27 = .ok (.ldc 79, 2) := dk_18 79 (dk_at dksX0_waitedAt_1 4 rfl rfl)
theorem dX0_waitedAt_29 : decode cX0_waitedAt 29 = .ok (.if_icmp .eq 104, 3) := dk_159 0 104 (dk_at dksX0_waitedAt_1 6 rfl rfl)
theorem dX0_waitedAt_32 : decode cX0_waitedAt 32 = .ok (.aload 5, 2) := dk_25 5 (dk_at dksX0_waitedAt_1 9 rfl rfl)
theorem dX0_waitedAt_34 : decode cX0_waitedAt 34 = .ok (.iload 7, 2) := dk_21 7 (dk_at dksX0_waitedAt_1 11 rfl rfl)
theorem dX0_waitedAt_36 : decode cX0_waitedAt 36 = .ok (.iconst 1, 1) := dk_4 (dk_at dksX0_waitedAt_1 13 rfl rfl)
theorem dX0_waitedAt_37 : decode cX0_waitedAt 37 = .ok (.bastore, 1) := dk_84 (dk_at dksX0_waitedAt_1 14 rfl rfl)
theorem dX0_waitedAt_38 : decode cX0_waitedAt 38 = .ok (.iconst 0, 1) := dk_3 (dk_at dksX0_waitedAt_1 15 rfl rfl)
theorem dX0_waitedAt_39 : decode cX0_waitedAt 39 = .ok (.istore 8, 2) := dk_54 8 (dk_at dksX0_waitedAt_1 16 rfl rfl)
theorem dX0_waitedAt_41 : decode cX0_waitedAt 41 = .ok (.iconst 1, 1) := dk_4 (dk_at dksX0_waitedAt_1 18 rfl rfl)
theorem dX0_waitedAt_42 : decode cX0_waitedAt 42 = .ok (.istore 9, 2) := dk_54 9 (dk_at dksX0_waitedAt_1 19 rfl rfl)
theorem dX0_waitedAt_44 : decode cX0_waitedAt 44 = .ok (.iload 9, 2) := dk_21 9 (dk_at dksX0_waitedAt_1 21 rfl rfl)
theorem dX0_waitedAt_46 : decode cX0_waitedAt 46 = .ok (.iload_n 2, 1) := dk_28 (dk_at dksX0_waitedAt_1 23 rfl rfl)
theorem dX0_waitedAt_47 : decode cX0_waitedAt 47 = .ok (.if_icmp .ge 31, 3) := dk_162 0 31 (dk_at dksX0_waitedAt_2 0 rfl rfl)
theorem dX0_waitedAt_50 : decode cX0_waitedAt 50 = .ok (.aload 4, 2) := dk_25 4 (dk_at dksX0_waitedAt_2 3 rfl rfl)
theorem dX0_waitedAt_52 : decode cX0_waitedAt 52 = .ok (.iload 9, 2) := dk_21 9 (dk_at dksX0_waitedAt_2 5 rfl rfl)
theorem dX0_waitedAt_54 : decode cX0_waitedAt 54 = .ok (.iaload, 1) := dk_46 (dk_at dksX0_waitedAt_2 7 rfl rfl)
theorem dX0_waitedAt_55 : decode cX0_waitedAt 55 = .ok (.aload 4, 2) := dk_25 4 (dk_at dksX0_waitedAt_2 8 rfl rfl)
theorem dX0_waitedAt_57 : decode cX0_waitedAt 57 = .ok (.iload 8, 2) := dk_21 8 (dk_at dksX0_waitedAt_2 10 rfl rfl)
theorem dX0_waitedAt_59 : decode cX0_waitedAt 59 = .ok (.iaload, 1) := dk_46 (dk_at dksX0_waitedAt_2 12 rfl rfl)
theorem dX0_waitedAt_60 : decode cX0_waitedAt 60 = .ok (.if_icmp .ge 8, 3) := dk_162 0 8 (dk_at dksX0_waitedAt_2 13 rfl rfl)
theorem dX0_waitedAt_63 : decode cX0_waitedAt 63 = .ok (.iload 9, 2) := dk_21 9 (dk_at dksX0_waitedAt_2 16 rfl rfl)
theorem dX0_waitedAt_65 : decode cX0_waitedAt 65 = .ok (.goto 5, 3) := dk_167 0 5 (dk_at dksX0_waitedAt_2 18 rfl rfl)
theorem dX0_waitedAt_68 : decode cX0_waitedAt 68 = .ok (.iload 8, 2) := dk_21 8 (dk_at dksX0_waitedAt_2 21 rfl rfl)
theorem dX0_waitedAt_70 : decode cX0_waitedAt 70 = .ok (.istore 8, 2) := dk_54 8 (dk_at dksX0_waitedAt_3 0 rfl rfl)
theorem dX0_waitedAt_72 : decode cX0_waitedAt 72 = .ok (.iinc 9 1, 3) := dk_132 9 1 (dk_at dksX0_waitedAt_3 2 rfl rfl)
theorem dX0_waitedAt_75 : decode cX0_waitedAt 75 = .ok (.goto (-31), 3) := dk_167 255 225 (dk_at dksX0_waitedAt_3 5 rfl rfl)
theorem dX0_waitedAt_78 : decode cX0_waitedAt 78 = .ok (.aload 4, 2) := dk_25 4 (dk_at dksX0_waitedAt_3 8 rfl rfl)
theorem dX0_waitedAt_80 : decode cX0_waitedAt 80 = .ok (.iload 8, 2) := dk_21 8 (dk_at dksX0_waitedAt_3 10 rfl rfl)
theorem dX0_waitedAt_82 : decode cX0_waitedAt 82 = .ok (.iaload, 1) := dk_46 (dk_at dksX0_waitedAt_3 12 rfl rfl)
theorem dX0_waitedAt_83 : decode cX0_waitedAt 83 = .ok (.aload_n 0, 1) := dk_42 (dk_at dksX0_waitedAt_3 13 rfl rfl)
theorem dX0_waitedAt_84 : decode cX0_waitedAt 84 = .ok (.iconst 2, 1) := dk_5 (dk_at dksX0_waitedAt_3 14 rfl rfl)
theorem dX0_waitedAt_85 : decode cX0_waitedAt 85 = .ok (.iload 7, 2) := dk_21 7 (dk_at dksX0_waitedAt_3 15 rfl rfl)
theorem dX0_waitedAt_87 : decode cX0_waitedAt 87 = .ok (.imul, 1) := dk_104 (dk_at dksX0_waitedAt_3 17 rfl rfl)
theorem dX0_waitedAt_88 : decode cX0_waitedAt 88 = .ok (.iconst 1, 1) := dk_4 (dk_at dksX0_waitedAt_3 18 rfl rfl)
theorem dX0_waitedAt_89 : decode cX0_waitedAt 89 = .ok (.iadd, 1) := dk_96 (dk_at dksX0_waitedAt_3 19 rfl rfl)
theorem dX0_waitedAt_90 : decode cX0_waitedAt 90 = .ok (.iaload, 1) := dk_46 (dk_at dksX0_waitedAt_3 20 rfl rfl)
theorem dX0_waitedAt_91 : decode cX0_waitedAt 91 = .ok (.invokestatic 380, 3) := dk_184 1 124 (dk_at dksX0_waitedAt_3 21 rfl rfl)
theorem dX0_waitedAt_94 : decode cX0_waitedAt 94 = .ok (.istore 9, 2) := dk_54 9 (dk_at dksX0_waitedAt_4 0 rfl rfl)
theorem dX0_waitedAt_96 : decode cX0_waitedAt 96 = .ok (.iload 6, 2) := dk_21 6 (dk_at dksX0_waitedAt_4 2 rfl rfl)
theorem dX0_waitedAt_98 : decode cX0_waitedAt 98 = .ok (.iload 9, 2) := dk_21 9 (dk_at dksX0_waitedAt_4 4 rfl rfl)
theorem dX0_waitedAt_100 : decode cX0_waitedAt 100 = .ok (.aload_n 0, 1) := dk_42 (dk_at dksX0_waitedAt_4 6 rfl rfl)
theorem dX0_waitedAt_101 : decode cX0_waitedAt 101 = .ok (.iconst 2, 1) := dk_5 (dk_at dksX0_waitedAt_4 7 rfl rfl)
theorem dX0_waitedAt_102 : decode cX0_waitedAt 102 = .ok (.iload 7, 2) := dk_21 7 (dk_at dksX0_waitedAt_4 8 rfl rfl)
theorem dX0_waitedAt_104 : decode cX0_waitedAt 104 = .ok (.imul, 1) := dk_104 (dk_at dksX0_waitedAt_4 10 rfl rfl)
theorem dX0_waitedAt_105 : decode cX0_waitedAt 105 = .ok (.iconst 1, 1) := dk_4 (dk_at dksX0_waitedAt_4 11 rfl rfl)
theorem dX0_waitedAt_106 : decode cX0_waitedAt 106 = .ok (.iadd, 1) := dk_96 (dk_at dksX0_waitedAt_4 12 rfl rfl)
theorem dX0_waitedAt_107 : decode cX0_waitedAt 107 = .ok (.iaload, 1) := dk_46 (dk_at dksX0_waitedAt_4 13 rfl rfl)
theorem dX0_waitedAt_108 : decode cX0_waitedAt 108 = .ok (.isub, 1) := dk_100 (dk_at dksX0_waitedAt_4 14 rfl rfl)
theorem dX0_waitedAt_109 : decode cX0_waitedAt 109 = .ok (.iadd, 1) := dk_96 (dk_at dksX0_waitedAt_4 15 rfl rfl)
theorem dX0_waitedAt_110 : decode cX0_waitedAt 110 = .ok (.istore 6, 2) := dk_54 6 (dk_at dksX0_waitedAt_4 16 rfl rfl)
theorem dX0_waitedAt_112 : decode cX0_waitedAt 112 = .ok (.aload 4, 2) := dk_25 4 (dk_at dksX0_waitedAt_4 18 rfl rfl)
theorem dX0_waitedAt_114 : decode cX0_waitedAt 114 = .ok (.iload 8, 2) := dk_21 8 (dk_at dksX0_waitedAt_4 20 rfl rfl)
theorem dX0_waitedAt_116 : decode cX0_waitedAt 116 = .ok (.iload 9, 2) := dk_21 9 (dk_at dksX0_waitedAt_4 22 rfl rfl)
theorem dX0_waitedAt_118 : decode cX0_waitedAt 118 = .ok (.iload_n 3, 1) := dk_29 (dk_at dksX0_waitedAt_5 0 rfl rfl)
theorem dX0_waitedAt_119 : decode cX0_waitedAt 119 = .ok (.iadd, 1) := dk_96 (dk_at dksX0_waitedAt_5 1 rfl rfl)
theorem dX0_waitedAt_120 : decode cX0_waitedAt 120 = .ok (.iastore, 1) := dk_79 (dk_at dksX0_waitedAt_5 2 rfl rfl)
theorem dX0_waitedAt_121 : decode cX0_waitedAt 121 = .ok (.aload_n 0, 1) := dk_42 (dk_at dksX0_waitedAt_5 3 rfl rfl)
theorem dX0_waitedAt_122 : decode cX0_waitedAt 122 = .ok (.iload_n 1, 1) := dk_27 (dk_at dksX0_waitedAt_5 4 rfl rfl)
theorem dX0_waitedAt_123 : decode cX0_waitedAt 123 = .ok (.aload 5, 2) := dk_25 5 (dk_at dksX0_waitedAt_5 5 rfl rfl)
theorem dX0_waitedAt_125 : decode cX0_waitedAt 125 = .ok (.invokestatic 383, 3) := dk_184 1 127 (dk_at dksX0_waitedAt_5 7 rfl rfl)
theorem dX0_waitedAt_128 : decode cX0_waitedAt 128 = .ok (.istore 7, 2) := dk_54 7 (dk_at dksX0_waitedAt_5 10 rfl rfl)
theorem dX0_waitedAt_130 : decode cX0_waitedAt 130 = .ok (.goto (-105), 3) := dk_167 255 151 (dk_at dksX0_waitedAt_5 12 rfl rfl)
theorem dX0_waitedAt_133 : decode cX0_waitedAt 133 = .ok (.iload 6, 2) := dk_21 6 (dk_at dksX0_waitedAt_5 15 rfl rfl)
theorem dX0_waitedAt_135 : decode cX0_waitedAt 135 = .ok (.ireturn, 1) := dk_172 (dk_at dksX0_waitedAt_5 17 rfl rfl)
abbrev cX0_shared : ByteArray := prog_1_method_51_code
def yX0_shared : MethodName := ⟨RX0, "shared", "([III)I"⟩
def dkwX0_shared_10 : List UInt8 := [172]
abbrev dktX0_shared_10 : List UInt8 := dkwX0_shared_10 ++ []
def dkwX0_shared_9 : List UInt8 := [79, 167, 255, 66, 29, 18, 79, 159, 0, 7, 28, 154, 0, 7, 29, 167, 0, 9, 25, 4, 28, 4, 100, 46]
abbrev dktX0_shared_9 : List UInt8 := dkwX0_shared_9 ++ dktX0_shared_10
def dkwX0_shared_8 : List UInt8 := [4, 100, 79, 167, 255, 127, 25, 5, 4, 92, 46, 4, 100, 79, 167, 255, 94, 25, 5, 3, 92, 46, 4, 100]
abbrev dktX0_shared_8 : List UInt8 := dkwX0_shared_8 ++ dktX0_shared_9
def dkwX0_shared_7 : List UInt8 := [161, 0, 6, 167, 0, 16, 21, 6, 62, 25, 5, 3, 25, 4, 3, 7, 184, 0, 134, 25, 5, 5, 92, 46]
abbrev dktX0_shared_7 : List UInt8 := dkwX0_shared_7 ++ dktX0_shared_8
def dkwX0_shared_6 : List UInt8 := [132, 7, 1, 167, 255, 206, 21, 6, 18, 79, 159, 0, 31, 29, 18, 79, 159, 0, 12, 21, 6, 29]
abbrev dktX0_shared_6 : List UInt8 := dkwX0_shared_6 ++ dktX0_shared_7
def dkwX0_shared_5 : List UInt8 := [159, 0, 10, 21, 8, 18, 79, 160, 0, 8, 18, 79, 167, 0, 8, 21, 6, 21, 8, 96, 54, 6]
abbrev dktX0_shared_5 : List UInt8 := dkwX0_shared_5 ++ dktX0_shared_6
def dkwX0_shared_4 : List UInt8 := [162, 0, 50, 42, 16, 9, 21, 7, 104, 25, 5, 21, 7, 46, 96, 46, 54, 8, 21, 6, 18, 79]
abbrev dktX0_shared_4 : List UInt8 := dkwX0_shared_4 ++ dktX0_shared_5
def dkwX0_shared_3 : List UInt8 := [3, 46, 100, 25, 5, 4, 46, 100, 25, 5, 5, 46, 100, 79, 3, 54, 6, 3, 54, 7, 21, 7, 7]
abbrev dktX0_shared_3 : List UInt8 := dkwX0_shared_3 ++ dktX0_shared_4
def dkwX0_shared_2 : List UInt8 := [25, 5, 3, 46, 100, 25, 5, 4, 46, 100, 79, 25, 5, 5, 46, 155, 0, 128, 25, 5, 6, 27, 25, 5]
abbrev dktX0_shared_2 : List UInt8 := dkwX0_shared_2 ++ dktX0_shared_3
def dkwX0_shared_1 : List UInt8 := [155, 0, 189, 25, 5, 4, 27, 25, 5, 3, 46, 100, 79, 25, 5, 4, 46, 155, 0, 161, 25, 5, 5, 27]
abbrev dktX0_shared_1 : List UInt8 := dkwX0_shared_1 ++ dktX0_shared_2
def dkwX0_shared_0 : List UInt8 := [18, 79, 62, 7, 188, 10, 58, 4, 7, 188, 10, 58, 5, 25, 5, 3, 27, 79, 25, 5, 3, 46]
abbrev dktX0_shared_0 : List UInt8 := dkwX0_shared_0 ++ dktX0_shared_1
theorem dksX0_shared_0 : cX0_shared.data.toList.drop 0 = dktX0_shared_0 := by decide +kernel
theorem dksX0_shared_1 : cX0_shared.data.toList.drop 22 = dktX0_shared_1 := dk_seg dksX0_shared_0 22 rfl rfl
theorem dksX0_shared_2 : cX0_shared.data.toList.drop 46 = dktX0_shared_2 := dk_seg dksX0_shared_1 24 rfl rfl
theorem dksX0_shared_3 : cX0_shared.data.toList.drop 70 = dktX0_shared_3 := dk_seg dksX0_shared_2 24 rfl rfl
theorem dksX0_shared_4 : cX0_shared.data.toList.drop 93 = dktX0_shared_4 := dk_seg dksX0_shared_3 23 rfl rfl
theorem dksX0_shared_5 : cX0_shared.data.toList.drop 115 = dktX0_shared_5 := dk_seg dksX0_shared_4 22 rfl rfl
theorem dksX0_shared_6 : cX0_shared.data.toList.drop 137 = dktX0_shared_6 := dk_seg dksX0_shared_5 22 rfl rfl
theorem dksX0_shared_7 : cX0_shared.data.toList.drop 159 = dktX0_shared_7 := dk_seg dksX0_shared_6 22 rfl rfl
theorem dksX0_shared_8 : cX0_shared.data.toList.drop 183 = dktX0_shared_8 := dk_seg dksX0_shared_7 24 rfl rfl
theorem dksX0_shared_9 : cX0_shared.data.toList.drop 207 = dktX0_shared_9 := dk_seg dksX0_shared_8 24 rfl rfl
theorem dksX0_shared_10 : cX0_shared.data.toList.drop 231 = dktX0_shared_10 := dk_seg dksX0_shared_9 24 rfl rfl
theorem dX0_shared_0 : decode cX0_shared 0 = .ok (.ldc 79, 2) := dk_18 79 (dk_at dksX0_shared_0 0 rfl rfl)
theorem dX0_shared_2 : decode cX0_shared 2 = .ok (.istore_n 3, 1) := dk_62 (dk_at dksX0_shared_0 2 rfl rfl)
theorem dX0_shared_3 : decode cX0_shared 3 = .ok (.iconst 4, 1) := dk_7 (dk_at dksX0_shared_0 3 rfl rfl)
theorem dX0_shared_4 : decode cX0_shared 4 = .ok (.newarray .int, 2) := dk_188_10 (dk_at dksX0_shared_0 4 rfl rfl)
theorem dX0_shared_6 : decode cX0_shared 6 = .ok (.astore 4, 2) := dk_58 4 (dk_at dksX0_shared_0 6 rfl rfl)
theorem dX0_shared_8 : decode cX0_shared 8 = .ok (.iconst 4, 1) := dk_7 (dk_at dksX0_shared_0 8 rfl rfl)
theorem dX0_shared_9 : decode cX0_shared 9 = .ok (.newarray .int, 2) := dk_188_10 (dk_at dksX0_shared_0 9 rfl rfl)
theorem dX0_shared_11 : decode cX0_shared 11 = .ok (.astore 5, 2) := dk_58 5 (dk_at dksX0_shared_0 11 rfl rfl)
theorem dX0_shared_13 : decode cX0_shared 13 = .ok (.aload 5, 2) := dk_25 5 (dk_at dksX0_shared_0 13 rfl rfl)
theorem dX0_shared_15 : decode cX0_shared 15 = .ok (.iconst 0, 1) := dk_3 (dk_at dksX0_shared_0 15 rfl rfl)
theorem dX0_shared_16 : decode cX0_shared 16 = .ok (.iload_n 1, 1) := dk_27 (dk_at dksX0_shared_0 16 rfl rfl)
theorem dX0_shared_17 : decode cX0_shared 17 = .ok (.iastore, 1) := dk_79 (dk_at dksX0_shared_0 17 rfl rfl)
theorem dX0_shared_18 : decode cX0_shared 18 = .ok (.aload 5, 2) := dk_25 5 (dk_at dksX0_shared_0 18 rfl rfl)
theorem dX0_shared_20 : decode cX0_shared 20 = .ok (.iconst 0, 1) := dk_3 (dk_at dksX0_shared_0 20 rfl rfl)
theorem dX0_shared_21 : decode cX0_shared 21 = .ok (.iaload, 1) := dk_46 (dk_at dksX0_shared_0 21 rfl rfl)
theorem dX0_shared_22 : decode cX0_shared 22 = .ok (.ifCond .lt 189, 3) := dk_155 0 189 (dk_at dksX0_shared_1 0 rfl rfl)
theorem dX0_shared_25 : decode cX0_shared 25 = .ok (.aload 5, 2) := dk_25 5 (dk_at dksX0_shared_1 3 rfl rfl)
theorem dX0_shared_27 : decode cX0_shared 27 = .ok (.iconst 1, 1) := dk_4 (dk_at dksX0_shared_1 5 rfl rfl)
theorem dX0_shared_28 : decode cX0_shared 28 = .ok (.iload_n 1, 1) := dk_27 (dk_at dksX0_shared_1 6 rfl rfl)
theorem dX0_shared_29 : decode cX0_shared 29 = .ok (.aload 5, 2) := dk_25 5 (dk_at dksX0_shared_1 7 rfl rfl)
theorem dX0_shared_31 : decode cX0_shared 31 = .ok (.iconst 0, 1) := dk_3 (dk_at dksX0_shared_1 9 rfl rfl)
theorem dX0_shared_32 : decode cX0_shared 32 = .ok (.iaload, 1) := dk_46 (dk_at dksX0_shared_1 10 rfl rfl)
theorem dX0_shared_33 : decode cX0_shared 33 = .ok (.isub, 1) := dk_100 (dk_at dksX0_shared_1 11 rfl rfl)
theorem dX0_shared_34 : decode cX0_shared 34 = .ok (.iastore, 1) := dk_79 (dk_at dksX0_shared_1 12 rfl rfl)
theorem dX0_shared_35 : decode cX0_shared 35 = .ok (.aload 5, 2) := dk_25 5 (dk_at dksX0_shared_1 13 rfl rfl)
theorem dX0_shared_37 : decode cX0_shared 37 = .ok (.iconst 1, 1) := dk_4 (dk_at dksX0_shared_1 15 rfl rfl)
theorem dX0_shared_38 : decode cX0_shared 38 = .ok (.iaload, 1) := dk_46 (dk_at dksX0_shared_1 16 rfl rfl)
theorem dX0_shared_39 : decode cX0_shared 39 = .ok (.ifCond .lt 161, 3) := dk_155 0 161 (dk_at dksX0_shared_1 17 rfl rfl)
theorem dX0_shared_42 : decode cX0_shared 42 = .ok (.aload 5, 2) := dk_25 5 (dk_at dksX0_shared_1 20 rfl rfl)
theorem dX0_shared_44 : decode cX0_shared 44 = .ok (.iconst 2, 1) := dk_5 (dk_at dksX0_shared_1 22 rfl rfl)
theorem dX0_shared_45 : decode cX0_shared 45 = .ok (.iload_n 1, 1) := dk_27 (dk_at dksX0_shared_1 23 rfl rfl)
theorem dX0_shared_46 : decode cX0_shared 46 = .ok (.aload 5, 2) := dk_25 5 (dk_at dksX0_shared_2 0 rfl rfl)
theorem dX0_shared_48 : decode cX0_shared 48 = .ok (.iconst 0, 1) := dk_3 (dk_at dksX0_shared_2 2 rfl rfl)
theorem dX0_shared_49 : decode cX0_shared 49 = .ok (.iaload, 1) := dk_46 (dk_at dksX0_shared_2 3 rfl rfl)
theorem dX0_shared_50 : decode cX0_shared 50 = .ok (.isub, 1) := dk_100 (dk_at dksX0_shared_2 4 rfl rfl)
theorem dX0_shared_51 : decode cX0_shared 51 = .ok (.aload 5, 2) := dk_25 5 (dk_at dksX0_shared_2 5 rfl rfl)
theorem dX0_shared_53 : decode cX0_shared 53 = .ok (.iconst 1, 1) := dk_4 (dk_at dksX0_shared_2 7 rfl rfl)
theorem dX0_shared_54 : decode cX0_shared 54 = .ok (.iaload, 1) := dk_46 (dk_at dksX0_shared_2 8 rfl rfl)
theorem dX0_shared_55 : decode cX0_shared 55 = .ok (.isub, 1) := dk_100 (dk_at dksX0_shared_2 9 rfl rfl)
theorem dX0_shared_56 : decode cX0_shared 56 = .ok (.iastore, 1) := dk_79 (dk_at dksX0_shared_2 10 rfl rfl)
theorem dX0_shared_57 : decode cX0_shared 57 = .ok (.aload 5, 2) := dk_25 5 (dk_at dksX0_shared_2 11 rfl rfl)
theorem dX0_shared_59 : decode cX0_shared 59 = .ok (.iconst 2, 1) := dk_5 (dk_at dksX0_shared_2 13 rfl rfl)
theorem dX0_shared_60 : decode cX0_shared 60 = .ok (.iaload, 1) := dk_46 (dk_at dksX0_shared_2 14 rfl rfl)
theorem dX0_shared_61 : decode cX0_shared 61 = .ok (.ifCond .lt 128, 3) := dk_155 0 128 (dk_at dksX0_shared_2 15 rfl rfl)
theorem dX0_shared_64 : decode cX0_shared 64 = .ok (.aload 5, 2) := dk_25 5 (dk_at dksX0_shared_2 18 rfl rfl)
theorem dX0_shared_66 : decode cX0_shared 66 = .ok (.iconst 3, 1) := dk_6 (dk_at dksX0_shared_2 20 rfl rfl)
theorem dX0_shared_67 : decode cX0_shared 67 = .ok (.iload_n 1, 1) := dk_27 (dk_at dksX0_shared_2 21 rfl rfl)
theorem dX0_shared_68 : decode cX0_shared 68 = .ok (.aload 5, 2) := dk_25 5 (dk_at dksX0_shared_2 22 rfl rfl)
theorem dX0_shared_70 : decode cX0_shared 70 = .ok (.iconst 0, 1) := dk_3 (dk_at dksX0_shared_3 0 rfl rfl)
theorem dX0_shared_71 : decode cX0_shared 71 = .ok (.iaload, 1) := dk_46 (dk_at dksX0_shared_3 1 rfl rfl)
theorem dX0_shared_72 : decode cX0_shared 72 = .ok (.isub, 1) := dk_100 (dk_at dksX0_shared_3 2 rfl rfl)
theorem dX0_shared_73 : decode cX0_shared 73 = .ok (.aload 5, 2) := dk_25 5 (dk_at dksX0_shared_3 3 rfl rfl)
theorem dX0_shared_75 : decode cX0_shared 75 = .ok (.iconst 1, 1) := dk_4 (dk_at dksX0_shared_3 5 rfl rfl)
theorem dX0_shared_76 : decode cX0_shared 76 = .ok (.iaload, 1) := dk_46 (dk_at dksX0_shared_3 6 rfl rfl)
theorem dX0_shared_77 : decode cX0_shared 77 = .ok (.isub, 1) := dk_100 (dk_at dksX0_shared_3 7 rfl rfl)
theorem dX0_shared_78 : decode cX0_shared 78 = .ok (.aload 5, 2) := dk_25 5 (dk_at dksX0_shared_3 8 rfl rfl)
theorem dX0_shared_80 : decode cX0_shared 80 = .ok (.iconst 2, 1) := dk_5 (dk_at dksX0_shared_3 10 rfl rfl)
theorem dX0_shared_81 : decode cX0_shared 81 = .ok (.iaload, 1) := dk_46 (dk_at dksX0_shared_3 11 rfl rfl)
theorem dX0_shared_82 : decode cX0_shared 82 = .ok (.isub, 1) := dk_100 (dk_at dksX0_shared_3 12 rfl rfl)
theorem dX0_shared_83 : decode cX0_shared 83 = .ok (.iastore, 1) := dk_79 (dk_at dksX0_shared_3 13 rfl rfl)
theorem dX0_shared_84 : decode cX0_shared 84 = .ok (.iconst 0, 1) := dk_3 (dk_at dksX0_shared_3 14 rfl rfl)
theorem dX0_shared_85 : decode cX0_shared 85 = .ok (.istore 6, 2) := dk_54 6 (dk_at dksX0_shared_3 15 rfl rfl)
theorem dX0_shared_87 : decode cX0_shared 87 = .ok (.iconst 0, 1) := dk_3 (dk_at dksX0_shared_3 17 rfl rfl)
theorem dX0_shared_88 : decode cX0_shared 88 = .ok (.istore 7, 2) := dk_54 7 (dk_at dksX0_shared_3 18 rfl rfl)
theorem dX0_shared_90 : decode cX0_shared 90 = .ok (.iload 7, 2) := dk_21 7 (dk_at dksX0_shared_3 20 rfl rfl)
theorem dX0_shared_92 : decode cX0_shared 92 = .ok (.iconst 4, 1) := dk_7 (dk_at dksX0_shared_3 22 rfl rfl)
theorem dX0_shared_93 : decode cX0_shared 93 = .ok (.if_icmp .ge 50, 3) := dk_162 0 50 (dk_at dksX0_shared_4 0 rfl rfl)
theorem dX0_shared_96 : decode cX0_shared 96 = .ok (.aload_n 0, 1) := dk_42 (dk_at dksX0_shared_4 3 rfl rfl)
theorem dX0_shared_97 : decode cX0_shared 97 = .ok (.bipush 9, 2) := dk_16 9 (dk_at dksX0_shared_4 4 rfl rfl)
theorem dX0_shared_99 : decode cX0_shared 99 = .ok (.iload 7, 2) := dk_21 7 (dk_at dksX0_shared_4 6 rfl rfl)
theorem dX0_shared_101 : decode cX0_shared 101 = .ok (.imul, 1) := dk_104 (dk_at dksX0_shared_4 8 rfl rfl)
theorem dX0_shared_102 : decode cX0_shared 102 = .ok (.aload 5, 2) := dk_25 5 (dk_at dksX0_shared_4 9 rfl rfl)
theorem dX0_shared_104 : decode cX0_shared 104 = .ok (.iload 7, 2) := dk_21 7 (dk_at dksX0_shared_4 11 rfl rfl)
theorem dX0_shared_106 : decode cX0_shared 106 = .ok (.iaload, 1) := dk_46 (dk_at dksX0_shared_4 13 rfl rfl)
theorem dX0_shared_107 : decode cX0_shared 107 = .ok (.iadd, 1) := dk_96 (dk_at dksX0_shared_4 14 rfl rfl)
theorem dX0_shared_108 : decode cX0_shared 108 = .ok (.iaload, 1) := dk_46 (dk_at dksX0_shared_4 15 rfl rfl)
theorem dX0_shared_109 : decode cX0_shared 109 = .ok (.istore 8, 2) := dk_54 8 (dk_at dksX0_shared_4 16 rfl rfl)
theorem dX0_shared_111 : decode cX0_shared 111 = .ok (.iload 6, 2) := dk_21 6 (dk_at dksX0_shared_4 18 rfl rfl)
theorem dX0_shared_113 : decode cX0_shared 113 = .ok (.ldc 79, 2) := dk_18 79 (dk_at dksX0_shared_4 20 rfl rfl)
theorem dX0_shared_115 : decode cX0_shared 115 = .ok (.if_icmp .eq 10, 3) := dk_159 0 10 (dk_at dksX0_shared_5 0 rfl rfl)
theorem dX0_shared_118 : decode cX0_shared 118 = .ok (.iload 8, 2) := dk_21 8 (dk_at dksX0_shared_5 3 rfl rfl)
theorem dX0_shared_120 : decode cX0_shared 120 = .ok (.ldc 79, 2) := dk_18 79 (dk_at dksX0_shared_5 5 rfl rfl)
theorem dX0_shared_122 : decode cX0_shared 122 = .ok (.if_icmp .ne 8, 3) := dk_160 0 8 (dk_at dksX0_shared_5 7 rfl rfl)
theorem dX0_shared_125 : decode cX0_shared 125 = .ok (.ldc 79, 2) := dk_18 79 (dk_at dksX0_shared_5 10 rfl rfl)
theorem dX0_shared_127 : decode cX0_shared 127 = .ok (.goto 8, 3) := dk_167 0 8 (dk_at dksX0_shared_5 12 rfl rfl)
theorem dX0_shared_130 : decode cX0_shared 130 = .ok (.iload 6, 2) := dk_21 6 (dk_at dksX0_shared_5 15 rfl rfl)
theorem dX0_shared_132 : decode cX0_shared 132 = .ok (.iload 8, 2) := dk_21 8 (dk_at dksX0_shared_5 17 rfl rfl)
theorem dX0_shared_134 : decode cX0_shared 134 = .ok (.iadd, 1) := dk_96 (dk_at dksX0_shared_5 19 rfl rfl)
theorem dX0_shared_135 : decode cX0_shared 135 = .ok (.istore 6, 2) := dk_54 6 (dk_at dksX0_shared_5 20 rfl rfl)
theorem dX0_shared_137 : decode cX0_shared 137 = .ok (.iinc 7 1, 3) := dk_132 7 1 (dk_at dksX0_shared_6 0 rfl rfl)
theorem dX0_shared_140 : decode cX0_shared 140 = .ok (.goto (-50), 3) := dk_167 255 206 (dk_at dksX0_shared_6 3 rfl rfl)
theorem dX0_shared_143 : decode cX0_shared 143 = .ok (.iload 6, 2) := dk_21 6 (dk_at dksX0_shared_6 6 rfl rfl)
theorem dX0_shared_145 : decode cX0_shared 145 = .ok (.ldc 79, 2) := dk_18 79 (dk_at dksX0_shared_6 8 rfl rfl)
theorem dX0_shared_147 : decode cX0_shared 147 = .ok (.if_icmp .eq 31, 3) := dk_159 0 31 (dk_at dksX0_shared_6 10 rfl rfl)
theorem dX0_shared_150 : decode cX0_shared 150 = .ok (.iload_n 3, 1) := dk_29 (dk_at dksX0_shared_6 13 rfl rfl)
theorem dX0_shared_151 : decode cX0_shared 151 = .ok (.ldc 79, 2) := dk_18 79 (dk_at dksX0_shared_6 14 rfl rfl)
theorem dX0_shared_153 : decode cX0_shared 153 = .ok (.if_icmp .eq 12, 3) := dk_159 0 12 (dk_at dksX0_shared_6 16 rfl rfl)
theorem dX0_shared_156 : decode cX0_shared 156 = .ok (.iload 6, 2) := dk_21 6 (dk_at dksX0_shared_6 19 rfl rfl)
theorem dX0_shared_158 : decode cX0_shared 158 = .ok (.iload_n 3, 1) := dk_29 (dk_at dksX0_shared_6 21 rfl rfl)
theorem dX0_shared_159 : decode cX0_shared 159 = .ok (.if_icmp .lt 6, 3) := dk_161 0 6 (dk_at dksX0_shared_7 0 rfl rfl)
theorem dX0_shared_162 : decode cX0_shared 162 = .ok (.goto 16, 3) := dk_167 0 16 (dk_at dksX0_shared_7 3 rfl rfl)
theorem dX0_shared_165 : decode cX0_shared 165 = .ok (.iload 6, 2) := dk_21 6 (dk_at dksX0_shared_7 6 rfl rfl)
theorem dX0_shared_167 : decode cX0_shared 167 = .ok (.istore_n 3, 1) := dk_62 (dk_at dksX0_shared_7 8 rfl rfl)
theorem dX0_shared_168 : decode cX0_shared 168 = .ok (.aload 5, 2) := dk_25 5 (dk_at dksX0_shared_7 9 rfl rfl)
theorem dX0_shared_170 : decode cX0_shared 170 = .ok (.iconst 0, 1) := dk_3 (dk_at dksX0_shared_7 11 rfl rfl)
theorem dX0_shared_171 : decode cX0_shared 171 = .ok (.aload 4, 2) := dk_25 4 (dk_at dksX0_shared_7 12 rfl rfl)
theorem dX0_shared_173 : decode cX0_shared 173 = .ok (.iconst 0, 1) := dk_3 (dk_at dksX0_shared_7 14 rfl rfl)
theorem dX0_shared_174 : decode cX0_shared 174 = .ok (.iconst 4, 1) := dk_7 (dk_at dksX0_shared_7 15 rfl rfl)
theorem dX0_shared_175 : decode cX0_shared 175 = .ok (.invokestatic 134, 3) := dk_184 0 134 (dk_at dksX0_shared_7 16 rfl rfl)
theorem dX0_shared_178 : decode cX0_shared 178 = .ok (.aload 5, 2) := dk_25 5 (dk_at dksX0_shared_7 19 rfl rfl)
theorem dX0_shared_180 : decode cX0_shared 180 = .ok (.iconst 2, 1) := dk_5 (dk_at dksX0_shared_7 21 rfl rfl)
theorem dX0_shared_181 : decode cX0_shared 181 = .ok (.dup2, 1) := dk_92 (dk_at dksX0_shared_7 22 rfl rfl)
theorem dX0_shared_182 : decode cX0_shared 182 = .ok (.iaload, 1) := dk_46 (dk_at dksX0_shared_7 23 rfl rfl)
theorem dX0_shared_183 : decode cX0_shared 183 = .ok (.iconst 1, 1) := dk_4 (dk_at dksX0_shared_8 0 rfl rfl)
theorem dX0_shared_184 : decode cX0_shared 184 = .ok (.isub, 1) := dk_100 (dk_at dksX0_shared_8 1 rfl rfl)
theorem dX0_shared_185 : decode cX0_shared 185 = .ok (.iastore, 1) := dk_79 (dk_at dksX0_shared_8 2 rfl rfl)
theorem dX0_shared_186 : decode cX0_shared 186 = .ok (.goto (-129), 3) := dk_167 255 127 (dk_at dksX0_shared_8 3 rfl rfl)
theorem dX0_shared_189 : decode cX0_shared 189 = .ok (.aload 5, 2) := dk_25 5 (dk_at dksX0_shared_8 6 rfl rfl)
theorem dX0_shared_191 : decode cX0_shared 191 = .ok (.iconst 1, 1) := dk_4 (dk_at dksX0_shared_8 8 rfl rfl)
theorem dX0_shared_192 : decode cX0_shared 192 = .ok (.dup2, 1) := dk_92 (dk_at dksX0_shared_8 9 rfl rfl)
theorem dX0_shared_193 : decode cX0_shared 193 = .ok (.iaload, 1) := dk_46 (dk_at dksX0_shared_8 10 rfl rfl)
theorem dX0_shared_194 : decode cX0_shared 194 = .ok (.iconst 1, 1) := dk_4 (dk_at dksX0_shared_8 11 rfl rfl)
theorem dX0_shared_195 : decode cX0_shared 195 = .ok (.isub, 1) := dk_100 (dk_at dksX0_shared_8 12 rfl rfl)
theorem dX0_shared_196 : decode cX0_shared 196 = .ok (.iastore, 1) := dk_79 (dk_at dksX0_shared_8 13 rfl rfl)
theorem dX0_shared_197 : decode cX0_shared 197 = .ok (.goto (-162), 3) := dk_167 255 94 (dk_at dksX0_shared_8 14 rfl rfl)
theorem dX0_shared_200 : decode cX0_shared 200 = .ok (.aload 5, 2) := dk_25 5 (dk_at dksX0_shared_8 17 rfl rfl)
theorem dX0_shared_202 : decode cX0_shared 202 = .ok (.iconst 0, 1) := dk_3 (dk_at dksX0_shared_8 19 rfl rfl)
theorem dX0_shared_203 : decode cX0_shared 203 = .ok (.dup2, 1) := dk_92 (dk_at dksX0_shared_8 20 rfl rfl)
theorem dX0_shared_204 : decode cX0_shared 204 = .ok (.iaload, 1) := dk_46 (dk_at dksX0_shared_8 21 rfl rfl)
theorem dX0_shared_205 : decode cX0_shared 205 = .ok (.iconst 1, 1) := dk_4 (dk_at dksX0_shared_8 22 rfl rfl)
theorem dX0_shared_206 : decode cX0_shared 206 = .ok (.isub, 1) := dk_100 (dk_at dksX0_shared_8 23 rfl rfl)
theorem dX0_shared_207 : decode cX0_shared 207 = .ok (.iastore, 1) := dk_79 (dk_at dksX0_shared_9 0 rfl rfl)
theorem dX0_shared_208 : decode cX0_shared 208 = .ok (.goto (-190), 3) := dk_167 255 66 (dk_at dksX0_shared_9 1 rfl rfl)
theorem dX0_shared_211 : decode cX0_shared 211 = .ok (.iload_n 3, 1) := dk_29 (dk_at dksX0_shared_9 4 rfl rfl)
theorem dX0_shared_212 : decode cX0_shared 212 = .ok (.ldc 79, 2) := dk_18 79 (dk_at dksX0_shared_9 5 rfl rfl)
theorem dX0_shared_214 : decode cX0_shared 214 = .ok (.if_icmp .eq 7, 3) := dk_159 0 7 (dk_at dksX0_shared_9 7 rfl rfl)
theorem dX0_shared_217 : decode cX0_shared 217 = .ok (.iload_n 2, 1) := dk_28 (dk_at dksX0_shared_9 10 rfl rfl)
theorem dX0_shared_218 : decode cX0_shared 218 = .ok (.ifCond .ne 7, 3) := dk_154 0 7 (dk_at dksX0_shared_9 11 rfl rfl)
theorem dX0_shared_221 : decode cX0_shared 221 = .ok (.iload_n 3, 1) := dk_29 (dk_at dksX0_shared_9 14 rfl rfl)
theorem dX0_shared_222 : decode cX0_shared 222 = .ok (.goto 9, 3) := dk_167 0 9 (dk_at dksX0_shared_9 15 rfl rfl)
theorem dX0_shared_225 : decode cX0_shared 225 = .ok (.aload 4, 2) := dk_25 4 (dk_at dksX0_shared_9 18 rfl rfl)
theorem dX0_shared_227 : decode cX0_shared 227 = .ok (.iload_n 2, 1) := dk_28 (dk_at dksX0_shared_9 20 rfl rfl)
theorem dX0_shared_228 : decode cX0_shared 228 = .ok (.iconst 1, 1) := dk_4 (dk_at dksX0_shared_9 21 rfl rfl)
theorem dX0_shared_229 : decode cX0_shared 229 = .ok (.isub, 1) := dk_100 (dk_at dksX0_shared_9 22 rfl rfl)
theorem dX0_shared_230 : decode cX0_shared 230 = .ok (.iaload, 1) := dk_46 (dk_at dksX0_shared_9 23 rfl rfl)
theorem dX0_shared_231 : decode cX0_shared 231 = .ok (.ireturn, 1) := dk_172 (dk_at dksX0_shared_10 0 rfl rfl)
abbrev cX0_guest : ByteArray := prog_1_method_53_code
def yX0_guest : MethodName := ⟨RX0, "guest", "(IIII)I"⟩
def dkwX0_guest_3 : List UInt8 := [185, 0, 168, 1, 0, 172]
abbrev dktX0_guest_3 : List UInt8 := dkwX0_guest_3 ++ []
def dkwX0_guest_2 : List UInt8 := [187, 1, 43, 89, 27, 28, 29, 21, 4, 183, 1, 45, 185, 0, 201, 2, 0, 87, 42, 180, 0, 57]
abbrev dktX0_guest_2 : List UInt8 := dkwX0_guest_2 ++ dktX0_guest_3
def dkwX0_guest_1 : List UInt8 := [18, 109, 172, 42, 180, 0, 57, 185, 0, 168, 1, 0, 16, 40, 160, 0, 6, 18, 165, 172, 42, 180, 0, 57]
abbrev dktX0_guest_1 : List UInt8 := dkwX0_guest_1 ++ dktX0_guest_2
def dkwX0_guest_0 : List UInt8 := [27, 184, 1, 52, 153, 0, 19, 28, 184, 1, 143, 153, 0, 12, 29, 21, 4, 184, 1, 27, 154, 0, 6]
abbrev dktX0_guest_0 : List UInt8 := dkwX0_guest_0 ++ dktX0_guest_1
theorem dksX0_guest_0 : cX0_guest.data.toList.drop 0 = dktX0_guest_0 := by decide +kernel
theorem dksX0_guest_1 : cX0_guest.data.toList.drop 23 = dktX0_guest_1 := dk_seg dksX0_guest_0 23 rfl rfl
theorem dksX0_guest_2 : cX0_guest.data.toList.drop 47 = dktX0_guest_2 := dk_seg dksX0_guest_1 24 rfl rfl
theorem dksX0_guest_3 : cX0_guest.data.toList.drop 69 = dktX0_guest_3 := dk_seg dksX0_guest_2 22 rfl rfl
theorem dX0_guest_0 : decode cX0_guest 0 = .ok (.iload_n 1, 1) := dk_27 (dk_at dksX0_guest_0 0 rfl rfl)
theorem dX0_guest_1 : decode cX0_guest 1 = .ok (.invokestatic 308, 3) := dk_184 1 52 (dk_at dksX0_guest_0 1 rfl rfl)
theorem dX0_guest_4 : decode cX0_guest 4 = .ok (.ifCond .eq 19, 3) := dk_153 0 19 (dk_at dksX0_guest_0 4 rfl rfl)
theorem dX0_guest_7 : decode cX0_guest 7 = .ok (.iload_n 2, 1) := dk_28 (dk_at dksX0_guest_0 7 rfl rfl)
theorem dX0_guest_8 : decode cX0_guest 8 = .ok (.invokestatic 399, 3) := dk_184 1 143 (dk_at dksX0_guest_0 8 rfl rfl)
theorem dX0_guest_11 : decode cX0_guest 11 = .ok (.ifCond .eq 12, 3) := dk_153 0 12 (dk_at dksX0_guest_0 11 rfl rfl)
theorem dX0_guest_14 : decode cX0_guest 14 = .ok (.iload_n 3, 1) := dk_29 (dk_at dksX0_guest_0 14 rfl rfl)
theorem dX0_guest_15 : decode cX0_guest 15 = .ok (.iload 4, 2) := dk_21 4 (dk_at dksX0_guest_0 15 rfl rfl)
theorem dX0_guest_17 : decode cX0_guest 17 = .ok (.invokestatic 283, 3) := dk_184 1 27 (dk_at dksX0_guest_0 17 rfl rfl)
theorem dX0_guest_20 : decode cX0_guest 20 = .ok (.ifCond .ne 6, 3) := dk_154 0 6 (dk_at dksX0_guest_0 20 rfl rfl)
theorem dX0_guest_23 : decode cX0_guest 23 = .ok (.ldc 109, 2) := dk_18 109 (dk_at dksX0_guest_1 0 rfl rfl)
theorem dX0_guest_25 : decode cX0_guest 25 = .ok (.ireturn, 1) := dk_172 (dk_at dksX0_guest_1 2 rfl rfl)
theorem dX0_guest_26 : decode cX0_guest 26 = .ok (.aload_n 0, 1) := dk_42 (dk_at dksX0_guest_1 3 rfl rfl)
theorem dX0_guest_27 : decode cX0_guest 27 = .ok (.getfield 57, 3) := dk_180 0 57 (dk_at dksX0_guest_1 4 rfl rfl)
theorem dX0_guest_30 : decode cX0_guest 30 = .ok (.invokeinterface 168 1, 5) := by decide +kernel
theorem dX0_guest_35 : decode cX0_guest 35 = .ok (.bipush 40, 2) := dk_16 40 (dk_at dksX0_guest_1 12 rfl rfl)
theorem dX0_guest_37 : decode cX0_guest 37 = .ok (.if_icmp .ne 6, 3) := dk_160 0 6 (dk_at dksX0_guest_1 14 rfl rfl)
theorem dX0_guest_40 : decode cX0_guest 40 = .ok (.ldc 165, 2) := dk_18 165 (dk_at dksX0_guest_1 17 rfl rfl)
theorem dX0_guest_42 : decode cX0_guest 42 = .ok (.ireturn, 1) := dk_172 (dk_at dksX0_guest_1 19 rfl rfl)
theorem dX0_guest_43 : decode cX0_guest 43 = .ok (.aload_n 0, 1) := dk_42 (dk_at dksX0_guest_1 20 rfl rfl)
theorem dX0_guest_44 : decode cX0_guest 44 = .ok (.getfield 57, 3) := dk_180 0 57 (dk_at dksX0_guest_1 21 rfl rfl)
theorem dX0_guest_47 : decode cX0_guest 47 = .ok (.new 299, 3) := dk_187 1 43 (dk_at dksX0_guest_2 0 rfl rfl)
theorem dX0_guest_50 : decode cX0_guest 50 = .ok (.dup, 1) := dk_89 (dk_at dksX0_guest_2 3 rfl rfl)
theorem dX0_guest_51 : decode cX0_guest 51 = .ok (.iload_n 1, 1) := dk_27 (dk_at dksX0_guest_2 4 rfl rfl)
theorem dX0_guest_52 : decode cX0_guest 52 = .ok (.iload_n 2, 1) := dk_28 (dk_at dksX0_guest_2 5 rfl rfl)
theorem dX0_guest_53 : decode cX0_guest 53 = .ok (.iload_n 3, 1) := dk_29 (dk_at dksX0_guest_2 6 rfl rfl)
theorem dX0_guest_54 : decode cX0_guest 54 = .ok (.iload 4, 2) := dk_21 4 (dk_at dksX0_guest_2 7 rfl rfl)
theorem dX0_guest_56 : decode cX0_guest 56 = .ok (.invokespecial 301, 3) := dk_183 1 45 (dk_at dksX0_guest_2 9 rfl rfl)
theorem dX0_guest_59 : decode cX0_guest 59 = .ok (.invokeinterface 201 2, 5) := by decide +kernel
theorem dX0_guest_64 : decode cX0_guest 64 = .ok (.pop, 1) := dk_87 (dk_at dksX0_guest_2 17 rfl rfl)
theorem dX0_guest_65 : decode cX0_guest 65 = .ok (.aload_n 0, 1) := dk_42 (dk_at dksX0_guest_2 18 rfl rfl)
theorem dX0_guest_66 : decode cX0_guest 66 = .ok (.getfield 57, 3) := dk_180 0 57 (dk_at dksX0_guest_2 19 rfl rfl)
theorem dX0_guest_69 : decode cX0_guest 69 = .ok (.invokeinterface 168 1, 5) := by decide +kernel
theorem dX0_guest_74 : decode cX0_guest 74 = .ok (.ireturn, 1) := dk_172 (dk_at dksX0_guest_3 5 rfl rfl)
abbrev cX0_isHouse : ByteArray := prog_1_method_52_code
def yX0_isHouse : MethodName := ⟨RX0, "isHouse", "(I)Z"⟩
def dkwX0_isHouse_0 : List UInt8 := [26, 133, 9, 20, 0, 93, 184, 0, 95, 172]
abbrev dktX0_isHouse_0 : List UInt8 := dkwX0_isHouse_0 ++ []
theorem dksX0_isHouse_0 : cX0_isHouse.data.toList.drop 0 = dktX0_isHouse_0 := by decide +kernel
theorem dX0_isHouse_0 : decode cX0_isHouse 0 = .ok (.iload_n 0, 1) := dk_26 (dk_at dksX0_isHouse_0 0 rfl rfl)
theorem dX0_isHouse_1 : decode cX0_isHouse 1 = .ok (.i2l, 1) := dk_133 (dk_at dksX0_isHouse_0 1 rfl rfl)
theorem dX0_isHouse_2 : decode cX0_isHouse 2 = .ok (.lconst 0, 1) := dk_9 (dk_at dksX0_isHouse_0 2 rfl rfl)
theorem dX0_isHouse_3 : decode cX0_isHouse 3 = .ok (.ldc2_w 93, 3) := dk_20 0 93 (dk_at dksX0_isHouse_0 3 rfl rfl)
theorem dX0_isHouse_6 : decode cX0_isHouse 6 = .ok (.invokestatic 95, 3) := dk_184 0 95 (dk_at dksX0_isHouse_0 6 rfl rfl)
theorem dX0_isHouse_9 : decode cX0_isHouse 9 = .ok (.ireturn, 1) := dk_172 (dk_at dksX0_isHouse_0 9 rfl rfl)
abbrev cX0_fell : ByteArray := prog_1_method_54_code
def yX0_fell : MethodName := ⟨RX0, "fell", "(II)I"⟩
def dkwX0_fell_2 : List UInt8 := [4, 172]
abbrev dktX0_fell_2 : List UInt8 := dkwX0_fell_2 ++ []
def dkwX0_fell_1 : List UInt8 := [18, 79, 159, 0, 15, 42, 180, 0, 60, 27, 46, 28, 163, 0, 5, 3, 172, 42, 180, 0, 60, 27, 28, 79]
abbrev dktX0_fell_1 : List UInt8 := dkwX0_fell_1 ++ dktX0_fell_2
def dkwX0_fell_0 : List UInt8 := [27, 184, 1, 143, 153, 0, 10, 28, 184, 0, 148, 154, 0, 6, 18, 109, 172, 42, 180, 0, 60, 27, 46]
abbrev dktX0_fell_0 : List UInt8 := dkwX0_fell_0 ++ dktX0_fell_1
theorem dksX0_fell_0 : cX0_fell.data.toList.drop 0 = dktX0_fell_0 := by decide +kernel
theorem dksX0_fell_1 : cX0_fell.data.toList.drop 23 = dktX0_fell_1 := dk_seg dksX0_fell_0 23 rfl rfl
theorem dksX0_fell_2 : cX0_fell.data.toList.drop 47 = dktX0_fell_2 := dk_seg dksX0_fell_1 24 rfl rfl
theorem dX0_fell_0 : decode cX0_fell 0 = .ok (.iload_n 1, 1) := dk_27 (dk_at dksX0_fell_0 0 rfl rfl)
theorem dX0_fell_1 : decode cX0_fell 1 = .ok (.invokestatic 399, 3) := dk_184 1 143 (dk_at dksX0_fell_0 1 rfl rfl)
theorem dX0_fell_4 : decode cX0_fell 4 = .ok (.ifCond .eq 10, 3) := dk_153 0 10 (dk_at dksX0_fell_0 4 rfl rfl)
theorem dX0_fell_7 : decode cX0_fell 7 = .ok (.iload_n 2, 1) := dk_28 (dk_at dksX0_fell_0 7 rfl rfl)
theorem dX0_fell_8 : decode cX0_fell 8 = .ok (.invokestatic 148, 3) := dk_184 0 148 (dk_at dksX0_fell_0 8 rfl rfl)
theorem dX0_fell_11 : decode cX0_fell 11 = .ok (.ifCond .ne 6, 3) := dk_154 0 6 (dk_at dksX0_fell_0 11 rfl rfl)
theorem dX0_fell_14 : decode cX0_fell 14 = .ok (.ldc 109, 2) := dk_18 109 (dk_at dksX0_fell_0 14 rfl rfl)
theorem dX0_fell_16 : decode cX0_fell 16 = .ok (.ireturn, 1) := dk_172 (dk_at dksX0_fell_0 16 rfl rfl)
theorem dX0_fell_17 : decode cX0_fell 17 = .ok (.aload_n 0, 1) := dk_42 (dk_at dksX0_fell_0 17 rfl rfl)
theorem dX0_fell_18 : decode cX0_fell 18 = .ok (.getfield 60, 3) := dk_180 0 60 (dk_at dksX0_fell_0 18 rfl rfl)
theorem dX0_fell_21 : decode cX0_fell 21 = .ok (.iload_n 1, 1) := dk_27 (dk_at dksX0_fell_0 21 rfl rfl)
theorem dX0_fell_22 : decode cX0_fell 22 = .ok (.iaload, 1) := dk_46 (dk_at dksX0_fell_0 22 rfl rfl)
theorem dX0_fell_23 : decode cX0_fell 23 = .ok (.ldc 79, 2) := dk_18 79 (dk_at dksX0_fell_1 0 rfl rfl)
theorem dX0_fell_25 : decode cX0_fell 25 = .ok (.if_icmp .eq 15, 3) := dk_159 0 15 (dk_at dksX0_fell_1 2 rfl rfl)
theorem dX0_fell_28 : decode cX0_fell 28 = .ok (.aload_n 0, 1) := dk_42 (dk_at dksX0_fell_1 5 rfl rfl)
theorem dX0_fell_29 : decode cX0_fell 29 = .ok (.getfield 60, 3) := dk_180 0 60 (dk_at dksX0_fell_1 6 rfl rfl)
theorem dX0_fell_32 : decode cX0_fell 32 = .ok (.iload_n 1, 1) := dk_27 (dk_at dksX0_fell_1 9 rfl rfl)
theorem dX0_fell_33 : decode cX0_fell 33 = .ok (.iaload, 1) := dk_46 (dk_at dksX0_fell_1 10 rfl rfl)
theorem dX0_fell_34 : decode cX0_fell 34 = .ok (.iload_n 2, 1) := dk_28 (dk_at dksX0_fell_1 11 rfl rfl)
theorem dX0_fell_35 : decode cX0_fell 35 = .ok (.if_icmp .gt 5, 3) := dk_163 0 5 (dk_at dksX0_fell_1 12 rfl rfl)
theorem dX0_fell_38 : decode cX0_fell 38 = .ok (.iconst 0, 1) := dk_3 (dk_at dksX0_fell_1 15 rfl rfl)
theorem dX0_fell_39 : decode cX0_fell 39 = .ok (.ireturn, 1) := dk_172 (dk_at dksX0_fell_1 16 rfl rfl)
theorem dX0_fell_40 : decode cX0_fell 40 = .ok (.aload_n 0, 1) := dk_42 (dk_at dksX0_fell_1 17 rfl rfl)
theorem dX0_fell_41 : decode cX0_fell 41 = .ok (.getfield 60, 3) := dk_180 0 60 (dk_at dksX0_fell_1 18 rfl rfl)
theorem dX0_fell_44 : decode cX0_fell 44 = .ok (.iload_n 1, 1) := dk_27 (dk_at dksX0_fell_1 21 rfl rfl)
theorem dX0_fell_45 : decode cX0_fell 45 = .ok (.iload_n 2, 1) := dk_28 (dk_at dksX0_fell_1 22 rfl rfl)
theorem dX0_fell_46 : decode cX0_fell 46 = .ok (.iastore, 1) := dk_79 (dk_at dksX0_fell_1 23 rfl rfl)
theorem dX0_fell_47 : decode cX0_fell 47 = .ok (.iconst 1, 1) := dk_4 (dk_at dksX0_fell_2 0 rfl rfl)
theorem dX0_fell_48 : decode cX0_fell 48 = .ok (.ireturn, 1) := dk_172 (dk_at dksX0_fell_2 1 rfl rfl)
abbrev cX0_brought : ByteArray := prog_1_method_57_code
def yX0_brought : MethodName := ⟨RX0, "brought", "(I)I"⟩
def dkwX0_brought_7 : List UInt8 := [21, 5, 167, 0, 4, 29, 62, 132, 5, 1, 167, 255, 152, 27, 154, 0, 7, 29, 167, 0, 5, 21, 4, 172]
abbrev dktX0_brought_7 : List UInt8 := dkwX0_brought_7 ++ []
def dkwX0_brought_6 : List UInt8 := [54, 6, 21, 6, 153, 0, 8, 21, 5, 167, 0, 8, 21, 4, 21, 5, 126, 54, 4, 21, 6, 153, 0, 8]
abbrev dktX0_brought_6 : List UInt8 := dkwX0_brought_6 ++ dktX0_brought_7
def dkwX0_brought_5 : List UInt8 := [29, 18, 79, 159, 0, 15, 21, 5, 184, 1, 152, 29, 184, 1, 152, 162, 0, 7, 4, 167, 0, 4, 3]
abbrev dktX0_brought_5 : List UInt8 := dkwX0_brought_5 ++ dktX0_brought_6
def dkwX0_brought_4 : List UInt8 := [21, 5, 184, 1, 152, 29, 184, 1, 152, 163, 0, 69, 42, 21, 5, 182, 1, 157, 154, 0, 6, 167, 0, 57]
abbrev dktX0_brought_4 : List UInt8 := dkwX0_brought_4 ++ dktX0_brought_5
def dkwX0_brought_3 : List UInt8 := [21, 5, 17, 16, 0, 162, 0, 102, 21, 5, 28, 2, 130, 126, 154, 0, 87, 29, 18, 79, 159, 0, 15]
abbrev dktX0_brought_3 : List UInt8 := dkwX0_brought_3 ++ dktX0_brought_4
def dkwX0_brought_2 : List UInt8 := [128, 61, 132, 3, 1, 167, 255, 224, 27, 5, 160, 0, 5, 28, 172, 18, 79, 62, 3, 54, 4, 3, 54, 5]
abbrev dktX0_brought_2 : List UInt8 := dkwX0_brought_2 ++ dktX0_brought_3
def dkwX0_brought_1 : List UInt8 := [162, 0, 32, 28, 42, 180, 0, 60, 29, 46, 18, 79, 160, 0, 7, 3, 167, 0, 8, 42, 29, 182, 1, 149]
abbrev dktX0_brought_1 : List UInt8 := dkwX0_brought_1 ++ dktX0_brought_2
def dkwX0_brought_0 : List UInt8 := [27, 133, 9, 20, 0, 107, 184, 0, 95, 154, 0, 6, 18, 109, 172, 3, 61, 3, 62, 29, 16, 8]
abbrev dktX0_brought_0 : List UInt8 := dkwX0_brought_0 ++ dktX0_brought_1
theorem dksX0_brought_0 : cX0_brought.data.toList.drop 0 = dktX0_brought_0 := by decide +kernel
theorem dksX0_brought_1 : cX0_brought.data.toList.drop 22 = dktX0_brought_1 := dk_seg dksX0_brought_0 22 rfl rfl
theorem dksX0_brought_2 : cX0_brought.data.toList.drop 46 = dktX0_brought_2 := dk_seg dksX0_brought_1 24 rfl rfl
theorem dksX0_brought_3 : cX0_brought.data.toList.drop 70 = dktX0_brought_3 := dk_seg dksX0_brought_2 24 rfl rfl
theorem dksX0_brought_4 : cX0_brought.data.toList.drop 93 = dktX0_brought_4 := dk_seg dksX0_brought_3 23 rfl rfl
theorem dksX0_brought_5 : cX0_brought.data.toList.drop 117 = dktX0_brought_5 := dk_seg dksX0_brought_4 24 rfl rfl
theorem dksX0_brought_6 : cX0_brought.data.toList.drop 140 = dktX0_brought_6 := dk_seg dksX0_brought_5 23 rfl rfl
theorem dksX0_brought_7 : cX0_brought.data.toList.drop 164 = dktX0_brought_7 := dk_seg dksX0_brought_6 24 rfl rfl
theorem dX0_brought_0 : decode cX0_brought 0 = .ok (.iload_n 1, 1) := dk_27 (dk_at dksX0_brought_0 0 rfl rfl)
theorem dX0_brought_1 : decode cX0_brought 1 = .ok (.i2l, 1) := dk_133 (dk_at dksX0_brought_0 1 rfl rfl)
theorem dX0_brought_2 : decode cX0_brought 2 = .ok (.lconst 0, 1) := dk_9 (dk_at dksX0_brought_0 2 rfl rfl)
theorem dX0_brought_3 : decode cX0_brought 3 = .ok (.ldc2_w 107, 3) := dk_20 0 107 (dk_at dksX0_brought_0 3 rfl rfl)
theorem dX0_brought_6 : decode cX0_brought 6 = .ok (.invokestatic 95, 3) := dk_184 0 95 (dk_at dksX0_brought_0 6 rfl rfl)
theorem dX0_brought_9 : decode cX0_brought 9 = .ok (.ifCond .ne 6, 3) := dk_154 0 6 (dk_at dksX0_brought_0 9 rfl rfl)
theorem dX0_brought_12 : decode cX0_brought 12 = .ok (.ldc 109, 2) := dk_18 109 (dk_at dksX0_brought_0 12 rfl rfl)
theorem dX0_brought_14 : decode cX0_brought 14 = .ok (.ireturn, 1) := dk_172 (dk_at dksX0_brought_0 14 rfl rfl)
theorem dX0_brought_15 : decode cX0_brought 15 = .ok (.iconst 0, 1) := dk_3 (dk_at dksX0_brought_0 15 rfl rfl)
theorem dX0_brought_16 : decode cX0_brought 16 = .ok (.istore_n 2, 1) := dk_61 (dk_at dksX0_brought_0 16 rfl rfl)
theorem dX0_brought_17 : decode cX0_brought 17 = .ok (.iconst 0, 1) := dk_3 (dk_at dksX0_brought_0 17 rfl rfl)
theorem dX0_brought_18 : decode cX0_brought 18 = .ok (.istore_n 3, 1) := dk_62 (dk_at dksX0_brought_0 18 rfl rfl)
theorem dX0_brought_19 : decode cX0_brought 19 = .ok (.iload_n 3, 1) := dk_29 (dk_at dksX0_brought_0 19 rfl rfl)
theorem dX0_brought_20 : decode cX0_brought 20 = .ok (.bipush 8, 2) := dk_16 8 (dk_at dksX0_brought_0 20 rfl rfl)
theorem dX0_brought_22 : decode cX0_brought 22 = .ok (.if_icmp .ge 32, 3) := dk_162 0 32 (dk_at dksX0_brought_1 0 rfl rfl)
theorem dX0_brought_25 : decode cX0_brought 25 = .ok (.iload_n 2, 1) := dk_28 (dk_at dksX0_brought_1 3 rfl rfl)
theorem dX0_brought_26 : decode cX0_brought 26 = .ok (.aload_n 0, 1) := dk_42 (dk_at dksX0_brought_1 4 rfl rfl)
theorem dX0_brought_27 : decode cX0_brought 27 = .ok (.getfield 60, 3) := dk_180 0 60 (dk_at dksX0_brought_1 5 rfl rfl)
theorem dX0_brought_30 : decode cX0_brought 30 = .ok (.iload_n 3, 1) := dk_29 (dk_at dksX0_brought_1 8 rfl rfl)
theorem dX0_brought_31 : decode cX0_brought 31 = .ok (.iaload, 1) := dk_46 (dk_at dksX0_brought_1 9 rfl rfl)
theorem dX0_brought_32 : decode cX0_brought 32 = .ok (.ldc 79, 2) := dk_18 79 (dk_at dksX0_brought_1 10 rfl rfl)
theorem dX0_brought_34 : decode cX0_brought 34 = .ok (.if_icmp .ne 7, 3) := dk_160 0 7 (dk_at dksX0_brought_1 12 rfl rfl)
theorem dX0_brought_37 : decode cX0_brought 37 = .ok (.iconst 0, 1) := dk_3 (dk_at dksX0_brought_1 15 rfl rfl)
theorem dX0_brought_38 : decode cX0_brought 38 = .ok (.goto 8, 3) := dk_167 0 8 (dk_at dksX0_brought_1 16 rfl rfl)
theorem dX0_brought_41 : decode cX0_brought 41 = .ok (.aload_n 0, 1) := dk_42 (dk_at dksX0_brought_1 19 rfl rfl)
theorem dX0_brought_42 : decode cX0_brought 42 = .ok (.iload_n 3, 1) := dk_29 (dk_at dksX0_brought_1 20 rfl rfl)
theorem dX0_brought_43 : decode cX0_brought 43 = .ok (.invokevirtual 405, 3) := dk_182 1 149 (dk_at dksX0_brought_1 21 rfl rfl)
theorem dX0_brought_46 : decode cX0_brought 46 = .ok (.ior, 1) := dk_128 (dk_at dksX0_brought_2 0 rfl rfl)
theorem dX0_brought_47 : decode cX0_brought 47 = .ok (.istore_n 2, 1) := dk_61 (dk_at dksX0_brought_2 1 rfl rfl)
theorem dX0_brought_48 : decode cX0_brought 48 = .ok (.iinc 3 1, 3) := dk_132 3 1 (dk_at dksX0_brought_2 2 rfl rfl)
theorem dX0_brought_51 : decode cX0_brought 51 = .ok (.goto (-32), 3) := dk_167 255 224 (dk_at dksX0_brought_2 5 rfl rfl)
theorem dX0_brought_54 : decode cX0_brought 54 = .ok (.iload_n 1, 1) := dk_27 (dk_at dksX0_brought_2 8 rfl rfl)
theorem dX0_brought_55 : decode cX0_brought 55 = .ok (.iconst 2, 1) := dk_5 (dk_at dksX0_brought_2 9 rfl rfl)
theorem dX0_brought_56 : decode cX0_brought 56 = .ok (.if_icmp .ne 5, 3) := dk_160 0 5 (dk_at dksX0_brought_2 10 rfl rfl)
theorem dX0_brought_59 : decode cX0_brought 59 = .ok (.iload_n 2, 1) := dk_28 (dk_at dksX0_brought_2 13 rfl rfl)
theorem dX0_brought_60 : decode cX0_brought 60 = .ok (.ireturn, 1) := dk_172 (dk_at dksX0_brought_2 14 rfl rfl)
theorem dX0_brought_61 : decode cX0_brought 61 = .ok (.ldc 79, 2) := dk_18 79 (dk_at dksX0_brought_2 15 rfl rfl)
theorem dX0_brought_63 : decode cX0_brought 63 = .ok (.istore_n 3, 1) := dk_62 (dk_at dksX0_brought_2 17 rfl rfl)
theorem dX0_brought_64 : decode cX0_brought 64 = .ok (.iconst 0, 1) := dk_3 (dk_at dksX0_brought_2 18 rfl rfl)
theorem dX0_brought_65 : decode cX0_brought 65 = .ok (.istore 4, 2) := dk_54 4 (dk_at dksX0_brought_2 19 rfl rfl)
theorem dX0_brought_67 : decode cX0_brought 67 = .ok (.iconst 0, 1) := dk_3 (dk_at dksX0_brought_2 21 rfl rfl)
theorem dX0_brought_68 : decode cX0_brought 68 = .ok (.istore 5, 2) := dk_54 5 (dk_at dksX0_brought_2 22 rfl rfl)
theorem dX0_brought_70 : decode cX0_brought 70 = .ok (.iload 5, 2) := dk_21 5 (dk_at dksX0_brought_3 0 rfl rfl)
theorem dX0_brought_72 : decode cX0_brought 72 = .ok (.sipush 4096, 3) := dk_17 16 0 (dk_at dksX0_brought_3 2 rfl rfl)
theorem dX0_brought_75 : decode cX0_brought 75 = .ok (.if_icmp .ge 102, 3) := dk_162 0 102 (dk_at dksX0_brought_3 5 rfl rfl)
theorem dX0_brought_78 : decode cX0_brought 78 = .ok (.iload 5, 2) := dk_21 5 (dk_at dksX0_brought_3 8 rfl rfl)
theorem dX0_brought_80 : decode cX0_brought 80 = .ok (.iload_n 2, 1) := dk_28 (dk_at dksX0_brought_3 10 rfl rfl)
theorem dX0_brought_81 : decode cX0_brought 81 = .ok (.iconst (-1), 1) := dk_2 (dk_at dksX0_brought_3 11 rfl rfl)
theorem dX0_brought_82 : decode cX0_brought 82 = .ok (.ixor, 1) := dk_130 (dk_at dksX0_brought_3 12 rfl rfl)
theorem dX0_brought_83 : decode cX0_brought 83 = .ok (.iand, 1) := dk_126 (dk_at dksX0_brought_3 13 rfl rfl)
theorem dX0_brought_84 : decode cX0_brought 84 = .ok (.ifCond .ne 87, 3) := dk_154 0 87 (dk_at dksX0_brought_3 14 rfl rfl)
theorem dX0_brought_87 : decode cX0_brought 87 = .ok (.iload_n 3, 1) := dk_29 (dk_at dksX0_brought_3 17 rfl rfl)
theorem dX0_brought_88 : decode cX0_brought 88 = .ok (.ldc 79, 2) := dk_18 79 (dk_at dksX0_brought_3 18 rfl rfl)
theorem dX0_brought_90 : decode cX0_brought 90 = .ok (.if_icmp .eq 15, 3) := dk_159 0 15 (dk_at dksX0_brought_3 20 rfl rfl)
theorem dX0_brought_93 : decode cX0_brought 93 = .ok (.iload 5, 2) := dk_21 5 (dk_at dksX0_brought_4 0 rfl rfl)
theorem dX0_brought_95 : decode cX0_brought 95 = .ok (.invokestatic 408, 3) := dk_184 1 152 (dk_at dksX0_brought_4 2 rfl rfl)
theorem dX0_brought_98 : decode cX0_brought 98 = .ok (.iload_n 3, 1) := dk_29 (dk_at dksX0_brought_4 5 rfl rfl)
theorem dX0_brought_99 : decode cX0_brought 99 = .ok (.invokestatic 408, 3) := dk_184 1 152 (dk_at dksX0_brought_4 6 rfl rfl)
theorem dX0_brought_102 : decode cX0_brought 102 = .ok (.if_icmp .gt 69, 3) := dk_163 0 69 (dk_at dksX0_brought_4 9 rfl rfl)
theorem dX0_brought_105 : decode cX0_brought 105 = .ok (.aload_n 0, 1) := dk_42 (dk_at dksX0_brought_4 12 rfl rfl)
theorem dX0_brought_106 : decode cX0_brought 106 = .ok (.iload 5, 2) := dk_21 5 (dk_at dksX0_brought_4 13 rfl rfl)
theorem dX0_brought_108 : decode cX0_brought 108 = .ok (.invokevirtual 413, 3) := dk_182 1 157 (dk_at dksX0_brought_4 15 rfl rfl)
theorem dX0_brought_111 : decode cX0_brought 111 = .ok (.ifCond .ne 6, 3) := dk_154 0 6 (dk_at dksX0_brought_4 18 rfl rfl)
theorem dX0_brought_114 : decode cX0_brought 114 = .ok (.goto 57, 3) := dk_167 0 57 (dk_at dksX0_brought_4 21 rfl rfl)
theorem dX0_brought_117 : decode cX0_brought 117 = .ok (.iload_n 3, 1) := dk_29 (dk_at dksX0_brought_5 0 rfl rfl)
theorem dX0_brought_118 : decode cX0_brought 118 = .ok (.ldc 79, 2) := dk_18 79 (dk_at dksX0_brought_5 1 rfl rfl)
theorem dX0_brought_120 : decode cX0_brought 120 = .ok (.if_icmp .eq 15, 3) := dk_159 0 15 (dk_at dksX0_brought_5 3 rfl rfl)
theorem dX0_brought_123 : decode cX0_brought 123 = .ok (.iload 5, 2) := dk_21 5 (dk_at dksX0_brought_5 6 rfl rfl)
theorem dX0_brought_125 : decode cX0_brought 125 = .ok (.invokestatic 408, 3) := dk_184 1 152 (dk_at dksX0_brought_5 8 rfl rfl)
theorem dX0_brought_128 : decode cX0_brought 128 = .ok (.iload_n 3, 1) := dk_29 (dk_at dksX0_brought_5 11 rfl rfl)
theorem dX0_brought_129 : decode cX0_brought 129 = .ok (.invokestatic 408, 3) := dk_184 1 152 (dk_at dksX0_brought_5 12 rfl rfl)
theorem dX0_brought_132 : decode cX0_brought 132 = .ok (.if_icmp .ge 7, 3) := dk_162 0 7 (dk_at dksX0_brought_5 15 rfl rfl)
theorem dX0_brought_135 : decode cX0_brought 135 = .ok (.iconst 1, 1) := dk_4 (dk_at dksX0_brought_5 18 rfl rfl)
theorem dX0_brought_136 : decode cX0_brought 136 = .ok (.goto 4, 3) := dk_167 0 4 (dk_at dksX0_brought_5 19 rfl rfl)
theorem dX0_brought_139 : decode cX0_brought 139 = .ok (.iconst 0, 1) := dk_3 (dk_at dksX0_brought_5 22 rfl rfl)
theorem dX0_brought_140 : decode cX0_brought 140 = .ok (.istore 6, 2) := dk_54 6 (dk_at dksX0_brought_6 0 rfl rfl)
theorem dX0_brought_142 : decode cX0_brought 142 = .ok (.iload 6, 2) := dk_21 6 (dk_at dksX0_brought_6 2 rfl rfl)
theorem dX0_brought_144 : decode cX0_brought 144 = .ok (.ifCond .eq 8, 3) := dk_153 0 8 (dk_at dksX0_brought_6 4 rfl rfl)
theorem dX0_brought_147 : decode cX0_brought 147 = .ok (.iload 5, 2) := dk_21 5 (dk_at dksX0_brought_6 7 rfl rfl)
theorem dX0_brought_149 : decode cX0_brought 149 = .ok (.goto 8, 3) := dk_167 0 8 (dk_at dksX0_brought_6 9 rfl rfl)
theorem dX0_brought_152 : decode cX0_brought 152 = .ok (.iload 4, 2) := dk_21 4 (dk_at dksX0_brought_6 12 rfl rfl)
theorem dX0_brought_154 : decode cX0_brought 154 = .ok (.iload 5, 2) := dk_21 5 (dk_at dksX0_brought_6 14 rfl rfl)
theorem dX0_brought_156 : decode cX0_brought 156 = .ok (.iand, 1) := dk_126 (dk_at dksX0_brought_6 16 rfl rfl)
theorem dX0_brought_157 : decode cX0_brought 157 = .ok (.istore 4, 2) := dk_54 4 (dk_at dksX0_brought_6 17 rfl rfl)
theorem dX0_brought_159 : decode cX0_brought 159 = .ok (.iload 6, 2) := dk_21 6 (dk_at dksX0_brought_6 19 rfl rfl)
theorem dX0_brought_161 : decode cX0_brought 161 = .ok (.ifCond .eq 8, 3) := dk_153 0 8 (dk_at dksX0_brought_6 21 rfl rfl)
theorem dX0_brought_164 : decode cX0_brought 164 = .ok (.iload 5, 2) := dk_21 5 (dk_at dksX0_brought_7 0 rfl rfl)
theorem dX0_brought_166 : decode cX0_brought 166 = .ok (.goto 4, 3) := dk_167 0 4 (dk_at dksX0_brought_7 2 rfl rfl)
theorem dX0_brought_169 : decode cX0_brought 169 = .ok (.iload_n 3, 1) := dk_29 (dk_at dksX0_brought_7 5 rfl rfl)
theorem dX0_brought_170 : decode cX0_brought 170 = .ok (.istore_n 3, 1) := dk_62 (dk_at dksX0_brought_7 6 rfl rfl)
theorem dX0_brought_171 : decode cX0_brought 171 = .ok (.iinc 5 1, 3) := dk_132 5 1 (dk_at dksX0_brought_7 7 rfl rfl)
theorem dX0_brought_174 : decode cX0_brought 174 = .ok (.goto (-104), 3) := dk_167 255 152 (dk_at dksX0_brought_7 10 rfl rfl)
theorem dX0_brought_177 : decode cX0_brought 177 = .ok (.iload_n 1, 1) := dk_27 (dk_at dksX0_brought_7 13 rfl rfl)
theorem dX0_brought_178 : decode cX0_brought 178 = .ok (.ifCond .ne 7, 3) := dk_154 0 7 (dk_at dksX0_brought_7 14 rfl rfl)
theorem dX0_brought_181 : decode cX0_brought 181 = .ok (.iload_n 3, 1) := dk_29 (dk_at dksX0_brought_7 17 rfl rfl)
theorem dX0_brought_182 : decode cX0_brought 182 = .ok (.goto 5, 3) := dk_167 0 5 (dk_at dksX0_brought_7 18 rfl rfl)
theorem dX0_brought_185 : decode cX0_brought 185 = .ok (.iload 4, 2) := dk_21 4 (dk_at dksX0_brought_7 21 rfl rfl)
theorem dX0_brought_187 : decode cX0_brought 187 = .ok (.ireturn, 1) := dk_172 (dk_at dksX0_brought_7 23 rfl rfl)
abbrev cX0_mayHave : ByteArray := prog_1_method_55_code
def yX0_mayHave : MethodName := ⟨RX0, "mayHave", "(I)I"⟩
def dkwX0_mayHave_3 : List UInt8 := [25, 4, 180, 1, 87, 120, 128, 61, 132, 3, 1, 167, 255, 181, 28, 172]
abbrev dktX0_mayHave_3 : List UInt8 := dkwX0_mayHave_3 ++ []
def dkwX0_mayHave_2 : List UInt8 := [180, 0, 60, 27, 46, 16, 10, 100, 42, 180, 0, 60, 27, 46, 5, 100, 182, 1, 90, 153, 0, 13, 28, 4]
abbrev dktX0_mayHave_2 : List UInt8 := dkwX0_mayHave_2 ++ dktX0_mayHave_3
def dkwX0_mayHave_1 : List UInt8 := [185, 0, 195, 2, 0, 192, 1, 43, 58, 4, 25, 4, 180, 1, 146, 27, 160, 0, 38, 25, 4, 42]
abbrev dktX0_mayHave_1 : List UInt8 := dkwX0_mayHave_1 ++ dktX0_mayHave_2
def dkwX0_mayHave_0 : List UInt8 := [3, 61, 3, 62, 29, 42, 180, 0, 57, 185, 0, 168, 1, 0, 162, 0, 68, 42, 180, 0, 57, 29]
abbrev dktX0_mayHave_0 : List UInt8 := dkwX0_mayHave_0 ++ dktX0_mayHave_1
theorem dksX0_mayHave_0 : cX0_mayHave.data.toList.drop 0 = dktX0_mayHave_0 := by decide +kernel
theorem dksX0_mayHave_1 : cX0_mayHave.data.toList.drop 22 = dktX0_mayHave_1 := dk_seg dksX0_mayHave_0 22 rfl rfl
theorem dksX0_mayHave_2 : cX0_mayHave.data.toList.drop 44 = dktX0_mayHave_2 := dk_seg dksX0_mayHave_1 22 rfl rfl
theorem dksX0_mayHave_3 : cX0_mayHave.data.toList.drop 68 = dktX0_mayHave_3 := dk_seg dksX0_mayHave_2 24 rfl rfl
theorem dX0_mayHave_0 : decode cX0_mayHave 0 = .ok (.iconst 0, 1) := dk_3 (dk_at dksX0_mayHave_0 0 rfl rfl)
theorem dX0_mayHave_1 : decode cX0_mayHave 1 = .ok (.istore_n 2, 1) := dk_61 (dk_at dksX0_mayHave_0 1 rfl rfl)
theorem dX0_mayHave_2 : decode cX0_mayHave 2 = .ok (.iconst 0, 1) := dk_3 (dk_at dksX0_mayHave_0 2 rfl rfl)
theorem dX0_mayHave_3 : decode cX0_mayHave 3 = .ok (.istore_n 3, 1) := dk_62 (dk_at dksX0_mayHave_0 3 rfl rfl)
theorem dX0_mayHave_4 : decode cX0_mayHave 4 = .ok (.iload_n 3, 1) := dk_29 (dk_at dksX0_mayHave_0 4 rfl rfl)
theorem dX0_mayHave_5 : decode cX0_mayHave 5 = .ok (.aload_n 0, 1) := dk_42 (dk_at dksX0_mayHave_0 5 rfl rfl)
theorem dX0_mayHave_6 : decode cX0_mayHave 6 = .ok (.getfield 57, 3) := dk_180 0 57 (dk_at dksX0_mayHave_0 6 rfl rfl)
theorem dX0_mayHave_9 : decode cX0_mayHave 9 = .ok (.invokeinterface 168 1, 5) := by decide +kernel
theorem dX0_mayHave_14 : decode cX0_mayHave 14 = .ok (.if_icmp .ge 68, 3) := dk_162 0 68 (dk_at dksX0_mayHave_0 14 rfl rfl)
theorem dX0_mayHave_17 : decode cX0_mayHave 17 = .ok (.aload_n 0, 1) := dk_42 (dk_at dksX0_mayHave_0 17 rfl rfl)
theorem dX0_mayHave_18 : decode cX0_mayHave 18 = .ok (.getfield 57, 3) := dk_180 0 57 (dk_at dksX0_mayHave_0 18 rfl rfl)
theorem dX0_mayHave_21 : decode cX0_mayHave 21 = .ok (.iload_n 3, 1) := dk_29 (dk_at dksX0_mayHave_0 21 rfl rfl)
theorem dX0_mayHave_22 : decode cX0_mayHave 22 = .ok (.invokeinterface 195 2, 5) := by decide +kernel
theorem dX0_mayHave_27 : decode cX0_mayHave 27 = .ok (.checkcast 299, 3) := dk_192 1 43 (dk_at dksX0_mayHave_1 5 rfl rfl)
theorem dX0_mayHave_30 : decode cX0_mayHave 30 = .ok (.astore 4, 2) := dk_58 4 (dk_at dksX0_mayHave_1 8 rfl rfl)
theorem dX0_mayHave_32 : decode cX0_mayHave 32 = .ok (.aload 4, 2) := dk_25 4 (dk_at dksX0_mayHave_1 10 rfl rfl)
theorem dX0_mayHave_34 : decode cX0_mayHave 34 = .ok (.getfield 402, 3) := dk_180 1 146 (dk_at dksX0_mayHave_1 12 rfl rfl)
theorem dX0_mayHave_37 : decode cX0_mayHave 37 = .ok (.iload_n 1, 1) := dk_27 (dk_at dksX0_mayHave_1 15 rfl rfl)
theorem dX0_mayHave_38 : decode cX0_mayHave 38 = .ok (.if_icmp .ne 38, 3) := dk_160 0 38 (dk_at dksX0_mayHave_1 16 rfl rfl)
theorem dX0_mayHave_41 : decode cX0_mayHave 41 = .ok (.aload 4, 2) := dk_25 4 (dk_at dksX0_mayHave_1 19 rfl rfl)
theorem dX0_mayHave_43 : decode cX0_mayHave 43 = .ok (.aload_n 0, 1) := dk_42 (dk_at dksX0_mayHave_1 21 rfl rfl)
theorem dX0_mayHave_44 : decode cX0_mayHave 44 = .ok (.getfield 60, 3) := dk_180 0 60 (dk_at dksX0_mayHave_2 0 rfl rfl)
theorem dX0_mayHave_47 : decode cX0_mayHave 47 = .ok (.iload_n 1, 1) := dk_27 (dk_at dksX0_mayHave_2 3 rfl rfl)
theorem dX0_mayHave_48 : decode cX0_mayHave 48 = .ok (.iaload, 1) := dk_46 (dk_at dksX0_mayHave_2 4 rfl rfl)
theorem dX0_mayHave_49 : decode cX0_mayHave 49 = .ok (.bipush 10, 2) := dk_16 10 (dk_at dksX0_mayHave_2 5 rfl rfl)
theorem dX0_mayHave_51 : decode cX0_mayHave 51 = .ok (.isub, 1) := dk_100 (dk_at dksX0_mayHave_2 7 rfl rfl)
theorem dX0_mayHave_52 : decode cX0_mayHave 52 = .ok (.aload_n 0, 1) := dk_42 (dk_at dksX0_mayHave_2 8 rfl rfl)
theorem dX0_mayHave_53 : decode cX0_mayHave 53 = .ok (.getfield 60, 3) := dk_180 0 60 (dk_at dksX0_mayHave_2 9 rfl rfl)
theorem dX0_mayHave_56 : decode cX0_mayHave 56 = .ok (.iload_n 1, 1) := dk_27 (dk_at dksX0_mayHave_2 12 rfl rfl)
theorem dX0_mayHave_57 : decode cX0_mayHave 57 = .ok (.iaload, 1) := dk_46 (dk_at dksX0_mayHave_2 13 rfl rfl)
theorem dX0_mayHave_58 : decode cX0_mayHave 58 = .ok (.iconst 2, 1) := dk_5 (dk_at dksX0_mayHave_2 14 rfl rfl)
theorem dX0_mayHave_59 : decode cX0_mayHave 59 = .ok (.isub, 1) := dk_100 (dk_at dksX0_mayHave_2 15 rfl rfl)
theorem dX0_mayHave_60 : decode cX0_mayHave 60 = .ok (.invokevirtual 346, 3) := dk_182 1 90 (dk_at dksX0_mayHave_2 16 rfl rfl)
theorem dX0_mayHave_63 : decode cX0_mayHave 63 = .ok (.ifCond .eq 13, 3) := dk_153 0 13 (dk_at dksX0_mayHave_2 19 rfl rfl)
theorem dX0_mayHave_66 : decode cX0_mayHave 66 = .ok (.iload_n 2, 1) := dk_28 (dk_at dksX0_mayHave_2 22 rfl rfl)
theorem dX0_mayHave_67 : decode cX0_mayHave 67 = .ok (.iconst 1, 1) := dk_4 (dk_at dksX0_mayHave_2 23 rfl rfl)
theorem dX0_mayHave_68 : decode cX0_mayHave 68 = .ok (.aload 4, 2) := dk_25 4 (dk_at dksX0_mayHave_3 0 rfl rfl)
theorem dX0_mayHave_70 : decode cX0_mayHave 70 = .ok (.getfield 343, 3) := dk_180 1 87 (dk_at dksX0_mayHave_3 2 rfl rfl)
theorem dX0_mayHave_73 : decode cX0_mayHave 73 = .ok (.ishl, 1) := dk_120 (dk_at dksX0_mayHave_3 5 rfl rfl)
theorem dX0_mayHave_74 : decode cX0_mayHave 74 = .ok (.ior, 1) := dk_128 (dk_at dksX0_mayHave_3 6 rfl rfl)
theorem dX0_mayHave_75 : decode cX0_mayHave 75 = .ok (.istore_n 2, 1) := dk_61 (dk_at dksX0_mayHave_3 7 rfl rfl)
theorem dX0_mayHave_76 : decode cX0_mayHave 76 = .ok (.iinc 3 1, 3) := dk_132 3 1 (dk_at dksX0_mayHave_3 8 rfl rfl)
theorem dX0_mayHave_79 : decode cX0_mayHave 79 = .ok (.goto (-75), 3) := dk_167 255 181 (dk_at dksX0_mayHave_3 11 rfl rfl)
theorem dX0_mayHave_82 : decode cX0_mayHave 82 = .ok (.iload_n 2, 1) := dk_28 (dk_at dksX0_mayHave_3 14 rfl rfl)
theorem dX0_mayHave_83 : decode cX0_mayHave 83 = .ok (.ireturn, 1) := dk_172 (dk_at dksX0_mayHave_3 15 rfl rfl)
abbrev cX0_isAll : ByteArray := prog_1_method_56_code
def yX0_isAll : MethodName := ⟨RX0, "isAll", "(I)Z"⟩
def dkwX0_isAll_1 : List UInt8 := [27, 126, 154, 0, 5, 3, 172, 132, 2, 1, 167, 255, 224, 4, 172]
abbrev dktX0_isAll_1 : List UInt8 := dkwX0_isAll_1 ++ []
def dkwX0_isAll_0 : List UInt8 := [3, 61, 28, 16, 8, 162, 0, 32, 42, 180, 0, 60, 28, 46, 18, 79, 159, 0, 15, 42, 28, 182, 1, 149]
abbrev dktX0_isAll_0 : List UInt8 := dkwX0_isAll_0 ++ dktX0_isAll_1
theorem dksX0_isAll_0 : cX0_isAll.data.toList.drop 0 = dktX0_isAll_0 := by decide +kernel
theorem dksX0_isAll_1 : cX0_isAll.data.toList.drop 24 = dktX0_isAll_1 := dk_seg dksX0_isAll_0 24 rfl rfl
theorem dX0_isAll_0 : decode cX0_isAll 0 = .ok (.iconst 0, 1) := dk_3 (dk_at dksX0_isAll_0 0 rfl rfl)
theorem dX0_isAll_1 : decode cX0_isAll 1 = .ok (.istore_n 2, 1) := dk_61 (dk_at dksX0_isAll_0 1 rfl rfl)
theorem dX0_isAll_2 : decode cX0_isAll 2 = .ok (.iload_n 2, 1) := dk_28 (dk_at dksX0_isAll_0 2 rfl rfl)
theorem dX0_isAll_3 : decode cX0_isAll 3 = .ok (.bipush 8, 2) := dk_16 8 (dk_at dksX0_isAll_0 3 rfl rfl)
theorem dX0_isAll_5 : decode cX0_isAll 5 = .ok (.if_icmp .ge 32, 3) := dk_162 0 32 (dk_at dksX0_isAll_0 5 rfl rfl)
theorem dX0_isAll_8 : decode cX0_isAll 8 = .ok (.aload_n 0, 1) := dk_42 (dk_at dksX0_isAll_0 8 rfl rfl)
theorem dX0_isAll_9 : decode cX0_isAll 9 = .ok (.getfield 60, 3) := dk_180 0 60 (dk_at dksX0_isAll_0 9 rfl rfl)
theorem dX0_isAll_12 : decode cX0_isAll 12 = .ok (.iload_n 2, 1) := dk_28 (dk_at dksX0_isAll_0 12 rfl rfl)
theorem dX0_isAll_13 : decode cX0_isAll 13 = .ok (.iaload, 1) := dk_46 (dk_at dksX0_isAll_0 13 rfl rfl)
theorem dX0_isAll_14 : decode cX0_isAll 14 = .ok (.ldc 79, 2) := dk_18 79 (dk_at dksX0_isAll_0 14 rfl rfl)
theorem dX0_isAll_16 : decode cX0_isAll 16 = .ok (.if_icmp .eq 15, 3) := dk_159 0 15 (dk_at dksX0_isAll_0 16 rfl rfl)
theorem dX0_isAll_19 : decode cX0_isAll 19 = .ok (.aload_n 0, 1) := dk_42 (dk_at dksX0_isAll_0 19 rfl rfl)
theorem dX0_isAll_20 : decode cX0_isAll 20 = .ok (.iload_n 2, 1) := dk_28 (dk_at dksX0_isAll_0 20 rfl rfl)
theorem dX0_isAll_21 : decode cX0_isAll 21 = .ok (.invokevirtual 405, 3) := dk_182 1 149 (dk_at dksX0_isAll_0 21 rfl rfl)
theorem dX0_isAll_24 : decode cX0_isAll 24 = .ok (.iload_n 1, 1) := dk_27 (dk_at dksX0_isAll_1 0 rfl rfl)
theorem dX0_isAll_25 : decode cX0_isAll 25 = .ok (.iand, 1) := dk_126 (dk_at dksX0_isAll_1 1 rfl rfl)
theorem dX0_isAll_26 : decode cX0_isAll 26 = .ok (.ifCond .ne 5, 3) := dk_154 0 5 (dk_at dksX0_isAll_1 2 rfl rfl)
theorem dX0_isAll_29 : decode cX0_isAll 29 = .ok (.iconst 0, 1) := dk_3 (dk_at dksX0_isAll_1 5 rfl rfl)
theorem dX0_isAll_30 : decode cX0_isAll 30 = .ok (.ireturn, 1) := dk_172 (dk_at dksX0_isAll_1 6 rfl rfl)
theorem dX0_isAll_31 : decode cX0_isAll 31 = .ok (.iinc 2 1, 3) := dk_132 2 1 (dk_at dksX0_isAll_1 7 rfl rfl)
theorem dX0_isAll_34 : decode cX0_isAll 34 = .ok (.goto (-32), 3) := dk_167 255 224 (dk_at dksX0_isAll_1 10 rfl rfl)
theorem dX0_isAll_37 : decode cX0_isAll 37 = .ok (.iconst 1, 1) := dk_4 (dk_at dksX0_isAll_1 13 rfl rfl)
theorem dX0_isAll_38 : decode cX0_isAll 38 = .ok (.ireturn, 1) := dk_172 (dk_at dksX0_isAll_1 14 rfl rfl)
abbrev cX0_high : ByteArray := prog_1_method_59_code
def yX0_high : MethodName := ⟨RX0, "high", "(II)I"⟩
def dkwX0_high_1 : List UInt8 := [180, 0, 63, 27, 46, 62, 42, 180, 0, 63, 27, 28, 79, 29, 172]
abbrev dktX0_high_1 : List UInt8 := dkwX0_high_1 ++ []
def dkwX0_high_0 : List UInt8 := [27, 184, 1, 160, 153, 0, 15, 28, 133, 10, 20, 0, 241, 184, 0, 95, 154, 0, 6, 18, 109, 172, 42]
abbrev dktX0_high_0 : List UInt8 := dkwX0_high_0 ++ dktX0_high_1
theorem dksX0_high_0 : cX0_high.data.toList.drop 0 = dktX0_high_0 := by decide +kernel
theorem dksX0_high_1 : cX0_high.data.toList.drop 23 = dktX0_high_1 := dk_seg dksX0_high_0 23 rfl rfl
theorem dX0_high_0 : decode cX0_high 0 = .ok (.iload_n 1, 1) := dk_27 (dk_at dksX0_high_0 0 rfl rfl)
theorem dX0_high_1 : decode cX0_high 1 = .ok (.invokestatic 416, 3) := dk_184 1 160 (dk_at dksX0_high_0 1 rfl rfl)
theorem dX0_high_4 : decode cX0_high 4 = .ok (.ifCond .eq 15, 3) := dk_153 0 15 (dk_at dksX0_high_0 4 rfl rfl)
theorem dX0_high_7 : decode cX0_high 7 = .ok (.iload_n 2, 1) := dk_28 (dk_at dksX0_high_0 7 rfl rfl)
theorem dX0_high_8 : decode cX0_high 8 = .ok (.i2l, 1) := dk_133 (dk_at dksX0_high_0 8 rfl rfl)
theorem dX0_high_9 : decode cX0_high 9 = .ok (.lconst 1, 1) := dk_10 (dk_at dksX0_high_0 9 rfl rfl)
theorem dX0_high_10 : decode cX0_high 10 = .ok (.ldc2_w 241, 3) := dk_20 0 241 (dk_at dksX0_high_0 10 rfl rfl)
theorem dX0_high_13 : decode cX0_high 13 = .ok (.invokestatic 95, 3) := dk_184 0 95 (dk_at dksX0_high_0 13 rfl rfl)
theorem dX0_high_16 : decode cX0_high 16 = .ok (.ifCond .ne 6, 3) := dk_154 0 6 (dk_at dksX0_high_0 16 rfl rfl)
theorem dX0_high_19 : decode cX0_high 19 = .ok (.ldc 109, 2) := dk_18 109 (dk_at dksX0_high_0 19 rfl rfl)
theorem dX0_high_21 : decode cX0_high 21 = .ok (.ireturn, 1) := dk_172 (dk_at dksX0_high_0 21 rfl rfl)
theorem dX0_high_22 : decode cX0_high 22 = .ok (.aload_n 0, 1) := dk_42 (dk_at dksX0_high_0 22 rfl rfl)
theorem dX0_high_23 : decode cX0_high 23 = .ok (.getfield 63, 3) := dk_180 0 63 (dk_at dksX0_high_1 0 rfl rfl)
theorem dX0_high_26 : decode cX0_high 26 = .ok (.iload_n 1, 1) := dk_27 (dk_at dksX0_high_1 3 rfl rfl)
theorem dX0_high_27 : decode cX0_high 27 = .ok (.iaload, 1) := dk_46 (dk_at dksX0_high_1 4 rfl rfl)
theorem dX0_high_28 : decode cX0_high 28 = .ok (.istore_n 3, 1) := dk_62 (dk_at dksX0_high_1 5 rfl rfl)
theorem dX0_high_29 : decode cX0_high 29 = .ok (.aload_n 0, 1) := dk_42 (dk_at dksX0_high_1 6 rfl rfl)
theorem dX0_high_30 : decode cX0_high 30 = .ok (.getfield 63, 3) := dk_180 0 63 (dk_at dksX0_high_1 7 rfl rfl)
theorem dX0_high_33 : decode cX0_high 33 = .ok (.iload_n 1, 1) := dk_27 (dk_at dksX0_high_1 10 rfl rfl)
theorem dX0_high_34 : decode cX0_high 34 = .ok (.iload_n 2, 1) := dk_28 (dk_at dksX0_high_1 11 rfl rfl)
theorem dX0_high_35 : decode cX0_high 35 = .ok (.iastore, 1) := dk_79 (dk_at dksX0_high_1 12 rfl rfl)
theorem dX0_high_36 : decode cX0_high 36 = .ok (.iload_n 3, 1) := dk_29 (dk_at dksX0_high_1 13 rfl rfl)
theorem dX0_high_37 : decode cX0_high 37 = .ok (.ireturn, 1) := dk_172 (dk_at dksX0_high_1 14 rfl rfl)
abbrev cX0_isLength : ByteArray := prog_1_method_58_code
def yX0_isLength : MethodName := ⟨RX0, "isLength", "(I)Z"⟩
def dkwX0_isLength_0 : List UInt8 := [26, 133, 9, 20, 1, 48, 184, 0, 95, 172]
abbrev dktX0_isLength_0 : List UInt8 := dkwX0_isLength_0 ++ []
theorem dksX0_isLength_0 : cX0_isLength.data.toList.drop 0 = dktX0_isLength_0 := by decide +kernel
theorem dX0_isLength_0 : decode cX0_isLength 0 = .ok (.iload_n 0, 1) := dk_26 (dk_at dksX0_isLength_0 0 rfl rfl)
theorem dX0_isLength_1 : decode cX0_isLength 1 = .ok (.i2l, 1) := dk_133 (dk_at dksX0_isLength_0 1 rfl rfl)
theorem dX0_isLength_2 : decode cX0_isLength 2 = .ok (.lconst 0, 1) := dk_9 (dk_at dksX0_isLength_0 2 rfl rfl)
theorem dX0_isLength_3 : decode cX0_isLength 3 = .ok (.ldc2_w 304, 3) := dk_20 1 48 (dk_at dksX0_isLength_0 3 rfl rfl)
theorem dX0_isLength_6 : decode cX0_isLength 6 = .ok (.invokestatic 95, 3) := dk_184 0 95 (dk_at dksX0_isLength_0 6 rfl rfl)
theorem dX0_isLength_9 : decode cX0_isLength 9 = .ok (.ireturn, 1) := dk_172 (dk_at dksX0_isLength_0 9 rfl rfl)
abbrev cX0_lean : ByteArray := prog_1_method_60_code
def yX0_lean : MethodName := ⟨RX0, "lean", "(III)I"⟩
def dkwX0_lean_3 : List UInt8 := [180, 0, 69, 27, 46, 29, 184, 1, 124, 79, 42, 89, 180, 1, 163, 4, 96, 90, 181, 1, 163, 172]
abbrev dktX0_lean_3 : List UInt8 := dkwX0_lean_3 ++ []
def dkwX0_lean_2 : List UInt8 := [42, 180, 0, 66, 27, 42, 180, 0, 66, 27, 46, 28, 184, 1, 124, 79, 42, 180, 0, 69, 27, 42]
abbrev dktX0_lean_2 : List UInt8 := dkwX0_lean_2 ++ dktX0_lean_3
def dkwX0_lean_1 : List UInt8 := [20, 0, 241, 184, 0, 95, 154, 0, 6, 18, 109, 172, 42, 180, 1, 163, 16, 20, 160, 0, 6, 18, 165, 172]
abbrev dktX0_lean_1 : List UInt8 := dkwX0_lean_1 ++ dktX0_lean_2
def dkwX0_lean_0 : List UInt8 := [27, 184, 1, 160, 153, 0, 27, 28, 133, 9, 20, 0, 241, 184, 0, 95, 153, 0, 15, 29, 133, 9]
abbrev dktX0_lean_0 : List UInt8 := dkwX0_lean_0 ++ dktX0_lean_1
theorem dksX0_lean_0 : cX0_lean.data.toList.drop 0 = dktX0_lean_0 := by decide +kernel
theorem dksX0_lean_1 : cX0_lean.data.toList.drop 22 = dktX0_lean_1 := dk_seg dksX0_lean_0 22 rfl rfl
theorem dksX0_lean_2 : cX0_lean.data.toList.drop 46 = dktX0_lean_2 := dk_seg dksX0_lean_1 24 rfl rfl
theorem dksX0_lean_3 : cX0_lean.data.toList.drop 68 = dktX0_lean_3 := dk_seg dksX0_lean_2 22 rfl rfl
theorem dX0_lean_0 : decode cX0_lean 0 = .ok (.iload_n 1, 1) := dk_27 (dk_at dksX0_lean_0 0 rfl rfl)
theorem dX0_lean_1 : decode cX0_lean 1 = .ok (.invokestatic 416, 3) := dk_184 1 160 (dk_at dksX0_lean_0 1 rfl rfl)
theorem dX0_lean_4 : decode cX0_lean 4 = .ok (.ifCond .eq 27, 3) := dk_153 0 27 (dk_at dksX0_lean_0 4 rfl rfl)
theorem dX0_lean_7 : decode cX0_lean 7 = .ok (.iload_n 2, 1) := dk_28 (dk_at dksX0_lean_0 7 rfl rfl)
theorem dX0_lean_8 : decode cX0_lean 8 = .ok (.i2l, 1) := dk_133 (dk_at dksX0_lean_0 8 rfl rfl)
theorem dX0_lean_9 : decode cX0_lean 9 = .ok (.lconst 0, 1) := dk_9 (dk_at dksX0_lean_0 9 rfl rfl)
theorem dX0_lean_10 : decode cX0_lean 10 = .ok (.ldc2_w 241, 3) := dk_20 0 241 (dk_at dksX0_lean_0 10 rfl rfl)
theorem dX0_lean_13 : decode cX0_lean 13 = .ok (.invokestatic 95, 3) := dk_184 0 95 (dk_at dksX0_lean_0 13 rfl rfl)
theorem dX0_lean_16 : decode cX0_lean 16 = .ok (.ifCond .eq 15, 3) := dk_153 0 15 (dk_at dksX0_lean_0 16 rfl rfl)
theorem dX0_lean_19 : decode cX0_lean 19 = .ok (.iload_n 3, 1) := dk_29 (dk_at dksX0_lean_0 19 rfl rfl)
theorem dX0_lean_20 : decode cX0_lean 20 = .ok (.i2l, 1) := dk_133 (dk_at dksX0_lean_0 20 rfl rfl)
theorem dX0_lean_21 : decode cX0_lean 21 = .ok (.lconst 0, 1) := dk_9 (dk_at dksX0_lean_0 21 rfl rfl)
theorem dX0_lean_22 : decode cX0_lean 22 = .ok (.ldc2_w 241, 3) := dk_20 0 241 (dk_at dksX0_lean_1 0 rfl rfl)
theorem dX0_lean_25 : decode cX0_lean 25 = .ok (.invokestatic 95, 3) := dk_184 0 95 (dk_at dksX0_lean_1 3 rfl rfl)
theorem dX0_lean_28 : decode cX0_lean 28 = .ok (.ifCond .ne 6, 3) := dk_154 0 6 (dk_at dksX0_lean_1 6 rfl rfl)
theorem dX0_lean_31 : decode cX0_lean 31 = .ok (.ldc 109, 2) := dk_18 109 (dk_at dksX0_lean_1 9 rfl rfl)
theorem dX0_lean_33 : decode cX0_lean 33 = .ok (.ireturn, 1) := dk_172 (dk_at dksX0_lean_1 11 rfl rfl)
theorem dX0_lean_34 : decode cX0_lean 34 = .ok (.aload_n 0, 1) := dk_42 (dk_at dksX0_lean_1 12 rfl rfl)
theorem dX0_lean_35 : decode cX0_lean 35 = .ok (.getfield 419, 3) := dk_180 1 163 (dk_at dksX0_lean_1 13 rfl rfl)
theorem dX0_lean_38 : decode cX0_lean 38 = .ok (.bipush 20, 2) := dk_16 20 (dk_at dksX0_lean_1 16 rfl rfl)
theorem dX0_lean_40 : decode cX0_lean 40 = .ok (.if_icmp .ne 6, 3) := dk_160 0 6 (dk_at dksX0_lean_1 18 rfl rfl)
theorem dX0_lean_43 : decode cX0_lean 43 = .ok (.ldc 165, 2) := dk_18 165 (dk_at dksX0_lean_1 21 rfl rfl)
theorem dX0_lean_45 : decode cX0_lean 45 = .ok (.ireturn, 1) := dk_172 (dk_at dksX0_lean_1 23 rfl rfl)
theorem dX0_lean_46 : decode cX0_lean 46 = .ok (.aload_n 0, 1) := dk_42 (dk_at dksX0_lean_2 0 rfl rfl)
theorem dX0_lean_47 : decode cX0_lean 47 = .ok (.getfield 66, 3) := dk_180 0 66 (dk_at dksX0_lean_2 1 rfl rfl)
theorem dX0_lean_50 : decode cX0_lean 50 = .ok (.iload_n 1, 1) := dk_27 (dk_at dksX0_lean_2 4 rfl rfl)
theorem dX0_lean_51 : decode cX0_lean 51 = .ok (.aload_n 0, 1) := dk_42 (dk_at dksX0_lean_2 5 rfl rfl)
theorem dX0_lean_52 : decode cX0_lean 52 = .ok (.getfield 66, 3) := dk_180 0 66 (dk_at dksX0_lean_2 6 rfl rfl)
theorem dX0_lean_55 : decode cX0_lean 55 = .ok (.iload_n 1, 1) := dk_27 (dk_at dksX0_lean_2 9 rfl rfl)
theorem dX0_lean_56 : decode cX0_lean 56 = .ok (.iaload, 1) := dk_46 (dk_at dksX0_lean_2 10 rfl rfl)
theorem dX0_lean_57 : decode cX0_lean 57 = .ok (.iload_n 2, 1) := dk_28 (dk_at dksX0_lean_2 11 rfl rfl)
theorem dX0_lean_58 : decode cX0_lean 58 = .ok (.invokestatic 380, 3) := dk_184 1 124 (dk_at dksX0_lean_2 12 rfl rfl)
theorem dX0_lean_61 : decode cX0_lean 61 = .ok (.iastore, 1) := dk_79 (dk_at dksX0_lean_2 15 rfl rfl)
theorem dX0_lean_62 : decode cX0_lean 62 = .ok (.aload_n 0, 1) := dk_42 (dk_at dksX0_lean_2 16 rfl rfl)
theorem dX0_lean_63 : decode cX0_lean 63 = .ok (.getfield 69, 3) := dk_180 0 69 (dk_at dksX0_lean_2 17 rfl rfl)
theorem dX0_lean_66 : decode cX0_lean 66 = .ok (.iload_n 1, 1) := dk_27 (dk_at dksX0_lean_2 20 rfl rfl)
theorem dX0_lean_67 : decode cX0_lean 67 = .ok (.aload_n 0, 1) := dk_42 (dk_at dksX0_lean_2 21 rfl rfl)
theorem dX0_lean_68 : decode cX0_lean 68 = .ok (.getfield 69, 3) := dk_180 0 69 (dk_at dksX0_lean_3 0 rfl rfl)
theorem dX0_lean_71 : decode cX0_lean 71 = .ok (.iload_n 1, 1) := dk_27 (dk_at dksX0_lean_3 3 rfl rfl)
theorem dX0_lean_72 : decode cX0_lean 72 = .ok (.iaload, 1) := dk_46 (dk_at dksX0_lean_3 4 rfl rfl)
theorem dX0_lean_73 : decode cX0_lean 73 = .ok (.iload_n 3, 1) := dk_29 (dk_at dksX0_lean_3 5 rfl rfl)
theorem dX0_lean_74 : decode cX0_lean 74 = .ok (.invokestatic 380, 3) := dk_184 1 124 (dk_at dksX0_lean_3 6 rfl rfl)
theorem dX0_lean_77 : decode cX0_lean 77 = .ok (.iastore, 1) := dk_79 (dk_at dksX0_lean_3 9 rfl rfl)
theorem dX0_lean_78 : decode cX0_lean 78 = .ok (.aload_n 0, 1) := dk_42 (dk_at dksX0_lean_3 10 rfl rfl)
theorem dX0_lean_79 : decode cX0_lean 79 = .ok (.dup, 1) := dk_89 (dk_at dksX0_lean_3 11 rfl rfl)
theorem dX0_lean_80 : decode cX0_lean 80 = .ok (.getfield 419, 3) := dk_180 1 163 (dk_at dksX0_lean_3 12 rfl rfl)
theorem dX0_lean_83 : decode cX0_lean 83 = .ok (.iconst 1, 1) := dk_4 (dk_at dksX0_lean_3 15 rfl rfl)
theorem dX0_lean_84 : decode cX0_lean 84 = .ok (.iadd, 1) := dk_96 (dk_at dksX0_lean_3 16 rfl rfl)
theorem dX0_lean_85 : decode cX0_lean 85 = .ok (.dup_x1, 1) := dk_90 (dk_at dksX0_lean_3 17 rfl rfl)
theorem dX0_lean_86 : decode cX0_lean 86 = .ok (.putfield 419, 3) := dk_181 1 163 (dk_at dksX0_lean_3 18 rfl rfl)
theorem dX0_lean_89 : decode cX0_lean 89 = .ok (.ireturn, 1) := dk_172 (dk_at dksX0_lean_3 21 rfl rfl)
abbrev cX0_breaches : ByteArray := prog_1_method_61_code
def yX0_breaches : MethodName := ⟨RX0, "breaches", "()I"⟩
def dkwX0_breaches_2 : List UInt8 := [167, 0, 4, 3, 128, 60, 132, 2, 1, 167, 255, 203, 27, 172]
abbrev dktX0_breaches_2 : List UInt8 := dkwX0_breaches_2 ++ []
def dkwX0_breaches_1 : List UInt8 := [100, 161, 0, 26, 42, 180, 0, 69, 28, 46, 42, 180, 0, 63, 28, 46, 7, 100, 161, 0, 9, 4, 28, 120]
abbrev dktX0_breaches_1 : List UInt8 := dkwX0_breaches_1 ++ dktX0_breaches_2
def dkwX0_breaches_0 : List UInt8 := [3, 60, 3, 61, 28, 16, 12, 162, 0, 53, 27, 42, 180, 0, 66, 28, 46, 42, 180, 0, 63, 28, 46, 5]
abbrev dktX0_breaches_0 : List UInt8 := dkwX0_breaches_0 ++ dktX0_breaches_1
theorem dksX0_breaches_0 : cX0_breaches.data.toList.drop 0 = dktX0_breaches_0 := by decide +kernel
theorem dksX0_breaches_1 : cX0_breaches.data.toList.drop 24 = dktX0_breaches_1 := dk_seg dksX0_breaches_0 24 rfl rfl
theorem dksX0_breaches_2 : cX0_breaches.data.toList.drop 48 = dktX0_breaches_2 := dk_seg dksX0_breaches_1 24 rfl rfl
theorem dX0_breaches_0 : decode cX0_breaches 0 = .ok (.iconst 0, 1) := dk_3 (dk_at dksX0_breaches_0 0 rfl rfl)
theorem dX0_breaches_1 : decode cX0_breaches 1 = .ok (.istore_n 1, 1) := dk_60 (dk_at dksX0_breaches_0 1 rfl rfl)
theorem dX0_breaches_2 : decode cX0_breaches 2 = .ok (.iconst 0, 1) := dk_3 (dk_at dksX0_breaches_0 2 rfl rfl)
theorem dX0_breaches_3 : decode cX0_breaches 3 = .ok (.istore_n 2, 1) := dk_61 (dk_at dksX0_breaches_0 3 rfl rfl)
theorem dX0_breaches_4 : decode cX0_breaches 4 = .ok (.iload_n 2, 1) := dk_28 (dk_at dksX0_breaches_0 4 rfl rfl)
theorem dX0_breaches_5 : decode cX0_breaches 5 = .ok (.bipush 12, 2) := dk_16 12 (dk_at dksX0_breaches_0 5 rfl rfl)
theorem dX0_breaches_7 : decode cX0_breaches 7 = .ok (.if_icmp .ge 53, 3) := dk_162 0 53 (dk_at dksX0_breaches_0 7 rfl rfl)
theorem dX0_breaches_10 : decode cX0_breaches 10 = .ok (.iload_n 1, 1) := dk_27 (dk_at dksX0_breaches_0 10 rfl rfl)
theorem dX0_breaches_11 : decode cX0_breaches 11 = .ok (.aload_n 0, 1) := dk_42 (dk_at dksX0_breaches_0 11 rfl rfl)
theorem dX0_breaches_12 : decode cX0_breaches 12 = .ok (.getfield 66, 3) := dk_180 0 66 (dk_at dksX0_breaches_0 12 rfl rfl)
theorem dX0_breaches_15 : decode cX0_breaches 15 = .ok (.iload_n 2, 1) := dk_28 (dk_at dksX0_breaches_0 15 rfl rfl)
theorem dX0_breaches_16 : decode cX0_breaches 16 = .ok (.iaload, 1) := dk_46 (dk_at dksX0_breaches_0 16 rfl rfl)
theorem dX0_breaches_17 : decode cX0_breaches 17 = .ok (.aload_n 0, 1) := dk_42 (dk_at dksX0_breaches_0 17 rfl rfl)
theorem dX0_breaches_18 : decode cX0_breaches 18 = .ok (.getfield 63, 3) := dk_180 0 63 (dk_at dksX0_breaches_0 18 rfl rfl)
theorem dX0_breaches_21 : decode cX0_breaches 21 = .ok (.iload_n 2, 1) := dk_28 (dk_at dksX0_breaches_0 21 rfl rfl)
theorem dX0_breaches_22 : decode cX0_breaches 22 = .ok (.iaload, 1) := dk_46 (dk_at dksX0_breaches_0 22 rfl rfl)
theorem dX0_breaches_23 : decode cX0_breaches 23 = .ok (.iconst 2, 1) := dk_5 (dk_at dksX0_breaches_0 23 rfl rfl)
theorem dX0_breaches_24 : decode cX0_breaches 24 = .ok (.isub, 1) := dk_100 (dk_at dksX0_breaches_1 0 rfl rfl)
theorem dX0_breaches_25 : decode cX0_breaches 25 = .ok (.if_icmp .lt 26, 3) := dk_161 0 26 (dk_at dksX0_breaches_1 1 rfl rfl)
theorem dX0_breaches_28 : decode cX0_breaches 28 = .ok (.aload_n 0, 1) := dk_42 (dk_at dksX0_breaches_1 4 rfl rfl)
theorem dX0_breaches_29 : decode cX0_breaches 29 = .ok (.getfield 69, 3) := dk_180 0 69 (dk_at dksX0_breaches_1 5 rfl rfl)
theorem dX0_breaches_32 : decode cX0_breaches 32 = .ok (.iload_n 2, 1) := dk_28 (dk_at dksX0_breaches_1 8 rfl rfl)
theorem dX0_breaches_33 : decode cX0_breaches 33 = .ok (.iaload, 1) := dk_46 (dk_at dksX0_breaches_1 9 rfl rfl)
theorem dX0_breaches_34 : decode cX0_breaches 34 = .ok (.aload_n 0, 1) := dk_42 (dk_at dksX0_breaches_1 10 rfl rfl)
theorem dX0_breaches_35 : decode cX0_breaches 35 = .ok (.getfield 63, 3) := dk_180 0 63 (dk_at dksX0_breaches_1 11 rfl rfl)
theorem dX0_breaches_38 : decode cX0_breaches 38 = .ok (.iload_n 2, 1) := dk_28 (dk_at dksX0_breaches_1 14 rfl rfl)
theorem dX0_breaches_39 : decode cX0_breaches 39 = .ok (.iaload, 1) := dk_46 (dk_at dksX0_breaches_1 15 rfl rfl)
theorem dX0_breaches_40 : decode cX0_breaches 40 = .ok (.iconst 4, 1) := dk_7 (dk_at dksX0_breaches_1 16 rfl rfl)
theorem dX0_breaches_41 : decode cX0_breaches 41 = .ok (.isub, 1) := dk_100 (dk_at dksX0_breaches_1 17 rfl rfl)
theorem dX0_breaches_42 : decode cX0_breaches 42 = .ok (.if_icmp .lt 9, 3) := dk_161 0 9 (dk_at dksX0_breaches_1 18 rfl rfl)
theorem dX0_breaches_45 : decode cX0_breaches 45 = .ok (.iconst 1, 1) := dk_4 (dk_at dksX0_breaches_1 21 rfl rfl)
theorem dX0_breaches_46 : decode cX0_breaches 46 = .ok (.iload_n 2, 1) := dk_28 (dk_at dksX0_breaches_1 22 rfl rfl)
theorem dX0_breaches_47 : decode cX0_breaches 47 = .ok (.ishl, 1) := dk_120 (dk_at dksX0_breaches_1 23 rfl rfl)
theorem dX0_breaches_48 : decode cX0_breaches 48 = .ok (.goto 4, 3) := dk_167 0 4 (dk_at dksX0_breaches_2 0 rfl rfl)
theorem dX0_breaches_51 : decode cX0_breaches 51 = .ok (.iconst 0, 1) := dk_3 (dk_at dksX0_breaches_2 3 rfl rfl)
theorem dX0_breaches_52 : decode cX0_breaches 52 = .ok (.ior, 1) := dk_128 (dk_at dksX0_breaches_2 4 rfl rfl)
theorem dX0_breaches_53 : decode cX0_breaches 53 = .ok (.istore_n 1, 1) := dk_60 (dk_at dksX0_breaches_2 5 rfl rfl)
theorem dX0_breaches_54 : decode cX0_breaches 54 = .ok (.iinc 2 1, 3) := dk_132 2 1 (dk_at dksX0_breaches_2 6 rfl rfl)
theorem dX0_breaches_57 : decode cX0_breaches 57 = .ok (.goto (-53), 3) := dk_167 255 203 (dk_at dksX0_breaches_2 9 rfl rfl)
theorem dX0_breaches_60 : decode cX0_breaches 60 = .ok (.iload_n 1, 1) := dk_27 (dk_at dksX0_breaches_2 12 rfl rfl)
theorem dX0_breaches_61 : decode cX0_breaches 61 = .ok (.ireturn, 1) := dk_172 (dk_at dksX0_breaches_2 13 rfl rfl)
abbrev cX0_watch : ByteArray := prog_1_method_62_code
def yX0_watch : MethodName := ⟨RX0, "watch", "(III)I"⟩
def dkwX0_watch_7 : List UInt8 := [132, 7, 1, 167, 255, 168, 42, 21, 6, 182, 0, 113, 172, 58, 4, 42, 25, 4, 182, 0, 117, 172]
abbrev dktX0_watch_7 : List UInt8 := dkwX0_watch_7 ++ []
def dkwX0_watch_6 : List UInt8 := [21, 6, 18, 79, 159, 0, 16, 21, 7, 184, 1, 152, 21, 6, 184, 1, 152, 162, 0, 7, 21, 7, 54, 6]
abbrev dktX0_watch_6 : List UInt8 := dkwX0_watch_6 ++ dktX0_watch_7
def dkwX0_watch_5 : List UInt8 := [167, 0, 4, 3, 128, 54, 8, 132, 9, 1, 167, 255, 222, 21, 5, 21, 8, 2, 130, 126, 154, 0, 27]
abbrev dktX0_watch_5 : List UInt8 := dkwX0_watch_5 ++ dktX0_watch_6
def dkwX0_watch_4 : List UInt8 := [21, 9, 29, 162, 0, 34, 21, 8, 21, 7, 21, 9, 122, 4, 126, 4, 160, 0, 11, 25, 4, 21, 9, 46]
abbrev dktX0_watch_4 : List UInt8 := dkwX0_watch_4 ++ dktX0_watch_5
def dkwX0_watch_3 : List UInt8 := [54, 5, 18, 79, 54, 6, 3, 54, 7, 21, 7, 4, 29, 120, 162, 0, 86, 3, 54, 8, 3, 54, 9]
abbrev dktX0_watch_3 : List UInt8 := dkwX0_watch_3 ++ dktX0_watch_4
def dkwX0_watch_2 : List UInt8 := [133, 9, 20, 1, 168, 184, 0, 95, 154, 0, 6, 18, 109, 172, 132, 5, 1, 167, 255, 228, 42, 182, 1, 170]
abbrev dktX0_watch_2 : List UInt8 := dkwX0_watch_2 ++ dktX0_watch_3
def dkwX0_watch_1 : List UInt8 := [182, 0, 121, 28, 29, 182, 0, 235, 58, 4, 3, 54, 5, 21, 5, 29, 162, 0, 28, 25, 4, 21, 5, 46]
abbrev dktX0_watch_1 : List UInt8 := dkwX0_watch_1 ++ dktX0_watch_2
def dkwX0_watch_0 : List UInt8 := [27, 184, 0, 103, 153, 0, 15, 29, 133, 10, 20, 1, 166, 184, 0, 95, 154, 0, 6, 18, 109, 172, 42, 27]
abbrev dktX0_watch_0 : List UInt8 := dkwX0_watch_0 ++ dktX0_watch_1
theorem dksX0_watch_0 : cX0_watch.data.toList.drop 0 = dktX0_watch_0 := by decide +kernel
theorem dksX0_watch_1 : cX0_watch.data.toList.drop 24 = dktX0_watch_1 := dk_seg dksX0_watch_0 24 rfl rfl
theorem dksX0_watch_2 : cX0_watch.data.toList.drop 48 = dktX0_watch_2 := dk_seg dksX0_watch_1 24 rfl rfl
theorem dksX0_watch_3 : cX0_watch.data.toList.drop 72 = dktX0_watch_3 := dk_seg dksX0_watch_2 24 rfl rfl
theorem dksX0_watch_4 : cX0_watch.data.toList.drop 95 = dktX0_watch_4 := dk_seg dksX0_watch_3 23 rfl rfl
theorem dksX0_watch_5 : cX0_watch.data.toList.drop 119 = dktX0_watch_5 := dk_seg dksX0_watch_4 24 rfl rfl
theorem dksX0_watch_6 : cX0_watch.data.toList.drop 142 = dktX0_watch_6 := dk_seg dksX0_watch_5 23 rfl rfl
theorem dksX0_watch_7 : cX0_watch.data.toList.drop 166 = dktX0_watch_7 := dk_seg dksX0_watch_6 24 rfl rfl
theorem dX0_watch_0 : decode cX0_watch 0 = .ok (.iload_n 1, 1) := dk_27 (dk_at dksX0_watch_0 0 rfl rfl)
theorem dX0_watch_1 : decode cX0_watch 1 = .ok (.invokestatic 103, 3) := dk_184 0 103 (dk_at dksX0_watch_0 1 rfl rfl)
theorem dX0_watch_4 : decode cX0_watch 4 = .ok (.ifCond .eq 15, 3) := dk_153 0 15 (dk_at dksX0_watch_0 4 rfl rfl)
theorem dX0_watch_7 : decode cX0_watch 7 = .ok (.iload_n 3, 1) := dk_29 (dk_at dksX0_watch_0 7 rfl rfl)
theorem dX0_watch_8 : decode cX0_watch 8 = .ok (.i2l, 1) := dk_133 (dk_at dksX0_watch_0 8 rfl rfl)
theorem dX0_watch_9 : decode cX0_watch 9 = .ok (.lconst 1, 1) := dk_10 (dk_at dksX0_watch_0 9 rfl rfl)
theorem dX0_watch_10 : decode cX0_watch 10 = .ok (.ldc2_w 422, 3) := dk_20 1 166 (dk_at dksX0_watch_0 10 rfl rfl)
theorem dX0_watch_13 : decode cX0_watch 13 = .ok (.invokestatic 95, 3) := dk_184 0 95 (dk_at dksX0_watch_0 13 rfl rfl)
theorem dX0_watch_16 : decode cX0_watch 16 = .ok (.ifCond .ne 6, 3) := dk_154 0 6 (dk_at dksX0_watch_0 16 rfl rfl)
theorem dX0_watch_19 : decode cX0_watch 19 = .ok (.ldc 109, 2) := dk_18 109 (dk_at dksX0_watch_0 19 rfl rfl)
theorem dX0_watch_21 : decode cX0_watch 21 = .ok (.ireturn, 1) := dk_172 (dk_at dksX0_watch_0 21 rfl rfl)
theorem dX0_watch_22 : decode cX0_watch 22 = .ok (.aload_n 0, 1) := dk_42 (dk_at dksX0_watch_0 22 rfl rfl)
theorem dX0_watch_23 : decode cX0_watch 23 = .ok (.iload_n 1, 1) := dk_27 (dk_at dksX0_watch_0 23 rfl rfl)
theorem dX0_watch_24 : decode cX0_watch 24 = .ok (.invokevirtual 121, 3) := dk_182 0 121 (dk_at dksX0_watch_1 0 rfl rfl)
theorem dX0_watch_27 : decode cX0_watch 27 = .ok (.iload_n 2, 1) := dk_28 (dk_at dksX0_watch_1 3 rfl rfl)
theorem dX0_watch_28 : decode cX0_watch 28 = .ok (.iload_n 3, 1) := dk_29 (dk_at dksX0_watch_1 4 rfl rfl)
theorem dX0_watch_29 : decode cX0_watch 29 = .ok (.invokevirtual 235, 3) := dk_182 0 235 (dk_at dksX0_watch_1 5 rfl rfl)
theorem dX0_watch_32 : decode cX0_watch 32 = .ok (.astore 4, 2) := dk_58 4 (dk_at dksX0_watch_1 8 rfl rfl)
theorem dX0_watch_34 : decode cX0_watch 34 = .ok (.iconst 0, 1) := dk_3 (dk_at dksX0_watch_1 10 rfl rfl)
theorem dX0_watch_35 : decode cX0_watch 35 = .ok (.istore 5, 2) := dk_54 5 (dk_at dksX0_watch_1 11 rfl rfl)
theorem dX0_watch_37 : decode cX0_watch 37 = .ok (.iload 5, 2) := dk_21 5 (dk_at dksX0_watch_1 13 rfl rfl)
theorem dX0_watch_39 : decode cX0_watch 39 = .ok (.iload_n 3, 1) := dk_29 (dk_at dksX0_watch_1 15 rfl rfl)
theorem dX0_watch_40 : decode cX0_watch 40 = .ok (.if_icmp .ge 28, 3) := dk_162 0 28 (dk_at dksX0_watch_1 16 rfl rfl)
theorem dX0_watch_43 : decode cX0_watch 43 = .ok (.aload 4, 2) := dk_25 4 (dk_at dksX0_watch_1 19 rfl rfl)
theorem dX0_watch_45 : decode cX0_watch 45 = .ok (.iload 5, 2) := dk_21 5 (dk_at dksX0_watch_1 21 rfl rfl)
theorem dX0_watch_47 : decode cX0_watch 47 = .ok (.iaload, 1) := dk_46 (dk_at dksX0_watch_1 23 rfl rfl)
theorem dX0_watch_48 : decode cX0_watch 48 = .ok (.i2l, 1) := dk_133 (dk_at dksX0_watch_2 0 rfl rfl)
theorem dX0_watch_49 : decode cX0_watch 49 = .ok (.lconst 0, 1) := dk_9 (dk_at dksX0_watch_2 1 rfl rfl)
theorem dX0_watch_50 : decode cX0_watch 50 = .ok (.ldc2_w 424, 3) := dk_20 1 168 (dk_at dksX0_watch_2 2 rfl rfl)
theorem dX0_watch_53 : decode cX0_watch 53 = .ok (.invokestatic 95, 3) := dk_184 0 95 (dk_at dksX0_watch_2 5 rfl rfl)
theorem dX0_watch_56 : decode cX0_watch 56 = .ok (.ifCond .ne 6, 3) := dk_154 0 6 (dk_at dksX0_watch_2 8 rfl rfl)
theorem dX0_watch_59 : decode cX0_watch 59 = .ok (.ldc 109, 2) := dk_18 109 (dk_at dksX0_watch_2 11 rfl rfl)
theorem dX0_watch_61 : decode cX0_watch 61 = .ok (.ireturn, 1) := dk_172 (dk_at dksX0_watch_2 13 rfl rfl)
theorem dX0_watch_62 : decode cX0_watch 62 = .ok (.iinc 5 1, 3) := dk_132 5 1 (dk_at dksX0_watch_2 14 rfl rfl)
theorem dX0_watch_65 : decode cX0_watch 65 = .ok (.goto (-28), 3) := dk_167 255 228 (dk_at dksX0_watch_2 17 rfl rfl)
theorem dX0_watch_68 : decode cX0_watch 68 = .ok (.aload_n 0, 1) := dk_42 (dk_at dksX0_watch_2 20 rfl rfl)
theorem dX0_watch_69 : decode cX0_watch 69 = .ok (.invokevirtual 426, 3) := dk_182 1 170 (dk_at dksX0_watch_2 21 rfl rfl)
theorem dX0_watch_72 : decode cX0_watch 72 = .ok (.istore 5, 2) := dk_54 5 (dk_at dksX0_watch_3 0 rfl rfl)
theorem dX0_watch_74 : decode cX0_watch 74 = .ok (.ldc 79, 2) := dk_18 79 (dk_at dksX0_watch_3 2 rfl rfl)
theorem dX0_watch_76 : decode cX0_watch 76 = .ok (.istore 6, 2) := dk_54 6 (dk_at dksX0_watch_3 4 rfl rfl)
theorem dX0_watch_78 : decode cX0_watch 78 = .ok (.iconst 0, 1) := dk_3 (dk_at dksX0_watch_3 6 rfl rfl)
theorem dX0_watch_79 : decode cX0_watch 79 = .ok (.istore 7, 2) := dk_54 7 (dk_at dksX0_watch_3 7 rfl rfl)
theorem dX0_watch_81 : decode cX0_watch 81 = .ok (.iload 7, 2) := dk_21 7 (dk_at dksX0_watch_3 9 rfl rfl)
theorem dX0_watch_83 : decode cX0_watch 83 = .ok (.iconst 1, 1) := dk_4 (dk_at dksX0_watch_3 11 rfl rfl)
theorem dX0_watch_84 : decode cX0_watch 84 = .ok (.iload_n 3, 1) := dk_29 (dk_at dksX0_watch_3 12 rfl rfl)
theorem dX0_watch_85 : decode cX0_watch 85 = .ok (.ishl, 1) := dk_120 (dk_at dksX0_watch_3 13 rfl rfl)
theorem dX0_watch_86 : decode cX0_watch 86 = .ok (.if_icmp .ge 86, 3) := dk_162 0 86 (dk_at dksX0_watch_3 14 rfl rfl)
theorem dX0_watch_89 : decode cX0_watch 89 = .ok (.iconst 0, 1) := dk_3 (dk_at dksX0_watch_3 17 rfl rfl)
theorem dX0_watch_90 : decode cX0_watch 90 = .ok (.istore 8, 2) := dk_54 8 (dk_at dksX0_watch_3 18 rfl rfl)
theorem dX0_watch_92 : decode cX0_watch 92 = .ok (.iconst 0, 1) := dk_3 (dk_at dksX0_watch_3 20 rfl rfl)
theorem dX0_watch_93 : decode cX0_watch 93 = .ok (.istore 9, 2) := dk_54 9 (dk_at dksX0_watch_3 21 rfl rfl)
theorem dX0_watch_95 : decode cX0_watch 95 = .ok (.iload 9, 2) := dk_21 9 (dk_at dksX0_watch_4 0 rfl rfl)
theorem dX0_watch_97 : decode cX0_watch 97 = .ok (.iload_n 3, 1) := dk_29 (dk_at dksX0_watch_4 2 rfl rfl)
theorem dX0_watch_98 : decode cX0_watch 98 = .ok (.if_icmp .ge 34, 3) := dk_162 0 34 (dk_at dksX0_watch_4 3 rfl rfl)
theorem dX0_watch_101 : decode cX0_watch 101 = .ok (.iload 8, 2) := dk_21 8 (dk_at dksX0_watch_4 6 rfl rfl)
theorem dX0_watch_103 : decode cX0_watch 103 = .ok (.iload 7, 2) := dk_21 7 (dk_at dksX0_watch_4 8 rfl rfl)
theorem dX0_watch_105 : decode cX0_watch 105 = .ok (.iload 9, 2) := dk_21 9 (dk_at dksX0_watch_4 10 rfl rfl)
theorem dX0_watch_107 : decode cX0_watch 107 = .ok (.ishr, 1) := dk_122 (dk_at dksX0_watch_4 12 rfl rfl)
theorem dX0_watch_108 : decode cX0_watch 108 = .ok (.iconst 1, 1) := dk_4 (dk_at dksX0_watch_4 13 rfl rfl)
theorem dX0_watch_109 : decode cX0_watch 109 = .ok (.iand, 1) := dk_126 (dk_at dksX0_watch_4 14 rfl rfl)
theorem dX0_watch_110 : decode cX0_watch 110 = .ok (.iconst 1, 1) := dk_4 (dk_at dksX0_watch_4 15 rfl rfl)
theorem dX0_watch_111 : decode cX0_watch 111 = .ok (.if_icmp .ne 11, 3) := dk_160 0 11 (dk_at dksX0_watch_4 16 rfl rfl)
theorem dX0_watch_114 : decode cX0_watch 114 = .ok (.aload 4, 2) := dk_25 4 (dk_at dksX0_watch_4 19 rfl rfl)
theorem dX0_watch_116 : decode cX0_watch 116 = .ok (.iload 9, 2) := dk_21 9 (dk_at dksX0_watch_4 21 rfl rfl)
theorem dX0_watch_118 : decode cX0_watch 118 = .ok (.iaload, 1) := dk_46 (dk_at dksX0_watch_4 23 rfl rfl)
theorem dX0_watch_119 : decode cX0_watch 119 = .ok (.goto 4, 3) := dk_167 0 4 (dk_at dksX0_watch_5 0 rfl rfl)
theorem dX0_watch_122 : decode cX0_watch 122 = .ok (.iconst 0, 1) := dk_3 (dk_at dksX0_watch_5 3 rfl rfl)
theorem dX0_watch_123 : decode cX0_watch 123 = .ok (.ior, 1) := dk_128 (dk_at dksX0_watch_5 4 rfl rfl)
theorem dX0_watch_124 : decode cX0_watch 124 = .ok (.istore 8, 2) := dk_54 8 (dk_at dksX0_watch_5 5 rfl rfl)
theorem dX0_watch_126 : decode cX0_watch 126 = .ok (.iinc 9 1, 3) := dk_132 9 1 (dk_at dksX0_watch_5 7 rfl rfl)
theorem dX0_watch_129 : decode cX0_watch 129 = .ok (.goto (-34), 3) := dk_167 255 222 (dk_at dksX0_watch_5 10 rfl rfl)
theorem dX0_watch_132 : decode cX0_watch 132 = .ok (.iload 5, 2) := dk_21 5 (dk_at dksX0_watch_5 13 rfl rfl)
theorem dX0_watch_134 : decode cX0_watch 134 = .ok (.iload 8, 2) := dk_21 8 (dk_at dksX0_watch_5 15 rfl rfl)
theorem dX0_watch_136 : decode cX0_watch 136 = .ok (.iconst (-1), 1) := dk_2 (dk_at dksX0_watch_5 17 rfl rfl)
theorem dX0_watch_137 : decode cX0_watch 137 = .ok (.ixor, 1) := dk_130 (dk_at dksX0_watch_5 18 rfl rfl)
theorem dX0_watch_138 : decode cX0_watch 138 = .ok (.iand, 1) := dk_126 (dk_at dksX0_watch_5 19 rfl rfl)
theorem dX0_watch_139 : decode cX0_watch 139 = .ok (.ifCond .ne 27, 3) := dk_154 0 27 (dk_at dksX0_watch_5 20 rfl rfl)
theorem dX0_watch_142 : decode cX0_watch 142 = .ok (.iload 6, 2) := dk_21 6 (dk_at dksX0_watch_6 0 rfl rfl)
theorem dX0_watch_144 : decode cX0_watch 144 = .ok (.ldc 79, 2) := dk_18 79 (dk_at dksX0_watch_6 2 rfl rfl)
theorem dX0_watch_146 : decode cX0_watch 146 = .ok (.if_icmp .eq 16, 3) := dk_159 0 16 (dk_at dksX0_watch_6 4 rfl rfl)
theorem dX0_watch_149 : decode cX0_watch 149 = .ok (.iload 7, 2) := dk_21 7 (dk_at dksX0_watch_6 7 rfl rfl)
theorem dX0_watch_151 : decode cX0_watch 151 = .ok (.invokestatic 408, 3) := dk_184 1 152 (dk_at dksX0_watch_6 9 rfl rfl)
theorem dX0_watch_154 : decode cX0_watch 154 = .ok (.iload 6, 2) := dk_21 6 (dk_at dksX0_watch_6 12 rfl rfl)
theorem dX0_watch_156 : decode cX0_watch 156 = .ok (.invokestatic 408, 3) := dk_184 1 152 (dk_at dksX0_watch_6 14 rfl rfl)
theorem dX0_watch_159 : decode cX0_watch 159 = .ok (.if_icmp .ge 7, 3) := dk_162 0 7 (dk_at dksX0_watch_6 17 rfl rfl)
theorem dX0_watch_162 : decode cX0_watch 162 = .ok (.iload 7, 2) := dk_21 7 (dk_at dksX0_watch_6 20 rfl rfl)
theorem dX0_watch_164 : decode cX0_watch 164 = .ok (.istore 6, 2) := dk_54 6 (dk_at dksX0_watch_6 22 rfl rfl)
theorem dX0_watch_166 : decode cX0_watch 166 = .ok (.iinc 7 1, 3) := dk_132 7 1 (dk_at dksX0_watch_7 0 rfl rfl)
theorem dX0_watch_169 : decode cX0_watch 169 = .ok (.goto (-88), 3) := dk_167 255 168 (dk_at dksX0_watch_7 3 rfl rfl)
theorem dX0_watch_172 : decode cX0_watch 172 = .ok (.aload_n 0, 1) := dk_42 (dk_at dksX0_watch_7 6 rfl rfl)
theorem dX0_watch_173 : decode cX0_watch 173 = .ok (.iload 6, 2) := dk_21 6 (dk_at dksX0_watch_7 7 rfl rfl)
theorem dX0_watch_175 : decode cX0_watch 175 = .ok (.invokevirtual 113, 3) := dk_182 0 113 (dk_at dksX0_watch_7 9 rfl rfl)
theorem dX0_watch_178 : decode cX0_watch 178 = .ok (.ireturn, 1) := dk_172 (dk_at dksX0_watch_7 12 rfl rfl)
theorem dX0_watch_179 : decode cX0_watch 179 = .ok (.astore 4, 2) := dk_58 4 (dk_at dksX0_watch_7 13 rfl rfl)
theorem dX0_watch_181 : decode cX0_watch 181 = .ok (.aload_n 0, 1) := dk_42 (dk_at dksX0_watch_7 15 rfl rfl)
theorem dX0_watch_182 : decode cX0_watch 182 = .ok (.aload 4, 2) := dk_25 4 (dk_at dksX0_watch_7 16 rfl rfl)
theorem dX0_watch_184 : decode cX0_watch 184 = .ok (.invokevirtual 117, 3) := dk_182 0 117 (dk_at dksX0_watch_7 18 rfl rfl)
theorem dX0_watch_187 : decode cX0_watch 187 = .ok (.ireturn, 1) := dk_172 (dk_at dksX0_watch_7 21 rfl rfl)
abbrev cX0_day : ByteArray := prog_1_method_63_code
def yX0_day : MethodName := ⟨RX0, "day", "(I)I"⟩
def dkwX0_day_0 : List UInt8 := [27, 184, 0, 148, 154, 0, 6, 18, 109, 172, 42, 180, 1, 173, 61, 42, 27, 181, 1, 173, 28, 172]
abbrev dktX0_day_0 : List UInt8 := dkwX0_day_0 ++ []
theorem dksX0_day_0 : cX0_day.data.toList.drop 0 = dktX0_day_0 := by decide +kernel
theorem dX0_day_0 : decode cX0_day 0 = .ok (.iload_n 1, 1) := dk_27 (dk_at dksX0_day_0 0 rfl rfl)
theorem dX0_day_1 : decode cX0_day 1 = .ok (.invokestatic 148, 3) := dk_184 0 148 (dk_at dksX0_day_0 1 rfl rfl)
theorem dX0_day_4 : decode cX0_day 4 = .ok (.ifCond .ne 6, 3) := dk_154 0 6 (dk_at dksX0_day_0 4 rfl rfl)
theorem dX0_day_7 : decode cX0_day 7 = .ok (.ldc 109, 2) := dk_18 109 (dk_at dksX0_day_0 7 rfl rfl)
theorem dX0_day_9 : decode cX0_day 9 = .ok (.ireturn, 1) := dk_172 (dk_at dksX0_day_0 9 rfl rfl)
theorem dX0_day_10 : decode cX0_day 10 = .ok (.aload_n 0, 1) := dk_42 (dk_at dksX0_day_0 10 rfl rfl)
theorem dX0_day_11 : decode cX0_day 11 = .ok (.getfield 429, 3) := dk_180 1 173 (dk_at dksX0_day_0 11 rfl rfl)
theorem dX0_day_14 : decode cX0_day 14 = .ok (.istore_n 2, 1) := dk_61 (dk_at dksX0_day_0 14 rfl rfl)
theorem dX0_day_15 : decode cX0_day 15 = .ok (.aload_n 0, 1) := dk_42 (dk_at dksX0_day_0 15 rfl rfl)
theorem dX0_day_16 : decode cX0_day 16 = .ok (.iload_n 1, 1) := dk_27 (dk_at dksX0_day_0 16 rfl rfl)
theorem dX0_day_17 : decode cX0_day 17 = .ok (.putfield 429, 3) := dk_181 1 173 (dk_at dksX0_day_0 17 rfl rfl)
theorem dX0_day_20 : decode cX0_day 20 = .ok (.iload_n 2, 1) := dk_28 (dk_at dksX0_day_0 20 rfl rfl)
theorem dX0_day_21 : decode cX0_day 21 = .ok (.ireturn, 1) := dk_172 (dk_at dksX0_day_0 21 rfl rfl)
abbrev cX0_kind : ByteArray := prog_1_method_64_code
def yX0_kind : MethodName := ⟨RX0, "kind", "(I)I"⟩
def dkwX0_kind_1 : List UInt8 := [18, 109, 172]
abbrev dktX0_kind_1 : List UInt8 := dkwX0_kind_1 ++ []
def dkwX0_kind_0 : List UInt8 := [42, 27, 182, 1, 110, 153, 0, 18, 42, 27, 42, 180, 1, 173, 182, 1, 113, 182, 1, 176, 167, 0, 5]
abbrev dktX0_kind_0 : List UInt8 := dkwX0_kind_0 ++ dktX0_kind_1
theorem dksX0_kind_0 : cX0_kind.data.toList.drop 0 = dktX0_kind_0 := by decide +kernel
theorem dksX0_kind_1 : cX0_kind.data.toList.drop 23 = dktX0_kind_1 := dk_seg dksX0_kind_0 23 rfl rfl
theorem dX0_kind_0 : decode cX0_kind 0 = .ok (.aload_n 0, 1) := dk_42 (dk_at dksX0_kind_0 0 rfl rfl)
theorem dX0_kind_1 : decode cX0_kind 1 = .ok (.iload_n 1, 1) := dk_27 (dk_at dksX0_kind_0 1 rfl rfl)
theorem dX0_kind_2 : decode cX0_kind 2 = .ok (.invokevirtual 366, 3) := dk_182 1 110 (dk_at dksX0_kind_0 2 rfl rfl)
theorem dX0_kind_5 : decode cX0_kind 5 = .ok (.ifCond .eq 18, 3) := dk_153 0 18 (dk_at dksX0_kind_0 5 rfl rfl)
theorem dX0_kind_8 : decode cX0_kind 8 = .ok (.aload_n 0, 1) := dk_42 (dk_at dksX0_kind_0 8 rfl rfl)
theorem dX0_kind_9 : decode cX0_kind 9 = .ok (.iload_n 1, 1) := dk_27 (dk_at dksX0_kind_0 9 rfl rfl)
theorem dX0_kind_10 : decode cX0_kind 10 = .ok (.aload_n 0, 1) := dk_42 (dk_at dksX0_kind_0 10 rfl rfl)
theorem dX0_kind_11 : decode cX0_kind 11 = .ok (.getfield 429, 3) := dk_180 1 173 (dk_at dksX0_kind_0 11 rfl rfl)
theorem dX0_kind_14 : decode cX0_kind 14 = .ok (.invokevirtual 369, 3) := dk_182 1 113 (dk_at dksX0_kind_0 14 rfl rfl)
theorem dX0_kind_17 : decode cX0_kind 17 = .ok (.invokevirtual 432, 3) := dk_182 1 176 (dk_at dksX0_kind_0 17 rfl rfl)
theorem dX0_kind_20 : decode cX0_kind 20 = .ok (.goto 5, 3) := dk_167 0 5 (dk_at dksX0_kind_0 20 rfl rfl)
theorem dX0_kind_23 : decode cX0_kind 23 = .ok (.ldc 109, 2) := dk_18 109 (dk_at dksX0_kind_1 0 rfl rfl)
theorem dX0_kind_25 : decode cX0_kind 25 = .ok (.ireturn, 1) := dk_172 (dk_at dksX0_kind_1 2 rfl rfl)
abbrev cX0_as : ByteArray := prog_1_method_65_code
def yX0_as : MethodName := ⟨RX0, "as", "(II)I"⟩
def dkwX0_as_4 : List UInt8 := [187, 0, 81, 89, 6, 183, 0, 90, 191, 78, 42, 45, 182, 0, 117, 172]
abbrev dktX0_as_4 : List UInt8 := dkwX0_as_4 ++ []
def dkwX0_as_3 : List UInt8 := [192, 1, 105, 167, 0, 7, 45, 192, 1, 72, 58, 4, 42, 25, 4, 180, 1, 96, 182, 0, 113, 172, 58, 4]
abbrev dktX0_as_3 : List UInt8 := dkwX0_as_3 ++ dktX0_as_4
def dkwX0_as_2 : List UInt8 := [192, 1, 66, 167, 0, 31, 28, 5, 160, 0, 10, 45, 192, 1, 69, 167, 0, 19, 28, 6, 160, 0, 10, 45]
abbrev dktX0_as_2 : List UInt8 := dkwX0_as_2 ++ dktX0_as_3
def dkwX0_as_1 : List UInt8 := [27, 42, 180, 1, 173, 182, 1, 113, 78, 28, 154, 0, 7, 45, 167, 0, 43, 28, 4, 160, 0, 10, 45]
abbrev dktX0_as_1 : List UInt8 := dkwX0_as_1 ++ dktX0_as_2
def dkwX0_as_0 : List UInt8 := [42, 27, 182, 1, 110, 153, 0, 15, 28, 133, 9, 20, 0, 239, 184, 0, 95, 154, 0, 6, 18, 109, 172, 42]
abbrev dktX0_as_0 : List UInt8 := dkwX0_as_0 ++ dktX0_as_1
theorem dksX0_as_0 : cX0_as.data.toList.drop 0 = dktX0_as_0 := by decide +kernel
theorem dksX0_as_1 : cX0_as.data.toList.drop 24 = dktX0_as_1 := dk_seg dksX0_as_0 24 rfl rfl
theorem dksX0_as_2 : cX0_as.data.toList.drop 47 = dktX0_as_2 := dk_seg dksX0_as_1 23 rfl rfl
theorem dksX0_as_3 : cX0_as.data.toList.drop 71 = dktX0_as_3 := dk_seg dksX0_as_2 24 rfl rfl
theorem dksX0_as_4 : cX0_as.data.toList.drop 95 = dktX0_as_4 := dk_seg dksX0_as_3 24 rfl rfl
theorem dX0_as_0 : decode cX0_as 0 = .ok (.aload_n 0, 1) := dk_42 (dk_at dksX0_as_0 0 rfl rfl)
theorem dX0_as_1 : decode cX0_as 1 = .ok (.iload_n 1, 1) := dk_27 (dk_at dksX0_as_0 1 rfl rfl)
theorem dX0_as_2 : decode cX0_as 2 = .ok (.invokevirtual 366, 3) := dk_182 1 110 (dk_at dksX0_as_0 2 rfl rfl)
theorem dX0_as_5 : decode cX0_as 5 = .ok (.ifCond .eq 15, 3) := dk_153 0 15 (dk_at dksX0_as_0 5 rfl rfl)
theorem dX0_as_8 : decode cX0_as 8 = .ok (.iload_n 2, 1) := dk_28 (dk_at dksX0_as_0 8 rfl rfl)
theorem dX0_as_9 : decode cX0_as 9 = .ok (.i2l, 1) := dk_133 (dk_at dksX0_as_0 9 rfl rfl)
theorem dX0_as_10 : decode cX0_as 10 = .ok (.lconst 0, 1) := dk_9 (dk_at dksX0_as_0 10 rfl rfl)
theorem dX0_as_11 : decode cX0_as 11 = .ok (.ldc2_w 239, 3) := dk_20 0 239 (dk_at dksX0_as_0 11 rfl rfl)
theorem dX0_as_14 : decode cX0_as 14 = .ok (.invokestatic 95, 3) := dk_184 0 95 (dk_at dksX0_as_0 14 rfl rfl)
theorem dX0_as_17 : decode cX0_as 17 = .ok (.ifCond .ne 6, 3) := dk_154 0 6 (dk_at dksX0_as_0 17 rfl rfl)
theorem dX0_as_20 : decode cX0_as 20 = .ok (.ldc 109, 2) := dk_18 109 (dk_at dksX0_as_0 20 rfl rfl)
theorem dX0_as_22 : decode cX0_as 22 = .ok (.ireturn, 1) := dk_172 (dk_at dksX0_as_0 22 rfl rfl)
theorem dX0_as_23 : decode cX0_as 23 = .ok (.aload_n 0, 1) := dk_42 (dk_at dksX0_as_0 23 rfl rfl)
theorem dX0_as_24 : decode cX0_as 24 = .ok (.iload_n 1, 1) := dk_27 (dk_at dksX0_as_1 0 rfl rfl)
theorem dX0_as_25 : decode cX0_as 25 = .ok (.aload_n 0, 1) := dk_42 (dk_at dksX0_as_1 1 rfl rfl)
theorem dX0_as_26 : decode cX0_as 26 = .ok (.getfield 429, 3) := dk_180 1 173 (dk_at dksX0_as_1 2 rfl rfl)
theorem dX0_as_29 : decode cX0_as 29 = .ok (.invokevirtual 369, 3) := dk_182 1 113 (dk_at dksX0_as_1 5 rfl rfl)
theorem dX0_as_32 : decode cX0_as 32 = .ok (.astore_n 3, 1) := dk_78 (dk_at dksX0_as_1 8 rfl rfl)
theorem dX0_as_33 : decode cX0_as 33 = .ok (.iload_n 2, 1) := dk_28 (dk_at dksX0_as_1 9 rfl rfl)
theorem dX0_as_34 : decode cX0_as 34 = .ok (.ifCond .ne 7, 3) := dk_154 0 7 (dk_at dksX0_as_1 10 rfl rfl)
theorem dX0_as_37 : decode cX0_as 37 = .ok (.aload_n 3, 1) := dk_45 (dk_at dksX0_as_1 13 rfl rfl)
theorem dX0_as_38 : decode cX0_as 38 = .ok (.goto 43, 3) := dk_167 0 43 (dk_at dksX0_as_1 14 rfl rfl)
theorem dX0_as_41 : decode cX0_as 41 = .ok (.iload_n 2, 1) := dk_28 (dk_at dksX0_as_1 17 rfl rfl)
theorem dX0_as_42 : decode cX0_as 42 = .ok (.iconst 1, 1) := dk_4 (dk_at dksX0_as_1 18 rfl rfl)
theorem dX0_as_43 : decode cX0_as 43 = .ok (.if_icmp .ne 10, 3) := dk_160 0 10 (dk_at dksX0_as_1 19 rfl rfl)
theorem dX0_as_46 : decode cX0_as 46 = .ok (.aload_n 3, 1) := dk_45 (dk_at dksX0_as_1 22 rfl rfl)
theorem dX0_as_47 : decode cX0_as 47 = .ok (.checkcast 322, 3) := dk_192 1 66 (dk_at dksX0_as_2 0 rfl rfl)
theorem dX0_as_50 : decode cX0_as 50 = .ok (.goto 31, 3) := dk_167 0 31 (dk_at dksX0_as_2 3 rfl rfl)
theorem dX0_as_53 : decode cX0_as 53 = .ok (.iload_n 2, 1) := dk_28 (dk_at dksX0_as_2 6 rfl rfl)
theorem dX0_as_54 : decode cX0_as 54 = .ok (.iconst 2, 1) := dk_5 (dk_at dksX0_as_2 7 rfl rfl)
theorem dX0_as_55 : decode cX0_as 55 = .ok (.if_icmp .ne 10, 3) := dk_160 0 10 (dk_at dksX0_as_2 8 rfl rfl)
theorem dX0_as_58 : decode cX0_as 58 = .ok (.aload_n 3, 1) := dk_45 (dk_at dksX0_as_2 11 rfl rfl)
theorem dX0_as_59 : decode cX0_as 59 = .ok (.checkcast 325, 3) := dk_192 1 69 (dk_at dksX0_as_2 12 rfl rfl)
theorem dX0_as_62 : decode cX0_as 62 = .ok (.goto 19, 3) := dk_167 0 19 (dk_at dksX0_as_2 15 rfl rfl)
theorem dX0_as_65 : decode cX0_as 65 = .ok (.iload_n 2, 1) := dk_28 (dk_at dksX0_as_2 18 rfl rfl)
theorem dX0_as_66 : decode cX0_as 66 = .ok (.iconst 3, 1) := dk_6 (dk_at dksX0_as_2 19 rfl rfl)
theorem dX0_as_67 : decode cX0_as 67 = .ok (.if_icmp .ne 10, 3) := dk_160 0 10 (dk_at dksX0_as_2 20 rfl rfl)
theorem dX0_as_70 : decode cX0_as 70 = .ok (.aload_n 3, 1) := dk_45 (dk_at dksX0_as_2 23 rfl rfl)
theorem dX0_as_71 : decode cX0_as 71 = .ok (.checkcast 361, 3) := dk_192 1 105 (dk_at dksX0_as_3 0 rfl rfl)
theorem dX0_as_74 : decode cX0_as 74 = .ok (.goto 7, 3) := dk_167 0 7 (dk_at dksX0_as_3 3 rfl rfl)
theorem dX0_as_77 : decode cX0_as 77 = .ok (.aload_n 3, 1) := dk_45 (dk_at dksX0_as_3 6 rfl rfl)
theorem dX0_as_78 : decode cX0_as 78 = .ok (.checkcast 328, 3) := dk_192 1 72 (dk_at dksX0_as_3 7 rfl rfl)
theorem dX0_as_81 : decode cX0_as 81 = .ok (.astore 4, 2) := dk_58 4 (dk_at dksX0_as_3 10 rfl rfl)
theorem dX0_as_83 : decode cX0_as 83 = .ok (.aload_n 0, 1) := dk_42 (dk_at dksX0_as_3 12 rfl rfl)
theorem dX0_as_84 : decode cX0_as 84 = .ok (.aload 4, 2) := dk_25 4 (dk_at dksX0_as_3 13 rfl rfl)
theorem dX0_as_86 : decode cX0_as 86 = .ok (.getfield 352, 3) := dk_180 1 96 (dk_at dksX0_as_3 15 rfl rfl)
theorem dX0_as_89 : decode cX0_as 89 = .ok (.invokevirtual 113, 3) := dk_182 0 113 (dk_at dksX0_as_3 18 rfl rfl)
theorem dX0_as_92 : decode cX0_as 92 = .ok (.ireturn, 1) := dk_172 (dk_at dksX0_as_3 21 rfl rfl)
theorem dX0_as_93 : decode cX0_as 93 = .ok (.astore 4, 2) := dk_58 4 (dk_at dksX0_as_3 22 rfl rfl)
theorem dX0_as_95 : decode cX0_as 95 = .ok (.new 81, 3) := dk_187 0 81 (dk_at dksX0_as_4 0 rfl rfl)
theorem dX0_as_98 : decode cX0_as 98 = .ok (.dup, 1) := dk_89 (dk_at dksX0_as_4 3 rfl rfl)
theorem dX0_as_99 : decode cX0_as 99 = .ok (.iconst 3, 1) := dk_6 (dk_at dksX0_as_4 4 rfl rfl)
theorem dX0_as_100 : decode cX0_as 100 = .ok (.invokespecial 90, 3) := dk_183 0 90 (dk_at dksX0_as_4 5 rfl rfl)
theorem dX0_as_103 : decode cX0_as 103 = .ok (.athrow, 1) := dk_191 (dk_at dksX0_as_4 8 rfl rfl)
theorem dX0_as_104 : decode cX0_as 104 = .ok (.astore_n 3, 1) := dk_78 (dk_at dksX0_as_4 9 rfl rfl)
theorem dX0_as_105 : decode cX0_as 105 = .ok (.aload_n 0, 1) := dk_42 (dk_at dksX0_as_4 10 rfl rfl)
theorem dX0_as_106 : decode cX0_as 106 = .ok (.aload_n 3, 1) := dk_45 (dk_at dksX0_as_4 11 rfl rfl)
theorem dX0_as_107 : decode cX0_as 107 = .ok (.invokevirtual 117, 3) := dk_182 0 117 (dk_at dksX0_as_4 12 rfl rfl)
theorem dX0_as_110 : decode cX0_as 110 = .ok (.ireturn, 1) := dk_172 (dk_at dksX0_as_4 15 rfl rfl)
abbrev cX0_ask : ByteArray := prog_1_method_66_code
def yX0_ask : MethodName := ⟨RX0, "ask", "(II)I"⟩
def dkwX0_ask_2 : List UInt8 := [45, 42, 180, 0, 75, 182, 1, 180, 167, 0, 11, 45, 42, 180, 0, 75, 182, 1, 183, 172]
abbrev dktX0_ask_2 : List UInt8 := dkwX0_ask_2 ++ []
def dkwX0_ask_1 : List UInt8 := [187, 0, 72, 89, 183, 0, 74, 181, 0, 75, 42, 27, 42, 180, 1, 173, 182, 1, 113, 78, 28, 154, 0, 14]
abbrev dktX0_ask_1 : List UInt8 := dkwX0_ask_1 ++ dktX0_ask_2
def dkwX0_ask_0 : List UInt8 := [42, 27, 182, 1, 110, 153, 0, 13, 28, 133, 9, 10, 184, 0, 95, 154, 0, 6, 18, 109, 172, 42]
abbrev dktX0_ask_0 : List UInt8 := dkwX0_ask_0 ++ dktX0_ask_1
theorem dksX0_ask_0 : cX0_ask.data.toList.drop 0 = dktX0_ask_0 := by decide +kernel
theorem dksX0_ask_1 : cX0_ask.data.toList.drop 22 = dktX0_ask_1 := dk_seg dksX0_ask_0 22 rfl rfl
theorem dksX0_ask_2 : cX0_ask.data.toList.drop 46 = dktX0_ask_2 := dk_seg dksX0_ask_1 24 rfl rfl
theorem dX0_ask_0 : decode cX0_ask 0 = .ok (.aload_n 0, 1) := dk_42 (dk_at dksX0_ask_0 0 rfl rfl)
theorem dX0_ask_1 : decode cX0_ask 1 = .ok (.iload_n 1, 1) := dk_27 (dk_at dksX0_ask_0 1 rfl rfl)
theorem dX0_ask_2 : decode cX0_ask 2 = .ok (.invokevirtual 366, 3) := dk_182 1 110 (dk_at dksX0_ask_0 2 rfl rfl)
theorem dX0_ask_5 : decode cX0_ask 5 = .ok (.ifCond .eq 13, 3) := dk_153 0 13 (dk_at dksX0_ask_0 5 rfl rfl)
theorem dX0_ask_8 : decode cX0_ask 8 = .ok (.iload_n 2, 1) := dk_28 (dk_at dksX0_ask_0 8 rfl rfl)
theorem dX0_ask_9 : decode cX0_ask 9 = .ok (.i2l, 1) := dk_133 (dk_at dksX0_ask_0 9 rfl rfl)
theorem dX0_ask_10 : decode cX0_ask 10 = .ok (.lconst 0, 1) := dk_9 (dk_at dksX0_ask_0 10 rfl rfl)
theorem dX0_ask_11 : decode cX0_ask 11 = .ok (.lconst 1, 1) := dk_10 (dk_at dksX0_ask_0 11 rfl rfl)
theorem dX0_ask_12 : decode cX0_ask 12 = .ok (.invokestatic 95, 3) := dk_184 0 95 (dk_at dksX0_ask_0 12 rfl rfl)
theorem dX0_ask_15 : decode cX0_ask 15 = .ok (.ifCond .ne 6, 3) := dk_154 0 6 (dk_at dksX0_ask_0 15 rfl rfl)
theorem dX0_ask_18 : decode cX0_ask 18 = .ok (.ldc 109, 2) := dk_18 109 (dk_at dksX0_ask_0 18 rfl rfl)
theorem dX0_ask_20 : decode cX0_ask 20 = .ok (.ireturn, 1) := dk_172 (dk_at dksX0_ask_0 20 rfl rfl)
theorem dX0_ask_21 : decode cX0_ask 21 = .ok (.aload_n 0, 1) := dk_42 (dk_at dksX0_ask_0 21 rfl rfl)
theorem dX0_ask_22 : decode cX0_ask 22 = .ok (.new 72, 3) := dk_187 0 72 (dk_at dksX0_ask_1 0 rfl rfl)
theorem dX0_ask_25 : decode cX0_ask 25 = .ok (.dup, 1) := dk_89 (dk_at dksX0_ask_1 3 rfl rfl)
theorem dX0_ask_26 : decode cX0_ask 26 = .ok (.invokespecial 74, 3) := dk_183 0 74 (dk_at dksX0_ask_1 4 rfl rfl)
theorem dX0_ask_29 : decode cX0_ask 29 = .ok (.putfield 75, 3) := dk_181 0 75 (dk_at dksX0_ask_1 7 rfl rfl)
theorem dX0_ask_32 : decode cX0_ask 32 = .ok (.aload_n 0, 1) := dk_42 (dk_at dksX0_ask_1 10 rfl rfl)
theorem dX0_ask_33 : decode cX0_ask 33 = .ok (.iload_n 1, 1) := dk_27 (dk_at dksX0_ask_1 11 rfl rfl)
theorem dX0_ask_34 : decode cX0_ask 34 = .ok (.aload_n 0, 1) := dk_42 (dk_at dksX0_ask_1 12 rfl rfl)
theorem dX0_ask_35 : decode cX0_ask 35 = .ok (.getfield 429, 3) := dk_180 1 173 (dk_at dksX0_ask_1 13 rfl rfl)
theorem dX0_ask_38 : decode cX0_ask 38 = .ok (.invokevirtual 369, 3) := dk_182 1 113 (dk_at dksX0_ask_1 16 rfl rfl)
theorem dX0_ask_41 : decode cX0_ask 41 = .ok (.astore_n 3, 1) := dk_78 (dk_at dksX0_ask_1 19 rfl rfl)
theorem dX0_ask_42 : decode cX0_ask 42 = .ok (.iload_n 2, 1) := dk_28 (dk_at dksX0_ask_1 20 rfl rfl)
theorem dX0_ask_43 : decode cX0_ask 43 = .ok (.ifCond .ne 14, 3) := dk_154 0 14 (dk_at dksX0_ask_1 21 rfl rfl)
theorem dX0_ask_46 : decode cX0_ask 46 = .ok (.aload_n 3, 1) := dk_45 (dk_at dksX0_ask_2 0 rfl rfl)
theorem dX0_ask_47 : decode cX0_ask 47 = .ok (.aload_n 0, 1) := dk_42 (dk_at dksX0_ask_2 1 rfl rfl)
theorem dX0_ask_48 : decode cX0_ask 48 = .ok (.getfield 75, 3) := dk_180 0 75 (dk_at dksX0_ask_2 2 rfl rfl)
theorem dX0_ask_51 : decode cX0_ask 51 = .ok (.invokevirtual 436, 3) := dk_182 1 180 (dk_at dksX0_ask_2 5 rfl rfl)
theorem dX0_ask_54 : decode cX0_ask 54 = .ok (.goto 11, 3) := dk_167 0 11 (dk_at dksX0_ask_2 8 rfl rfl)
theorem dX0_ask_57 : decode cX0_ask 57 = .ok (.aload_n 3, 1) := dk_45 (dk_at dksX0_ask_2 11 rfl rfl)
theorem dX0_ask_58 : decode cX0_ask 58 = .ok (.aload_n 0, 1) := dk_42 (dk_at dksX0_ask_2 12 rfl rfl)
theorem dX0_ask_59 : decode cX0_ask 59 = .ok (.getfield 75, 3) := dk_180 0 75 (dk_at dksX0_ask_2 13 rfl rfl)
theorem dX0_ask_62 : decode cX0_ask 62 = .ok (.invokevirtual 439, 3) := dk_182 1 183 (dk_at dksX0_ask_2 16 rfl rfl)
theorem dX0_ask_65 : decode cX0_ask 65 = .ok (.ireturn, 1) := dk_172 (dk_at dksX0_ask_2 19 rfl rfl)
abbrev cX0_trace : ByteArray := prog_1_method_67_code
def yX0_trace : MethodName := ⟨RX0, "trace", "(I)I"⟩
def dkwX0_trace_1 : List UInt8 := [180, 1, 189, 27, 46, 167, 0, 5, 18, 79, 172]
abbrev dktX0_trace_1 : List UInt8 := dkwX0_trace_1 ++ []
def dkwX0_trace_0 : List UInt8 := [27, 133, 9, 42, 180, 0, 75, 180, 1, 186, 4, 100, 133, 184, 0, 95, 153, 0, 15, 42, 180, 0, 75]
abbrev dktX0_trace_0 : List UInt8 := dkwX0_trace_0 ++ dktX0_trace_1
theorem dksX0_trace_0 : cX0_trace.data.toList.drop 0 = dktX0_trace_0 := by decide +kernel
theorem dksX0_trace_1 : cX0_trace.data.toList.drop 23 = dktX0_trace_1 := dk_seg dksX0_trace_0 23 rfl rfl
theorem dX0_trace_0 : decode cX0_trace 0 = .ok (.iload_n 1, 1) := dk_27 (dk_at dksX0_trace_0 0 rfl rfl)
theorem dX0_trace_1 : decode cX0_trace 1 = .ok (.i2l, 1) := dk_133 (dk_at dksX0_trace_0 1 rfl rfl)
theorem dX0_trace_2 : decode cX0_trace 2 = .ok (.lconst 0, 1) := dk_9 (dk_at dksX0_trace_0 2 rfl rfl)
theorem dX0_trace_3 : decode cX0_trace 3 = .ok (.aload_n 0, 1) := dk_42 (dk_at dksX0_trace_0 3 rfl rfl)
theorem dX0_trace_4 : decode cX0_trace 4 = .ok (.getfield 75, 3) := dk_180 0 75 (dk_at dksX0_trace_0 4 rfl rfl)
theorem dX0_trace_7 : decode cX0_trace 7 = .ok (.getfield 442, 3) := dk_180 1 186 (dk_at dksX0_trace_0 7 rfl rfl)
theorem dX0_trace_10 : decode cX0_trace 10 = .ok (.iconst 1, 1) := dk_4 (dk_at dksX0_trace_0 10 rfl rfl)
theorem dX0_trace_11 : decode cX0_trace 11 = .ok (.isub, 1) := dk_100 (dk_at dksX0_trace_0 11 rfl rfl)
theorem dX0_trace_12 : decode cX0_trace 12 = .ok (.i2l, 1) := dk_133 (dk_at dksX0_trace_0 12 rfl rfl)
theorem dX0_trace_13 : decode cX0_trace 13 = .ok (.invokestatic 95, 3) := dk_184 0 95 (dk_at dksX0_trace_0 13 rfl rfl)
theorem dX0_trace_16 : decode cX0_trace 16 = .ok (.ifCond .eq 15, 3) := dk_153 0 15 (dk_at dksX0_trace_0 16 rfl rfl)
theorem dX0_trace_19 : decode cX0_trace 19 = .ok (.aload_n 0, 1) := dk_42 (dk_at dksX0_trace_0 19 rfl rfl)
theorem dX0_trace_20 : decode cX0_trace 20 = .ok (.getfield 75, 3) := dk_180 0 75 (dk_at dksX0_trace_0 20 rfl rfl)
theorem dX0_trace_23 : decode cX0_trace 23 = .ok (.getfield 445, 3) := dk_180 1 189 (dk_at dksX0_trace_1 0 rfl rfl)
theorem dX0_trace_26 : decode cX0_trace 26 = .ok (.iload_n 1, 1) := dk_27 (dk_at dksX0_trace_1 3 rfl rfl)
theorem dX0_trace_27 : decode cX0_trace 27 = .ok (.iaload, 1) := dk_46 (dk_at dksX0_trace_1 4 rfl rfl)
theorem dX0_trace_28 : decode cX0_trace 28 = .ok (.goto 5, 3) := dk_167 0 5 (dk_at dksX0_trace_1 5 rfl rfl)
theorem dX0_trace_31 : decode cX0_trace 31 = .ok (.ldc 79, 2) := dk_18 79 (dk_at dksX0_trace_1 8 rfl rfl)
theorem dX0_trace_33 : decode cX0_trace 33 = .ok (.ireturn, 1) := dk_172 (dk_at dksX0_trace_1 10 rfl rfl)
abbrev cX0_count : ByteArray := prog_1_method_69_code
def yX0_count : MethodName := ⟨RX0, "count", "(I)I"⟩
def dkwX0_count_7 : List UInt8 := [132, 3, 1, 167, 255, 228, 28, 172, 42, 180, 0, 162, 172, 18, 109, 172]
abbrev dktX0_count_7 : List UInt8 := dkwX0_count_7 ++ []
def dkwX0_count_6 : List UInt8 := [162, 0, 28, 28, 42, 180, 0, 60, 29, 46, 18, 79, 160, 0, 7, 3, 167, 0, 4, 4, 96, 61]
abbrev dktX0_count_6 : List UInt8 := dkwX0_count_6 ++ dktX0_count_7
def dkwX0_count_5 : List UInt8 := [185, 0, 168, 1, 0, 172, 42, 3, 182, 1, 192, 172, 42, 4, 182, 1, 192, 172, 3, 62, 29, 16, 8]
abbrev dktX0_count_5 : List UInt8 := dkwX0_count_5 ++ dktX0_count_6
def dkwX0_count_4 : List UInt8 := [185, 0, 168, 1, 0, 172, 42, 180, 0, 45, 185, 0, 168, 1, 0, 172, 42, 180, 0, 54]
abbrev dktX0_count_4 : List UInt8 := dkwX0_count_4 ++ dktX0_count_5
def dkwX0_count_3 : List UInt8 := [61, 132, 3, 1, 167, 255, 230, 28, 172, 42, 180, 0, 34, 185, 0, 168, 1, 0, 172, 42, 180, 0, 42]
abbrev dktX0_count_3 : List UInt8 := dkwX0_count_3 ++ dktX0_count_4
def dkwX0_count_2 : List UInt8 := [3, 62, 29, 16, 8, 162, 0, 26, 28, 42, 180, 0, 11, 29, 50, 199, 0, 7, 3, 167, 0, 4, 4, 96]
abbrev dktX0_count_2 : List UInt8 := dkwX0_count_2 ++ dktX0_count_3
def dkwX0_count_1 : List UInt8 := [170, 0, 0, 0, 174, 0, 0, 0, 0, 0, 0, 0, 8, 0, 0, 0, 49, 0, 0, 0, 82, 0, 0, 0, 92, 0, 0, 0, 102, 0, 0, 0, 112, 0, 0, 0, 122, 0, 0, 0, 128, 0, 0, 0, 134, 0, 0, 0, 169]
abbrev dktX0_count_1 : List UInt8 := dkwX0_count_1 ++ dktX0_count_2
def dkwX0_count_0 : List UInt8 := [3, 61, 27]
abbrev dktX0_count_0 : List UInt8 := dkwX0_count_0 ++ dktX0_count_1
theorem dksX0_count_0 : cX0_count.data.toList.drop 0 = dktX0_count_0 := by decide +kernel
theorem dksX0_count_1 : cX0_count.data.toList.drop 3 = dktX0_count_1 := dk_seg dksX0_count_0 3 rfl rfl
theorem dksX0_count_2 : cX0_count.data.toList.drop 52 = dktX0_count_2 := dk_seg dksX0_count_1 49 rfl rfl
theorem dksX0_count_3 : cX0_count.data.toList.drop 76 = dktX0_count_3 := dk_seg dksX0_count_2 24 rfl rfl
theorem dksX0_count_4 : cX0_count.data.toList.drop 99 = dktX0_count_4 := dk_seg dksX0_count_3 23 rfl rfl
theorem dksX0_count_5 : cX0_count.data.toList.drop 119 = dktX0_count_5 := dk_seg dksX0_count_4 20 rfl rfl
theorem dksX0_count_6 : cX0_count.data.toList.drop 142 = dktX0_count_6 := dk_seg dksX0_count_5 23 rfl rfl
theorem dksX0_count_7 : cX0_count.data.toList.drop 164 = dktX0_count_7 := dk_seg dksX0_count_6 22 rfl rfl
theorem dX0_count_0 : decode cX0_count 0 = .ok (.iconst 0, 1) := dk_3 (dk_at dksX0_count_0 0 rfl rfl)
theorem dX0_count_1 : decode cX0_count 1 = .ok (.istore_n 2, 1) := dk_61 (dk_at dksX0_count_0 1 rfl rfl)
theorem dX0_count_2 : decode cX0_count 2 = .ok (.iload_n 1, 1) := dk_27 (dk_at dksX0_count_0 2 rfl rfl)
theorem dX0_count_3 : decode cX0_count 3 = .ok (.tableswitch 174 0 8 #[49, 82, 92, 102, 112, 122, 128, 134, 169], 49) := by decide +kernel
theorem dX0_count_52 : decode cX0_count 52 = .ok (.iconst 0, 1) := dk_3 (dk_at dksX0_count_2 0 rfl rfl)
theorem dX0_count_53 : decode cX0_count 53 = .ok (.istore_n 3, 1) := dk_62 (dk_at dksX0_count_2 1 rfl rfl)
theorem dX0_count_54 : decode cX0_count 54 = .ok (.iload_n 3, 1) := dk_29 (dk_at dksX0_count_2 2 rfl rfl)
theorem dX0_count_55 : decode cX0_count 55 = .ok (.bipush 8, 2) := dk_16 8 (dk_at dksX0_count_2 3 rfl rfl)
theorem dX0_count_57 : decode cX0_count 57 = .ok (.if_icmp .ge 26, 3) := dk_162 0 26 (dk_at dksX0_count_2 5 rfl rfl)
theorem dX0_count_60 : decode cX0_count 60 = .ok (.iload_n 2, 1) := dk_28 (dk_at dksX0_count_2 8 rfl rfl)
theorem dX0_count_61 : decode cX0_count 61 = .ok (.aload_n 0, 1) := dk_42 (dk_at dksX0_count_2 9 rfl rfl)
theorem dX0_count_62 : decode cX0_count 62 = .ok (.getfield 11, 3) := dk_180 0 11 (dk_at dksX0_count_2 10 rfl rfl)
theorem dX0_count_65 : decode cX0_count 65 = .ok (.iload_n 3, 1) := dk_29 (dk_at dksX0_count_2 13 rfl rfl)
theorem dX0_count_66 : decode cX0_count 66 = .ok (.aaload, 1) := dk_50 (dk_at dksX0_count_2 14 rfl rfl)
theorem dX0_count_67 : decode cX0_count 67 = .ok (.ifnonnull 7, 3) := dk_199 0 7 (dk_at dksX0_count_2 15 rfl rfl)
theorem dX0_count_70 : decode cX0_count 70 = .ok (.iconst 0, 1) := dk_3 (dk_at dksX0_count_2 18 rfl rfl)
theorem dX0_count_71 : decode cX0_count 71 = .ok (.goto 4, 3) := dk_167 0 4 (dk_at dksX0_count_2 19 rfl rfl)
theorem dX0_count_74 : decode cX0_count 74 = .ok (.iconst 1, 1) := dk_4 (dk_at dksX0_count_2 22 rfl rfl)
theorem dX0_count_75 : decode cX0_count 75 = .ok (.iadd, 1) := dk_96 (dk_at dksX0_count_2 23 rfl rfl)
theorem dX0_count_76 : decode cX0_count 76 = .ok (.istore_n 2, 1) := dk_61 (dk_at dksX0_count_3 0 rfl rfl)
theorem dX0_count_77 : decode cX0_count 77 = .ok (.iinc 3 1, 3) := dk_132 3 1 (dk_at dksX0_count_3 1 rfl rfl)
theorem dX0_count_80 : decode cX0_count 80 = .ok (.goto (-26), 3) := dk_167 255 230 (dk_at dksX0_count_3 4 rfl rfl)
theorem dX0_count_83 : decode cX0_count 83 = .ok (.iload_n 2, 1) := dk_28 (dk_at dksX0_count_3 7 rfl rfl)
theorem dX0_count_84 : decode cX0_count 84 = .ok (.ireturn, 1) := dk_172 (dk_at dksX0_count_3 8 rfl rfl)
theorem dX0_count_85 : decode cX0_count 85 = .ok (.aload_n 0, 1) := dk_42 (dk_at dksX0_count_3 9 rfl rfl)
theorem dX0_count_86 : decode cX0_count 86 = .ok (.getfield 34, 3) := dk_180 0 34 (dk_at dksX0_count_3 10 rfl rfl)
theorem dX0_count_89 : decode cX0_count 89 = .ok (.invokeinterface 168 1, 5) := by decide +kernel
theorem dX0_count_94 : decode cX0_count 94 = .ok (.ireturn, 1) := dk_172 (dk_at dksX0_count_3 18 rfl rfl)
theorem dX0_count_95 : decode cX0_count 95 = .ok (.aload_n 0, 1) := dk_42 (dk_at dksX0_count_3 19 rfl rfl)
theorem dX0_count_96 : decode cX0_count 96 = .ok (.getfield 42, 3) := dk_180 0 42 (dk_at dksX0_count_3 20 rfl rfl)
theorem dX0_count_99 : decode cX0_count 99 = .ok (.invokeinterface 168 1, 5) := by decide +kernel
theorem dX0_count_104 : decode cX0_count 104 = .ok (.ireturn, 1) := dk_172 (dk_at dksX0_count_4 5 rfl rfl)
theorem dX0_count_105 : decode cX0_count 105 = .ok (.aload_n 0, 1) := dk_42 (dk_at dksX0_count_4 6 rfl rfl)
theorem dX0_count_106 : decode cX0_count 106 = .ok (.getfield 45, 3) := dk_180 0 45 (dk_at dksX0_count_4 7 rfl rfl)
theorem dX0_count_109 : decode cX0_count 109 = .ok (.invokeinterface 168 1, 5) := by decide +kernel
theorem dX0_count_114 : decode cX0_count 114 = .ok (.ireturn, 1) := dk_172 (dk_at dksX0_count_4 15 rfl rfl)
theorem dX0_count_115 : decode cX0_count 115 = .ok (.aload_n 0, 1) := dk_42 (dk_at dksX0_count_4 16 rfl rfl)
theorem dX0_count_116 : decode cX0_count 116 = .ok (.getfield 54, 3) := dk_180 0 54 (dk_at dksX0_count_4 17 rfl rfl)
theorem dX0_count_119 : decode cX0_count 119 = .ok (.invokeinterface 168 1, 5) := by decide +kernel
theorem dX0_count_124 : decode cX0_count 124 = .ok (.ireturn, 1) := dk_172 (dk_at dksX0_count_5 5 rfl rfl)
theorem dX0_count_125 : decode cX0_count 125 = .ok (.aload_n 0, 1) := dk_42 (dk_at dksX0_count_5 6 rfl rfl)
theorem dX0_count_126 : decode cX0_count 126 = .ok (.iconst 0, 1) := dk_3 (dk_at dksX0_count_5 7 rfl rfl)
theorem dX0_count_127 : decode cX0_count 127 = .ok (.invokevirtual 448, 3) := dk_182 1 192 (dk_at dksX0_count_5 8 rfl rfl)
theorem dX0_count_130 : decode cX0_count 130 = .ok (.ireturn, 1) := dk_172 (dk_at dksX0_count_5 11 rfl rfl)
theorem dX0_count_131 : decode cX0_count 131 = .ok (.aload_n 0, 1) := dk_42 (dk_at dksX0_count_5 12 rfl rfl)
theorem dX0_count_132 : decode cX0_count 132 = .ok (.iconst 1, 1) := dk_4 (dk_at dksX0_count_5 13 rfl rfl)
theorem dX0_count_133 : decode cX0_count 133 = .ok (.invokevirtual 448, 3) := dk_182 1 192 (dk_at dksX0_count_5 14 rfl rfl)
theorem dX0_count_136 : decode cX0_count 136 = .ok (.ireturn, 1) := dk_172 (dk_at dksX0_count_5 17 rfl rfl)
theorem dX0_count_137 : decode cX0_count 137 = .ok (.iconst 0, 1) := dk_3 (dk_at dksX0_count_5 18 rfl rfl)
theorem dX0_count_138 : decode cX0_count 138 = .ok (.istore_n 3, 1) := dk_62 (dk_at dksX0_count_5 19 rfl rfl)
theorem dX0_count_139 : decode cX0_count 139 = .ok (.iload_n 3, 1) := dk_29 (dk_at dksX0_count_5 20 rfl rfl)
theorem dX0_count_140 : decode cX0_count 140 = .ok (.bipush 8, 2) := dk_16 8 (dk_at dksX0_count_5 21 rfl rfl)
theorem dX0_count_142 : decode cX0_count 142 = .ok (.if_icmp .ge 28, 3) := dk_162 0 28 (dk_at dksX0_count_6 0 rfl rfl)
theorem dX0_count_145 : decode cX0_count 145 = .ok (.iload_n 2, 1) := dk_28 (dk_at dksX0_count_6 3 rfl rfl)
theorem dX0_count_146 : decode cX0_count 146 = .ok (.aload_n 0, 1) := dk_42 (dk_at dksX0_count_6 4 rfl rfl)
theorem dX0_count_147 : decode cX0_count 147 = .ok (.getfield 60, 3) := dk_180 0 60 (dk_at dksX0_count_6 5 rfl rfl)
theorem dX0_count_150 : decode cX0_count 150 = .ok (.iload_n 3, 1) := dk_29 (dk_at dksX0_count_6 8 rfl rfl)
theorem dX0_count_151 : decode cX0_count 151 = .ok (.iaload, 1) := dk_46 (dk_at dksX0_count_6 9 rfl rfl)
theorem dX0_count_152 : decode cX0_count 152 = .ok (.ldc 79, 2) := dk_18 79 (dk_at dksX0_count_6 10 rfl rfl)
theorem dX0_count_154 : decode cX0_count 154 = .ok (.if_icmp .ne 7, 3) := dk_160 0 7 (dk_at dksX0_count_6 12 rfl rfl)
theorem dX0_count_157 : decode cX0_count 157 = .ok (.iconst 0, 1) := dk_3 (dk_at dksX0_count_6 15 rfl rfl)
theorem dX0_count_158 : decode cX0_count 158 = .ok (.goto 4, 3) := dk_167 0 4 (dk_at dksX0_count_6 16 rfl rfl)
theorem dX0_count_161 : decode cX0_count 161 = .ok (.iconst 1, 1) := dk_4 (dk_at dksX0_count_6 19 rfl rfl)
theorem dX0_count_162 : decode cX0_count 162 = .ok (.iadd, 1) := dk_96 (dk_at dksX0_count_6 20 rfl rfl)
theorem dX0_count_163 : decode cX0_count 163 = .ok (.istore_n 2, 1) := dk_61 (dk_at dksX0_count_6 21 rfl rfl)
theorem dX0_count_164 : decode cX0_count 164 = .ok (.iinc 3 1, 3) := dk_132 3 1 (dk_at dksX0_count_7 0 rfl rfl)
theorem dX0_count_167 : decode cX0_count 167 = .ok (.goto (-28), 3) := dk_167 255 228 (dk_at dksX0_count_7 3 rfl rfl)
theorem dX0_count_170 : decode cX0_count 170 = .ok (.iload_n 2, 1) := dk_28 (dk_at dksX0_count_7 6 rfl rfl)
theorem dX0_count_171 : decode cX0_count 171 = .ok (.ireturn, 1) := dk_172 (dk_at dksX0_count_7 7 rfl rfl)
theorem dX0_count_172 : decode cX0_count 172 = .ok (.aload_n 0, 1) := dk_42 (dk_at dksX0_count_7 8 rfl rfl)
theorem dX0_count_173 : decode cX0_count 173 = .ok (.getfield 162, 3) := dk_180 0 162 (dk_at dksX0_count_7 9 rfl rfl)
theorem dX0_count_176 : decode cX0_count 176 = .ok (.ireturn, 1) := dk_172 (dk_at dksX0_count_7 12 rfl rfl)
theorem dX0_count_177 : decode cX0_count 177 = .ok (.ldc 109, 2) := dk_18 109 (dk_at dksX0_count_7 13 rfl rfl)
theorem dX0_count_179 : decode cX0_count 179 = .ok (.ireturn, 1) := dk_172 (dk_at dksX0_count_7 15 rfl rfl)
abbrev cX0_countOf : ByteArray := prog_1_method_68_code
def yX0_countOf : MethodName := ⟨RX0, "countOf", "(Z)I"⟩
def dkwX0_countOf_2 : List UInt8 := [153, 0, 7, 4, 167, 0, 4, 3, 96, 61, 132, 3, 1, 167, 255, 201, 28, 172]
abbrev dktX0_countOf_2 : List UInt8 := dkwX0_countOf_2 ++ []
def dkwX0_countOf_1 : List UInt8 := [182, 1, 113, 58, 4, 28, 25, 4, 193, 1, 105, 154, 0, 15, 27, 154, 0, 15, 25, 4, 193, 1, 69]
abbrev dktX0_countOf_1 : List UInt8 := dkwX0_countOf_1 ++ dktX0_countOf_2
def dkwX0_countOf_0 : List UInt8 := [3, 61, 3, 62, 29, 42, 180, 0, 54, 185, 0, 168, 1, 0, 162, 0, 48, 42, 29, 42, 180, 1, 173]
abbrev dktX0_countOf_0 : List UInt8 := dkwX0_countOf_0 ++ dktX0_countOf_1
theorem dksX0_countOf_0 : cX0_countOf.data.toList.drop 0 = dktX0_countOf_0 := by decide +kernel
theorem dksX0_countOf_1 : cX0_countOf.data.toList.drop 23 = dktX0_countOf_1 := dk_seg dksX0_countOf_0 23 rfl rfl
theorem dksX0_countOf_2 : cX0_countOf.data.toList.drop 46 = dktX0_countOf_2 := dk_seg dksX0_countOf_1 23 rfl rfl
theorem dX0_countOf_0 : decode cX0_countOf 0 = .ok (.iconst 0, 1) := dk_3 (dk_at dksX0_countOf_0 0 rfl rfl)
theorem dX0_countOf_1 : decode cX0_countOf 1 = .ok (.istore_n 2, 1) := dk_61 (dk_at dksX0_countOf_0 1 rfl rfl)
theorem dX0_countOf_2 : decode cX0_countOf 2 = .ok (.iconst 0, 1) := dk_3 (dk_at dksX0_countOf_0 2 rfl rfl)
theorem dX0_countOf_3 : decode cX0_countOf 3 = .ok (.istore_n 3, 1) := dk_62 (dk_at dksX0_countOf_0 3 rfl rfl)
theorem dX0_countOf_4 : decode cX0_countOf 4 = .ok (.iload_n 3, 1) := dk_29 (dk_at dksX0_countOf_0 4 rfl rfl)
theorem dX0_countOf_5 : decode cX0_countOf 5 = .ok (.aload_n 0, 1) := dk_42 (dk_at dksX0_countOf_0 5 rfl rfl)
theorem dX0_countOf_6 : decode cX0_countOf 6 = .ok (.getfield 54, 3) := dk_180 0 54 (dk_at dksX0_countOf_0 6 rfl rfl)
theorem dX0_countOf_9 : decode cX0_countOf 9 = .ok (.invokeinterface 168 1, 5) := by decide +kernel
theorem dX0_countOf_14 : decode cX0_countOf 14 = .ok (.if_icmp .ge 48, 3) := dk_162 0 48 (dk_at dksX0_countOf_0 14 rfl rfl)
theorem dX0_countOf_17 : decode cX0_countOf 17 = .ok (.aload_n 0, 1) := dk_42 (dk_at dksX0_countOf_0 17 rfl rfl)
theorem dX0_countOf_18 : decode cX0_countOf 18 = .ok (.iload_n 3, 1) := dk_29 (dk_at dksX0_countOf_0 18 rfl rfl)
theorem dX0_countOf_19 : decode cX0_countOf 19 = .ok (.aload_n 0, 1) := dk_42 (dk_at dksX0_countOf_0 19 rfl rfl)
theorem dX0_countOf_20 : decode cX0_countOf 20 = .ok (.getfield 429, 3) := dk_180 1 173 (dk_at dksX0_countOf_0 20 rfl rfl)
theorem dX0_countOf_23 : decode cX0_countOf 23 = .ok (.invokevirtual 369, 3) := dk_182 1 113 (dk_at dksX0_countOf_1 0 rfl rfl)
theorem dX0_countOf_26 : decode cX0_countOf 26 = .ok (.astore 4, 2) := dk_58 4 (dk_at dksX0_countOf_1 3 rfl rfl)
theorem dX0_countOf_28 : decode cX0_countOf 28 = .ok (.iload_n 2, 1) := dk_28 (dk_at dksX0_countOf_1 5 rfl rfl)
theorem dX0_countOf_29 : decode cX0_countOf 29 = .ok (.aload 4, 2) := dk_25 4 (dk_at dksX0_countOf_1 6 rfl rfl)
theorem dX0_countOf_31 : decode cX0_countOf 31 = .ok (.instanceof 361, 3) := dk_193 1 105 (dk_at dksX0_countOf_1 8 rfl rfl)
theorem dX0_countOf_34 : decode cX0_countOf 34 = .ok (.ifCond .ne 15, 3) := dk_154 0 15 (dk_at dksX0_countOf_1 11 rfl rfl)
theorem dX0_countOf_37 : decode cX0_countOf 37 = .ok (.iload_n 1, 1) := dk_27 (dk_at dksX0_countOf_1 14 rfl rfl)
theorem dX0_countOf_38 : decode cX0_countOf 38 = .ok (.ifCond .ne 15, 3) := dk_154 0 15 (dk_at dksX0_countOf_1 15 rfl rfl)
theorem dX0_countOf_41 : decode cX0_countOf 41 = .ok (.aload 4, 2) := dk_25 4 (dk_at dksX0_countOf_1 18 rfl rfl)
theorem dX0_countOf_43 : decode cX0_countOf 43 = .ok (.instanceof 325, 3) := dk_193 1 69 (dk_at dksX0_countOf_1 20 rfl rfl)
theorem dX0_countOf_46 : decode cX0_countOf 46 = .ok (.ifCond .eq 7, 3) := dk_153 0 7 (dk_at dksX0_countOf_2 0 rfl rfl)
theorem dX0_countOf_49 : decode cX0_countOf 49 = .ok (.iconst 1, 1) := dk_4 (dk_at dksX0_countOf_2 3 rfl rfl)
theorem dX0_countOf_50 : decode cX0_countOf 50 = .ok (.goto 4, 3) := dk_167 0 4 (dk_at dksX0_countOf_2 4 rfl rfl)
theorem dX0_countOf_53 : decode cX0_countOf 53 = .ok (.iconst 0, 1) := dk_3 (dk_at dksX0_countOf_2 7 rfl rfl)
theorem dX0_countOf_54 : decode cX0_countOf 54 = .ok (.iadd, 1) := dk_96 (dk_at dksX0_countOf_2 8 rfl rfl)
theorem dX0_countOf_55 : decode cX0_countOf 55 = .ok (.istore_n 2, 1) := dk_61 (dk_at dksX0_countOf_2 9 rfl rfl)
theorem dX0_countOf_56 : decode cX0_countOf 56 = .ok (.iinc 3 1, 3) := dk_132 3 1 (dk_at dksX0_countOf_2 10 rfl rfl)
theorem dX0_countOf_59 : decode cX0_countOf 59 = .ok (.goto (-55), 3) := dk_167 255 201 (dk_at dksX0_countOf_2 13 rfl rfl)
theorem dX0_countOf_62 : decode cX0_countOf 62 = .ok (.iload_n 2, 1) := dk_28 (dk_at dksX0_countOf_2 16 rfl rfl)
theorem dX0_countOf_63 : decode cX0_countOf 63 = .ok (.ireturn, 1) := dk_172 (dk_at dksX0_countOf_2 17 rfl rfl)
abbrev cX0_status : ByteArray := prog_1_method_70_code
def yX0_status : MethodName := ⟨RX0, "status", "()I"⟩
theorem dX0_status_0 : decode cX0_status 0 = .ok (.aload_n 0, 1) := by decide +kernel
theorem dX0_status_1 : decode cX0_status 1 = .ok (.getfield 86, 3) := by decide +kernel
theorem dX0_status_4 : decode cX0_status 4 = .ok (.ireturn, 1) := by decide +kernel
theorem q57 : (Jvm.Cond.initialized "DuskGates") ∈ lw_all := lw_g (lw_at lw_m1 1 rfl) rfl
theorem q95 : (Jvm.Cond.instantiable "DuskGates" (24 : Nat)) ∈ lw_all := lw_g (lw_at lw_m1 39 rfl) rfl
theorem q97 : (Jvm.Cond.instanceMethod ({ cls := "DuskGates", name := "<init>", desc := "()V" } : Jvm.MethodName)) ∈ lw_all := lw_g (lw_at lw_m1 41 rfl) rfl
theorem q98 : (Jvm.Cond.code ({ cls := "DuskGates", name := "<init>", desc := "()V" } : Jvm.MethodName) prog_1_method_2_code (2 : Nat) (Option.none : Option Jvm.ClassFile.FieldType)) ∈ lw_all := lw_g (lw_at lw_m1 42 rfl) rfl
theorem q99 : (Jvm.Cond.methodLink "DuskGates" (1 : Nat) ({ cls := "java/lang/Object", name := "<init>", desc := "()V" } : Jvm.MethodName)) ∈ lw_all := lw_g (lw_at lw_m1 43 rfl) rfl
theorem q102 : (Jvm.Cond.classLink "DuskGates" (9 : Nat) "DuskGates$Sheet") ∈ lw_all := lw_g (lw_at lw_m1 46 rfl) rfl
theorem q104 : (Jvm.Cond.classLink "DuskGates" (31 : Nat) "java/util/ArrayList") ∈ lw_all := lw_g (lw_at lw_m1 48 rfl) rfl
theorem q106 : (Jvm.Cond.methodLink "DuskGates" (33 : Nat) ({ cls := "java/util/ArrayList", name := "<init>", desc := "()V" } : Jvm.MethodName)) ∈ lw_all := lw_g (lw_at lw_m1 50 rfl) rfl
theorem q131 : (Jvm.Cond.classLink "DuskGates" (72 : Nat) "DuskGates$Trail") ∈ lw_all := lw_g (lw_at lw_m1 75 rfl) rfl
theorem q133 : (Jvm.Cond.methodLinkNest "DuskGates" (74 : Nat) ({ cls := "DuskGates$Trail", name := "<init>", desc := "()V" } : Jvm.MethodName) "DuskGates") ∈ lw_tbl := lw_at lw_m1 77 rfl
theorem q138 : (Jvm.Cond.fieldLinkNest "DuskGates" (445 : Nat) "DuskGates$Trail" "body" "[I" "DuskGates") ∈ lw_tbl := lw_at lw_m1 82 rfl
theorem q140 : (Jvm.Cond.fieldLinkNest "DuskGates" (442 : Nat) "DuskGates$Trail" "many" "I" "DuskGates") ∈ lw_tbl := lw_at lw_m1 84 rfl
theorem q147 : (Jvm.Cond.constant "DuskGates" (79 : Nat) (-1000000 : Int32)) ∈ lw_all := lw_g (lw_at lw_m1 91 rfl) rfl
theorem q148 : (Jvm.Cond.fieldLink "DuskGates" (11 : Nat) "DuskGates" "sheets" "[LDuskGates$Sheet;") ∈ lw_all := lw_g (lw_at lw_m1 92 rfl) rfl
theorem q149 : (Jvm.Cond.fieldLink "DuskGates" (15 : Nat) "DuskGates" "opens" "[I") ∈ lw_all := lw_g (lw_at lw_m1 93 rfl) rfl
theorem q150 : (Jvm.Cond.fieldLink "DuskGates" (19 : Nat) "DuskGates" "shuts" "[I") ∈ lw_all := lw_g (lw_at lw_m1 94 rfl) rfl
theorem q151 : (Jvm.Cond.fieldLink "DuskGates" (22 : Nat) "DuskGates" "parts" "[I") ∈ lw_all := lw_g (lw_at lw_m1 95 rfl) rfl
theorem q152 : (Jvm.Cond.fieldLink "DuskGates" (25 : Nat) "DuskGates" "gateX" "[I") ∈ lw_all := lw_g (lw_at lw_m1 96 rfl) rfl
theorem q153 : (Jvm.Cond.fieldLink "DuskGates" (28 : Nat) "DuskGates" "gateY" "[I") ∈ lw_all := lw_g (lw_at lw_m1 97 rfl) rfl
theorem q154 : (Jvm.Cond.fieldLink "DuskGates" (34 : Nat) "DuskGates" "laws" "Ljava/util/List;") ∈ lw_all := lw_g (lw_at lw_m1 98 rfl) rfl
theorem q155 : (Jvm.Cond.fieldLink "DuskGates" (38 : Nat) "DuskGates" "tape" "[B") ∈ lw_all := lw_g (lw_at lw_m1 99 rfl) rfl
theorem q156 : (Jvm.Cond.fieldLink "DuskGates" (162 : Nat) "DuskGates" "taped" "I") ∈ lw_all := lw_g (lw_at lw_m1 100 rfl) rfl
theorem q157 : (Jvm.Cond.fieldLink "DuskGates" (185 : Nat) "DuskGates" "faultKind" "I") ∈ lw_all := lw_g (lw_at lw_m1 101 rfl) rfl
theorem q158 : (Jvm.Cond.fieldLink "DuskGates" (42 : Nat) "DuskGates" "carts" "Ljava/util/List;") ∈ lw_all := lw_g (lw_at lw_m1 102 rfl) rfl
theorem q159 : (Jvm.Cond.fieldLink "DuskGates" (45 : Nat) "DuskGates" "passings" "Ljava/util/List;") ∈ lw_all := lw_g (lw_at lw_m1 103 rfl) rfl
theorem q160 : (Jvm.Cond.fieldLink "DuskGates" (48 : Nat) "DuskGates" "roads" "[I") ∈ lw_all := lw_g (lw_at lw_m1 104 rfl) rfl
theorem q161 : (Jvm.Cond.fieldLink "DuskGates" (51 : Nat) "DuskGates" "sick" "Ljava/util/List;") ∈ lw_all := lw_g (lw_at lw_m1 105 rfl) rfl
theorem q162 : (Jvm.Cond.fieldLink "DuskGates" (54 : Nat) "DuskGates" "passes" "Ljava/util/List;") ∈ lw_all := lw_g (lw_at lw_m1 106 rfl) rfl
theorem q163 : (Jvm.Cond.fieldLink "DuskGates" (57 : Nat) "DuskGates" "guests" "Ljava/util/List;") ∈ lw_all := lw_g (lw_at lw_m1 107 rfl) rfl
theorem q164 : (Jvm.Cond.fieldLink "DuskGates" (60 : Nat) "DuskGates" "cases" "[I") ∈ lw_all := lw_g (lw_at lw_m1 108 rfl) rfl
theorem q165 : (Jvm.Cond.fieldLink "DuskGates" (63 : Nat) "DuskGates" "highs" "[I") ∈ lw_all := lw_g (lw_at lw_m1 109 rfl) rfl
theorem q166 : (Jvm.Cond.fieldLink "DuskGates" (66 : Nat) "DuskGates" "inside" "[I") ∈ lw_all := lw_g (lw_at lw_m1 110 rfl) rfl
theorem q167 : (Jvm.Cond.fieldLink "DuskGates" (69 : Nat) "DuskGates" "outside" "[I") ∈ lw_all := lw_g (lw_at lw_m1 111 rfl) rfl
theorem q168 : (Jvm.Cond.fieldLink "DuskGates" (419 : Nat) "DuskGates" "leaning" "I") ∈ lw_all := lw_g (lw_at lw_m1 112 rfl) rfl
theorem q169 : (Jvm.Cond.fieldLink "DuskGates" (429 : Nat) "DuskGates" "today" "I") ∈ lw_all := lw_g (lw_at lw_m1 113 rfl) rfl
theorem q170 : (Jvm.Cond.fieldLink "DuskGates" (75 : Nat) "DuskGates" "trail" "LDuskGates$Trail;") ∈ lw_all := lw_g (lw_at lw_m1 114 rfl) rfl
theorem q171 : (Jvm.Cond.fieldLink "DuskGates" (86 : Nat) "DuskGates" "status" "I") ∈ lw_all := lw_g (lw_at lw_m1 115 rfl) rfl
theorem q172 : (Jvm.Cond.laysFinal "DuskGates" "DuskGates" "sheets" "[LDuskGates$Sheet;") ∈ lw_all := lw_g (lw_at lw_m1 116 rfl) rfl
theorem q173 : (Jvm.Cond.soleField "DuskGates" "sheets") ∈ lw_all := lw_g (lw_at lw_m1 117 rfl) rfl
theorem q174 : (Jvm.Cond.laysFinal "DuskGates" "DuskGates" "opens" "[I") ∈ lw_all := lw_g (lw_at lw_m1 118 rfl) rfl
theorem q175 : (Jvm.Cond.soleField "DuskGates" "opens") ∈ lw_all := lw_g (lw_at lw_m1 119 rfl) rfl
theorem q176 : (Jvm.Cond.laysFinal "DuskGates" "DuskGates" "shuts" "[I") ∈ lw_all := lw_g (lw_at lw_m1 120 rfl) rfl
theorem q177 : (Jvm.Cond.soleField "DuskGates" "shuts") ∈ lw_all := lw_g (lw_at lw_m1 121 rfl) rfl
theorem q178 : (Jvm.Cond.laysFinal "DuskGates" "DuskGates" "parts" "[I") ∈ lw_all := lw_g (lw_at lw_m1 122 rfl) rfl
theorem q179 : (Jvm.Cond.soleField "DuskGates" "parts") ∈ lw_all := lw_g (lw_at lw_m1 123 rfl) rfl
theorem q180 : (Jvm.Cond.laysFinal "DuskGates" "DuskGates" "gateX" "[I") ∈ lw_all := lw_g (lw_at lw_m1 124 rfl) rfl
theorem q181 : (Jvm.Cond.soleField "DuskGates" "gateX") ∈ lw_all := lw_g (lw_at lw_m1 125 rfl) rfl
theorem q182 : (Jvm.Cond.laysFinal "DuskGates" "DuskGates" "gateY" "[I") ∈ lw_all := lw_g (lw_at lw_m1 126 rfl) rfl
theorem q183 : (Jvm.Cond.soleField "DuskGates" "gateY") ∈ lw_all := lw_g (lw_at lw_m1 127 rfl) rfl
theorem q184 : (Jvm.Cond.laysFinal "DuskGates" "DuskGates" "laws" "Ljava/util/List;") ∈ lw_all := lw_g (lw_at lw_m1 128 rfl) rfl
theorem q185 : (Jvm.Cond.soleField "DuskGates" "laws") ∈ lw_all := lw_g (lw_at lw_m1 129 rfl) rfl
theorem q186 : (Jvm.Cond.laysFinal "DuskGates" "DuskGates" "tape" "[B") ∈ lw_all := lw_g (lw_at lw_m1 130 rfl) rfl
theorem q187 : (Jvm.Cond.soleField "DuskGates" "tape") ∈ lw_all := lw_g (lw_at lw_m1 131 rfl) rfl
theorem q188 : (Jvm.Cond.lays "DuskGates" "DuskGates" "taped" "I") ∈ lw_all := lw_g (lw_at lw_m1 132 rfl) rfl
theorem q189 : (Jvm.Cond.soleField "DuskGates" "taped") ∈ lw_all := lw_g (lw_at lw_m1 133 rfl) rfl
theorem q190 : (Jvm.Cond.lays "DuskGates" "DuskGates" "faultKind" "I") ∈ lw_all := lw_g (lw_at lw_m1 134 rfl) rfl
theorem q191 : (Jvm.Cond.soleField "DuskGates" "faultKind") ∈ lw_all := lw_g (lw_at lw_m1 135 rfl) rfl
theorem q192 : (Jvm.Cond.laysFinal "DuskGates" "DuskGates" "carts" "Ljava/util/List;") ∈ lw_all := lw_g (lw_at lw_m1 136 rfl) rfl
theorem q193 : (Jvm.Cond.soleField "DuskGates" "carts") ∈ lw_all := lw_g (lw_at lw_m1 137 rfl) rfl
theorem q194 : (Jvm.Cond.laysFinal "DuskGates" "DuskGates" "passings" "Ljava/util/List;") ∈ lw_all := lw_g (lw_at lw_m1 138 rfl) rfl
theorem q195 : (Jvm.Cond.soleField "DuskGates" "passings") ∈ lw_all := lw_g (lw_at lw_m1 139 rfl) rfl
theorem q196 : (Jvm.Cond.laysFinal "DuskGates" "DuskGates" "roads" "[I") ∈ lw_all := lw_g (lw_at lw_m1 140 rfl) rfl
theorem q197 : (Jvm.Cond.soleField "DuskGates" "roads") ∈ lw_all := lw_g (lw_at lw_m1 141 rfl) rfl
theorem q198 : (Jvm.Cond.laysFinal "DuskGates" "DuskGates" "sick" "Ljava/util/List;") ∈ lw_all := lw_g (lw_at lw_m1 142 rfl) rfl
theorem q199 : (Jvm.Cond.soleField "DuskGates" "sick") ∈ lw_all := lw_g (lw_at lw_m1 143 rfl) rfl
theorem q200 : (Jvm.Cond.laysFinal "DuskGates" "DuskGates" "passes" "Ljava/util/List;") ∈ lw_all := lw_g (lw_at lw_m1 144 rfl) rfl
theorem q201 : (Jvm.Cond.soleField "DuskGates" "passes") ∈ lw_all := lw_g (lw_at lw_m1 145 rfl) rfl
theorem q202 : (Jvm.Cond.laysFinal "DuskGates" "DuskGates" "guests" "Ljava/util/List;") ∈ lw_all := lw_g (lw_at lw_m1 146 rfl) rfl
theorem q203 : (Jvm.Cond.soleField "DuskGates" "guests") ∈ lw_all := lw_g (lw_at lw_m1 147 rfl) rfl
theorem q204 : (Jvm.Cond.laysFinal "DuskGates" "DuskGates" "cases" "[I") ∈ lw_all := lw_g (lw_at lw_m1 148 rfl) rfl
theorem q205 : (Jvm.Cond.soleField "DuskGates" "cases") ∈ lw_all := lw_g (lw_at lw_m1 149 rfl) rfl
theorem q206 : (Jvm.Cond.laysFinal "DuskGates" "DuskGates" "highs" "[I") ∈ lw_all := lw_g (lw_at lw_m1 150 rfl) rfl
theorem q207 : (Jvm.Cond.soleField "DuskGates" "highs") ∈ lw_all := lw_g (lw_at lw_m1 151 rfl) rfl
theorem q208 : (Jvm.Cond.laysFinal "DuskGates" "DuskGates" "inside" "[I") ∈ lw_all := lw_g (lw_at lw_m1 152 rfl) rfl
theorem q209 : (Jvm.Cond.soleField "DuskGates" "inside") ∈ lw_all := lw_g (lw_at lw_m1 153 rfl) rfl
theorem q210 : (Jvm.Cond.laysFinal "DuskGates" "DuskGates" "outside" "[I") ∈ lw_all := lw_g (lw_at lw_m1 154 rfl) rfl
theorem q211 : (Jvm.Cond.soleField "DuskGates" "outside") ∈ lw_all := lw_g (lw_at lw_m1 155 rfl) rfl
theorem q212 : (Jvm.Cond.lays "DuskGates" "DuskGates" "leaning" "I") ∈ lw_all := lw_g (lw_at lw_m1 156 rfl) rfl
theorem q213 : (Jvm.Cond.soleField "DuskGates" "leaning") ∈ lw_all := lw_g (lw_at lw_m1 157 rfl) rfl
theorem q214 : (Jvm.Cond.lays "DuskGates" "DuskGates" "today" "I") ∈ lw_all := lw_g (lw_at lw_m1 158 rfl) rfl
theorem q215 : (Jvm.Cond.soleField "DuskGates" "today") ∈ lw_all := lw_g (lw_at lw_m1 159 rfl) rfl
theorem q216 : (Jvm.Cond.lays "DuskGates" "DuskGates" "trail" "LDuskGates$Trail;") ∈ lw_all := lw_g (lw_at lw_m1 160 rfl) rfl
theorem q217 : (Jvm.Cond.soleField "DuskGates" "trail") ∈ lw_all := lw_g (lw_at lw_m1 161 rfl) rfl
theorem q218 : (Jvm.Cond.lays "DuskGates" "DuskGates" "status" "I") ∈ lw_all := lw_g (lw_at lw_m1 162 rfl) rfl
theorem q219 : (Jvm.Cond.soleField "DuskGates" "status") ∈ lw_all := lw_g (lw_at lw_m1 163 rfl) rfl
theorem q220 : (Jvm.Cond.superclass "DuskGates" "java/lang/Object") ∈ lw_all := lw_g (lw_at lw_m1 164 rfl) rfl
theorem q222 : (Jvm.Cond.instanceMethod ({ cls := "DuskGates", name := "sheet", desc := "(III)I" } : Jvm.MethodName)) ∈ lw_all := lw_g (lw_at lw_m1 166 rfl) rfl
theorem q223 : (Jvm.Cond.selects "DuskGates" ({ cls := "DuskGates", name := "sheet", desc := "(III)I" } : Jvm.MethodName) ({ cls := "DuskGates", name := "sheet", desc := "(III)I" } : Jvm.MethodName)) ∈ lw_all := lw_g (lw_at lw_m1 167 rfl) rfl
theorem q224 : (Jvm.Cond.codeWith ({ cls := "DuskGates", name := "sheet", desc := "(III)I" } : Jvm.MethodName) prog_1_method_8_code (5 : Nat) (Option.some Jvm.ClassFile.FieldType.int) [((28 : Nat), (61 : Nat), (62 : Nat), (81 : Nat))]) ∈ lw_all := lw_g (lw_at lw_m1 168 rfl) rfl
theorem q225 : (Jvm.Cond.classLink "DuskGates" (81 : Nat) "DuskGates$Finding") ∈ lw_all := lw_g (lw_at lw_m1 169 rfl) rfl
theorem q226 : (Jvm.Cond.methodLink "DuskGates" (103 : Nat) ({ cls := "DuskGates", name := "isSheet", desc := "(I)Z" } : Jvm.MethodName)) ∈ lw_all := lw_g (lw_at lw_m1 170 rfl) rfl
theorem q227 : (Jvm.Cond.static ({ cls := "DuskGates", name := "isSheet", desc := "(I)Z" } : Jvm.MethodName)) ∈ lw_all := lw_g (lw_at lw_m1 171 rfl) rfl
theorem q228 : (Jvm.Cond.code ({ cls := "DuskGates", name := "isSheet", desc := "(I)Z" } : Jvm.MethodName) prog_1_method_6_code (1 : Nat) (Option.some Jvm.ClassFile.FieldType.boolean)) ∈ lw_all := lw_g (lw_at lw_m1 172 rfl) rfl
theorem q229 : (Jvm.Cond.constantLong "DuskGates" (93 : Nat) (7 : Int64)) ∈ lw_all := lw_g (lw_at lw_m1 173 rfl) rfl
theorem q230 : (Jvm.Cond.methodLink "DuskGates" (95 : Nat) ({ cls := "DuskGates", name := "isIn", desc := "(JJJ)Z" } : Jvm.MethodName)) ∈ lw_all := lw_g (lw_at lw_m1 174 rfl) rfl
theorem q231 : (Jvm.Cond.static ({ cls := "DuskGates", name := "isIn", desc := "(JJJ)Z" } : Jvm.MethodName)) ∈ lw_all := lw_g (lw_at lw_m1 175 rfl) rfl
theorem q232 : (Jvm.Cond.code ({ cls := "DuskGates", name := "isIn", desc := "(JJJ)Z" } : Jvm.MethodName) prog_1_method_1_code (6 : Nat) (Option.some Jvm.ClassFile.FieldType.boolean)) ∈ lw_all := lw_g (lw_at lw_m1 176 rfl) rfl
theorem q233 : (Jvm.Cond.constantLong "DuskGates" (107 : Nat) (2 : Int64)) ∈ lw_all := lw_g (lw_at lw_m1 177 rfl) rfl
theorem q234 : (Jvm.Cond.constant "DuskGates" (109 : Nat) (-1000001 : Int32)) ∈ lw_all := lw_g (lw_at lw_m1 178 rfl) rfl
theorem q235 : (Jvm.Cond.methodLink "DuskGates" (99 : Nat) ({ cls := "DuskGates", name := "must", desc := "(ZI)V" } : Jvm.MethodName)) ∈ lw_all := lw_g (lw_at lw_m1 179 rfl) rfl
theorem q236 : (Jvm.Cond.static ({ cls := "DuskGates", name := "must", desc := "(ZI)V" } : Jvm.MethodName)) ∈ lw_all := lw_g (lw_at lw_m1 180 rfl) rfl
theorem q237 : (Jvm.Cond.code ({ cls := "DuskGates", name := "must", desc := "(ZI)V" } : Jvm.MethodName) prog_1_method_5_code (2 : Nat) (Option.none : Option Jvm.ClassFile.FieldType)) ∈ lw_all := lw_g (lw_at lw_m1 181 rfl) rfl
theorem q278 : (Jvm.Cond.methodLink "DuskGates" (90 : Nat) ({ cls := "DuskGates$Finding", name := "<init>", desc := "(I)V" } : Jvm.MethodName)) ∈ lw_all := lw_g (lw_at lw_m1 222 rfl) rfl
theorem q288 : (Jvm.Cond.fieldLink "DuskGates" (80 : Nat) "DuskGates$Finding" "number" "I") ∈ lw_all := lw_g (lw_at lw_m1 232 rfl) rfl
theorem q305 : (Jvm.Cond.methodLink "DuskGates" (110 : Nat) ({ cls := "DuskGates$Sheet", name := "<init>", desc := "(II)V" } : Jvm.MethodName)) ∈ lw_all := lw_g (lw_at lw_m2 9 rfl) rfl
theorem q310 : (Jvm.Cond.fieldLink "DuskGates" (131 : Nat) "DuskGates$Sheet" "lane" "I") ∈ lw_all := lw_g (lw_at lw_m2 14 rfl) rfl
theorem q312 : (Jvm.Cond.fieldLink "DuskGates" (125 : Nat) "DuskGates$Sheet" "items" "[I") ∈ lw_all := lw_g (lw_at lw_m2 16 rfl) rfl
theorem q318 : (Jvm.Cond.methodLink "DuskGates" (113 : Nat) ({ cls := "DuskGates", name := "well", desc := "(I)I" } : Jvm.MethodName)) ∈ lw_all := lw_g (lw_at lw_m2 22 rfl) rfl
theorem q319 : (Jvm.Cond.privateMethod ({ cls := "DuskGates", name := "well", desc := "(I)I" } : Jvm.MethodName)) ∈ lw_tbl := lw_at lw_m2 23 rfl
theorem q320 : (Jvm.Cond.instanceMethod ({ cls := "DuskGates", name := "well", desc := "(I)I" } : Jvm.MethodName)) ∈ lw_all := lw_g (lw_at lw_m2 24 rfl) rfl
theorem q321 : (Jvm.Cond.code ({ cls := "DuskGates", name := "well", desc := "(I)I" } : Jvm.MethodName) prog_1_method_4_code (2 : Nat) (Option.some Jvm.ClassFile.FieldType.int)) ∈ lw_all := lw_g (lw_at lw_m2 25 rfl) rfl
theorem q322 : (Jvm.Cond.methodLink "DuskGates" (117 : Nat) ({ cls := "DuskGates", name := "found", desc := "(LDuskGates$Finding;)I" } : Jvm.MethodName)) ∈ lw_all := lw_g (lw_at lw_m2 26 rfl) rfl
theorem q323 : (Jvm.Cond.privateMethod ({ cls := "DuskGates", name := "found", desc := "(LDuskGates$Finding;)I" } : Jvm.MethodName)) ∈ lw_tbl := lw_at lw_m2 27 rfl
theorem q324 : (Jvm.Cond.instanceMethod ({ cls := "DuskGates", name := "found", desc := "(LDuskGates$Finding;)I" } : Jvm.MethodName)) ∈ lw_all := lw_g (lw_at lw_m2 28 rfl) rfl
theorem q325 : (Jvm.Cond.code ({ cls := "DuskGates", name := "found", desc := "(LDuskGates$Finding;)I" } : Jvm.MethodName) prog_1_method_3_code (2 : Nat) (Option.some Jvm.ClassFile.FieldType.int)) ∈ lw_all := lw_g (lw_at lw_m2 29 rfl) rfl
theorem q326 : (Jvm.Cond.constant "DuskGates" (89 : Nat) (-1000010 : Int32)) ∈ lw_all := lw_g (lw_at lw_m2 30 rfl) rfl
theorem q328 : (Jvm.Cond.instanceMethod ({ cls := "DuskGates", name := "set", desc := "(III)I" } : Jvm.MethodName)) ∈ lw_all := lw_g (lw_at lw_m2 32 rfl) rfl
theorem q329 : (Jvm.Cond.selects "DuskGates" ({ cls := "DuskGates", name := "set", desc := "(III)I" } : Jvm.MethodName) ({ cls := "DuskGates", name := "set", desc := "(III)I" } : Jvm.MethodName)) ∈ lw_all := lw_g (lw_at lw_m2 33 rfl) rfl
theorem q330 : (Jvm.Cond.codeWith ({ cls := "DuskGates", name := "set", desc := "(III)I" } : Jvm.MethodName) prog_1_method_9_code (5 : Nat) (Option.some Jvm.ClassFile.FieldType.int) [((10 : Nat), (60 : Nat), (61 : Nat), (81 : Nat))]) ∈ lw_all := lw_g (lw_at lw_m2 34 rfl) rfl
theorem q331 : (Jvm.Cond.methodLink "DuskGates" (121 : Nat) ({ cls := "DuskGates", name := "sheetAt", desc := "(I)LDuskGates$Sheet;" } : Jvm.MethodName)) ∈ lw_all := lw_g (lw_at lw_m2 35 rfl) rfl
theorem q332 : (Jvm.Cond.privateMethod ({ cls := "DuskGates", name := "sheetAt", desc := "(I)LDuskGates$Sheet;" } : Jvm.MethodName)) ∈ lw_tbl := lw_at lw_m2 36 rfl
theorem q333 : (Jvm.Cond.instanceMethod ({ cls := "DuskGates", name := "sheetAt", desc := "(I)LDuskGates$Sheet;" } : Jvm.MethodName)) ∈ lw_all := lw_g (lw_at lw_m2 37 rfl) rfl
theorem q334 : (Jvm.Cond.code ({ cls := "DuskGates", name := "sheetAt", desc := "(I)LDuskGates$Sheet;" } : Jvm.MethodName) prog_1_method_7_code (2 : Nat) (Option.some (Jvm.ClassFile.FieldType.object "DuskGates$Sheet"))) ∈ lw_all := lw_g (lw_at lw_m2 38 rfl) rfl
theorem q335 : (Jvm.Cond.methodLink "DuskGates" (128 : Nat) ({ cls := "DuskGates$Sheet", name := "cut", desc := "(I)I" } : Jvm.MethodName)) ∈ lw_all := lw_g (lw_at lw_m2 39 rfl) rfl
theorem q340 : (Jvm.Cond.instanceMethod ({ cls := "DuskGates", name := "copy", desc := "(IIIII)I" } : Jvm.MethodName)) ∈ lw_all := lw_g (lw_at lw_m2 44 rfl) rfl
theorem q341 : (Jvm.Cond.selects "DuskGates" ({ cls := "DuskGates", name := "copy", desc := "(IIIII)I" } : Jvm.MethodName) ({ cls := "DuskGates", name := "copy", desc := "(IIIII)I" } : Jvm.MethodName)) ∈ lw_all := lw_g (lw_at lw_m2 45 rfl) rfl
theorem q342 : (Jvm.Cond.codeWith ({ cls := "DuskGates", name := "copy", desc := "(IIIII)I" } : Jvm.MethodName) prog_1_method_10_code (9 : Nat) (Option.some Jvm.ClassFile.FieldType.int) [((53 : Nat), (71 : Nat), (74 : Nat), (140 : Nat)), ((17 : Nat), (91 : Nat), (92 : Nat), (81 : Nat))]) ∈ lw_all := lw_g (lw_at lw_m2 46 rfl) rfl
theorem q343 : (Jvm.Cond.classLink "DuskGates" (140 : Nat) "java/lang/IndexOutOfBoundsException") ∈ lw_all := lw_g (lw_at lw_m2 47 rfl) rfl
theorem q377 : (Jvm.Cond.methodLink "DuskGates" (134 : Nat) ({ cls := "java/lang/System", name := "arraycopy", desc := "(Ljava/lang/Object;ILjava/lang/Object;II)V" } : Jvm.MethodName)) ∈ lw_all := lw_g (lw_at lw_m2 81 rfl) rfl
theorem q381 : (Jvm.Cond.instanceMethod ({ cls := "DuskGates", name := "drop", desc := "(I)I" } : Jvm.MethodName)) ∈ lw_all := lw_g (lw_at lw_m2 85 rfl) rfl
theorem q382 : (Jvm.Cond.selects "DuskGates" ({ cls := "DuskGates", name := "drop", desc := "(I)I" } : Jvm.MethodName) ({ cls := "DuskGates", name := "drop", desc := "(I)I" } : Jvm.MethodName)) ∈ lw_all := lw_g (lw_at lw_m2 86 rfl) rfl
theorem q383 : (Jvm.Cond.codeWith ({ cls := "DuskGates", name := "drop", desc := "(I)I" } : Jvm.MethodName) prog_1_method_11_code (3 : Nat) (Option.some Jvm.ClassFile.FieldType.int) [((10 : Nat), (32 : Nat), (33 : Nat), (81 : Nat))]) ∈ lw_all := lw_g (lw_at lw_m2 87 rfl) rfl
theorem q385 : (Jvm.Cond.instanceMethod ({ cls := "DuskGates", name := "bell", desc := "(III)I" } : Jvm.MethodName)) ∈ lw_all := lw_g (lw_at lw_m2 89 rfl) rfl
theorem q386 : (Jvm.Cond.selects "DuskGates" ({ cls := "DuskGates", name := "bell", desc := "(III)I" } : Jvm.MethodName) ({ cls := "DuskGates", name := "bell", desc := "(III)I" } : Jvm.MethodName)) ∈ lw_all := lw_g (lw_at lw_m2 90 rfl) rfl
theorem q387 : (Jvm.Cond.code ({ cls := "DuskGates", name := "bell", desc := "(III)I" } : Jvm.MethodName) prog_1_method_17_code (4 : Nat) (Option.some Jvm.ClassFile.FieldType.int)) ∈ lw_all := lw_g (lw_at lw_m2 91 rfl) rfl
theorem q388 : (Jvm.Cond.methodLink "DuskGates" (151 : Nat) ({ cls := "DuskGates", name := "isGate", desc := "(I)Z" } : Jvm.MethodName)) ∈ lw_all := lw_g (lw_at lw_m2 92 rfl) rfl
theorem q389 : (Jvm.Cond.static ({ cls := "DuskGates", name := "isGate", desc := "(I)Z" } : Jvm.MethodName)) ∈ lw_all := lw_g (lw_at lw_m2 93 rfl) rfl
theorem q390 : (Jvm.Cond.code ({ cls := "DuskGates", name := "isGate", desc := "(I)Z" } : Jvm.MethodName) prog_1_method_12_code (1 : Nat) (Option.some Jvm.ClassFile.FieldType.boolean)) ∈ lw_all := lw_g (lw_at lw_m2 94 rfl) rfl
theorem q391 : (Jvm.Cond.constantLong "DuskGates" (142 : Nat) (8 : Int64)) ∈ lw_all := lw_g (lw_at lw_m2 95 rfl) rfl
theorem q392 : (Jvm.Cond.constantLong "DuskGates" (154 : Nat) (1440 : Int64)) ∈ lw_all := lw_g (lw_at lw_m2 96 rfl) rfl
theorem q394 : (Jvm.Cond.instanceMethod ({ cls := "DuskGates", name := "part", desc := "(II)I" } : Jvm.MethodName)) ∈ lw_all := lw_g (lw_at lw_m2 98 rfl) rfl
theorem q395 : (Jvm.Cond.selects "DuskGates" ({ cls := "DuskGates", name := "part", desc := "(II)I" } : Jvm.MethodName) ({ cls := "DuskGates", name := "part", desc := "(II)I" } : Jvm.MethodName)) ∈ lw_all := lw_g (lw_at lw_m2 99 rfl) rfl
theorem q396 : (Jvm.Cond.code ({ cls := "DuskGates", name := "part", desc := "(II)I" } : Jvm.MethodName) prog_1_method_18_code (4 : Nat) (Option.some Jvm.ClassFile.FieldType.int)) ∈ lw_all := lw_g (lw_at lw_m2 100 rfl) rfl
theorem q397 : (Jvm.Cond.constantLong "DuskGates" (156 : Nat) (300 : Int64)) ∈ lw_all := lw_g (lw_at lw_m2 101 rfl) rfl
theorem q399 : (Jvm.Cond.instanceMethod ({ cls := "DuskGates", name := "stands", desc := "(III)I" } : Jvm.MethodName)) ∈ lw_all := lw_g (lw_at lw_m2 103 rfl) rfl
theorem q400 : (Jvm.Cond.selects "DuskGates" ({ cls := "DuskGates", name := "stands", desc := "(III)I" } : Jvm.MethodName) ({ cls := "DuskGates", name := "stands", desc := "(III)I" } : Jvm.MethodName)) ∈ lw_all := lw_g (lw_at lw_m2 104 rfl) rfl
theorem q401 : (Jvm.Cond.code ({ cls := "DuskGates", name := "stands", desc := "(III)I" } : Jvm.MethodName) prog_1_method_19_code (4 : Nat) (Option.some Jvm.ClassFile.FieldType.int)) ∈ lw_all := lw_g (lw_at lw_m2 105 rfl) rfl
theorem q402 : (Jvm.Cond.methodLink "DuskGates" (158 : Nat) ({ cls := "DuskGates", name := "isPlace", desc := "(II)Z" } : Jvm.MethodName)) ∈ lw_all := lw_g (lw_at lw_m2 106 rfl) rfl
theorem q403 : (Jvm.Cond.static ({ cls := "DuskGates", name := "isPlace", desc := "(II)Z" } : Jvm.MethodName)) ∈ lw_all := lw_g (lw_at lw_m2 107 rfl) rfl
theorem q404 : (Jvm.Cond.code ({ cls := "DuskGates", name := "isPlace", desc := "(II)Z" } : Jvm.MethodName) prog_1_method_16_code (2 : Nat) (Option.some Jvm.ClassFile.FieldType.boolean)) ∈ lw_all := lw_g (lw_at lw_m2 108 rfl) rfl
theorem q405 : (Jvm.Cond.constantLong "DuskGates" (144 : Nat) (999 : Int64)) ∈ lw_all := lw_g (lw_at lw_m2 109 rfl) rfl
theorem q407 : (Jvm.Cond.instanceMethod ({ cls := "DuskGates", name := "feed", desc := "(JI)I" } : Jvm.MethodName)) ∈ lw_all := lw_g (lw_at lw_m2 111 rfl) rfl
theorem q408 : (Jvm.Cond.selects "DuskGates" ({ cls := "DuskGates", name := "feed", desc := "(JI)I" } : Jvm.MethodName) ({ cls := "DuskGates", name := "feed", desc := "(JI)I" } : Jvm.MethodName)) ∈ lw_all := lw_g (lw_at lw_m2 112 rfl) rfl
theorem q409 : (Jvm.Cond.code ({ cls := "DuskGates", name := "feed", desc := "(JI)I" } : Jvm.MethodName) prog_1_method_21_code (5 : Nat) (Option.some Jvm.ClassFile.FieldType.int)) ∈ lw_all := lw_g (lw_at lw_m2 113 rfl) rfl
theorem q410 : (Jvm.Cond.constant "DuskGates" (165 : Nat) (-1000003 : Int32)) ∈ lw_all := lw_g (lw_at lw_m2 114 rfl) rfl
theorem q412 : (Jvm.Cond.instanceMethod ({ cls := "DuskGates", name := "laws", desc := "()I" } : Jvm.MethodName)) ∈ lw_all := lw_g (lw_at lw_m2 116 rfl) rfl
theorem q413 : (Jvm.Cond.selects "DuskGates" ({ cls := "DuskGates", name := "laws", desc := "()I" } : Jvm.MethodName) ({ cls := "DuskGates", name := "laws", desc := "()I" } : Jvm.MethodName)) ∈ lw_all := lw_g (lw_at lw_m2 117 rfl) rfl
theorem q414 : (Jvm.Cond.codeWith ({ cls := "DuskGates", name := "laws", desc := "()I" } : Jvm.MethodName) prog_1_method_22_code (3 : Nat) (Option.some Jvm.ClassFile.FieldType.int) [((33 : Nat), (37 : Nat), (40 : Nat), (180 : Nat))]) ∈ lw_all := lw_g (lw_at lw_m2 118 rfl) rfl
theorem q415 : (Jvm.Cond.classLink "DuskGates" (180 : Nat) "DuskGates$Fault") ∈ lw_all := lw_g (lw_at lw_m2 119 rfl) rfl
theorem q416 : (Jvm.Cond.classLink "DuskGates" (166 : Nat) "DuskGates$Reader") ∈ lw_all := lw_g (lw_at lw_m2 120 rfl) rfl
theorem q418 : (Jvm.Cond.interfaceEntry "DuskGates" (168 : Nat)) ∈ lw_tbl := lw_at lw_m2 122 rfl
theorem q419 : (Jvm.Cond.methodLink "DuskGates" (168 : Nat) ({ cls := "java/util/List", name := "size", desc := "()I" } : Jvm.MethodName)) ∈ lw_all := lw_g (lw_at lw_m2 123 rfl) rfl
theorem q428 : (Jvm.Cond.methodLink "DuskGates" (174 : Nat) ({ cls := "DuskGates$Reader", name := "<init>", desc := "([BII)V" } : Jvm.MethodName)) ∈ lw_all := lw_g (lw_at lw_m2 132 rfl) rfl
theorem q444 : (Jvm.Cond.fieldLink "DuskGates" (192 : Nat) "DuskGates$Reader" "made" "Ljava/util/List;") ∈ lw_all := lw_g (lw_at lw_m2 148 rfl) rfl
theorem q464 : (Jvm.Cond.methodLink "DuskGates" (177 : Nat) ({ cls := "DuskGates$Reader", name := "all", desc := "()V" } : Jvm.MethodName)) ∈ lw_all := lw_g (lw_at lw_m2 168 rfl) rfl
theorem q693 : (Jvm.Cond.fieldLink "DuskGates" (182 : Nat) "DuskGates$Fault" "kind" "I") ∈ lw_all := lw_g (lw_at lw_m3 157 rfl) rfl
theorem q695 : (Jvm.Cond.fieldLink "DuskGates" (189 : Nat) "DuskGates$Fault" "place" "I") ∈ lw_all := lw_g (lw_at lw_m3 159 rfl) rfl
theorem q707 : (Jvm.Cond.laysStatic "DuskGates" "WORDS_OF" "[Ljava/lang/String;") ∈ lw_tbl := lw_at lw_m3 171 rfl
theorem q721 : (Jvm.Cond.fieldLink "DuskGates" (211 : Nat) "DuskGates$Law" "day" "I") ∈ lw_all := lw_g (lw_at lw_m3 185 rfl) rfl
theorem q723 : (Jvm.Cond.fieldLink "DuskGates" (205 : Nat) "DuskGates$Law" "what" "I") ∈ lw_all := lw_g (lw_at lw_m3 187 rfl) rfl
theorem q725 : (Jvm.Cond.fieldLink "DuskGates" (208 : Nat) "DuskGates$Law" "of" "I") ∈ lw_all := lw_g (lw_at lw_m3 189 rfl) rfl
theorem q727 : (Jvm.Cond.fieldLink "DuskGates" (214 : Nat) "DuskGates$Law" "number" "I") ∈ lw_all := lw_g (lw_at lw_m3 191 rfl) rfl
theorem q765 : (Jvm.Cond.selects "DuskGates" ({ cls := "java/lang/Object", name := "getClass", desc := "()Ljava/lang/Class;" } : Jvm.MethodName) ({ cls := "java/lang/Object", name := "getClass", desc := "()Ljava/lang/Class;" } : Jvm.MethodName)) ∈ lw_all := lw_g (lw_at lw_m3 229 rfl) rfl
theorem q795 : (Jvm.Cond.constant "DuskGates" (188 : Nat) (-1000100 : Int32)) ∈ lw_all := lw_g (lw_at lw_m4 19 rfl) rfl
theorem q796 : (Jvm.Cond.interfaceEntry "DuskGates" (195 : Nat)) ∈ lw_tbl := lw_at lw_m4 20 rfl
theorem q797 : (Jvm.Cond.methodLink "DuskGates" (195 : Nat) ({ cls := "java/util/List", name := "get", desc := "(I)Ljava/lang/Object;" } : Jvm.MethodName)) ∈ lw_all := lw_g (lw_at lw_m4 21 rfl) rfl
theorem q813 : (Jvm.Cond.classLink "DuskGates" (199 : Nat) "DuskGates$Law") ∈ lw_all := lw_g (lw_at lw_m4 37 rfl) rfl
theorem q814 : (Jvm.Cond.interfaceEntry "DuskGates" (201 : Nat)) ∈ lw_tbl := lw_at lw_m4 38 rfl
theorem q815 : (Jvm.Cond.methodLink "DuskGates" (201 : Nat) ({ cls := "java/util/List", name := "add", desc := "(Ljava/lang/Object;)Z" } : Jvm.MethodName)) ∈ lw_all := lw_g (lw_at lw_m4 39 rfl) rfl
theorem q817 : (Jvm.Cond.instanceMethod ({ cls := "DuskGates", name := "fault", desc := "()I" } : Jvm.MethodName)) ∈ lw_all := lw_g (lw_at lw_m4 41 rfl) rfl
theorem q818 : (Jvm.Cond.selects "DuskGates" ({ cls := "DuskGates", name := "fault", desc := "()I" } : Jvm.MethodName) ({ cls := "DuskGates", name := "fault", desc := "()I" } : Jvm.MethodName)) ∈ lw_all := lw_g (lw_at lw_m4 42 rfl) rfl
theorem q819 : (Jvm.Cond.code ({ cls := "DuskGates", name := "fault", desc := "()I" } : Jvm.MethodName) prog_1_method_23_code (1 : Nat) (Option.some Jvm.ClassFile.FieldType.int)) ∈ lw_all := lw_g (lw_at lw_m4 43 rfl) rfl
theorem q821 : (Jvm.Cond.instanceMethod ({ cls := "DuskGates", name := "holds", desc := "(II)I" } : Jvm.MethodName)) ∈ lw_all := lw_g (lw_at lw_m4 45 rfl) rfl
theorem q822 : (Jvm.Cond.selects "DuskGates" ({ cls := "DuskGates", name := "holds", desc := "(II)I" } : Jvm.MethodName) ({ cls := "DuskGates", name := "holds", desc := "(II)I" } : Jvm.MethodName)) ∈ lw_all := lw_g (lw_at lw_m4 46 rfl) rfl
theorem q823 : (Jvm.Cond.code ({ cls := "DuskGates", name := "holds", desc := "(II)I" } : Jvm.MethodName) prog_1_method_25_code (3 : Nat) (Option.some Jvm.ClassFile.FieldType.int)) ∈ lw_all := lw_g (lw_at lw_m4 47 rfl) rfl
theorem q824 : (Jvm.Cond.methodLink "DuskGates" (148 : Nat) ({ cls := "DuskGates", name := "isDay", desc := "(I)Z" } : Jvm.MethodName)) ∈ lw_all := lw_g (lw_at lw_m4 48 rfl) rfl
theorem q825 : (Jvm.Cond.static ({ cls := "DuskGates", name := "isDay", desc := "(I)Z" } : Jvm.MethodName)) ∈ lw_all := lw_g (lw_at lw_m4 49 rfl) rfl
theorem q826 : (Jvm.Cond.code ({ cls := "DuskGates", name := "isDay", desc := "(I)Z" } : Jvm.MethodName) prog_1_method_13_code (1 : Nat) (Option.some Jvm.ClassFile.FieldType.boolean)) ∈ lw_all := lw_g (lw_at lw_m4 50 rfl) rfl
theorem q827 : (Jvm.Cond.methodLink "DuskGates" (215 : Nat) ({ cls := "DuskGates", name := "law", desc := "(IIII)I" } : Jvm.MethodName)) ∈ lw_all := lw_g (lw_at lw_m4 51 rfl) rfl
theorem q828 : (Jvm.Cond.privateMethod ({ cls := "DuskGates", name := "law", desc := "(IIII)I" } : Jvm.MethodName)) ∈ lw_tbl := lw_at lw_m4 52 rfl
theorem q829 : (Jvm.Cond.instanceMethod ({ cls := "DuskGates", name := "law", desc := "(IIII)I" } : Jvm.MethodName)) ∈ lw_all := lw_g (lw_at lw_m4 53 rfl) rfl
theorem q830 : (Jvm.Cond.code ({ cls := "DuskGates", name := "law", desc := "(IIII)I" } : Jvm.MethodName) prog_1_method_24_code (8 : Nat) (Option.some Jvm.ClassFile.FieldType.int)) ∈ lw_all := lw_g (lw_at lw_m4 54 rfl) rfl
theorem q831 : (Jvm.Cond.constantLong "DuskGates" (219 : Nat) (10 : Int64)) ∈ lw_all := lw_g (lw_at lw_m4 55 rfl) rfl
theorem q832 : (Jvm.Cond.constantLong "DuskGates" (221 : Nat) (17 : Int64)) ∈ lw_all := lw_g (lw_at lw_m4 56 rfl) rfl
theorem q833 : (Jvm.Cond.constantLong "DuskGates" (223 : Nat) (20 : Int64)) ∈ lw_all := lw_g (lw_at lw_m4 57 rfl) rfl
theorem q834 : (Jvm.Cond.constantLong "DuskGates" (225 : Nat) (27 : Int64)) ∈ lw_all := lw_g (lw_at lw_m4 58 rfl) rfl
theorem q835 : (Jvm.Cond.constantLong "DuskGates" (227 : Nat) (30 : Int64)) ∈ lw_all := lw_g (lw_at lw_m4 59 rfl) rfl
theorem q836 : (Jvm.Cond.constantLong "DuskGates" (229 : Nat) (37 : Int64)) ∈ lw_all := lw_g (lw_at lw_m4 60 rfl) rfl
theorem q837 : (Jvm.Cond.constantLong "DuskGates" (231 : Nat) (40 : Int64)) ∈ lw_all := lw_g (lw_at lw_m4 61 rfl) rfl
theorem q838 : (Jvm.Cond.constantLong "DuskGates" (233 : Nat) (51 : Int64)) ∈ lw_all := lw_g (lw_at lw_m4 62 rfl) rfl
theorem q840 : (Jvm.Cond.instanceMethod ({ cls := "DuskGates", name := "cart", desc := "(II)I" } : Jvm.MethodName)) ∈ lw_all := lw_g (lw_at lw_m4 64 rfl) rfl
theorem q841 : (Jvm.Cond.selects "DuskGates" ({ cls := "DuskGates", name := "cart", desc := "(II)I" } : Jvm.MethodName) ({ cls := "DuskGates", name := "cart", desc := "(II)I" } : Jvm.MethodName)) ∈ lw_all := lw_g (lw_at lw_m4 65 rfl) rfl
theorem q842 : (Jvm.Cond.codeWith ({ cls := "DuskGates", name := "cart", desc := "(II)I" } : Jvm.MethodName) prog_1_method_26_code (5 : Nat) (Option.some Jvm.ClassFile.FieldType.int) [((27 : Nat), (77 : Nat), (111 : Nat), (81 : Nat)), ((78 : Nat), (110 : Nat), (111 : Nat), (81 : Nat))]) ∈ lw_all := lw_g (lw_at lw_m4 66 rfl) rfl
theorem q843 : (Jvm.Cond.methodLink "DuskGates" (235 : Nat) ({ cls := "DuskGates$Sheet", name := "row", desc := "(II)[I" } : Jvm.MethodName)) ∈ lw_all := lw_g (lw_at lw_m4 67 rfl) rfl
theorem q849 : (Jvm.Cond.constantLong "DuskGates" (239 : Nat) (4 : Int64)) ∈ lw_all := lw_g (lw_at lw_m4 73 rfl) rfl
theorem q850 : (Jvm.Cond.constantLong "DuskGates" (241 : Nat) (99 : Int64)) ∈ lw_all := lw_g (lw_at lw_m4 74 rfl) rfl
theorem q852 : (Jvm.Cond.instanceMethod ({ cls := "DuskGates", name := "owed", desc := "(III)I" } : Jvm.MethodName)) ∈ lw_all := lw_g (lw_at lw_m4 76 rfl) rfl
theorem q853 : (Jvm.Cond.selects "DuskGates" ({ cls := "DuskGates", name := "owed", desc := "(III)I" } : Jvm.MethodName) ({ cls := "DuskGates", name := "owed", desc := "(III)I" } : Jvm.MethodName)) ∈ lw_all := lw_g (lw_at lw_m4 77 rfl) rfl
theorem q854 : (Jvm.Cond.code ({ cls := "DuskGates", name := "owed", desc := "(III)I" } : Jvm.MethodName) prog_1_method_29_code (6 : Nat) (Option.some Jvm.ClassFile.FieldType.int)) ∈ lw_all := lw_g (lw_at lw_m4 78 rfl) rfl
theorem q855 : (Jvm.Cond.methodLink "DuskGates" (244 : Nat) ({ cls := "DuskGates", name := "isCart", desc := "(I)Z" } : Jvm.MethodName)) ∈ lw_all := lw_g (lw_at lw_m4 79 rfl) rfl
theorem q856 : (Jvm.Cond.privateMethod ({ cls := "DuskGates", name := "isCart", desc := "(I)Z" } : Jvm.MethodName)) ∈ lw_tbl := lw_at lw_m4 80 rfl
theorem q857 : (Jvm.Cond.instanceMethod ({ cls := "DuskGates", name := "isCart", desc := "(I)Z" } : Jvm.MethodName)) ∈ lw_all := lw_g (lw_at lw_m4 81 rfl) rfl
theorem q858 : (Jvm.Cond.code ({ cls := "DuskGates", name := "isCart", desc := "(I)Z" } : Jvm.MethodName) prog_1_method_27_code (2 : Nat) (Option.some Jvm.ClassFile.FieldType.boolean)) ∈ lw_all := lw_g (lw_at lw_m4 82 rfl) rfl
theorem q859 : (Jvm.Cond.methodLink "DuskGates" (247 : Nat) ({ cls := "DuskGates", name := "owedBy", desc := "(III)I" } : Jvm.MethodName)) ∈ lw_all := lw_g (lw_at lw_m4 83 rfl) rfl
theorem q860 : (Jvm.Cond.privateMethod ({ cls := "DuskGates", name := "owedBy", desc := "(III)I" } : Jvm.MethodName)) ∈ lw_tbl := lw_at lw_m4 84 rfl
theorem q861 : (Jvm.Cond.instanceMethod ({ cls := "DuskGates", name := "owedBy", desc := "(III)I" } : Jvm.MethodName)) ∈ lw_all := lw_g (lw_at lw_m4 85 rfl) rfl
theorem q862 : (Jvm.Cond.code ({ cls := "DuskGates", name := "owedBy", desc := "(III)I" } : Jvm.MethodName) prog_1_method_28_code (7 : Nat) (Option.some Jvm.ClassFile.FieldType.int)) ∈ lw_all := lw_g (lw_at lw_m4 86 rfl) rfl
theorem q863 : (Jvm.Cond.classLink "DuskGates" (243 : Nat) "[I") ∈ lw_all := lw_g (lw_at lw_m4 87 rfl) rfl
theorem q865 : (Jvm.Cond.instanceMethod ({ cls := "DuskGates", name := "pass", desc := "(IIIIII)I" } : Jvm.MethodName)) ∈ lw_all := lw_g (lw_at lw_m4 89 rfl) rfl
theorem q866 : (Jvm.Cond.selects "DuskGates" ({ cls := "DuskGates", name := "pass", desc := "(IIIIII)I" } : Jvm.MethodName) ({ cls := "DuskGates", name := "pass", desc := "(IIIIII)I" } : Jvm.MethodName)) ∈ lw_all := lw_g (lw_at lw_m4 90 rfl) rfl
theorem q867 : (Jvm.Cond.code ({ cls := "DuskGates", name := "pass", desc := "(IIIIII)I" } : Jvm.MethodName) prog_1_method_30_code (9 : Nat) (Option.some Jvm.ClassFile.FieldType.int)) ∈ lw_all := lw_g (lw_at lw_m4 91 rfl) rfl
theorem q868 : (Jvm.Cond.methodLink "DuskGates" (251 : Nat) ({ cls := "DuskGates", name := "isMinute", desc := "(I)Z" } : Jvm.MethodName)) ∈ lw_all := lw_g (lw_at lw_m4 92 rfl) rfl
theorem q869 : (Jvm.Cond.static ({ cls := "DuskGates", name := "isMinute", desc := "(I)Z" } : Jvm.MethodName)) ∈ lw_all := lw_g (lw_at lw_m4 93 rfl) rfl
theorem q870 : (Jvm.Cond.code ({ cls := "DuskGates", name := "isMinute", desc := "(I)Z" } : Jvm.MethodName) prog_1_method_14_code (1 : Nat) (Option.some Jvm.ClassFile.FieldType.boolean)) ∈ lw_all := lw_g (lw_at lw_m4 94 rfl) rfl
theorem q871 : (Jvm.Cond.constantLong "DuskGates" (146 : Nat) (1439 : Int64)) ∈ lw_all := lw_g (lw_at lw_m4 95 rfl) rfl
theorem q872 : (Jvm.Cond.constantLong "DuskGates" (254 : Nat) (100000 : Int64)) ∈ lw_all := lw_g (lw_at lw_m4 96 rfl) rfl
theorem q873 : (Jvm.Cond.classLink "DuskGates" (256 : Nat) "DuskGates$Passing") ∈ lw_all := lw_g (lw_at lw_m4 97 rfl) rfl
theorem q875 : (Jvm.Cond.methodLink "DuskGates" (258 : Nat) ({ cls := "DuskGates$Passing", name := "<init>", desc := "(IZIIII)V" } : Jvm.MethodName)) ∈ lw_all := lw_g (lw_at lw_m4 99 rfl) rfl
theorem q880 : (Jvm.Cond.fieldLink "DuskGates" (277 : Nat) "DuskGates$Passing" "cart" "I") ∈ lw_all := lw_g (lw_at lw_m4 104 rfl) rfl
theorem q882 : (Jvm.Cond.fieldLink "DuskGates" (280 : Nat) "DuskGates$Passing" "isIn" "Z") ∈ lw_all := lw_g (lw_at lw_m4 106 rfl) rfl
theorem q884 : (Jvm.Cond.fieldLink "DuskGates" (268 : Nat) "DuskGates$Passing" "gate" "I") ∈ lw_all := lw_g (lw_at lw_m4 108 rfl) rfl
theorem q886 : (Jvm.Cond.fieldLink "DuskGates" (286 : Nat) "DuskGates$Passing" "day" "I") ∈ lw_all := lw_g (lw_at lw_m4 110 rfl) rfl
theorem q888 : (Jvm.Cond.fieldLink "DuskGates" (271 : Nat) "DuskGates$Passing" "minute" "I") ∈ lw_all := lw_g (lw_at lw_m4 112 rfl) rfl
theorem q890 : (Jvm.Cond.fieldLink "DuskGates" (287 : Nat) "DuskGates$Passing" "paid" "I") ∈ lw_all := lw_g (lw_at lw_m4 114 rfl) rfl
theorem q904 : (Jvm.Cond.methodLink "DuskGates" (261 : Nat) ({ cls := "DuskGates$Passing", name := "isBefore", desc := "(LDuskGates$Passing;)Z" } : Jvm.MethodName)) ∈ lw_all := lw_g (lw_at lw_m4 128 rfl) rfl
theorem q908 : (Jvm.Cond.interfaceEntry "DuskGates" (265 : Nat)) ∈ lw_tbl := lw_at lw_m4 132 rfl
theorem q909 : (Jvm.Cond.methodLink "DuskGates" (265 : Nat) ({ cls := "java/util/List", name := "add", desc := "(ILjava/lang/Object;)V" } : Jvm.MethodName)) ∈ lw_all := lw_g (lw_at lw_m4 133 rfl) rfl
theorem q1015 : (Jvm.Cond.instanceMethod ({ cls := "DuskGates", name := "agree", desc := "(I)I" } : Jvm.MethodName)) ∈ lw_all := lw_g (lw_at lw_m4 239 rfl) rfl
theorem q1016 : (Jvm.Cond.selects "DuskGates" ({ cls := "DuskGates", name := "agree", desc := "(I)I" } : Jvm.MethodName) ({ cls := "DuskGates", name := "agree", desc := "(I)I" } : Jvm.MethodName)) ∈ lw_all := lw_g (lw_at lw_m5 0 rfl) rfl
theorem q1017 : (Jvm.Cond.code ({ cls := "DuskGates", name := "agree", desc := "(I)I" } : Jvm.MethodName) prog_1_method_31_code (7 : Nat) (Option.some Jvm.ClassFile.FieldType.int)) ∈ lw_all := lw_g (lw_at lw_m5 1 rfl) rfl
theorem q1018 : (Jvm.Cond.methodLink "DuskGates" (274 : Nat) ({ cls := "DuskGates", name := "isOpen", desc := "(II)Z" } : Jvm.MethodName)) ∈ lw_all := lw_g (lw_at lw_m5 2 rfl) rfl
theorem q1019 : (Jvm.Cond.privateMethod ({ cls := "DuskGates", name := "isOpen", desc := "(II)Z" } : Jvm.MethodName)) ∈ lw_tbl := lw_at lw_m5 3 rfl
theorem q1020 : (Jvm.Cond.instanceMethod ({ cls := "DuskGates", name := "isOpen", desc := "(II)Z" } : Jvm.MethodName)) ∈ lw_all := lw_g (lw_at lw_m5 4 rfl) rfl
theorem q1021 : (Jvm.Cond.code ({ cls := "DuskGates", name := "isOpen", desc := "(II)Z" } : Jvm.MethodName) prog_1_method_20_code (3 : Nat) (Option.some Jvm.ClassFile.FieldType.boolean)) ∈ lw_all := lw_g (lw_at lw_m5 5 rfl) rfl
theorem q1024 : (Jvm.Cond.instanceMethod ({ cls := "DuskGates", name := "amiss", desc := "(III)I" } : Jvm.MethodName)) ∈ lw_all := lw_g (lw_at lw_m5 8 rfl) rfl
theorem q1025 : (Jvm.Cond.selects "DuskGates" ({ cls := "DuskGates", name := "amiss", desc := "(III)I" } : Jvm.MethodName) ({ cls := "DuskGates", name := "amiss", desc := "(III)I" } : Jvm.MethodName)) ∈ lw_all := lw_g (lw_at lw_m5 9 rfl) rfl
theorem q1026 : (Jvm.Cond.code ({ cls := "DuskGates", name := "amiss", desc := "(III)I" } : Jvm.MethodName) prog_1_method_32_code (7 : Nat) (Option.some Jvm.ClassFile.FieldType.int)) ∈ lw_all := lw_g (lw_at lw_m5 10 rfl) rfl
theorem q1027 : (Jvm.Cond.methodLink "DuskGates" (283 : Nat) ({ cls := "DuskGates", name := "areDays", desc := "(II)Z" } : Jvm.MethodName)) ∈ lw_all := lw_g (lw_at lw_m5 11 rfl) rfl
theorem q1028 : (Jvm.Cond.static ({ cls := "DuskGates", name := "areDays", desc := "(II)Z" } : Jvm.MethodName)) ∈ lw_all := lw_g (lw_at lw_m5 12 rfl) rfl
theorem q1029 : (Jvm.Cond.code ({ cls := "DuskGates", name := "areDays", desc := "(II)Z" } : Jvm.MethodName) prog_1_method_15_code (2 : Nat) (Option.some Jvm.ClassFile.FieldType.boolean)) ∈ lw_all := lw_g (lw_at lw_m5 13 rfl) rfl
theorem q1031 : (Jvm.Cond.instanceMethod ({ cls := "DuskGates", name := "road", desc := "(III)I" } : Jvm.MethodName)) ∈ lw_all := lw_g (lw_at lw_m5 15 rfl) rfl
theorem q1032 : (Jvm.Cond.selects "DuskGates" ({ cls := "DuskGates", name := "road", desc := "(III)I" } : Jvm.MethodName) ({ cls := "DuskGates", name := "road", desc := "(III)I" } : Jvm.MethodName)) ∈ lw_all := lw_g (lw_at lw_m5 16 rfl) rfl
theorem q1033 : (Jvm.Cond.code ({ cls := "DuskGates", name := "road", desc := "(III)I" } : Jvm.MethodName) prog_1_method_35_code (5 : Nat) (Option.some Jvm.ClassFile.FieldType.int)) ∈ lw_all := lw_g (lw_at lw_m5 17 rfl) rfl
theorem q1034 : (Jvm.Cond.methodLink "DuskGates" (290 : Nat) ({ cls := "DuskGates", name := "isTown", desc := "(I)Z" } : Jvm.MethodName)) ∈ lw_all := lw_g (lw_at lw_m5 18 rfl) rfl
theorem q1035 : (Jvm.Cond.static ({ cls := "DuskGates", name := "isTown", desc := "(I)Z" } : Jvm.MethodName)) ∈ lw_all := lw_g (lw_at lw_m5 19 rfl) rfl
theorem q1036 : (Jvm.Cond.code ({ cls := "DuskGates", name := "isTown", desc := "(I)Z" } : Jvm.MethodName) prog_1_method_33_code (1 : Nat) (Option.some Jvm.ClassFile.FieldType.boolean)) ∈ lw_all := lw_g (lw_at lw_m5 20 rfl) rfl
theorem q1037 : (Jvm.Cond.constantLong "DuskGates" (293 : Nat) (60 : Int64)) ∈ lw_all := lw_g (lw_at lw_m5 21 rfl) rfl
theorem q1038 : (Jvm.Cond.methodLink "DuskGates" (295 : Nat) ({ cls := "DuskGates", name := "roadOf", desc := "(II)I" } : Jvm.MethodName)) ∈ lw_all := lw_g (lw_at lw_m5 22 rfl) rfl
theorem q1039 : (Jvm.Cond.privateMethod ({ cls := "DuskGates", name := "roadOf", desc := "(II)I" } : Jvm.MethodName)) ∈ lw_tbl := lw_at lw_m5 23 rfl
theorem q1040 : (Jvm.Cond.instanceMethod ({ cls := "DuskGates", name := "roadOf", desc := "(II)I" } : Jvm.MethodName)) ∈ lw_all := lw_g (lw_at lw_m5 24 rfl) rfl
theorem q1041 : (Jvm.Cond.code ({ cls := "DuskGates", name := "roadOf", desc := "(II)I" } : Jvm.MethodName) prog_1_method_34_code (3 : Nat) (Option.some Jvm.ClassFile.FieldType.int)) ∈ lw_all := lw_g (lw_at lw_m5 25 rfl) rfl
theorem q1043 : (Jvm.Cond.instanceMethod ({ cls := "DuskGates", name := "sick", desc := "(III)I" } : Jvm.MethodName)) ∈ lw_all := lw_g (lw_at lw_m5 27 rfl) rfl
theorem q1044 : (Jvm.Cond.selects "DuskGates" ({ cls := "DuskGates", name := "sick", desc := "(III)I" } : Jvm.MethodName) ({ cls := "DuskGates", name := "sick", desc := "(III)I" } : Jvm.MethodName)) ∈ lw_all := lw_g (lw_at lw_m5 28 rfl) rfl
theorem q1045 : (Jvm.Cond.code ({ cls := "DuskGates", name := "sick", desc := "(III)I" } : Jvm.MethodName) prog_1_method_36_code (4 : Nat) (Option.some Jvm.ClassFile.FieldType.int)) ∈ lw_all := lw_g (lw_at lw_m5 29 rfl) rfl
theorem q1046 : (Jvm.Cond.classLink "DuskGates" (299 : Nat) "DuskGates$Span") ∈ lw_all := lw_g (lw_at lw_m5 30 rfl) rfl
theorem q1048 : (Jvm.Cond.methodLink "DuskGates" (301 : Nat) ({ cls := "DuskGates$Span", name := "<init>", desc := "(IIII)V" } : Jvm.MethodName)) ∈ lw_all := lw_g (lw_at lw_m5 32 rfl) rfl
theorem q1053 : (Jvm.Cond.fieldLink "DuskGates" (343 : Nat) "DuskGates$Span" "a" "I") ∈ lw_all := lw_g (lw_at lw_m5 37 rfl) rfl
theorem q1055 : (Jvm.Cond.fieldLink "DuskGates" (402 : Nat) "DuskGates$Span" "b" "I") ∈ lw_all := lw_g (lw_at lw_m5 39 rfl) rfl
theorem q1068 : (Jvm.Cond.instanceMethod ({ cls := "DuskGates", name := "seal", desc := "(II)I" } : Jvm.MethodName)) ∈ lw_all := lw_g (lw_at lw_m5 52 rfl) rfl
theorem q1069 : (Jvm.Cond.selects "DuskGates" ({ cls := "DuskGates", name := "seal", desc := "(II)I" } : Jvm.MethodName) ({ cls := "DuskGates", name := "seal", desc := "(II)I" } : Jvm.MethodName)) ∈ lw_all := lw_g (lw_at lw_m5 53 rfl) rfl
theorem q1070 : (Jvm.Cond.codeWith ({ cls := "DuskGates", name := "seal", desc := "(II)I" } : Jvm.MethodName) prog_1_method_39_code (4 : Nat) (Option.some Jvm.ClassFile.FieldType.int) [((27 : Nat), (48 : Nat), (136 : Nat), (81 : Nat)), ((49 : Nat), (135 : Nat), (136 : Nat), (81 : Nat))]) ∈ lw_all := lw_g (lw_at lw_m5 54 rfl) rfl
theorem q1071 : (Jvm.Cond.methodLink "DuskGates" (313 : Nat) ({ cls := "DuskGates", name := "isSealed", desc := "([I)Z" } : Jvm.MethodName)) ∈ lw_all := lw_g (lw_at lw_m5 55 rfl) rfl
theorem q1072 : (Jvm.Cond.static ({ cls := "DuskGates", name := "isSealed", desc := "([I)Z" } : Jvm.MethodName)) ∈ lw_all := lw_g (lw_at lw_m5 56 rfl) rfl
theorem q1073 : (Jvm.Cond.code ({ cls := "DuskGates", name := "isSealed", desc := "([I)Z" } : Jvm.MethodName) prog_1_method_38_code (1 : Nat) (Option.some Jvm.ClassFile.FieldType.boolean)) ∈ lw_all := lw_g (lw_at lw_m5 57 rfl) rfl
theorem q1074 : (Jvm.Cond.constantLong "DuskGates" (306 : Nat) (3 : Int64)) ∈ lw_all := lw_g (lw_at lw_m5 58 rfl) rfl
theorem q1075 : (Jvm.Cond.methodLink "DuskGates" (308 : Nat) ({ cls := "DuskGates", name := "isPerson", desc := "(I)Z" } : Jvm.MethodName)) ∈ lw_all := lw_g (lw_at lw_m5 59 rfl) rfl
theorem q1076 : (Jvm.Cond.static ({ cls := "DuskGates", name := "isPerson", desc := "(I)Z" } : Jvm.MethodName)) ∈ lw_all := lw_g (lw_at lw_m5 60 rfl) rfl
theorem q1077 : (Jvm.Cond.code ({ cls := "DuskGates", name := "isPerson", desc := "(I)Z" } : Jvm.MethodName) prog_1_method_37_code (1 : Nat) (Option.some Jvm.ClassFile.FieldType.boolean)) ∈ lw_all := lw_g (lw_at lw_m5 61 rfl) rfl
theorem q1078 : (Jvm.Cond.constantLong "DuskGates" (304 : Nat) (11 : Int64)) ∈ lw_all := lw_g (lw_at lw_m5 62 rfl) rfl
theorem q1079 : (Jvm.Cond.constantLong "DuskGates" (311 : Nat) (9 : Int64)) ∈ lw_all := lw_g (lw_at lw_m5 63 rfl) rfl
theorem q1080 : (Jvm.Cond.classLink "DuskGates" (317 : Nat) "DuskGates$Pass") ∈ lw_all := lw_g (lw_at lw_m5 64 rfl) rfl
theorem q1082 : (Jvm.Cond.methodLink "DuskGates" (319 : Nat) ({ cls := "DuskGates$Pass", name := "<init>", desc := "([I)V" } : Jvm.MethodName)) ∈ lw_all := lw_g (lw_at lw_m5 66 rfl) rfl
theorem q1089 : (Jvm.Cond.fieldLink "DuskGates" (331 : Nat) "DuskGates$Pass" "person" "I") ∈ lw_all := lw_g (lw_at lw_m5 73 rfl) rfl
theorem q1091 : (Jvm.Cond.fieldLink "DuskGates" (352 : Nat) "DuskGates$Pass" "seal" "I") ∈ lw_all := lw_g (lw_at lw_m5 75 rfl) rfl
theorem q1095 : (Jvm.Cond.fieldLink "DuskGates" (355 : Nat) "DuskGates$Pass" "hand" "I") ∈ lw_all := lw_g (lw_at lw_m5 79 rfl) rfl
theorem q1099 : (Jvm.Cond.fieldLink "DuskGates" (340 : Nat) "DuskGates$Pass" "town" "I") ∈ lw_all := lw_g (lw_at lw_m5 83 rfl) rfl
theorem q1101 : (Jvm.Cond.fieldLink "DuskGates" (334 : Nat) "DuskGates$Pass" "day" "I") ∈ lw_all := lw_g (lw_at lw_m5 85 rfl) rfl
theorem q1103 : (Jvm.Cond.fieldLink "DuskGates" (373 : Nat) "DuskGates$Pass" "last" "I") ∈ lw_all := lw_g (lw_at lw_m5 87 rfl) rfl
theorem q1117 : (Jvm.Cond.classLink "DuskGates" (322 : Nat) "DuskGates$Token") ∈ lw_all := lw_g (lw_at lw_m5 101 rfl) rfl
theorem q1119 : (Jvm.Cond.methodLink "DuskGates" (324 : Nat) ({ cls := "DuskGates$Token", name := "<init>", desc := "([I)V" } : Jvm.MethodName)) ∈ lw_all := lw_g (lw_at lw_m5 103 rfl) rfl
theorem q1130 : (Jvm.Cond.classLink "DuskGates" (325 : Nat) "DuskGates$Health") ∈ lw_all := lw_g (lw_at lw_m5 114 rfl) rfl
theorem q1132 : (Jvm.Cond.methodLink "DuskGates" (327 : Nat) ({ cls := "DuskGates$Health", name := "<init>", desc := "([I)V" } : Jvm.MethodName)) ∈ lw_all := lw_g (lw_at lw_m5 116 rfl) rfl
theorem q1143 : (Jvm.Cond.classLink "DuskGates" (328 : Nat) "DuskGates$Night") ∈ lw_all := lw_g (lw_at lw_m5 127 rfl) rfl
theorem q1145 : (Jvm.Cond.methodLink "DuskGates" (330 : Nat) ({ cls := "DuskGates$Night", name := "<init>", desc := "([I)V" } : Jvm.MethodName)) ∈ lw_all := lw_g (lw_at lw_m5 129 rfl) rfl
theorem q1157 : (Jvm.Cond.instanceMethod ({ cls := "DuskGates", name := "canbe", desc := "(I)I" } : Jvm.MethodName)) ∈ lw_all := lw_g (lw_at lw_m5 141 rfl) rfl
theorem q1158 : (Jvm.Cond.selects "DuskGates" ({ cls := "DuskGates", name := "canbe", desc := "(I)I" } : Jvm.MethodName) ({ cls := "DuskGates", name := "canbe", desc := "(I)I" } : Jvm.MethodName)) ∈ lw_all := lw_g (lw_at lw_m5 142 rfl) rfl
theorem q1159 : (Jvm.Cond.code ({ cls := "DuskGates", name := "canbe", desc := "(I)I" } : Jvm.MethodName) prog_1_method_41_code (6 : Nat) (Option.some Jvm.ClassFile.FieldType.int)) ∈ lw_all := lw_g (lw_at lw_m5 143 rfl) rfl
theorem q1160 : (Jvm.Cond.methodLink "DuskGates" (335 : Nat) ({ cls := "java/lang/Math", name := "abs", desc := "(I)I" } : Jvm.MethodName)) ∈ lw_all := lw_g (lw_at lw_m5 144 rfl) rfl
theorem q1164 : (Jvm.Cond.instanceMethod ({ cls := "DuskGates", name := "lets", desc := "(IIII)I" } : Jvm.MethodName)) ∈ lw_all := lw_g (lw_at lw_m5 148 rfl) rfl
theorem q1165 : (Jvm.Cond.selects "DuskGates" ({ cls := "DuskGates", name := "lets", desc := "(IIII)I" } : Jvm.MethodName) ({ cls := "DuskGates", name := "lets", desc := "(IIII)I" } : Jvm.MethodName)) ∈ lw_all := lw_g (lw_at lw_m5 149 rfl) rfl
theorem q1166 : (Jvm.Cond.code ({ cls := "DuskGates", name := "lets", desc := "(IIII)I" } : Jvm.MethodName) prog_1_method_45_code (7 : Nat) (Option.some Jvm.ClassFile.FieldType.int)) ∈ lw_all := lw_g (lw_at lw_m5 150 rfl) rfl
theorem q1167 : (Jvm.Cond.methodLink "DuskGates" (366 : Nat) ({ cls := "DuskGates", name := "isPass", desc := "(I)Z" } : Jvm.MethodName)) ∈ lw_all := lw_g (lw_at lw_m5 151 rfl) rfl
theorem q1168 : (Jvm.Cond.privateMethod ({ cls := "DuskGates", name := "isPass", desc := "(I)Z" } : Jvm.MethodName)) ∈ lw_tbl := lw_at lw_m5 152 rfl
theorem q1169 : (Jvm.Cond.instanceMethod ({ cls := "DuskGates", name := "isPass", desc := "(I)Z" } : Jvm.MethodName)) ∈ lw_all := lw_g (lw_at lw_m5 153 rfl) rfl
theorem q1170 : (Jvm.Cond.code ({ cls := "DuskGates", name := "isPass", desc := "(I)Z" } : Jvm.MethodName) prog_1_method_40_code (2 : Nat) (Option.some Jvm.ClassFile.FieldType.boolean)) ∈ lw_all := lw_g (lw_at lw_m5 154 rfl) rfl
theorem q1171 : (Jvm.Cond.methodLink "DuskGates" (369 : Nat) ({ cls := "DuskGates", name := "askedOn", desc := "(II)LDuskGates$Pass;" } : Jvm.MethodName)) ∈ lw_all := lw_g (lw_at lw_m5 155 rfl) rfl
theorem q1172 : (Jvm.Cond.privateMethod ({ cls := "DuskGates", name := "askedOn", desc := "(II)LDuskGates$Pass;" } : Jvm.MethodName)) ∈ lw_tbl := lw_at lw_m5 156 rfl
theorem q1173 : (Jvm.Cond.instanceMethod ({ cls := "DuskGates", name := "askedOn", desc := "(II)LDuskGates$Pass;" } : Jvm.MethodName)) ∈ lw_all := lw_g (lw_at lw_m5 157 rfl) rfl
theorem q1174 : (Jvm.Cond.code ({ cls := "DuskGates", name := "askedOn", desc := "(II)LDuskGates$Pass;" } : Jvm.MethodName) prog_1_method_44_code (4 : Nat) (Option.some (Jvm.ClassFile.FieldType.object "DuskGates$Pass"))) ∈ lw_all := lw_g (lw_at lw_m5 158 rfl) rfl
theorem q1175 : (Jvm.Cond.methodLink "DuskGates" (358 : Nat) ({ cls := "DuskGates", name := "isForged", desc := "(II)Z" } : Jvm.MethodName)) ∈ lw_all := lw_g (lw_at lw_m5 159 rfl) rfl
theorem q1176 : (Jvm.Cond.privateMethod ({ cls := "DuskGates", name := "isForged", desc := "(II)Z" } : Jvm.MethodName)) ∈ lw_tbl := lw_at lw_m5 160 rfl
theorem q1177 : (Jvm.Cond.instanceMethod ({ cls := "DuskGates", name := "isForged", desc := "(II)Z" } : Jvm.MethodName)) ∈ lw_all := lw_g (lw_at lw_m5 161 rfl) rfl
theorem q1178 : (Jvm.Cond.code ({ cls := "DuskGates", name := "isForged", desc := "(II)Z" } : Jvm.MethodName) prog_1_method_43_code (5 : Nat) (Option.some Jvm.ClassFile.FieldType.boolean)) ∈ lw_all := lw_g (lw_at lw_m5 162 rfl) rfl
theorem q1179 : (Jvm.Cond.methodLink "DuskGates" (349 : Nat) ({ cls := "DuskGates", name := "isSick", desc := "(II)Z" } : Jvm.MethodName)) ∈ lw_all := lw_g (lw_at lw_m5 163 rfl) rfl
theorem q1180 : (Jvm.Cond.privateMethod ({ cls := "DuskGates", name := "isSick", desc := "(II)Z" } : Jvm.MethodName)) ∈ lw_tbl := lw_at lw_m5 164 rfl
theorem q1181 : (Jvm.Cond.instanceMethod ({ cls := "DuskGates", name := "isSick", desc := "(II)Z" } : Jvm.MethodName)) ∈ lw_all := lw_g (lw_at lw_m5 165 rfl) rfl
theorem q1182 : (Jvm.Cond.code ({ cls := "DuskGates", name := "isSick", desc := "(II)Z" } : Jvm.MethodName) prog_1_method_42_code (4 : Nat) (Option.some Jvm.ClassFile.FieldType.boolean)) ∈ lw_all := lw_g (lw_at lw_m5 166 rfl) rfl
theorem q1183 : (Jvm.Cond.methodLink "DuskGates" (346 : Nat) ({ cls := "DuskGates$Span", name := "meets", desc := "(II)Z" } : Jvm.MethodName)) ∈ lw_all := lw_g (lw_at lw_m5 167 rfl) rfl
theorem q1187 : (Jvm.Cond.classLink "DuskGates" (361 : Nat) "DuskGates$Forged") ∈ lw_all := lw_g (lw_at lw_m5 171 rfl) rfl
theorem q1189 : (Jvm.Cond.methodLink "DuskGates" (363 : Nat) ({ cls := "DuskGates$Forged", name := "<init>", desc := "(LDuskGates$Health;)V" } : Jvm.MethodName)) ∈ lw_all := lw_g (lw_at lw_m5 173 rfl) rfl
theorem q1205 : (Jvm.Cond.methodLink "DuskGates" (376 : Nat) ({ cls := "DuskGates$Pass", name := "isForNight", desc := "()Z" } : Jvm.MethodName)) ∈ lw_all := lw_g (lw_at lw_m5 189 rfl) rfl
theorem q1217 : (Jvm.Cond.instanceMethod ({ cls := "DuskGates", name := "dusk", desc := "(IIII)I" } : Jvm.MethodName)) ∈ lw_all := lw_g (lw_at lw_m5 201 rfl) rfl
theorem q1218 : (Jvm.Cond.selects "DuskGates" ({ cls := "DuskGates", name := "dusk", desc := "(IIII)I" } : Jvm.MethodName) ({ cls := "DuskGates", name := "dusk", desc := "(IIII)I" } : Jvm.MethodName)) ∈ lw_all := lw_g (lw_at lw_m5 202 rfl) rfl
theorem q1219 : (Jvm.Cond.code ({ cls := "DuskGates", name := "dusk", desc := "(IIII)I" } : Jvm.MethodName) prog_1_method_46_code (9 : Nat) (Option.some Jvm.ClassFile.FieldType.int)) ∈ lw_all := lw_g (lw_at lw_m5 203 rfl) rfl
theorem q1220 : (Jvm.Cond.methodLink "DuskGates" (380 : Nat) ({ cls := "java/lang/Math", name := "max", desc := "(II)I" } : Jvm.MethodName)) ∈ lw_all := lw_g (lw_at lw_m5 204 rfl) rfl
theorem q1222 : (Jvm.Cond.instanceMethod ({ cls := "DuskGates", name := "clerks", desc := "(IIIIII)I" } : Jvm.MethodName)) ∈ lw_all := lw_g (lw_at lw_m5 206 rfl) rfl
theorem q1223 : (Jvm.Cond.selects "DuskGates" ({ cls := "DuskGates", name := "clerks", desc := "(IIIIII)I" } : Jvm.MethodName) ({ cls := "DuskGates", name := "clerks", desc := "(IIIIII)I" } : Jvm.MethodName)) ∈ lw_all := lw_g (lw_at lw_m5 207 rfl) rfl
theorem q1224 : (Jvm.Cond.codeWith ({ cls := "DuskGates", name := "clerks", desc := "(IIIIII)I" } : Jvm.MethodName) prog_1_method_50_code (11 : Nat) (Option.some Jvm.ClassFile.FieldType.int) [((61 : Nat), (117 : Nat), (221 : Nat), (81 : Nat)), ((118 : Nat), (220 : Nat), (221 : Nat), (81 : Nat))]) ∈ lw_all := lw_g (lw_at lw_m5 208 rfl) rfl
theorem q1225 : (Jvm.Cond.methodLink "DuskGates" (387 : Nat) ({ cls := "DuskGates", name := "isComing", desc := "([II)Z" } : Jvm.MethodName)) ∈ lw_all := lw_g (lw_at lw_m5 209 rfl) rfl
theorem q1226 : (Jvm.Cond.static ({ cls := "DuskGates", name := "isComing", desc := "([II)Z" } : Jvm.MethodName)) ∈ lw_all := lw_g (lw_at lw_m5 210 rfl) rfl
theorem q1227 : (Jvm.Cond.code ({ cls := "DuskGates", name := "isComing", desc := "([II)Z" } : Jvm.MethodName) prog_1_method_49_code (2 : Nat) (Option.some Jvm.ClassFile.FieldType.boolean)) ∈ lw_all := lw_g (lw_at lw_m5 211 rfl) rfl
theorem q1228 : (Jvm.Cond.methodLink "DuskGates" (383 : Nat) ({ cls := "DuskGates", name := "firstAt", desc := "([II[Z)I" } : Jvm.MethodName)) ∈ lw_all := lw_g (lw_at lw_m5 212 rfl) rfl
theorem q1229 : (Jvm.Cond.static ({ cls := "DuskGates", name := "firstAt", desc := "([II[Z)I" } : Jvm.MethodName)) ∈ lw_all := lw_g (lw_at lw_m5 213 rfl) rfl
theorem q1230 : (Jvm.Cond.code ({ cls := "DuskGates", name := "firstAt", desc := "([II[Z)I" } : Jvm.MethodName) prog_1_method_48_code (5 : Nat) (Option.some Jvm.ClassFile.FieldType.int)) ∈ lw_all := lw_g (lw_at lw_m5 214 rfl) rfl
theorem q1231 : (Jvm.Cond.methodLink "DuskGates" (391 : Nat) ({ cls := "DuskGates", name := "waitedAt", desc := "([IIII)I" } : Jvm.MethodName)) ∈ lw_all := lw_g (lw_at lw_m5 215 rfl) rfl
theorem q1232 : (Jvm.Cond.static ({ cls := "DuskGates", name := "waitedAt", desc := "([IIII)I" } : Jvm.MethodName)) ∈ lw_all := lw_g (lw_at lw_m5 216 rfl) rfl
theorem q1233 : (Jvm.Cond.code ({ cls := "DuskGates", name := "waitedAt", desc := "([IIII)I" } : Jvm.MethodName) prog_1_method_47_code (10 : Nat) (Option.some Jvm.ClassFile.FieldType.int)) ∈ lw_all := lw_g (lw_at lw_m5 217 rfl) rfl
theorem q1234 : (Jvm.Cond.methodLink "DuskGates" (395 : Nat) ({ cls := "DuskGates", name := "shared", desc := "([III)I" } : Jvm.MethodName)) ∈ lw_all := lw_g (lw_at lw_m5 218 rfl) rfl
theorem q1235 : (Jvm.Cond.static ({ cls := "DuskGates", name := "shared", desc := "([III)I" } : Jvm.MethodName)) ∈ lw_all := lw_g (lw_at lw_m5 219 rfl) rfl
theorem q1236 : (Jvm.Cond.code ({ cls := "DuskGates", name := "shared", desc := "([III)I" } : Jvm.MethodName) prog_1_method_51_code (9 : Nat) (Option.some Jvm.ClassFile.FieldType.int)) ∈ lw_all := lw_g (lw_at lw_m5 220 rfl) rfl
theorem q1238 : (Jvm.Cond.instanceMethod ({ cls := "DuskGates", name := "guest", desc := "(IIII)I" } : Jvm.MethodName)) ∈ lw_all := lw_g (lw_at lw_m5 222 rfl) rfl
theorem q1239 : (Jvm.Cond.selects "DuskGates" ({ cls := "DuskGates", name := "guest", desc := "(IIII)I" } : Jvm.MethodName) ({ cls := "DuskGates", name := "guest", desc := "(IIII)I" } : Jvm.MethodName)) ∈ lw_all := lw_g (lw_at lw_m5 223 rfl) rfl
theorem q1240 : (Jvm.Cond.code ({ cls := "DuskGates", name := "guest", desc := "(IIII)I" } : Jvm.MethodName) prog_1_method_53_code (5 : Nat) (Option.some Jvm.ClassFile.FieldType.int)) ∈ lw_all := lw_g (lw_at lw_m5 224 rfl) rfl
theorem q1241 : (Jvm.Cond.methodLink "DuskGates" (399 : Nat) ({ cls := "DuskGates", name := "isHouse", desc := "(I)Z" } : Jvm.MethodName)) ∈ lw_all := lw_g (lw_at lw_m5 225 rfl) rfl
theorem q1242 : (Jvm.Cond.static ({ cls := "DuskGates", name := "isHouse", desc := "(I)Z" } : Jvm.MethodName)) ∈ lw_all := lw_g (lw_at lw_m5 226 rfl) rfl
theorem q1243 : (Jvm.Cond.code ({ cls := "DuskGates", name := "isHouse", desc := "(I)Z" } : Jvm.MethodName) prog_1_method_52_code (1 : Nat) (Option.some Jvm.ClassFile.FieldType.boolean)) ∈ lw_all := lw_g (lw_at lw_m5 227 rfl) rfl
theorem q1245 : (Jvm.Cond.instanceMethod ({ cls := "DuskGates", name := "fell", desc := "(II)I" } : Jvm.MethodName)) ∈ lw_all := lw_g (lw_at lw_m5 229 rfl) rfl
theorem q1246 : (Jvm.Cond.selects "DuskGates" ({ cls := "DuskGates", name := "fell", desc := "(II)I" } : Jvm.MethodName) ({ cls := "DuskGates", name := "fell", desc := "(II)I" } : Jvm.MethodName)) ∈ lw_all := lw_g (lw_at lw_m5 230 rfl) rfl
theorem q1247 : (Jvm.Cond.code ({ cls := "DuskGates", name := "fell", desc := "(II)I" } : Jvm.MethodName) prog_1_method_54_code (3 : Nat) (Option.some Jvm.ClassFile.FieldType.int)) ∈ lw_all := lw_g (lw_at lw_m5 231 rfl) rfl
theorem q1249 : (Jvm.Cond.instanceMethod ({ cls := "DuskGates", name := "brought", desc := "(I)I" } : Jvm.MethodName)) ∈ lw_all := lw_g (lw_at lw_m5 233 rfl) rfl
theorem q1250 : (Jvm.Cond.selects "DuskGates" ({ cls := "DuskGates", name := "brought", desc := "(I)I" } : Jvm.MethodName) ({ cls := "DuskGates", name := "brought", desc := "(I)I" } : Jvm.MethodName)) ∈ lw_all := lw_g (lw_at lw_m5 234 rfl) rfl
theorem q1251 : (Jvm.Cond.code ({ cls := "DuskGates", name := "brought", desc := "(I)I" } : Jvm.MethodName) prog_1_method_57_code (7 : Nat) (Option.some Jvm.ClassFile.FieldType.int)) ∈ lw_all := lw_g (lw_at lw_m5 235 rfl) rfl
theorem q1252 : (Jvm.Cond.methodLink "DuskGates" (405 : Nat) ({ cls := "DuskGates", name := "mayHave", desc := "(I)I" } : Jvm.MethodName)) ∈ lw_all := lw_g (lw_at lw_m5 236 rfl) rfl
theorem q1253 : (Jvm.Cond.privateMethod ({ cls := "DuskGates", name := "mayHave", desc := "(I)I" } : Jvm.MethodName)) ∈ lw_tbl := lw_at lw_m5 237 rfl
theorem q1254 : (Jvm.Cond.instanceMethod ({ cls := "DuskGates", name := "mayHave", desc := "(I)I" } : Jvm.MethodName)) ∈ lw_all := lw_g (lw_at lw_m5 238 rfl) rfl
theorem q1255 : (Jvm.Cond.code ({ cls := "DuskGates", name := "mayHave", desc := "(I)I" } : Jvm.MethodName) prog_1_method_55_code (5 : Nat) (Option.some Jvm.ClassFile.FieldType.int)) ∈ lw_all := lw_g (lw_at lw_m5 239 rfl) rfl
theorem q1256 : (Jvm.Cond.methodLink "DuskGates" (408 : Nat) ({ cls := "java/lang/Integer", name := "bitCount", desc := "(I)I" } : Jvm.MethodName)) ∈ lw_all := lw_g (lw_at lw_m6 0 rfl) rfl
theorem q1262 : (Jvm.Cond.methodLink "DuskGates" (413 : Nat) ({ cls := "DuskGates", name := "isAll", desc := "(I)Z" } : Jvm.MethodName)) ∈ lw_all := lw_g (lw_at lw_m6 6 rfl) rfl
theorem q1263 : (Jvm.Cond.privateMethod ({ cls := "DuskGates", name := "isAll", desc := "(I)Z" } : Jvm.MethodName)) ∈ lw_tbl := lw_at lw_m6 7 rfl
theorem q1264 : (Jvm.Cond.instanceMethod ({ cls := "DuskGates", name := "isAll", desc := "(I)Z" } : Jvm.MethodName)) ∈ lw_all := lw_g (lw_at lw_m6 8 rfl) rfl
theorem q1265 : (Jvm.Cond.code ({ cls := "DuskGates", name := "isAll", desc := "(I)Z" } : Jvm.MethodName) prog_1_method_56_code (3 : Nat) (Option.some Jvm.ClassFile.FieldType.boolean)) ∈ lw_all := lw_g (lw_at lw_m6 9 rfl) rfl
theorem q1267 : (Jvm.Cond.instanceMethod ({ cls := "DuskGates", name := "high", desc := "(II)I" } : Jvm.MethodName)) ∈ lw_all := lw_g (lw_at lw_m6 11 rfl) rfl
theorem q1268 : (Jvm.Cond.selects "DuskGates" ({ cls := "DuskGates", name := "high", desc := "(II)I" } : Jvm.MethodName) ({ cls := "DuskGates", name := "high", desc := "(II)I" } : Jvm.MethodName)) ∈ lw_all := lw_g (lw_at lw_m6 12 rfl) rfl
theorem q1269 : (Jvm.Cond.code ({ cls := "DuskGates", name := "high", desc := "(II)I" } : Jvm.MethodName) prog_1_method_59_code (4 : Nat) (Option.some Jvm.ClassFile.FieldType.int)) ∈ lw_all := lw_g (lw_at lw_m6 13 rfl) rfl
theorem q1270 : (Jvm.Cond.methodLink "DuskGates" (416 : Nat) ({ cls := "DuskGates", name := "isLength", desc := "(I)Z" } : Jvm.MethodName)) ∈ lw_all := lw_g (lw_at lw_m6 14 rfl) rfl
theorem q1271 : (Jvm.Cond.static ({ cls := "DuskGates", name := "isLength", desc := "(I)Z" } : Jvm.MethodName)) ∈ lw_all := lw_g (lw_at lw_m6 15 rfl) rfl
theorem q1272 : (Jvm.Cond.code ({ cls := "DuskGates", name := "isLength", desc := "(I)Z" } : Jvm.MethodName) prog_1_method_58_code (1 : Nat) (Option.some Jvm.ClassFile.FieldType.boolean)) ∈ lw_all := lw_g (lw_at lw_m6 16 rfl) rfl
theorem q1274 : (Jvm.Cond.instanceMethod ({ cls := "DuskGates", name := "lean", desc := "(III)I" } : Jvm.MethodName)) ∈ lw_all := lw_g (lw_at lw_m6 18 rfl) rfl
theorem q1275 : (Jvm.Cond.selects "DuskGates" ({ cls := "DuskGates", name := "lean", desc := "(III)I" } : Jvm.MethodName) ({ cls := "DuskGates", name := "lean", desc := "(III)I" } : Jvm.MethodName)) ∈ lw_all := lw_g (lw_at lw_m6 19 rfl) rfl
theorem q1276 : (Jvm.Cond.code ({ cls := "DuskGates", name := "lean", desc := "(III)I" } : Jvm.MethodName) prog_1_method_60_code (4 : Nat) (Option.some Jvm.ClassFile.FieldType.int)) ∈ lw_all := lw_g (lw_at lw_m6 20 rfl) rfl
theorem q1278 : (Jvm.Cond.instanceMethod ({ cls := "DuskGates", name := "breaches", desc := "()I" } : Jvm.MethodName)) ∈ lw_all := lw_g (lw_at lw_m6 22 rfl) rfl
theorem q1279 : (Jvm.Cond.selects "DuskGates" ({ cls := "DuskGates", name := "breaches", desc := "()I" } : Jvm.MethodName) ({ cls := "DuskGates", name := "breaches", desc := "()I" } : Jvm.MethodName)) ∈ lw_all := lw_g (lw_at lw_m6 23 rfl) rfl
theorem q1280 : (Jvm.Cond.code ({ cls := "DuskGates", name := "breaches", desc := "()I" } : Jvm.MethodName) prog_1_method_61_code (3 : Nat) (Option.some Jvm.ClassFile.FieldType.int)) ∈ lw_all := lw_g (lw_at lw_m6 24 rfl) rfl
theorem q1282 : (Jvm.Cond.instanceMethod ({ cls := "DuskGates", name := "watch", desc := "(III)I" } : Jvm.MethodName)) ∈ lw_all := lw_g (lw_at lw_m6 26 rfl) rfl
theorem q1283 : (Jvm.Cond.selects "DuskGates" ({ cls := "DuskGates", name := "watch", desc := "(III)I" } : Jvm.MethodName) ({ cls := "DuskGates", name := "watch", desc := "(III)I" } : Jvm.MethodName)) ∈ lw_all := lw_g (lw_at lw_m6 27 rfl) rfl
theorem q1284 : (Jvm.Cond.codeWith ({ cls := "DuskGates", name := "watch", desc := "(III)I" } : Jvm.MethodName) prog_1_method_62_code (10 : Nat) (Option.some Jvm.ClassFile.FieldType.int) [((22 : Nat), (61 : Nat), (179 : Nat), (81 : Nat)), ((62 : Nat), (178 : Nat), (179 : Nat), (81 : Nat))]) ∈ lw_all := lw_g (lw_at lw_m6 28 rfl) rfl
theorem q1285 : (Jvm.Cond.constantLong "DuskGates" (422 : Nat) (12 : Int64)) ∈ lw_all := lw_g (lw_at lw_m6 29 rfl) rfl
theorem q1286 : (Jvm.Cond.constantLong "DuskGates" (424 : Nat) (4095 : Int64)) ∈ lw_all := lw_g (lw_at lw_m6 30 rfl) rfl
theorem q1287 : (Jvm.Cond.methodLink "DuskGates" (426 : Nat) ({ cls := "DuskGates", name := "breaches", desc := "()I" } : Jvm.MethodName)) ∈ lw_all := lw_g (lw_at lw_m6 31 rfl) rfl
theorem q1289 : (Jvm.Cond.instanceMethod ({ cls := "DuskGates", name := "day", desc := "(I)I" } : Jvm.MethodName)) ∈ lw_all := lw_g (lw_at lw_m6 33 rfl) rfl
theorem q1290 : (Jvm.Cond.selects "DuskGates" ({ cls := "DuskGates", name := "day", desc := "(I)I" } : Jvm.MethodName) ({ cls := "DuskGates", name := "day", desc := "(I)I" } : Jvm.MethodName)) ∈ lw_all := lw_g (lw_at lw_m6 34 rfl) rfl
theorem q1291 : (Jvm.Cond.code ({ cls := "DuskGates", name := "day", desc := "(I)I" } : Jvm.MethodName) prog_1_method_63_code (3 : Nat) (Option.some Jvm.ClassFile.FieldType.int)) ∈ lw_all := lw_g (lw_at lw_m6 35 rfl) rfl
theorem q1293 : (Jvm.Cond.instanceMethod ({ cls := "DuskGates", name := "kind", desc := "(I)I" } : Jvm.MethodName)) ∈ lw_all := lw_g (lw_at lw_m6 37 rfl) rfl
theorem q1294 : (Jvm.Cond.selects "DuskGates" ({ cls := "DuskGates", name := "kind", desc := "(I)I" } : Jvm.MethodName) ({ cls := "DuskGates", name := "kind", desc := "(I)I" } : Jvm.MethodName)) ∈ lw_all := lw_g (lw_at lw_m6 38 rfl) rfl
theorem q1295 : (Jvm.Cond.code ({ cls := "DuskGates", name := "kind", desc := "(I)I" } : Jvm.MethodName) prog_1_method_64_code (2 : Nat) (Option.some Jvm.ClassFile.FieldType.int)) ∈ lw_all := lw_g (lw_at lw_m6 39 rfl) rfl
theorem q1296 : (Jvm.Cond.methodLink "DuskGates" (432 : Nat) ({ cls := "DuskGates$Pass", name := "kind", desc := "()I" } : Jvm.MethodName)) ∈ lw_all := lw_g (lw_at lw_m6 40 rfl) rfl
theorem q1314 : (Jvm.Cond.instanceMethod ({ cls := "DuskGates", name := "as", desc := "(II)I" } : Jvm.MethodName)) ∈ lw_all := lw_g (lw_at lw_m6 58 rfl) rfl
theorem q1315 : (Jvm.Cond.selects "DuskGates" ({ cls := "DuskGates", name := "as", desc := "(II)I" } : Jvm.MethodName) ({ cls := "DuskGates", name := "as", desc := "(II)I" } : Jvm.MethodName)) ∈ lw_all := lw_g (lw_at lw_m6 59 rfl) rfl
theorem q1316 : (Jvm.Cond.codeWith ({ cls := "DuskGates", name := "as", desc := "(II)I" } : Jvm.MethodName) prog_1_method_65_code (5 : Nat) (Option.some Jvm.ClassFile.FieldType.int) [((33 : Nat), (92 : Nat), (93 : Nat), (434 : Nat)), ((23 : Nat), (92 : Nat), (104 : Nat), (81 : Nat)), ((93 : Nat), (104 : Nat), (104 : Nat), (81 : Nat))]) ∈ lw_all := lw_g (lw_at lw_m6 60 rfl) rfl
theorem q1317 : (Jvm.Cond.classLink "DuskGates" (434 : Nat) "java/lang/ClassCastException") ∈ lw_all := lw_g (lw_at lw_m6 61 rfl) rfl
theorem q1332 : (Jvm.Cond.instanceMethod ({ cls := "DuskGates", name := "ask", desc := "(II)I" } : Jvm.MethodName)) ∈ lw_all := lw_g (lw_at lw_m6 76 rfl) rfl
theorem q1333 : (Jvm.Cond.selects "DuskGates" ({ cls := "DuskGates", name := "ask", desc := "(II)I" } : Jvm.MethodName) ({ cls := "DuskGates", name := "ask", desc := "(II)I" } : Jvm.MethodName)) ∈ lw_all := lw_g (lw_at lw_m6 77 rfl) rfl
theorem q1334 : (Jvm.Cond.code ({ cls := "DuskGates", name := "ask", desc := "(II)I" } : Jvm.MethodName) prog_1_method_66_code (4 : Nat) (Option.some Jvm.ClassFile.FieldType.int)) ∈ lw_all := lw_g (lw_at lw_m6 78 rfl) rfl
theorem q1335 : (Jvm.Cond.methodLink "DuskGates" (436 : Nat) ({ cls := "DuskGates$Pass", name := "size", desc := "(LDuskGates$Trail;)I" } : Jvm.MethodName)) ∈ lw_all := lw_g (lw_at lw_m6 79 rfl) rfl
theorem q1409 : (Jvm.Cond.instanceMethod ({ cls := "DuskGates", name := "trace", desc := "(I)I" } : Jvm.MethodName)) ∈ lw_all := lw_g (lw_at lw_m6 153 rfl) rfl
theorem q1410 : (Jvm.Cond.selects "DuskGates" ({ cls := "DuskGates", name := "trace", desc := "(I)I" } : Jvm.MethodName) ({ cls := "DuskGates", name := "trace", desc := "(I)I" } : Jvm.MethodName)) ∈ lw_all := lw_g (lw_at lw_m6 154 rfl) rfl
theorem q1411 : (Jvm.Cond.code ({ cls := "DuskGates", name := "trace", desc := "(I)I" } : Jvm.MethodName) prog_1_method_67_code (2 : Nat) (Option.some Jvm.ClassFile.FieldType.int)) ∈ lw_all := lw_g (lw_at lw_m6 155 rfl) rfl
theorem q1413 : (Jvm.Cond.instanceMethod ({ cls := "DuskGates", name := "count", desc := "(I)I" } : Jvm.MethodName)) ∈ lw_all := lw_g (lw_at lw_m6 157 rfl) rfl
theorem q1414 : (Jvm.Cond.selects "DuskGates" ({ cls := "DuskGates", name := "count", desc := "(I)I" } : Jvm.MethodName) ({ cls := "DuskGates", name := "count", desc := "(I)I" } : Jvm.MethodName)) ∈ lw_all := lw_g (lw_at lw_m6 158 rfl) rfl
theorem q1415 : (Jvm.Cond.code ({ cls := "DuskGates", name := "count", desc := "(I)I" } : Jvm.MethodName) prog_1_method_69_code (4 : Nat) (Option.some Jvm.ClassFile.FieldType.int)) ∈ lw_all := lw_g (lw_at lw_m6 159 rfl) rfl
theorem q1416 : (Jvm.Cond.methodLink "DuskGates" (448 : Nat) ({ cls := "DuskGates", name := "countOf", desc := "(Z)I" } : Jvm.MethodName)) ∈ lw_all := lw_g (lw_at lw_m6 160 rfl) rfl
theorem q1417 : (Jvm.Cond.privateMethod ({ cls := "DuskGates", name := "countOf", desc := "(Z)I" } : Jvm.MethodName)) ∈ lw_tbl := lw_at lw_m6 161 rfl
theorem q1418 : (Jvm.Cond.instanceMethod ({ cls := "DuskGates", name := "countOf", desc := "(Z)I" } : Jvm.MethodName)) ∈ lw_all := lw_g (lw_at lw_m6 162 rfl) rfl
theorem q1419 : (Jvm.Cond.code ({ cls := "DuskGates", name := "countOf", desc := "(Z)I" } : Jvm.MethodName) prog_1_method_68_code (5 : Nat) (Option.some Jvm.ClassFile.FieldType.int)) ∈ lw_all := lw_g (lw_at lw_m6 163 rfl) rfl
theorem q1421 : (Jvm.Cond.instanceMethod ({ cls := "DuskGates", name := "status", desc := "()I" } : Jvm.MethodName)) ∈ lw_all := lw_g (lw_at lw_m6 165 rfl) rfl
theorem q1422 : (Jvm.Cond.selects "DuskGates" ({ cls := "DuskGates", name := "status", desc := "()I" } : Jvm.MethodName) ({ cls := "DuskGates", name := "status", desc := "()I" } : Jvm.MethodName)) ∈ lw_all := lw_g (lw_at lw_m6 166 rfl) rfl
theorem q1423 : (Jvm.Cond.code ({ cls := "DuskGates", name := "status", desc := "()I" } : Jvm.MethodName) prog_1_method_70_code (1 : Nat) (Option.some Jvm.ClassFile.FieldType.int)) ∈ lw_all := lw_g (lw_at lw_m6 167 rfl) rfl
theorem q1981 : (Jvm.Cond.castable "DuskGates" "java/lang/Object") ∈ lw_tbl := lw_at lw_m9 5 rfl
theorem q2010 : (Jvm.Cond.stringRef "DuskGates" (454 : Nat) "wheel") ∈ lw_tbl := lw_at lw_m9 34 rfl
theorem q2011 : (Jvm.Cond.stringRef "DuskGates" (456 : Nat) "toll") ∈ lw_tbl := lw_at lw_m9 35 rfl
theorem q2012 : (Jvm.Cond.stringRef "DuskGates" (458 : Nat) "free") ∈ lw_tbl := lw_at lw_m9 36 rfl
theorem q2013 : (Jvm.Cond.stringRef "DuskGates" (460 : Nat) "good") ∈ lw_tbl := lw_at lw_m9 37 rfl
theorem q2014 : (Jvm.Cond.stringRef "DuskGates" (462 : Nat) "bad") ∈ lw_tbl := lw_at lw_m9 38 rfl
theorem q2015 : (Jvm.Cond.stringRef "DuskGates" (464 : Nat) "ban") ∈ lw_tbl := lw_at lw_m9 39 rfl
theorem q2016 : (Jvm.Cond.stringRef "DuskGates" (466 : Nat) "lift") ∈ lw_tbl := lw_at lw_m9 40 rfl
theorem in_X0 : ∀ w ∈ wsX00, w ∈ lw_all := lw_in wsX00 [172, 174, 176, 178, 180, 182, 184, 186, 188, 190, 192, 194, 196, 198, 200, 202, 204, 206, 208, 210, 212, 214, 216, 218] (by decide +kernel) (by decide +kernel)
