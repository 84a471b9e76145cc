/-! DuskGatesModel -/
set_option maxRecDepth 100000
def RX2 : String := "DuskGatesModel"
def TX2 : u_T := fun k => match k with
  | 0 => ("DuskGatesModel", "thrown", "I", false)
  | 1 => ("DuskGatesModel", "status", "I", false)
  | 2 => ("DuskGatesModel", "lane", "[I", true)
  | 3 => ("DuskGatesModel", "many", "[I", true)
  | 4 => ("DuskGatesModel", "item", "[I", true)
  | 5 => ("DuskGatesModel", "opens", "[I", true)
  | 6 => ("DuskGatesModel", "shuts", "[I", true)
  | 7 => ("DuskGatesModel", "share", "[I", true)
  | 8 => ("DuskGatesModel", "gateX", "[I", true)
  | 9 => ("DuskGatesModel", "gateY", "[I", true)
  | 10 => ("DuskGatesModel", "laws", "I", false)
  | 11 => ("DuskGatesModel", "lawDay", "[I", true)
  | 12 => ("DuskGatesModel", "lawWhat", "[I", true)
  | 13 => ("DuskGatesModel", "lawOf", "[I", true)
  | 14 => ("DuskGatesModel", "lawNumber", "[I", true)
  | 15 => ("DuskGatesModel", "newLaws", "I", false)
  | 16 => ("DuskGatesModel", "tape", "[I", true)
  | 17 => ("DuskGatesModel", "taped", "I", false)
  | 18 => ("DuskGatesModel", "latest", "I", false)
  | 19 => ("DuskGatesModel", "size", "I", false)
  | 20 => ("DuskGatesModel", "cursor", "I", false)
  | 21 => ("DuskGatesModel", "token", "I", false)
  | 22 => ("DuskGatesModel", "from", "I", false)
  | 23 => ("DuskGatesModel", "till", "I", false)
  | 24 => ("DuskGatesModel", "fault", "I", false)
  | 25 => ("DuskGatesModel", "faultAt", "I", false)
  | 26 => ("DuskGatesModel", "carts", "I", false)
  | 27 => ("DuskGatesModel", "load", "[I", true)
  | 28 => ("DuskGatesModel", "passings", "I", false)
  | 29 => ("DuskGatesModel", "passCart", "[I", true)
  | 30 => ("DuskGatesModel", "passIn", "[I", true)
  | 31 => ("DuskGatesModel", "passGate", "[I", true)
  | 32 => ("DuskGatesModel", "passAt", "[I", true)
  | 33 => ("DuskGatesModel", "passPaid", "[I", true)
  | 34 => ("DuskGatesModel", "wrong", "I", false)
  | 35 => ("DuskGatesModel", "inside", "I", false)
  | 36 => ("DuskGatesModel", "lost", "I", false)
  | 37 => ("DuskGatesModel", "roads", "[I", true)
  | 38 => ("DuskGatesModel", "sicks", "I", false)
  | 39 => ("DuskGatesModel", "sickTown", "[I", true)
  | 40 => ("DuskGatesModel", "sickFrom", "[I", true)
  | 41 => ("DuskGatesModel", "sickTo", "[I", true)
  | 42 => ("DuskGatesModel", "passes", "I", false)
  | 43 => ("DuskGatesModel", "paper", "[I", true)
  | 44 => ("DuskGatesModel", "theDay", "I", false)
  | 45 => ("DuskGatesModel", "free", "[I", true)
  | 46 => ("DuskGatesModel", "bestClerks", "[I", true)
  | 47 => ("DuskGatesModel", "waits", "[I", true)
  | 48 => ("DuskGatesModel", "guests", "I", false)
  | 49 => ("DuskGatesModel", "guestPerson", "[I", true)
  | 50 => ("DuskGatesModel", "guestHouse", "[I", true)
  | 51 => ("DuskGatesModel", "guestFrom", "[I", true)
  | 52 => ("DuskGatesModel", "guestTo", "[I", true)
  | 53 => ("DuskGatesModel", "fellOn", "[I", true)
  | 54 => ("DuskGatesModel", "high", "[I", true)
  | 55 => ("DuskGatesModel", "leans", "I", false)
  | 56 => ("DuskGatesModel", "leanLength", "[I", true)
  | 57 => ("DuskGatesModel", "leanInside", "[I", true)
  | 58 => ("DuskGatesModel", "leanOutside", "[I", true)
  | 59 => ("DuskGatesModel", "trace", "[I", true)
  | _ => ("DuskGatesModel", "traced", "I", false)
def tyX2 : Nat → FieldType := fun k => match k with
  | 0 => .int
  | 1 => .int
  | 2 => .array .int
  | 3 => .array .int
  | 4 => .array .int
  | 5 => .array .int
  | 6 => .array .int
  | 7 => .array .int
  | 8 => .array .int
  | 9 => .array .int
  | 10 => .int
  | 11 => .array .int
  | 12 => .array .int
  | 13 => .array .int
  | 14 => .array .int
  | 15 => .int
  | 16 => .array .int
  | 17 => .int
  | 18 => .int
  | 19 => .int
  | 20 => .int
  | 21 => .int
  | 22 => .int
  | 23 => .int
  | 24 => .int
  | 25 => .int
  | 26 => .int
  | 27 => .array .int
  | 28 => .int
  | 29 => .array .int
  | 30 => .array .int
  | 31 => .array .int
  | 32 => .array .int
  | 33 => .array .int
  | 34 => .int
  | 35 => .int
  | 36 => .int
  | 37 => .array .int
  | 38 => .int
  | 39 => .array .int
  | 40 => .array .int
  | 41 => .array .int
  | 42 => .int
  | 43 => .array .int
  | 44 => .int
  | 45 => .array .int
  | 46 => .array .int
  | 47 => .array .int
  | 48 => .int
  | 49 => .array .int
  | 50 => .array .int
  | 51 => .array .int
  | 52 => .array .int
  | 53 => .array .int
  | 54 => .array .int
  | 55 => .int
  | 56 => .array .int
  | 57 => .array .int
  | 58 => .array .int
  | 59 => .array .int
  | _ => .int
abbrev wsX20 : List Cond := u_ws RX2 TX2 61
set_option maxRecDepth 100000 in
theorem nmX2 : ∀ a, a < 61 → ∀ b, b < 61 → a ≠ b → (TX2 a).2.1 ≠ (TX2 b).2.1 := by decide +kernel
set_option maxRecDepth 100000 in
theorem tyX2_ok : ∀ k, k < 61 → parseFieldDescriptor (TX2 k).2.2.1 = some (tyX2 k) := by decide +kernel
abbrev cX2_init : ByteArray := prog_17_method_4_code
def yX2_init : MethodName := ⟨RX2, "<init>", "()V"⟩
def dkwX2_init_18 : List UInt8 := [162, 0, 17, 42, 180, 0, 111, 27, 18, 129, 79, 132, 1, 1, 167, 255, 239, 177]
abbrev dktX2_init_18 : List UInt8 := dkwX2_init_18 ++ []
def dkwX2_init_17 : List UInt8 := [162, 0, 17, 42, 180, 0, 114, 27, 16, 10, 79, 132, 1, 1, 167, 255, 239, 3, 60, 27, 16, 8]
abbrev dktX2_init_17 : List UInt8 := dkwX2_init_17 ++ dktX2_init_18
def dkwX2_init_16 : List UInt8 := [27, 16, 72, 162, 0, 16, 42, 180, 0, 75, 27, 8, 79, 132, 1, 1, 167, 255, 240, 3, 60, 27, 16, 12]
abbrev dktX2_init_16 : List UInt8 := dkwX2_init_16 ++ dktX2_init_17
def dkwX2_init_15 : List UInt8 := [180, 0, 30, 27, 17, 4, 56, 79, 42, 180, 0, 33, 27, 16, 100, 79, 132, 1, 1, 167, 255, 221, 3, 60]
abbrev dktX2_init_15 : List UInt8 := dkwX2_init_15 ++ dktX2_init_16
def dkwX2_init_14 : List UInt8 := [188, 10, 181, 0, 126, 3, 60, 27, 16, 9, 162, 0, 35, 42, 180, 0, 27, 27, 17, 1, 104, 79, 42]
abbrev dktX2_init_14 : List UInt8 := dkwX2_init_14 ++ dktX2_init_15
def dkwX2_init_13 : List UInt8 := [188, 10, 181, 0, 117, 42, 16, 20, 188, 10, 181, 0, 120, 42, 16, 20, 188, 10, 181, 0, 123, 42, 16, 16]
abbrev dktX2_init_13 : List UInt8 := dkwX2_init_13 ++ dktX2_init_14
def dkwX2_init_12 : List UInt8 := [188, 10, 181, 0, 108, 42, 16, 8, 188, 10, 181, 0, 111, 42, 16, 12, 188, 10, 181, 0, 114, 42, 16, 20]
abbrev dktX2_init_12 : List UInt8 := dkwX2_init_12 ++ dktX2_init_13
def dkwX2_init_11 : List UInt8 := [188, 10, 181, 0, 99, 42, 16, 40, 188, 10, 181, 0, 102, 42, 16, 40, 188, 10, 181, 0, 105, 42, 16, 40]
abbrev dktX2_init_11 : List UInt8 := dkwX2_init_11 ++ dktX2_init_12
def dkwX2_init_10 : List UInt8 := [188, 10, 181, 0, 90, 42, 7, 188, 10, 181, 0, 93, 42, 16, 36, 188, 10, 181, 0, 96, 42, 16, 40]
abbrev dktX2_init_10 : List UInt8 := dkwX2_init_10 ++ dktX2_init_11
def dkwX2_init_9 : List UInt8 := [188, 10, 181, 0, 81, 42, 16, 20, 188, 10, 181, 0, 84, 42, 16, 112, 188, 10, 181, 0, 87, 42, 16, 8]
abbrev dktX2_init_9 : List UInt8 := dkwX2_init_9 ++ dktX2_init_10
def dkwX2_init_8 : List UInt8 := [188, 10, 181, 0, 72, 42, 16, 72, 188, 10, 181, 0, 75, 42, 16, 20, 188, 10, 181, 0, 78, 42, 16, 20]
abbrev dktX2_init_8 : List UInt8 := dkwX2_init_8 ++ dktX2_init_9
def dkwX2_init_7 : List UInt8 := [188, 10, 181, 0, 63, 42, 16, 60, 188, 10, 181, 0, 66, 42, 16, 60, 188, 10, 181, 0, 69, 42, 16, 60]
abbrev dktX2_init_7 : List UInt8 := dkwX2_init_7 ++ dktX2_init_8
def dkwX2_init_6 : List UInt8 := [181, 0, 54, 42, 17, 0, 144, 188, 10, 181, 0, 57, 42, 16, 60, 188, 10, 181, 0, 60, 42, 16, 60]
abbrev dktX2_init_6 : List UInt8 := dkwX2_init_6 ++ dktX2_init_7
def dkwX2_init_5 : List UInt8 := [42, 16, 30, 188, 10, 181, 0, 48, 42, 16, 30, 188, 10, 181, 0, 51, 42, 17, 1, 144, 188, 10]
abbrev dktX2_init_5 : List UInt8 := dkwX2_init_5 ++ dktX2_init_6
def dkwX2_init_4 : List UInt8 := [42, 16, 9, 188, 10, 181, 0, 39, 42, 16, 30, 188, 10, 181, 0, 42, 42, 16, 30, 188, 10, 181, 0, 45]
abbrev dktX2_init_4 : List UInt8 := dkwX2_init_4 ++ dktX2_init_5
def dkwX2_init_3 : List UInt8 := [42, 16, 9, 188, 10, 181, 0, 30, 42, 16, 9, 188, 10, 181, 0, 33, 42, 16, 9, 188, 10, 181, 0, 36]
abbrev dktX2_init_3 : List UInt8 := dkwX2_init_3 ++ dktX2_init_4
def dkwX2_init_2 : List UInt8 := [16, 8, 188, 10, 181, 0, 21, 42, 17, 2, 0, 188, 10, 181, 0, 24, 42, 16, 9, 188, 10, 181, 0, 27]
abbrev dktX2_init_2 : List UInt8 := dkwX2_init_2 ++ dktX2_init_3
def dkwX2_init_1 : List UInt8 := [79, 89, 7, 2, 79, 89, 8, 2, 79, 89, 16, 6, 2, 79, 89, 16, 7, 2, 79, 181, 0, 17, 42]
abbrev dktX2_init_1 : List UInt8 := dkwX2_init_1 ++ dktX2_init_2
def dkwX2_init_0 : List UInt8 := [42, 183, 0, 11, 42, 16, 8, 188, 10, 89, 3, 2, 79, 89, 4, 2, 79, 89, 5, 2, 79, 89, 6, 2]
abbrev dktX2_init_0 : List UInt8 := dkwX2_init_0 ++ dktX2_init_1
theorem dksX2_init_0 : cX2_init.data.toList.drop 0 = dktX2_init_0 := by decide +kernel
theorem dksX2_init_1 : cX2_init.data.toList.drop 24 = dktX2_init_1 := dk_seg dksX2_init_0 24 rfl rfl
theorem dksX2_init_2 : cX2_init.data.toList.drop 47 = dktX2_init_2 := dk_seg dksX2_init_1 23 rfl rfl
theorem dksX2_init_3 : cX2_init.data.toList.drop 71 = dktX2_init_3 := dk_seg dksX2_init_2 24 rfl rfl
theorem dksX2_init_4 : cX2_init.data.toList.drop 95 = dktX2_init_4 := dk_seg dksX2_init_3 24 rfl rfl
theorem dksX2_init_5 : cX2_init.data.toList.drop 119 = dktX2_init_5 := dk_seg dksX2_init_4 24 rfl rfl
theorem dksX2_init_6 : cX2_init.data.toList.drop 141 = dktX2_init_6 := dk_seg dksX2_init_5 22 rfl rfl
theorem dksX2_init_7 : cX2_init.data.toList.drop 164 = dktX2_init_7 := dk_seg dksX2_init_6 23 rfl rfl
theorem dksX2_init_8 : cX2_init.data.toList.drop 188 = dktX2_init_8 := dk_seg dksX2_init_7 24 rfl rfl
theorem dksX2_init_9 : cX2_init.data.toList.drop 212 = dktX2_init_9 := dk_seg dksX2_init_8 24 rfl rfl
theorem dksX2_init_10 : cX2_init.data.toList.drop 236 = dktX2_init_10 := dk_seg dksX2_init_9 24 rfl rfl
theorem dksX2_init_11 : cX2_init.data.toList.drop 259 = dktX2_init_11 := dk_seg dksX2_init_10 23 rfl rfl
theorem dksX2_init_12 : cX2_init.data.toList.drop 283 = dktX2_init_12 := dk_seg dksX2_init_11 24 rfl rfl
theorem dksX2_init_13 : cX2_init.data.toList.drop 307 = dktX2_init_13 := dk_seg dksX2_init_12 24 rfl rfl
theorem dksX2_init_14 : cX2_init.data.toList.drop 331 = dktX2_init_14 := dk_seg dksX2_init_13 24 rfl rfl
theorem dksX2_init_15 : cX2_init.data.toList.drop 354 = dktX2_init_15 := dk_seg dksX2_init_14 23 rfl rfl
theorem dksX2_init_16 : cX2_init.data.toList.drop 378 = dktX2_init_16 := dk_seg dksX2_init_15 24 rfl rfl
theorem dksX2_init_17 : cX2_init.data.toList.drop 402 = dktX2_init_17 := dk_seg dksX2_init_16 24 rfl rfl
theorem dksX2_init_18 : cX2_init.data.toList.drop 424 = dktX2_init_18 := dk_seg dksX2_init_17 22 rfl rfl
theorem dX2_init_0 : decode cX2_init 0 = .ok (.aload_n 0, 1) := dk_42 (dk_at dksX2_init_0 0 rfl rfl)
theorem dX2_init_1 : decode cX2_init 1 = .ok (.invokespecial 11, 3) := dk_183 0 11 (dk_at dksX2_init_0 1 rfl rfl)
theorem dX2_init_4 : decode cX2_init 4 = .ok (.aload_n 0, 1) := dk_42 (dk_at dksX2_init_0 4 rfl rfl)
theorem dX2_init_5 : decode cX2_init 5 = .ok (.bipush 8, 2) := dk_16 8 (dk_at dksX2_init_0 5 rfl rfl)
theorem dX2_init_7 : decode cX2_init 7 = .ok (.newarray .int, 2) := dk_188_10 (dk_at dksX2_init_0 7 rfl rfl)
theorem dX2_init_9 : decode cX2_init 9 = .ok (.dup, 1) := dk_89 (dk_at dksX2_init_0 9 rfl rfl)
theorem dX2_init_10 : decode cX2_init 10 = .ok (.iconst 0, 1) := dk_3 (dk_at dksX2_init_0 10 rfl rfl)
theorem dX2_init_11 : decode cX2_init 11 = .ok (.iconst (-1), 1) := dk_2 (dk_at dksX2_init_0 11 rfl rfl)
theorem dX2_init_12 : decode cX2_init 12 = .ok (.iastore, 1) := dk_79 (dk_at dksX2_init_0 12 rfl rfl)
theorem dX2_init_13 : decode cX2_init 13 = .ok (.dup, 1) := dk_89 (dk_at dksX2_init_0 13 rfl rfl)
theorem dX2_init_14 : decode cX2_init 14 = .ok (.iconst 1, 1) := dk_4 (dk_at dksX2_init_0 14 rfl rfl)
theorem dX2_init_15 : decode cX2_init 15 = .ok (.iconst (-1), 1) := dk_2 (dk_at dksX2_init_0 15 rfl rfl)
theorem dX2_init_16 : decode cX2_init 16 = .ok (.iastore, 1) := dk_79 (dk_at dksX2_init_0 16 rfl rfl)
theorem dX2_init_17 : decode cX2_init 17 = .ok (.dup, 1) := dk_89 (dk_at dksX2_init_0 17 rfl rfl)
theorem dX2_init_18 : decode cX2_init 18 = .ok (.iconst 2, 1) := dk_5 (dk_at dksX2_init_0 18 rfl rfl)
theorem dX2_init_19 : decode cX2_init 19 = .ok (.iconst (-1), 1) := dk_2 (dk_at dksX2_init_0 19 rfl rfl)
theorem dX2_init_20 : decode cX2_init 20 = .ok (.iastore, 1) := dk_79 (dk_at dksX2_init_0 20 rfl rfl)
theorem dX2_init_21 : decode cX2_init 21 = .ok (.dup, 1) := dk_89 (dk_at dksX2_init_0 21 rfl rfl)
theorem dX2_init_22 : decode cX2_init 22 = .ok (.iconst 3, 1) := dk_6 (dk_at dksX2_init_0 22 rfl rfl)
theorem dX2_init_23 : decode cX2_init 23 = .ok (.iconst (-1), 1) := dk_2 (dk_at dksX2_init_0 23 rfl rfl)
theorem dX2_init_24 : decode cX2_init 24 = .ok (.iastore, 1) := dk_79 (dk_at dksX2_init_1 0 rfl rfl)
theorem dX2_init_25 : decode cX2_init 25 = .ok (.dup, 1) := dk_89 (dk_at dksX2_init_1 1 rfl rfl)
theorem dX2_init_26 : decode cX2_init 26 = .ok (.iconst 4, 1) := dk_7 (dk_at dksX2_init_1 2 rfl rfl)
theorem dX2_init_27 : decode cX2_init 27 = .ok (.iconst (-1), 1) := dk_2 (dk_at dksX2_init_1 3 rfl rfl)
theorem dX2_init_28 : decode cX2_init 28 = .ok (.iastore, 1) := dk_79 (dk_at dksX2_init_1 4 rfl rfl)
theorem dX2_init_29 : decode cX2_init 29 = .ok (.dup, 1) := dk_89 (dk_at dksX2_init_1 5 rfl rfl)
theorem dX2_init_30 : decode cX2_init 30 = .ok (.iconst 5, 1) := dk_8 (dk_at dksX2_init_1 6 rfl rfl)
theorem dX2_init_31 : decode cX2_init 31 = .ok (.iconst (-1), 1) := dk_2 (dk_at dksX2_init_1 7 rfl rfl)
theorem dX2_init_32 : decode cX2_init 32 = .ok (.iastore, 1) := dk_79 (dk_at dksX2_init_1 8 rfl rfl)
theorem dX2_init_33 : decode cX2_init 33 = .ok (.dup, 1) := dk_89 (dk_at dksX2_init_1 9 rfl rfl)
theorem dX2_init_34 : decode cX2_init 34 = .ok (.bipush 6, 2) := dk_16 6 (dk_at dksX2_init_1 10 rfl rfl)
theorem dX2_init_36 : decode cX2_init 36 = .ok (.iconst (-1), 1) := dk_2 (dk_at dksX2_init_1 12 rfl rfl)
theorem dX2_init_37 : decode cX2_init 37 = .ok (.iastore, 1) := dk_79 (dk_at dksX2_init_1 13 rfl rfl)
theorem dX2_init_38 : decode cX2_init 38 = .ok (.dup, 1) := dk_89 (dk_at dksX2_init_1 14 rfl rfl)
theorem dX2_init_39 : decode cX2_init 39 = .ok (.bipush 7, 2) := dk_16 7 (dk_at dksX2_init_1 15 rfl rfl)
theorem dX2_init_41 : decode cX2_init 41 = .ok (.iconst (-1), 1) := dk_2 (dk_at dksX2_init_1 17 rfl rfl)
theorem dX2_init_42 : decode cX2_init 42 = .ok (.iastore, 1) := dk_79 (dk_at dksX2_init_1 18 rfl rfl)
theorem dX2_init_43 : decode cX2_init 43 = .ok (.putfield 17, 3) := dk_181 0 17 (dk_at dksX2_init_1 19 rfl rfl)
theorem dX2_init_46 : decode cX2_init 46 = .ok (.aload_n 0, 1) := dk_42 (dk_at dksX2_init_1 22 rfl rfl)
theorem dX2_init_47 : decode cX2_init 47 = .ok (.bipush 8, 2) := dk_16 8 (dk_at dksX2_init_2 0 rfl rfl)
theorem dX2_init_49 : decode cX2_init 49 = .ok (.newarray .int, 2) := dk_188_10 (dk_at dksX2_init_2 2 rfl rfl)
theorem dX2_init_51 : decode cX2_init 51 = .ok (.putfield 21, 3) := dk_181 0 21 (dk_at dksX2_init_2 4 rfl rfl)
theorem dX2_init_54 : decode cX2_init 54 = .ok (.aload_n 0, 1) := dk_42 (dk_at dksX2_init_2 7 rfl rfl)
theorem dX2_init_55 : decode cX2_init 55 = .ok (.sipush 512, 3) := dk_17 2 0 (dk_at dksX2_init_2 8 rfl rfl)
theorem dX2_init_58 : decode cX2_init 58 = .ok (.newarray .int, 2) := dk_188_10 (dk_at dksX2_init_2 11 rfl rfl)
theorem dX2_init_60 : decode cX2_init 60 = .ok (.putfield 24, 3) := dk_181 0 24 (dk_at dksX2_init_2 13 rfl rfl)
theorem dX2_init_63 : decode cX2_init 63 = .ok (.aload_n 0, 1) := dk_42 (dk_at dksX2_init_2 16 rfl rfl)
theorem dX2_init_64 : decode cX2_init 64 = .ok (.bipush 9, 2) := dk_16 9 (dk_at dksX2_init_2 17 rfl rfl)
theorem dX2_init_66 : decode cX2_init 66 = .ok (.newarray .int, 2) := dk_188_10 (dk_at dksX2_init_2 19 rfl rfl)
theorem dX2_init_68 : decode cX2_init 68 = .ok (.putfield 27, 3) := dk_181 0 27 (dk_at dksX2_init_2 21 rfl rfl)
theorem dX2_init_71 : decode cX2_init 71 = .ok (.aload_n 0, 1) := dk_42 (dk_at dksX2_init_3 0 rfl rfl)
theorem dX2_init_72 : decode cX2_init 72 = .ok (.bipush 9, 2) := dk_16 9 (dk_at dksX2_init_3 1 rfl rfl)
theorem dX2_init_74 : decode cX2_init 74 = .ok (.newarray .int, 2) := dk_188_10 (dk_at dksX2_init_3 3 rfl rfl)
theorem dX2_init_76 : decode cX2_init 76 = .ok (.putfield 30, 3) := dk_181 0 30 (dk_at dksX2_init_3 5 rfl rfl)
theorem dX2_init_79 : decode cX2_init 79 = .ok (.aload_n 0, 1) := dk_42 (dk_at dksX2_init_3 8 rfl rfl)
theorem dX2_init_80 : decode cX2_init 80 = .ok (.bipush 9, 2) := dk_16 9 (dk_at dksX2_init_3 9 rfl rfl)
theorem dX2_init_82 : decode cX2_init 82 = .ok (.newarray .int, 2) := dk_188_10 (dk_at dksX2_init_3 11 rfl rfl)
theorem dX2_init_84 : decode cX2_init 84 = .ok (.putfield 33, 3) := dk_181 0 33 (dk_at dksX2_init_3 13 rfl rfl)
theorem dX2_init_87 : decode cX2_init 87 = .ok (.aload_n 0, 1) := dk_42 (dk_at dksX2_init_3 16 rfl rfl)
theorem dX2_init_88 : decode cX2_init 88 = .ok (.bipush 9, 2) := dk_16 9 (dk_at dksX2_init_3 17 rfl rfl)
theorem dX2_init_90 : decode cX2_init 90 = .ok (.newarray .int, 2) := dk_188_10 (dk_at dksX2_init_3 19 rfl rfl)
theorem dX2_init_92 : decode cX2_init 92 = .ok (.putfield 36, 3) := dk_181 0 36 (dk_at dksX2_init_3 21 rfl rfl)
theorem dX2_init_95 : decode cX2_init 95 = .ok (.aload_n 0, 1) := dk_42 (dk_at dksX2_init_4 0 rfl rfl)
theorem dX2_init_96 : decode cX2_init 96 = .ok (.bipush 9, 2) := dk_16 9 (dk_at dksX2_init_4 1 rfl rfl)
theorem dX2_init_98 : decode cX2_init 98 = .ok (.newarray .int, 2) := dk_188_10 (dk_at dksX2_init_4 3 rfl rfl)
theorem dX2_init_100 : decode cX2_init 100 = .ok (.putfield 39, 3) := dk_181 0 39 (dk_at dksX2_init_4 5 rfl rfl)
theorem dX2_init_103 : decode cX2_init 103 = .ok (.aload_n 0, 1) := dk_42 (dk_at dksX2_init_4 8 rfl rfl)
theorem dX2_init_104 : decode cX2_init 104 = .ok (.bipush 30, 2) := dk_16 30 (dk_at dksX2_init_4 9 rfl rfl)
theorem dX2_init_106 : decode cX2_init 106 = .ok (.newarray .int, 2) := dk_188_10 (dk_at dksX2_init_4 11 rfl rfl)
theorem dX2_init_108 : decode cX2_init 108 = .ok (.putfield 42, 3) := dk_181 0 42 (dk_at dksX2_init_4 13 rfl rfl)
theorem dX2_init_111 : decode cX2_init 111 = .ok (.aload_n 0, 1) := dk_42 (dk_at dksX2_init_4 16 rfl rfl)
theorem dX2_init_112 : decode cX2_init 112 = .ok (.bipush 30, 2) := dk_16 30 (dk_at dksX2_init_4 17 rfl rfl)
theorem dX2_init_114 : decode cX2_init 114 = .ok (.newarray .int, 2) := dk_188_10 (dk_at dksX2_init_4 19 rfl rfl)
theorem dX2_init_116 : decode cX2_init 116 = .ok (.putfield 45, 3) := dk_181 0 45 (dk_at dksX2_init_4 21 rfl rfl)
theorem dX2_init_119 : decode cX2_init 119 = .ok (.aload_n 0, 1) := dk_42 (dk_at dksX2_init_5 0 rfl rfl)
theorem dX2_init_120 : decode cX2_init 120 = .ok (.bipush 30, 2) := dk_16 30 (dk_at dksX2_init_5 1 rfl rfl)
theorem dX2_init_122 : decode cX2_init 122 = .ok (.newarray .int, 2) := dk_188_10 (dk_at dksX2_init_5 3 rfl rfl)
theorem dX2_init_124 : decode cX2_init 124 = .ok (.putfield 48, 3) := dk_181 0 48 (dk_at dksX2_init_5 5 rfl rfl)
theorem dX2_init_127 : decode cX2_init 127 = .ok (.aload_n 0, 1) := dk_42 (dk_at dksX2_init_5 8 rfl rfl)
theorem dX2_init_128 : decode cX2_init 128 = .ok (.bipush 30, 2) := dk_16 30 (dk_at dksX2_init_5 9 rfl rfl)
theorem dX2_init_130 : decode cX2_init 130 = .ok (.newarray .int, 2) := dk_188_10 (dk_at dksX2_init_5 11 rfl rfl)
theorem dX2_init_132 : decode cX2_init 132 = .ok (.putfield 51, 3) := dk_181 0 51 (dk_at dksX2_init_5 13 rfl rfl)
theorem dX2_init_135 : decode cX2_init 135 = .ok (.aload_n 0, 1) := dk_42 (dk_at dksX2_init_5 16 rfl rfl)
theorem dX2_init_136 : decode cX2_init 136 = .ok (.sipush 400, 3) := dk_17 1 144 (dk_at dksX2_init_5 17 rfl rfl)
theorem dX2_init_139 : decode cX2_init 139 = .ok (.newarray .int, 2) := dk_188_10 (dk_at dksX2_init_5 20 rfl rfl)
theorem dX2_init_141 : decode cX2_init 141 = .ok (.putfield 54, 3) := dk_181 0 54 (dk_at dksX2_init_6 0 rfl rfl)
theorem dX2_init_144 : decode cX2_init 144 = .ok (.aload_n 0, 1) := dk_42 (dk_at dksX2_init_6 3 rfl rfl)
theorem dX2_init_145 : decode cX2_init 145 = .ok (.sipush 144, 3) := dk_17 0 144 (dk_at dksX2_init_6 4 rfl rfl)
theorem dX2_init_148 : decode cX2_init 148 = .ok (.newarray .int, 2) := dk_188_10 (dk_at dksX2_init_6 7 rfl rfl)
theorem dX2_init_150 : decode cX2_init 150 = .ok (.putfield 57, 3) := dk_181 0 57 (dk_at dksX2_init_6 9 rfl rfl)
theorem dX2_init_153 : decode cX2_init 153 = .ok (.aload_n 0, 1) := dk_42 (dk_at dksX2_init_6 12 rfl rfl)
theorem dX2_init_154 : decode cX2_init 154 = .ok (.bipush 60, 2) := dk_16 60 (dk_at dksX2_init_6 13 rfl rfl)
theorem dX2_init_156 : decode cX2_init 156 = .ok (.newarray .int, 2) := dk_188_10 (dk_at dksX2_init_6 15 rfl rfl)
theorem dX2_init_158 : decode cX2_init 158 = .ok (.putfield 60, 3) := dk_181 0 60 (dk_at dksX2_init_6 17 rfl rfl)
theorem dX2_init_161 : decode cX2_init 161 = .ok (.aload_n 0, 1) := dk_42 (dk_at dksX2_init_6 20 rfl rfl)
theorem dX2_init_162 : decode cX2_init 162 = .ok (.bipush 60, 2) := dk_16 60 (dk_at dksX2_init_6 21 rfl rfl)
theorem dX2_init_164 : decode cX2_init 164 = .ok (.newarray .int, 2) := dk_188_10 (dk_at dksX2_init_7 0 rfl rfl)
theorem dX2_init_166 : decode cX2_init 166 = .ok (.putfield 63, 3) := dk_181 0 63 (dk_at dksX2_init_7 2 rfl rfl)
theorem dX2_init_169 : decode cX2_init 169 = .ok (.aload_n 0, 1) := dk_42 (dk_at dksX2_init_7 5 rfl rfl)
theorem dX2_init_170 : decode cX2_init 170 = .ok (.bipush 60, 2) := dk_16 60 (dk_at dksX2_init_7 6 rfl rfl)
theorem dX2_init_172 : decode cX2_init 172 = .ok (.newarray .int, 2) := dk_188_10 (dk_at dksX2_init_7 8 rfl rfl)
theorem dX2_init_174 : decode cX2_init 174 = .ok (.putfield 66, 3) := dk_181 0 66 (dk_at dksX2_init_7 10 rfl rfl)
theorem dX2_init_177 : decode cX2_init 177 = .ok (.aload_n 0, 1) := dk_42 (dk_at dksX2_init_7 13 rfl rfl)
theorem dX2_init_178 : decode cX2_init 178 = .ok (.bipush 60, 2) := dk_16 60 (dk_at dksX2_init_7 14 rfl rfl)
theorem dX2_init_180 : decode cX2_init 180 = .ok (.newarray .int, 2) := dk_188_10 (dk_at dksX2_init_7 16 rfl rfl)
theorem dX2_init_182 : decode cX2_init 182 = .ok (.putfield 69, 3) := dk_181 0 69 (dk_at dksX2_init_7 18 rfl rfl)
theorem dX2_init_185 : decode cX2_init 185 = .ok (.aload_n 0, 1) := dk_42 (dk_at dksX2_init_7 21 rfl rfl)
theorem dX2_init_186 : decode cX2_init 186 = .ok (.bipush 60, 2) := dk_16 60 (dk_at dksX2_init_7 22 rfl rfl)
theorem dX2_init_188 : decode cX2_init 188 = .ok (.newarray .int, 2) := dk_188_10 (dk_at dksX2_init_8 0 rfl rfl)
theorem dX2_init_190 : decode cX2_init 190 = .ok (.putfield 72, 3) := dk_181 0 72 (dk_at dksX2_init_8 2 rfl rfl)
theorem dX2_init_193 : decode cX2_init 193 = .ok (.aload_n 0, 1) := dk_42 (dk_at dksX2_init_8 5 rfl rfl)
theorem dX2_init_194 : decode cX2_init 194 = .ok (.bipush 72, 2) := dk_16 72 (dk_at dksX2_init_8 6 rfl rfl)
theorem dX2_init_196 : decode cX2_init 196 = .ok (.newarray .int, 2) := dk_188_10 (dk_at dksX2_init_8 8 rfl rfl)
theorem dX2_init_198 : decode cX2_init 198 = .ok (.putfield 75, 3) := dk_181 0 75 (dk_at dksX2_init_8 10 rfl rfl)
theorem dX2_init_201 : decode cX2_init 201 = .ok (.aload_n 0, 1) := dk_42 (dk_at dksX2_init_8 13 rfl rfl)
theorem dX2_init_202 : decode cX2_init 202 = .ok (.bipush 20, 2) := dk_16 20 (dk_at dksX2_init_8 14 rfl rfl)
theorem dX2_init_204 : decode cX2_init 204 = .ok (.newarray .int, 2) := dk_188_10 (dk_at dksX2_init_8 16 rfl rfl)
theorem dX2_init_206 : decode cX2_init 206 = .ok (.putfield 78, 3) := dk_181 0 78 (dk_at dksX2_init_8 18 rfl rfl)
theorem dX2_init_209 : decode cX2_init 209 = .ok (.aload_n 0, 1) := dk_42 (dk_at dksX2_init_8 21 rfl rfl)
theorem dX2_init_210 : decode cX2_init 210 = .ok (.bipush 20, 2) := dk_16 20 (dk_at dksX2_init_8 22 rfl rfl)
theorem dX2_init_212 : decode cX2_init 212 = .ok (.newarray .int, 2) := dk_188_10 (dk_at dksX2_init_9 0 rfl rfl)
theorem dX2_init_214 : decode cX2_init 214 = .ok (.putfield 81, 3) := dk_181 0 81 (dk_at dksX2_init_9 2 rfl rfl)
theorem dX2_init_217 : decode cX2_init 217 = .ok (.aload_n 0, 1) := dk_42 (dk_at dksX2_init_9 5 rfl rfl)
theorem dX2_init_218 : decode cX2_init 218 = .ok (.bipush 20, 2) := dk_16 20 (dk_at dksX2_init_9 6 rfl rfl)
theorem dX2_init_220 : decode cX2_init 220 = .ok (.newarray .int, 2) := dk_188_10 (dk_at dksX2_init_9 8 rfl rfl)
theorem dX2_init_222 : decode cX2_init 222 = .ok (.putfield 84, 3) := dk_181 0 84 (dk_at dksX2_init_9 10 rfl rfl)
theorem dX2_init_225 : decode cX2_init 225 = .ok (.aload_n 0, 1) := dk_42 (dk_at dksX2_init_9 13 rfl rfl)
theorem dX2_init_226 : decode cX2_init 226 = .ok (.bipush 112, 2) := dk_16 112 (dk_at dksX2_init_9 14 rfl rfl)
theorem dX2_init_228 : decode cX2_init 228 = .ok (.newarray .int, 2) := dk_188_10 (dk_at dksX2_init_9 16 rfl rfl)
theorem dX2_init_230 : decode cX2_init 230 = .ok (.putfield 87, 3) := dk_181 0 87 (dk_at dksX2_init_9 18 rfl rfl)
theorem dX2_init_233 : decode cX2_init 233 = .ok (.aload_n 0, 1) := dk_42 (dk_at dksX2_init_9 21 rfl rfl)
theorem dX2_init_234 : decode cX2_init 234 = .ok (.bipush 8, 2) := dk_16 8 (dk_at dksX2_init_9 22 rfl rfl)
theorem dX2_init_236 : decode cX2_init 236 = .ok (.newarray .int, 2) := dk_188_10 (dk_at dksX2_init_10 0 rfl rfl)
theorem dX2_init_238 : decode cX2_init 238 = .ok (.putfield 90, 3) := dk_181 0 90 (dk_at dksX2_init_10 2 rfl rfl)
theorem dX2_init_241 : decode cX2_init 241 = .ok (.aload_n 0, 1) := dk_42 (dk_at dksX2_init_10 5 rfl rfl)
theorem dX2_init_242 : decode cX2_init 242 = .ok (.iconst 4, 1) := dk_7 (dk_at dksX2_init_10 6 rfl rfl)
theorem dX2_init_243 : decode cX2_init 243 = .ok (.newarray .int, 2) := dk_188_10 (dk_at dksX2_init_10 7 rfl rfl)
theorem dX2_init_245 : decode cX2_init 245 = .ok (.putfield 93, 3) := dk_181 0 93 (dk_at dksX2_init_10 9 rfl rfl)
theorem dX2_init_248 : decode cX2_init 248 = .ok (.aload_n 0, 1) := dk_42 (dk_at dksX2_init_10 12 rfl rfl)
theorem dX2_init_249 : decode cX2_init 249 = .ok (.bipush 36, 2) := dk_16 36 (dk_at dksX2_init_10 13 rfl rfl)
theorem dX2_init_251 : decode cX2_init 251 = .ok (.newarray .int, 2) := dk_188_10 (dk_at dksX2_init_10 15 rfl rfl)
theorem dX2_init_253 : decode cX2_init 253 = .ok (.putfield 96, 3) := dk_181 0 96 (dk_at dksX2_init_10 17 rfl rfl)
theorem dX2_init_256 : decode cX2_init 256 = .ok (.aload_n 0, 1) := dk_42 (dk_at dksX2_init_10 20 rfl rfl)
theorem dX2_init_257 : decode cX2_init 257 = .ok (.bipush 40, 2) := dk_16 40 (dk_at dksX2_init_10 21 rfl rfl)
theorem dX2_init_259 : decode cX2_init 259 = .ok (.newarray .int, 2) := dk_188_10 (dk_at dksX2_init_11 0 rfl rfl)
theorem dX2_init_261 : decode cX2_init 261 = .ok (.putfield 99, 3) := dk_181 0 99 (dk_at dksX2_init_11 2 rfl rfl)
theorem dX2_init_264 : decode cX2_init 264 = .ok (.aload_n 0, 1) := dk_42 (dk_at dksX2_init_11 5 rfl rfl)
theorem dX2_init_265 : decode cX2_init 265 = .ok (.bipush 40, 2) := dk_16 40 (dk_at dksX2_init_11 6 rfl rfl)
theorem dX2_init_267 : decode cX2_init 267 = .ok (.newarray .int, 2) := dk_188_10 (dk_at dksX2_init_11 8 rfl rfl)
theorem dX2_init_269 : decode cX2_init 269 = .ok (.putfield 102, 3) := dk_181 0 102 (dk_at dksX2_init_11 10 rfl rfl)
theorem dX2_init_272 : decode cX2_init 272 = .ok (.aload_n 0, 1) := dk_42 (dk_at dksX2_init_11 13 rfl rfl)
theorem dX2_init_273 : decode cX2_init 273 = .ok (.bipush 40, 2) := dk_16 40 (dk_at dksX2_init_11 14 rfl rfl)
theorem dX2_init_275 : decode cX2_init 275 = .ok (.newarray .int, 2) := dk_188_10 (dk_at dksX2_init_11 16 rfl rfl)
theorem dX2_init_277 : decode cX2_init 277 = .ok (.putfield 105, 3) := dk_181 0 105 (dk_at dksX2_init_11 18 rfl rfl)
theorem dX2_init_280 : decode cX2_init 280 = .ok (.aload_n 0, 1) := dk_42 (dk_at dksX2_init_11 21 rfl rfl)
theorem dX2_init_281 : decode cX2_init 281 = .ok (.bipush 40, 2) := dk_16 40 (dk_at dksX2_init_11 22 rfl rfl)
theorem dX2_init_283 : decode cX2_init 283 = .ok (.newarray .int, 2) := dk_188_10 (dk_at dksX2_init_12 0 rfl rfl)
theorem dX2_init_285 : decode cX2_init 285 = .ok (.putfield 108, 3) := dk_181 0 108 (dk_at dksX2_init_12 2 rfl rfl)
theorem dX2_init_288 : decode cX2_init 288 = .ok (.aload_n 0, 1) := dk_42 (dk_at dksX2_init_12 5 rfl rfl)
theorem dX2_init_289 : decode cX2_init 289 = .ok (.bipush 8, 2) := dk_16 8 (dk_at dksX2_init_12 6 rfl rfl)
theorem dX2_init_291 : decode cX2_init 291 = .ok (.newarray .int, 2) := dk_188_10 (dk_at dksX2_init_12 8 rfl rfl)
theorem dX2_init_293 : decode cX2_init 293 = .ok (.putfield 111, 3) := dk_181 0 111 (dk_at dksX2_init_12 10 rfl rfl)
theorem dX2_init_296 : decode cX2_init 296 = .ok (.aload_n 0, 1) := dk_42 (dk_at dksX2_init_12 13 rfl rfl)
theorem dX2_init_297 : decode cX2_init 297 = .ok (.bipush 12, 2) := dk_16 12 (dk_at dksX2_init_12 14 rfl rfl)
theorem dX2_init_299 : decode cX2_init 299 = .ok (.newarray .int, 2) := dk_188_10 (dk_at dksX2_init_12 16 rfl rfl)
theorem dX2_init_301 : decode cX2_init 301 = .ok (.putfield 114, 3) := dk_181 0 114 (dk_at dksX2_init_12 18 rfl rfl)
theorem dX2_init_304 : decode cX2_init 304 = .ok (.aload_n 0, 1) := dk_42 (dk_at dksX2_init_12 21 rfl rfl)
theorem dX2_init_305 : decode cX2_init 305 = .ok (.bipush 20, 2) := dk_16 20 (dk_at dksX2_init_12 22 rfl rfl)
theorem dX2_init_307 : decode cX2_init 307 = .ok (.newarray .int, 2) := dk_188_10 (dk_at dksX2_init_13 0 rfl rfl)
theorem dX2_init_309 : decode cX2_init 309 = .ok (.putfield 117, 3) := dk_181 0 117 (dk_at dksX2_init_13 2 rfl rfl)
theorem dX2_init_312 : decode cX2_init 312 = .ok (.aload_n 0, 1) := dk_42 (dk_at dksX2_init_13 5 rfl rfl)
theorem dX2_init_313 : decode cX2_init 313 = .ok (.bipush 20, 2) := dk_16 20 (dk_at dksX2_init_13 6 rfl rfl)
theorem dX2_init_315 : decode cX2_init 315 = .ok (.newarray .int, 2) := dk_188_10 (dk_at dksX2_init_13 8 rfl rfl)
theorem dX2_init_317 : decode cX2_init 317 = .ok (.putfield 120, 3) := dk_181 0 120 (dk_at dksX2_init_13 10 rfl rfl)
theorem dX2_init_320 : decode cX2_init 320 = .ok (.aload_n 0, 1) := dk_42 (dk_at dksX2_init_13 13 rfl rfl)
theorem dX2_init_321 : decode cX2_init 321 = .ok (.bipush 20, 2) := dk_16 20 (dk_at dksX2_init_13 14 rfl rfl)
theorem dX2_init_323 : decode cX2_init 323 = .ok (.newarray .int, 2) := dk_188_10 (dk_at dksX2_init_13 16 rfl rfl)
theorem dX2_init_325 : decode cX2_init 325 = .ok (.putfield 123, 3) := dk_181 0 123 (dk_at dksX2_init_13 18 rfl rfl)
theorem dX2_init_328 : decode cX2_init 328 = .ok (.aload_n 0, 1) := dk_42 (dk_at dksX2_init_13 21 rfl rfl)
theorem dX2_init_329 : decode cX2_init 329 = .ok (.bipush 16, 2) := dk_16 16 (dk_at dksX2_init_13 22 rfl rfl)
theorem dX2_init_331 : decode cX2_init 331 = .ok (.newarray .int, 2) := dk_188_10 (dk_at dksX2_init_14 0 rfl rfl)
theorem dX2_init_333 : decode cX2_init 333 = .ok (.putfield 126, 3) := dk_181 0 126 (dk_at dksX2_init_14 2 rfl rfl)
theorem dX2_init_336 : decode cX2_init 336 = .ok (.iconst 0, 1) := dk_3 (dk_at dksX2_init_14 5 rfl rfl)
theorem dX2_init_337 : decode cX2_init 337 = .ok (.istore_n 1, 1) := dk_60 (dk_at dksX2_init_14 6 rfl rfl)
theorem dX2_init_338 : decode cX2_init 338 = .ok (.iload_n 1, 1) := dk_27 (dk_at dksX2_init_14 7 rfl rfl)
theorem dX2_init_339 : decode cX2_init 339 = .ok (.bipush 9, 2) := dk_16 9 (dk_at dksX2_init_14 8 rfl rfl)
theorem dX2_init_341 : decode cX2_init 341 = .ok (.if_icmp .ge 35, 3) := dk_162 0 35 (dk_at dksX2_init_14 10 rfl rfl)
theorem dX2_init_344 : decode cX2_init 344 = .ok (.aload_n 0, 1) := dk_42 (dk_at dksX2_init_14 13 rfl rfl)
theorem dX2_init_345 : decode cX2_init 345 = .ok (.getfield 27, 3) := dk_180 0 27 (dk_at dksX2_init_14 14 rfl rfl)
theorem dX2_init_348 : decode cX2_init 348 = .ok (.iload_n 1, 1) := dk_27 (dk_at dksX2_init_14 17 rfl rfl)
theorem dX2_init_349 : decode cX2_init 349 = .ok (.sipush 360, 3) := dk_17 1 104 (dk_at dksX2_init_14 18 rfl rfl)
theorem dX2_init_352 : decode cX2_init 352 = .ok (.iastore, 1) := dk_79 (dk_at dksX2_init_14 21 rfl rfl)
theorem dX2_init_353 : decode cX2_init 353 = .ok (.aload_n 0, 1) := dk_42 (dk_at dksX2_init_14 22 rfl rfl)
theorem dX2_init_354 : decode cX2_init 354 = .ok (.getfield 30, 3) := dk_180 0 30 (dk_at dksX2_init_15 0 rfl rfl)
theorem dX2_init_357 : decode cX2_init 357 = .ok (.iload_n 1, 1) := dk_27 (dk_at dksX2_init_15 3 rfl rfl)
theorem dX2_init_358 : decode cX2_init 358 = .ok (.sipush 1080, 3) := dk_17 4 56 (dk_at dksX2_init_15 4 rfl rfl)
theorem dX2_init_361 : decode cX2_init 361 = .ok (.iastore, 1) := dk_79 (dk_at dksX2_init_15 7 rfl rfl)
theorem dX2_init_362 : decode cX2_init 362 = .ok (.aload_n 0, 1) := dk_42 (dk_at dksX2_init_15 8 rfl rfl)
theorem dX2_init_363 : decode cX2_init 363 = .ok (.getfield 33, 3) := dk_180 0 33 (dk_at dksX2_init_15 9 rfl rfl)
theorem dX2_init_366 : decode cX2_init 366 = .ok (.iload_n 1, 1) := dk_27 (dk_at dksX2_init_15 12 rfl rfl)
theorem dX2_init_367 : decode cX2_init 367 = .ok (.bipush 100, 2) := dk_16 100 (dk_at dksX2_init_15 13 rfl rfl)
theorem dX2_init_369 : decode cX2_init 369 = .ok (.iastore, 1) := dk_79 (dk_at dksX2_init_15 15 rfl rfl)
theorem dX2_init_370 : decode cX2_init 370 = .ok (.iinc 1 1, 3) := dk_132 1 1 (dk_at dksX2_init_15 16 rfl rfl)
theorem dX2_init_373 : decode cX2_init 373 = .ok (.goto (-35), 3) := dk_167 255 221 (dk_at dksX2_init_15 19 rfl rfl)
theorem dX2_init_376 : decode cX2_init 376 = .ok (.iconst 0, 1) := dk_3 (dk_at dksX2_init_15 22 rfl rfl)
theorem dX2_init_377 : decode cX2_init 377 = .ok (.istore_n 1, 1) := dk_60 (dk_at dksX2_init_15 23 rfl rfl)
theorem dX2_init_378 : decode cX2_init 378 = .ok (.iload_n 1, 1) := dk_27 (dk_at dksX2_init_16 0 rfl rfl)
theorem dX2_init_379 : decode cX2_init 379 = .ok (.bipush 72, 2) := dk_16 72 (dk_at dksX2_init_16 1 rfl rfl)
theorem dX2_init_381 : decode cX2_init 381 = .ok (.if_icmp .ge 16, 3) := dk_162 0 16 (dk_at dksX2_init_16 3 rfl rfl)
theorem dX2_init_384 : decode cX2_init 384 = .ok (.aload_n 0, 1) := dk_42 (dk_at dksX2_init_16 6 rfl rfl)
theorem dX2_init_385 : decode cX2_init 385 = .ok (.getfield 75, 3) := dk_180 0 75 (dk_at dksX2_init_16 7 rfl rfl)
theorem dX2_init_388 : decode cX2_init 388 = .ok (.iload_n 1, 1) := dk_27 (dk_at dksX2_init_16 10 rfl rfl)
theorem dX2_init_389 : decode cX2_init 389 = .ok (.iconst 5, 1) := dk_8 (dk_at dksX2_init_16 11 rfl rfl)
theorem dX2_init_390 : decode cX2_init 390 = .ok (.iastore, 1) := dk_79 (dk_at dksX2_init_16 12 rfl rfl)
theorem dX2_init_391 : decode cX2_init 391 = .ok (.iinc 1 1, 3) := dk_132 1 1 (dk_at dksX2_init_16 13 rfl rfl)
theorem dX2_init_394 : decode cX2_init 394 = .ok (.goto (-16), 3) := dk_167 255 240 (dk_at dksX2_init_16 16 rfl rfl)
theorem dX2_init_397 : decode cX2_init 397 = .ok (.iconst 0, 1) := dk_3 (dk_at dksX2_init_16 19 rfl rfl)
theorem dX2_init_398 : decode cX2_init 398 = .ok (.istore_n 1, 1) := dk_60 (dk_at dksX2_init_16 20 rfl rfl)
theorem dX2_init_399 : decode cX2_init 399 = .ok (.iload_n 1, 1) := dk_27 (dk_at dksX2_init_16 21 rfl rfl)
theorem dX2_init_400 : decode cX2_init 400 = .ok (.bipush 12, 2) := dk_16 12 (dk_at dksX2_init_16 22 rfl rfl)
theorem dX2_init_402 : decode cX2_init 402 = .ok (.if_icmp .ge 17, 3) := dk_162 0 17 (dk_at dksX2_init_17 0 rfl rfl)
theorem dX2_init_405 : decode cX2_init 405 = .ok (.aload_n 0, 1) := dk_42 (dk_at dksX2_init_17 3 rfl rfl)
theorem dX2_init_406 : decode cX2_init 406 = .ok (.getfield 114, 3) := dk_180 0 114 (dk_at dksX2_init_17 4 rfl rfl)
theorem dX2_init_409 : decode cX2_init 409 = .ok (.iload_n 1, 1) := dk_27 (dk_at dksX2_init_17 7 rfl rfl)
theorem dX2_init_410 : decode cX2_init 410 = .ok (.bipush 10, 2) := dk_16 10 (dk_at dksX2_init_17 8 rfl rfl)
theorem dX2_init_412 : decode cX2_init 412 = .ok (.iastore, 1) := dk_79 (dk_at dksX2_init_17 10 rfl rfl)
theorem dX2_init_413 : decode cX2_init 413 = .ok (.iinc 1 1, 3) := dk_132 1 1 (dk_at dksX2_init_17 11 rfl rfl)
theorem dX2_init_416 : decode cX2_init 416 = .ok (.goto (-17), 3) := dk_167 255 239 (dk_at dksX2_init_17 14 rfl rfl)
theorem dX2_init_419 : decode cX2_init 419 = .ok (.iconst 0, 1) := dk_3 (dk_at dksX2_init_17 17 rfl rfl)
theorem dX2_init_420 : decode cX2_init 420 = .ok (.istore_n 1, 1) := dk_60 (dk_at dksX2_init_17 18 rfl rfl)
theorem dX2_init_421 : decode cX2_init 421 = .ok (.iload_n 1, 1) := dk_27 (dk_at dksX2_init_17 19 rfl rfl)
theorem dX2_init_422 : decode cX2_init 422 = .ok (.bipush 8, 2) := dk_16 8 (dk_at dksX2_init_17 20 rfl rfl)
theorem dX2_init_424 : decode cX2_init 424 = .ok (.if_icmp .ge 17, 3) := dk_162 0 17 (dk_at dksX2_init_18 0 rfl rfl)
theorem dX2_init_427 : decode cX2_init 427 = .ok (.aload_n 0, 1) := dk_42 (dk_at dksX2_init_18 3 rfl rfl)
theorem dX2_init_428 : decode cX2_init 428 = .ok (.getfield 111, 3) := dk_180 0 111 (dk_at dksX2_init_18 4 rfl rfl)
theorem dX2_init_431 : decode cX2_init 431 = .ok (.iload_n 1, 1) := dk_27 (dk_at dksX2_init_18 7 rfl rfl)
theorem dX2_init_432 : decode cX2_init 432 = .ok (.ldc 129, 2) := dk_18 129 (dk_at dksX2_init_18 8 rfl rfl)
theorem dX2_init_434 : decode cX2_init 434 = .ok (.iastore, 1) := dk_79 (dk_at dksX2_init_18 10 rfl rfl)
theorem dX2_init_435 : decode cX2_init 435 = .ok (.iinc 1 1, 3) := dk_132 1 1 (dk_at dksX2_init_18 11 rfl rfl)
theorem dX2_init_438 : decode cX2_init 438 = .ok (.goto (-17), 3) := dk_167 255 239 (dk_at dksX2_init_18 14 rfl rfl)
theorem dX2_init_441 : decode cX2_init 441 = .ok (.return_, 1) := dk_177 (dk_at dksX2_init_18 17 rfl rfl)
abbrev cX2_sheet : ByteArray := prog_17_method_6_code
def yX2_sheet : MethodName := ⟨RX2, "sheet", "(III)I"⟩
def dkwX2_sheet_3 : List UInt8 := [42, 180, 0, 24, 16, 64, 27, 104, 21, 4, 96, 3, 79, 132, 4, 1, 167, 255, 233, 29, 172]
abbrev dktX2_sheet_3 : List UInt8 := dkwX2_sheet_3 ++ []
def dkwX2_sheet_2 : List UInt8 := [42, 180, 0, 17, 27, 28, 79, 42, 180, 0, 21, 27, 29, 79, 3, 54, 4, 21, 4, 16, 64, 162, 0, 22]
abbrev dktX2_sheet_2 : List UInt8 := dkwX2_sheet_2 ++ dktX2_sheet_3
def dkwX2_sheet_1 : List UInt8 := [29, 16, 64, 164, 0, 6, 18, 142, 172, 42, 3, 181, 0, 7, 29, 156, 0, 9, 42, 7, 182, 0, 143, 172]
abbrev dktX2_sheet_1 : List UInt8 := dkwX2_sheet_1 ++ dktX2_sheet_2
def dkwX2_sheet_0 : List UInt8 := [42, 3, 181, 0, 1, 27, 184, 0, 136, 153, 0, 21, 28, 133, 9, 20, 0, 140, 184, 0, 132, 153, 0, 9]
abbrev dktX2_sheet_0 : List UInt8 := dkwX2_sheet_0 ++ dktX2_sheet_1
theorem dksX2_sheet_0 : cX2_sheet.data.toList.drop 0 = dktX2_sheet_0 := by decide +kernel
theorem dksX2_sheet_1 : cX2_sheet.data.toList.drop 24 = dktX2_sheet_1 := dk_seg dksX2_sheet_0 24 rfl rfl
theorem dksX2_sheet_2 : cX2_sheet.data.toList.drop 48 = dktX2_sheet_2 := dk_seg dksX2_sheet_1 24 rfl rfl
theorem dksX2_sheet_3 : cX2_sheet.data.toList.drop 72 = dktX2_sheet_3 := dk_seg dksX2_sheet_2 24 rfl rfl
theorem dX2_sheet_0 : decode cX2_sheet 0 = .ok (.aload_n 0, 1) := dk_42 (dk_at dksX2_sheet_0 0 rfl rfl)
theorem dX2_sheet_1 : decode cX2_sheet 1 = .ok (.iconst 0, 1) := dk_3 (dk_at dksX2_sheet_0 1 rfl rfl)
theorem dX2_sheet_2 : decode cX2_sheet 2 = .ok (.putfield 1, 3) := dk_181 0 1 (dk_at dksX2_sheet_0 2 rfl rfl)
theorem dX2_sheet_5 : decode cX2_sheet 5 = .ok (.iload_n 1, 1) := dk_27 (dk_at dksX2_sheet_0 5 rfl rfl)
theorem dX2_sheet_6 : decode cX2_sheet 6 = .ok (.invokestatic 136, 3) := dk_184 0 136 (dk_at dksX2_sheet_0 6 rfl rfl)
theorem dX2_sheet_9 : decode cX2_sheet 9 = .ok (.ifCond .eq 21, 3) := dk_153 0 21 (dk_at dksX2_sheet_0 9 rfl rfl)
theorem dX2_sheet_12 : decode cX2_sheet 12 = .ok (.iload_n 2, 1) := dk_28 (dk_at dksX2_sheet_0 12 rfl rfl)
theorem dX2_sheet_13 : decode cX2_sheet 13 = .ok (.i2l, 1) := dk_133 (dk_at dksX2_sheet_0 13 rfl rfl)
theorem dX2_sheet_14 : decode cX2_sheet 14 = .ok (.lconst 0, 1) := dk_9 (dk_at dksX2_sheet_0 14 rfl rfl)
theorem dX2_sheet_15 : decode cX2_sheet 15 = .ok (.ldc2_w 140, 3) := dk_20 0 140 (dk_at dksX2_sheet_0 15 rfl rfl)
theorem dX2_sheet_18 : decode cX2_sheet 18 = .ok (.invokestatic 132, 3) := dk_184 0 132 (dk_at dksX2_sheet_0 18 rfl rfl)
theorem dX2_sheet_21 : decode cX2_sheet 21 = .ok (.ifCond .eq 9, 3) := dk_153 0 9 (dk_at dksX2_sheet_0 21 rfl rfl)
theorem dX2_sheet_24 : decode cX2_sheet 24 = .ok (.iload_n 3, 1) := dk_29 (dk_at dksX2_sheet_1 0 rfl rfl)
theorem dX2_sheet_25 : decode cX2_sheet 25 = .ok (.bipush 64, 2) := dk_16 64 (dk_at dksX2_sheet_1 1 rfl rfl)
theorem dX2_sheet_27 : decode cX2_sheet 27 = .ok (.if_icmp .le 6, 3) := dk_164 0 6 (dk_at dksX2_sheet_1 3 rfl rfl)
theorem dX2_sheet_30 : decode cX2_sheet 30 = .ok (.ldc 142, 2) := dk_18 142 (dk_at dksX2_sheet_1 6 rfl rfl)
theorem dX2_sheet_32 : decode cX2_sheet 32 = .ok (.ireturn, 1) := dk_172 (dk_at dksX2_sheet_1 8 rfl rfl)
theorem dX2_sheet_33 : decode cX2_sheet 33 = .ok (.aload_n 0, 1) := dk_42 (dk_at dksX2_sheet_1 9 rfl rfl)
theorem dX2_sheet_34 : decode cX2_sheet 34 = .ok (.iconst 0, 1) := dk_3 (dk_at dksX2_sheet_1 10 rfl rfl)
theorem dX2_sheet_35 : decode cX2_sheet 35 = .ok (.putfield 7, 3) := dk_181 0 7 (dk_at dksX2_sheet_1 11 rfl rfl)
theorem dX2_sheet_38 : decode cX2_sheet 38 = .ok (.iload_n 3, 1) := dk_29 (dk_at dksX2_sheet_1 14 rfl rfl)
theorem dX2_sheet_39 : decode cX2_sheet 39 = .ok (.ifCond .ge 9, 3) := dk_156 0 9 (dk_at dksX2_sheet_1 15 rfl rfl)
theorem dX2_sheet_42 : decode cX2_sheet 42 = .ok (.aload_n 0, 1) := dk_42 (dk_at dksX2_sheet_1 18 rfl rfl)
theorem dX2_sheet_43 : decode cX2_sheet 43 = .ok (.iconst 4, 1) := dk_7 (dk_at dksX2_sheet_1 19 rfl rfl)
theorem dX2_sheet_44 : decode cX2_sheet 44 = .ok (.invokevirtual 143, 3) := dk_182 0 143 (dk_at dksX2_sheet_1 20 rfl rfl)
theorem dX2_sheet_47 : decode cX2_sheet 47 = .ok (.ireturn, 1) := dk_172 (dk_at dksX2_sheet_1 23 rfl rfl)
theorem dX2_sheet_48 : decode cX2_sheet 48 = .ok (.aload_n 0, 1) := dk_42 (dk_at dksX2_sheet_2 0 rfl rfl)
theorem dX2_sheet_49 : decode cX2_sheet 49 = .ok (.getfield 17, 3) := dk_180 0 17 (dk_at dksX2_sheet_2 1 rfl rfl)
theorem dX2_sheet_52 : decode cX2_sheet 52 = .ok (.iload_n 1, 1) := dk_27 (dk_at dksX2_sheet_2 4 rfl rfl)
theorem dX2_sheet_53 : decode cX2_sheet 53 = .ok (.iload_n 2, 1) := dk_28 (dk_at dksX2_sheet_2 5 rfl rfl)
theorem dX2_sheet_54 : decode cX2_sheet 54 = .ok (.iastore, 1) := dk_79 (dk_at dksX2_sheet_2 6 rfl rfl)
theorem dX2_sheet_55 : decode cX2_sheet 55 = .ok (.aload_n 0, 1) := dk_42 (dk_at dksX2_sheet_2 7 rfl rfl)
theorem dX2_sheet_56 : decode cX2_sheet 56 = .ok (.getfield 21, 3) := dk_180 0 21 (dk_at dksX2_sheet_2 8 rfl rfl)
theorem dX2_sheet_59 : decode cX2_sheet 59 = .ok (.iload_n 1, 1) := dk_27 (dk_at dksX2_sheet_2 11 rfl rfl)
theorem dX2_sheet_60 : decode cX2_sheet 60 = .ok (.iload_n 3, 1) := dk_29 (dk_at dksX2_sheet_2 12 rfl rfl)
theorem dX2_sheet_61 : decode cX2_sheet 61 = .ok (.iastore, 1) := dk_79 (dk_at dksX2_sheet_2 13 rfl rfl)
theorem dX2_sheet_62 : decode cX2_sheet 62 = .ok (.iconst 0, 1) := dk_3 (dk_at dksX2_sheet_2 14 rfl rfl)
theorem dX2_sheet_63 : decode cX2_sheet 63 = .ok (.istore 4, 2) := dk_54 4 (dk_at dksX2_sheet_2 15 rfl rfl)
theorem dX2_sheet_65 : decode cX2_sheet 65 = .ok (.iload 4, 2) := dk_21 4 (dk_at dksX2_sheet_2 17 rfl rfl)
theorem dX2_sheet_67 : decode cX2_sheet 67 = .ok (.bipush 64, 2) := dk_16 64 (dk_at dksX2_sheet_2 19 rfl rfl)
theorem dX2_sheet_69 : decode cX2_sheet 69 = .ok (.if_icmp .ge 22, 3) := dk_162 0 22 (dk_at dksX2_sheet_2 21 rfl rfl)
theorem dX2_sheet_72 : decode cX2_sheet 72 = .ok (.aload_n 0, 1) := dk_42 (dk_at dksX2_sheet_3 0 rfl rfl)
theorem dX2_sheet_73 : decode cX2_sheet 73 = .ok (.getfield 24, 3) := dk_180 0 24 (dk_at dksX2_sheet_3 1 rfl rfl)
theorem dX2_sheet_76 : decode cX2_sheet 76 = .ok (.bipush 64, 2) := dk_16 64 (dk_at dksX2_sheet_3 4 rfl rfl)
theorem dX2_sheet_78 : decode cX2_sheet 78 = .ok (.iload_n 1, 1) := dk_27 (dk_at dksX2_sheet_3 6 rfl rfl)
theorem dX2_sheet_79 : decode cX2_sheet 79 = .ok (.imul, 1) := dk_104 (dk_at dksX2_sheet_3 7 rfl rfl)
theorem dX2_sheet_80 : decode cX2_sheet 80 = .ok (.iload 4, 2) := dk_21 4 (dk_at dksX2_sheet_3 8 rfl rfl)
theorem dX2_sheet_82 : decode cX2_sheet 82 = .ok (.iadd, 1) := dk_96 (dk_at dksX2_sheet_3 10 rfl rfl)
theorem dX2_sheet_83 : decode cX2_sheet 83 = .ok (.iconst 0, 1) := dk_3 (dk_at dksX2_sheet_3 11 rfl rfl)
theorem dX2_sheet_84 : decode cX2_sheet 84 = .ok (.iastore, 1) := dk_79 (dk_at dksX2_sheet_3 12 rfl rfl)
theorem dX2_sheet_85 : decode cX2_sheet 85 = .ok (.iinc 4 1, 3) := dk_132 4 1 (dk_at dksX2_sheet_3 13 rfl rfl)
theorem dX2_sheet_88 : decode cX2_sheet 88 = .ok (.goto (-23), 3) := dk_167 255 233 (dk_at dksX2_sheet_3 16 rfl rfl)
theorem dX2_sheet_91 : decode cX2_sheet 91 = .ok (.iload_n 3, 1) := dk_29 (dk_at dksX2_sheet_3 19 rfl rfl)
theorem dX2_sheet_92 : decode cX2_sheet 92 = .ok (.ireturn, 1) := dk_172 (dk_at dksX2_sheet_3 20 rfl rfl)
abbrev cX2_isSheet : ByteArray := prog_17_method_5_code
def yX2_isSheet : MethodName := ⟨RX2, "isSheet", "(I)Z"⟩
def dkwX2_isSheet_0 : List UInt8 := [26, 133, 9, 20, 0, 130, 184, 0, 132, 172]
abbrev dktX2_isSheet_0 : List UInt8 := dkwX2_isSheet_0 ++ []
theorem dksX2_isSheet_0 : cX2_isSheet.data.toList.drop 0 = dktX2_isSheet_0 := by decide +kernel
theorem dX2_isSheet_0 : decode cX2_isSheet 0 = .ok (.iload_n 0, 1) := dk_26 (dk_at dksX2_isSheet_0 0 rfl rfl)
theorem dX2_isSheet_1 : decode cX2_isSheet 1 = .ok (.i2l, 1) := dk_133 (dk_at dksX2_isSheet_0 1 rfl rfl)
theorem dX2_isSheet_2 : decode cX2_isSheet 2 = .ok (.lconst 0, 1) := dk_9 (dk_at dksX2_isSheet_0 2 rfl rfl)
theorem dX2_isSheet_3 : decode cX2_isSheet 3 = .ok (.ldc2_w 130, 3) := dk_20 0 130 (dk_at dksX2_isSheet_0 3 rfl rfl)
theorem dX2_isSheet_6 : decode cX2_isSheet 6 = .ok (.invokestatic 132, 3) := dk_184 0 132 (dk_at dksX2_isSheet_0 6 rfl rfl)
theorem dX2_isSheet_9 : decode cX2_isSheet 9 = .ok (.ireturn, 1) := dk_172 (dk_at dksX2_isSheet_0 9 rfl rfl)
abbrev cX2_in : ByteArray := prog_17_method_2_code
def yX2_in : MethodName := ⟨RX2, "in", "(JJJ)Z"⟩
def dkwX2_in_0 : List UInt8 := [30, 32, 148, 155, 0, 14, 30, 22, 4, 148, 157, 0, 7, 4, 167, 0, 4, 3, 172]
abbrev dktX2_in_0 : List UInt8 := dkwX2_in_0 ++ []
theorem dksX2_in_0 : cX2_in.data.toList.drop 0 = dktX2_in_0 := by decide +kernel
theorem dX2_in_0 : decode cX2_in 0 = .ok (.lload_n 0, 1) := dk_30 (dk_at dksX2_in_0 0 rfl rfl)
theorem dX2_in_1 : decode cX2_in 1 = .ok (.lload_n 2, 1) := dk_32 (dk_at dksX2_in_0 1 rfl rfl)
theorem dX2_in_2 : decode cX2_in 2 = .ok (.lcmp, 1) := dk_148 (dk_at dksX2_in_0 2 rfl rfl)
theorem dX2_in_3 : decode cX2_in 3 = .ok (.ifCond .lt 14, 3) := dk_155 0 14 (dk_at dksX2_in_0 3 rfl rfl)
theorem dX2_in_6 : decode cX2_in 6 = .ok (.lload_n 0, 1) := dk_30 (dk_at dksX2_in_0 6 rfl rfl)
theorem dX2_in_7 : decode cX2_in 7 = .ok (.lload 4, 2) := dk_22 4 (dk_at dksX2_in_0 7 rfl rfl)
theorem dX2_in_9 : decode cX2_in 9 = .ok (.lcmp, 1) := dk_148 (dk_at dksX2_in_0 9 rfl rfl)
theorem dX2_in_10 : decode cX2_in 10 = .ok (.ifCond .gt 7, 3) := dk_157 0 7 (dk_at dksX2_in_0 10 rfl rfl)
theorem dX2_in_13 : decode cX2_in 13 = .ok (.iconst 1, 1) := dk_4 (dk_at dksX2_in_0 13 rfl rfl)
theorem dX2_in_14 : decode cX2_in 14 = .ok (.goto 4, 3) := dk_167 0 4 (dk_at dksX2_in_0 14 rfl rfl)
theorem dX2_in_17 : decode cX2_in 17 = .ok (.iconst 0, 1) := dk_3 (dk_at dksX2_in_0 17 rfl rfl)
theorem dX2_in_18 : decode cX2_in 18 = .ok (.ireturn, 1) := dk_172 (dk_at dksX2_in_0 18 rfl rfl)
abbrev cX2_finding : ByteArray := prog_17_method_3_code
def yX2_finding : MethodName := ⟨RX2, "finding", "(I)I"⟩
def dkwX2_finding_0 : List UInt8 := [42, 27, 181, 0, 7, 18, 10, 27, 100, 172]
abbrev dktX2_finding_0 : List UInt8 := dkwX2_finding_0 ++ []
theorem dksX2_finding_0 : cX2_finding.data.toList.drop 0 = dktX2_finding_0 := by decide +kernel
theorem dX2_finding_0 : decode cX2_finding 0 = .ok (.aload_n 0, 1) := dk_42 (dk_at dksX2_finding_0 0 rfl rfl)
theorem dX2_finding_1 : decode cX2_finding 1 = .ok (.iload_n 1, 1) := dk_27 (dk_at dksX2_finding_0 1 rfl rfl)
theorem dX2_finding_2 : decode cX2_finding 2 = .ok (.putfield 7, 3) := dk_181 0 7 (dk_at dksX2_finding_0 2 rfl rfl)
theorem dX2_finding_5 : decode cX2_finding 5 = .ok (.ldc 10, 2) := dk_18 10 (dk_at dksX2_finding_0 5 rfl rfl)
theorem dX2_finding_7 : decode cX2_finding 7 = .ok (.iload_n 1, 1) := dk_27 (dk_at dksX2_finding_0 7 rfl rfl)
theorem dX2_finding_8 : decode cX2_finding 8 = .ok (.isub, 1) := dk_100 (dk_at dksX2_finding_0 8 rfl rfl)
theorem dX2_finding_9 : decode cX2_finding 9 = .ok (.ireturn, 1) := dk_172 (dk_at dksX2_finding_0 9 rfl rfl)
abbrev cX2_set : ByteArray := prog_17_method_7_code
def yX2_set : MethodName := ⟨RX2, "set", "(III)I"⟩
def dkwX2_set_4 : List UInt8 := [147, 167, 0, 4, 29, 79, 42, 180, 0, 24, 16, 64, 27, 104, 28, 96, 46, 172]
abbrev dktX2_set_4 : List UInt8 := dkwX2_set_4 ++ []
def dkwX2_set_3 : List UInt8 := [180, 0, 17, 27, 46, 154, 0, 8, 29, 145, 167, 0, 19, 42, 180, 0, 17, 27, 46, 4, 160, 0, 8, 29]
abbrev dktX2_set_3 : List UInt8 := dkwX2_set_3 ++ dktX2_set_4
def dkwX2_set_2 : List UInt8 := [184, 0, 132, 154, 0, 9, 42, 5, 182, 0, 143, 172, 42, 180, 0, 24, 16, 64, 27, 104, 28, 96, 42]
abbrev dktX2_set_2 : List UInt8 := dkwX2_set_2 ++ dktX2_set_3
def dkwX2_set_1 : List UInt8 := [27, 46, 156, 0, 9, 42, 4, 182, 0, 143, 172, 28, 133, 9, 42, 180, 0, 21, 27, 46, 4, 100, 133]
abbrev dktX2_set_1 : List UInt8 := dkwX2_set_1 ++ dktX2_set_2
def dkwX2_set_0 : List UInt8 := [42, 3, 181, 0, 1, 27, 184, 0, 136, 154, 0, 6, 18, 142, 172, 42, 3, 181, 0, 7, 42, 180, 0, 17]
abbrev dktX2_set_0 : List UInt8 := dkwX2_set_0 ++ dktX2_set_1
theorem dksX2_set_0 : cX2_set.data.toList.drop 0 = dktX2_set_0 := by decide +kernel
theorem dksX2_set_1 : cX2_set.data.toList.drop 24 = dktX2_set_1 := dk_seg dksX2_set_0 24 rfl rfl
theorem dksX2_set_2 : cX2_set.data.toList.drop 47 = dktX2_set_2 := dk_seg dksX2_set_1 23 rfl rfl
theorem dksX2_set_3 : cX2_set.data.toList.drop 70 = dktX2_set_3 := dk_seg dksX2_set_2 23 rfl rfl
theorem dksX2_set_4 : cX2_set.data.toList.drop 94 = dktX2_set_4 := dk_seg dksX2_set_3 24 rfl rfl
theorem dX2_set_0 : decode cX2_set 0 = .ok (.aload_n 0, 1) := dk_42 (dk_at dksX2_set_0 0 rfl rfl)
theorem dX2_set_1 : decode cX2_set 1 = .ok (.iconst 0, 1) := dk_3 (dk_at dksX2_set_0 1 rfl rfl)
theorem dX2_set_2 : decode cX2_set 2 = .ok (.putfield 1, 3) := dk_181 0 1 (dk_at dksX2_set_0 2 rfl rfl)
theorem dX2_set_5 : decode cX2_set 5 = .ok (.iload_n 1, 1) := dk_27 (dk_at dksX2_set_0 5 rfl rfl)
theorem dX2_set_6 : decode cX2_set 6 = .ok (.invokestatic 136, 3) := dk_184 0 136 (dk_at dksX2_set_0 6 rfl rfl)
theorem dX2_set_9 : decode cX2_set 9 = .ok (.ifCond .ne 6, 3) := dk_154 0 6 (dk_at dksX2_set_0 9 rfl rfl)
theorem dX2_set_12 : decode cX2_set 12 = .ok (.ldc 142, 2) := dk_18 142 (dk_at dksX2_set_0 12 rfl rfl)
theorem dX2_set_14 : decode cX2_set 14 = .ok (.ireturn, 1) := dk_172 (dk_at dksX2_set_0 14 rfl rfl)
theorem dX2_set_15 : decode cX2_set 15 = .ok (.aload_n 0, 1) := dk_42 (dk_at dksX2_set_0 15 rfl rfl)
theorem dX2_set_16 : decode cX2_set 16 = .ok (.iconst 0, 1) := dk_3 (dk_at dksX2_set_0 16 rfl rfl)
theorem dX2_set_17 : decode cX2_set 17 = .ok (.putfield 7, 3) := dk_181 0 7 (dk_at dksX2_set_0 17 rfl rfl)
theorem dX2_set_20 : decode cX2_set 20 = .ok (.aload_n 0, 1) := dk_42 (dk_at dksX2_set_0 20 rfl rfl)
theorem dX2_set_21 : decode cX2_set 21 = .ok (.getfield 17, 3) := dk_180 0 17 (dk_at dksX2_set_0 21 rfl rfl)
theorem dX2_set_24 : decode cX2_set 24 = .ok (.iload_n 1, 1) := dk_27 (dk_at dksX2_set_1 0 rfl rfl)
theorem dX2_set_25 : decode cX2_set 25 = .ok (.iaload, 1) := dk_46 (dk_at dksX2_set_1 1 rfl rfl)
theorem dX2_set_26 : decode cX2_set 26 = .ok (.ifCond .ge 9, 3) := dk_156 0 9 (dk_at dksX2_set_1 2 rfl rfl)
theorem dX2_set_29 : decode cX2_set 29 = .ok (.aload_n 0, 1) := dk_42 (dk_at dksX2_set_1 5 rfl rfl)
theorem dX2_set_30 : decode cX2_set 30 = .ok (.iconst 1, 1) := dk_4 (dk_at dksX2_set_1 6 rfl rfl)
theorem dX2_set_31 : decode cX2_set 31 = .ok (.invokevirtual 143, 3) := dk_182 0 143 (dk_at dksX2_set_1 7 rfl rfl)
theorem dX2_set_34 : decode cX2_set 34 = .ok (.ireturn, 1) := dk_172 (dk_at dksX2_set_1 10 rfl rfl)
theorem dX2_set_35 : decode cX2_set 35 = .ok (.iload_n 2, 1) := dk_28 (dk_at dksX2_set_1 11 rfl rfl)
theorem dX2_set_36 : decode cX2_set 36 = .ok (.i2l, 1) := dk_133 (dk_at dksX2_set_1 12 rfl rfl)
theorem dX2_set_37 : decode cX2_set 37 = .ok (.lconst 0, 1) := dk_9 (dk_at dksX2_set_1 13 rfl rfl)
theorem dX2_set_38 : decode cX2_set 38 = .ok (.aload_n 0, 1) := dk_42 (dk_at dksX2_set_1 14 rfl rfl)
theorem dX2_set_39 : decode cX2_set 39 = .ok (.getfield 21, 3) := dk_180 0 21 (dk_at dksX2_set_1 15 rfl rfl)
theorem dX2_set_42 : decode cX2_set 42 = .ok (.iload_n 1, 1) := dk_27 (dk_at dksX2_set_1 18 rfl rfl)
theorem dX2_set_43 : decode cX2_set 43 = .ok (.iaload, 1) := dk_46 (dk_at dksX2_set_1 19 rfl rfl)
theorem dX2_set_44 : decode cX2_set 44 = .ok (.iconst 1, 1) := dk_4 (dk_at dksX2_set_1 20 rfl rfl)
theorem dX2_set_45 : decode cX2_set 45 = .ok (.isub, 1) := dk_100 (dk_at dksX2_set_1 21 rfl rfl)
theorem dX2_set_46 : decode cX2_set 46 = .ok (.i2l, 1) := dk_133 (dk_at dksX2_set_1 22 rfl rfl)
theorem dX2_set_47 : decode cX2_set 47 = .ok (.invokestatic 132, 3) := dk_184 0 132 (dk_at dksX2_set_2 0 rfl rfl)
theorem dX2_set_50 : decode cX2_set 50 = .ok (.ifCond .ne 9, 3) := dk_154 0 9 (dk_at dksX2_set_2 3 rfl rfl)
theorem dX2_set_53 : decode cX2_set 53 = .ok (.aload_n 0, 1) := dk_42 (dk_at dksX2_set_2 6 rfl rfl)
theorem dX2_set_54 : decode cX2_set 54 = .ok (.iconst 2, 1) := dk_5 (dk_at dksX2_set_2 7 rfl rfl)
theorem dX2_set_55 : decode cX2_set 55 = .ok (.invokevirtual 143, 3) := dk_182 0 143 (dk_at dksX2_set_2 8 rfl rfl)
theorem dX2_set_58 : decode cX2_set 58 = .ok (.ireturn, 1) := dk_172 (dk_at dksX2_set_2 11 rfl rfl)
theorem dX2_set_59 : decode cX2_set 59 = .ok (.aload_n 0, 1) := dk_42 (dk_at dksX2_set_2 12 rfl rfl)
theorem dX2_set_60 : decode cX2_set 60 = .ok (.getfield 24, 3) := dk_180 0 24 (dk_at dksX2_set_2 13 rfl rfl)
theorem dX2_set_63 : decode cX2_set 63 = .ok (.bipush 64, 2) := dk_16 64 (dk_at dksX2_set_2 16 rfl rfl)
theorem dX2_set_65 : decode cX2_set 65 = .ok (.iload_n 1, 1) := dk_27 (dk_at dksX2_set_2 18 rfl rfl)
theorem dX2_set_66 : decode cX2_set 66 = .ok (.imul, 1) := dk_104 (dk_at dksX2_set_2 19 rfl rfl)
theorem dX2_set_67 : decode cX2_set 67 = .ok (.iload_n 2, 1) := dk_28 (dk_at dksX2_set_2 20 rfl rfl)
theorem dX2_set_68 : decode cX2_set 68 = .ok (.iadd, 1) := dk_96 (dk_at dksX2_set_2 21 rfl rfl)
theorem dX2_set_69 : decode cX2_set 69 = .ok (.aload_n 0, 1) := dk_42 (dk_at dksX2_set_2 22 rfl rfl)
theorem dX2_set_70 : decode cX2_set 70 = .ok (.getfield 17, 3) := dk_180 0 17 (dk_at dksX2_set_3 0 rfl rfl)
theorem dX2_set_73 : decode cX2_set 73 = .ok (.iload_n 1, 1) := dk_27 (dk_at dksX2_set_3 3 rfl rfl)
theorem dX2_set_74 : decode cX2_set 74 = .ok (.iaload, 1) := dk_46 (dk_at dksX2_set_3 4 rfl rfl)
theorem dX2_set_75 : decode cX2_set 75 = .ok (.ifCond .ne 8, 3) := dk_154 0 8 (dk_at dksX2_set_3 5 rfl rfl)
theorem dX2_set_78 : decode cX2_set 78 = .ok (.iload_n 3, 1) := dk_29 (dk_at dksX2_set_3 8 rfl rfl)
theorem dX2_set_79 : decode cX2_set 79 = .ok (.i2b, 1) := dk_145 (dk_at dksX2_set_3 9 rfl rfl)
theorem dX2_set_80 : decode cX2_set 80 = .ok (.goto 19, 3) := dk_167 0 19 (dk_at dksX2_set_3 10 rfl rfl)
theorem dX2_set_83 : decode cX2_set 83 = .ok (.aload_n 0, 1) := dk_42 (dk_at dksX2_set_3 13 rfl rfl)
theorem dX2_set_84 : decode cX2_set 84 = .ok (.getfield 17, 3) := dk_180 0 17 (dk_at dksX2_set_3 14 rfl rfl)
theorem dX2_set_87 : decode cX2_set 87 = .ok (.iload_n 1, 1) := dk_27 (dk_at dksX2_set_3 17 rfl rfl)
theorem dX2_set_88 : decode cX2_set 88 = .ok (.iaload, 1) := dk_46 (dk_at dksX2_set_3 18 rfl rfl)
theorem dX2_set_89 : decode cX2_set 89 = .ok (.iconst 1, 1) := dk_4 (dk_at dksX2_set_3 19 rfl rfl)
theorem dX2_set_90 : decode cX2_set 90 = .ok (.if_icmp .ne 8, 3) := dk_160 0 8 (dk_at dksX2_set_3 20 rfl rfl)
theorem dX2_set_93 : decode cX2_set 93 = .ok (.iload_n 3, 1) := dk_29 (dk_at dksX2_set_3 23 rfl rfl)
theorem dX2_set_94 : decode cX2_set 94 = .ok (.i2s, 1) := dk_147 (dk_at dksX2_set_4 0 rfl rfl)
theorem dX2_set_95 : decode cX2_set 95 = .ok (.goto 4, 3) := dk_167 0 4 (dk_at dksX2_set_4 1 rfl rfl)
theorem dX2_set_98 : decode cX2_set 98 = .ok (.iload_n 3, 1) := dk_29 (dk_at dksX2_set_4 4 rfl rfl)
theorem dX2_set_99 : decode cX2_set 99 = .ok (.iastore, 1) := dk_79 (dk_at dksX2_set_4 5 rfl rfl)
theorem dX2_set_100 : decode cX2_set 100 = .ok (.aload_n 0, 1) := dk_42 (dk_at dksX2_set_4 6 rfl rfl)
theorem dX2_set_101 : decode cX2_set 101 = .ok (.getfield 24, 3) := dk_180 0 24 (dk_at dksX2_set_4 7 rfl rfl)
theorem dX2_set_104 : decode cX2_set 104 = .ok (.bipush 64, 2) := dk_16 64 (dk_at dksX2_set_4 10 rfl rfl)
theorem dX2_set_106 : decode cX2_set 106 = .ok (.iload_n 1, 1) := dk_27 (dk_at dksX2_set_4 12 rfl rfl)
theorem dX2_set_107 : decode cX2_set 107 = .ok (.imul, 1) := dk_104 (dk_at dksX2_set_4 13 rfl rfl)
theorem dX2_set_108 : decode cX2_set 108 = .ok (.iload_n 2, 1) := dk_28 (dk_at dksX2_set_4 14 rfl rfl)
theorem dX2_set_109 : decode cX2_set 109 = .ok (.iadd, 1) := dk_96 (dk_at dksX2_set_4 15 rfl rfl)
theorem dX2_set_110 : decode cX2_set 110 = .ok (.iaload, 1) := dk_46 (dk_at dksX2_set_4 16 rfl rfl)
theorem dX2_set_111 : decode cX2_set 111 = .ok (.ireturn, 1) := dk_172 (dk_at dksX2_set_4 17 rfl rfl)
abbrev cX2_copy : ByteArray := prog_17_method_8_code
def yX2_copy : MethodName := ⟨RX2, "copy", "(IIIII)I"⟩
def dkwX2_copy_8 : List UInt8 := [16, 64, 27, 104, 28, 96, 21, 8, 96, 46, 79, 132, 7, 1, 167, 255, 198, 21, 5, 172]
abbrev dktX2_copy_8 : List UInt8 := dkwX2_copy_8 ++ []
def dkwX2_copy_7 : List UInt8 := [21, 7, 100, 54, 8, 42, 180, 0, 24, 16, 64, 29, 104, 21, 4, 96, 21, 8, 96, 42, 180, 0, 24]
abbrev dktX2_copy_7 : List UInt8 := dkwX2_copy_7 ++ dktX2_copy_8
def dkwX2_copy_6 : List UInt8 := [54, 7, 21, 7, 21, 5, 162, 0, 57, 21, 6, 153, 0, 8, 21, 7, 167, 0, 10, 21, 5, 4, 100]
abbrev dktX2_copy_6 : List UInt8 := dkwX2_copy_6 ++ dktX2_copy_7
def dkwX2_copy_5 : List UInt8 := [148, 158, 0, 9, 42, 5, 182, 0, 143, 172, 28, 21, 4, 161, 0, 7, 4, 167, 0, 4, 3, 54, 6, 3]
abbrev dktX2_copy_5 : List UInt8 := dkwX2_copy_5 ++ dktX2_copy_6
def dkwX2_copy_4 : List UInt8 := [180, 0, 21, 27, 46, 133, 148, 157, 0, 21, 21, 4, 133, 21, 5, 133, 97, 42, 180, 0, 21, 29, 46, 133]
abbrev dktX2_copy_4 : List UInt8 := dkwX2_copy_4 ++ dktX2_copy_5
def dkwX2_copy_3 : List UInt8 := [172, 28, 155, 0, 48, 21, 4, 155, 0, 43, 21, 5, 155, 0, 38, 28, 133, 21, 5, 133, 97, 42]
abbrev dktX2_copy_3 : List UInt8 := dkwX2_copy_3 ++ dktX2_copy_4
def dkwX2_copy_2 : List UInt8 := [182, 0, 143, 172, 42, 180, 0, 17, 27, 46, 42, 180, 0, 17, 29, 46, 159, 0, 9, 42, 8, 182, 0, 143]
abbrev dktX2_copy_2 : List UInt8 := dkwX2_copy_2 ++ dktX2_copy_3
def dkwX2_copy_1 : List UInt8 := [181, 0, 7, 42, 180, 0, 17, 27, 46, 155, 0, 12, 42, 180, 0, 17, 29, 46, 156, 0, 9, 42, 4]
abbrev dktX2_copy_1 : List UInt8 := dkwX2_copy_1 ++ dktX2_copy_2
def dkwX2_copy_0 : List UInt8 := [42, 3, 181, 0, 1, 27, 184, 0, 136, 153, 0, 10, 29, 184, 0, 136, 154, 0, 6, 18, 142, 172, 42, 3]
abbrev dktX2_copy_0 : List UInt8 := dkwX2_copy_0 ++ dktX2_copy_1
theorem dksX2_copy_0 : cX2_copy.data.toList.drop 0 = dktX2_copy_0 := by decide +kernel
theorem dksX2_copy_1 : cX2_copy.data.toList.drop 24 = dktX2_copy_1 := dk_seg dksX2_copy_0 24 rfl rfl
theorem dksX2_copy_2 : cX2_copy.data.toList.drop 47 = dktX2_copy_2 := dk_seg dksX2_copy_1 23 rfl rfl
theorem dksX2_copy_3 : cX2_copy.data.toList.drop 71 = dktX2_copy_3 := dk_seg dksX2_copy_2 24 rfl rfl
theorem dksX2_copy_4 : cX2_copy.data.toList.drop 93 = dktX2_copy_4 := dk_seg dksX2_copy_3 22 rfl rfl
theorem dksX2_copy_5 : cX2_copy.data.toList.drop 117 = dktX2_copy_5 := dk_seg dksX2_copy_4 24 rfl rfl
theorem dksX2_copy_6 : cX2_copy.data.toList.drop 141 = dktX2_copy_6 := dk_seg dksX2_copy_5 24 rfl rfl
theorem dksX2_copy_7 : cX2_copy.data.toList.drop 164 = dktX2_copy_7 := dk_seg dksX2_copy_6 23 rfl rfl
theorem dksX2_copy_8 : cX2_copy.data.toList.drop 187 = dktX2_copy_8 := dk_seg dksX2_copy_7 23 rfl rfl
theorem dX2_copy_0 : decode cX2_copy 0 = .ok (.aload_n 0, 1) := dk_42 (dk_at dksX2_copy_0 0 rfl rfl)
theorem dX2_copy_1 : decode cX2_copy 1 = .ok (.iconst 0, 1) := dk_3 (dk_at dksX2_copy_0 1 rfl rfl)
theorem dX2_copy_2 : decode cX2_copy 2 = .ok (.putfield 1, 3) := dk_181 0 1 (dk_at dksX2_copy_0 2 rfl rfl)
theorem dX2_copy_5 : decode cX2_copy 5 = .ok (.iload_n 1, 1) := dk_27 (dk_at dksX2_copy_0 5 rfl rfl)
theorem dX2_copy_6 : decode cX2_copy 6 = .ok (.invokestatic 136, 3) := dk_184 0 136 (dk_at dksX2_copy_0 6 rfl rfl)
theorem dX2_copy_9 : decode cX2_copy 9 = .ok (.ifCond .eq 10, 3) := dk_153 0 10 (dk_at dksX2_copy_0 9 rfl rfl)
theorem dX2_copy_12 : decode cX2_copy 12 = .ok (.iload_n 3, 1) := dk_29 (dk_at dksX2_copy_0 12 rfl rfl)
theorem dX2_copy_13 : decode cX2_copy 13 = .ok (.invokestatic 136, 3) := dk_184 0 136 (dk_at dksX2_copy_0 13 rfl rfl)
theorem dX2_copy_16 : decode cX2_copy 16 = .ok (.ifCond .ne 6, 3) := dk_154 0 6 (dk_at dksX2_copy_0 16 rfl rfl)
theorem dX2_copy_19 : decode cX2_copy 19 = .ok (.ldc 142, 2) := dk_18 142 (dk_at dksX2_copy_0 19 rfl rfl)
theorem dX2_copy_21 : decode cX2_copy 21 = .ok (.ireturn, 1) := dk_172 (dk_at dksX2_copy_0 21 rfl rfl)
theorem dX2_copy_22 : decode cX2_copy 22 = .ok (.aload_n 0, 1) := dk_42 (dk_at dksX2_copy_0 22 rfl rfl)
theorem dX2_copy_23 : decode cX2_copy 23 = .ok (.iconst 0, 1) := dk_3 (dk_at dksX2_copy_0 23 rfl rfl)
theorem dX2_copy_24 : decode cX2_copy 24 = .ok (.putfield 7, 3) := dk_181 0 7 (dk_at dksX2_copy_1 0 rfl rfl)
theorem dX2_copy_27 : decode cX2_copy 27 = .ok (.aload_n 0, 1) := dk_42 (dk_at dksX2_copy_1 3 rfl rfl)
theorem dX2_copy_28 : decode cX2_copy 28 = .ok (.getfield 17, 3) := dk_180 0 17 (dk_at dksX2_copy_1 4 rfl rfl)
theorem dX2_copy_31 : decode cX2_copy 31 = .ok (.iload_n 1, 1) := dk_27 (dk_at dksX2_copy_1 7 rfl rfl)
theorem dX2_copy_32 : decode cX2_copy 32 = .ok (.iaload, 1) := dk_46 (dk_at dksX2_copy_1 8 rfl rfl)
theorem dX2_copy_33 : decode cX2_copy 33 = .ok (.ifCond .lt 12, 3) := dk_155 0 12 (dk_at dksX2_copy_1 9 rfl rfl)
theorem dX2_copy_36 : decode cX2_copy 36 = .ok (.aload_n 0, 1) := dk_42 (dk_at dksX2_copy_1 12 rfl rfl)
theorem dX2_copy_37 : decode cX2_copy 37 = .ok (.getfield 17, 3) := dk_180 0 17 (dk_at dksX2_copy_1 13 rfl rfl)
theorem dX2_copy_40 : decode cX2_copy 40 = .ok (.iload_n 3, 1) := dk_29 (dk_at dksX2_copy_1 16 rfl rfl)
theorem dX2_copy_41 : decode cX2_copy 41 = .ok (.iaload, 1) := dk_46 (dk_at dksX2_copy_1 17 rfl rfl)
theorem dX2_copy_42 : decode cX2_copy 42 = .ok (.ifCond .ge 9, 3) := dk_156 0 9 (dk_at dksX2_copy_1 18 rfl rfl)
theorem dX2_copy_45 : decode cX2_copy 45 = .ok (.aload_n 0, 1) := dk_42 (dk_at dksX2_copy_1 21 rfl rfl)
theorem dX2_copy_46 : decode cX2_copy 46 = .ok (.iconst 1, 1) := dk_4 (dk_at dksX2_copy_1 22 rfl rfl)
theorem dX2_copy_47 : decode cX2_copy 47 = .ok (.invokevirtual 143, 3) := dk_182 0 143 (dk_at dksX2_copy_2 0 rfl rfl)
theorem dX2_copy_50 : decode cX2_copy 50 = .ok (.ireturn, 1) := dk_172 (dk_at dksX2_copy_2 3 rfl rfl)
theorem dX2_copy_51 : decode cX2_copy 51 = .ok (.aload_n 0, 1) := dk_42 (dk_at dksX2_copy_2 4 rfl rfl)
theorem dX2_copy_52 : decode cX2_copy 52 = .ok (.getfield 17, 3) := dk_180 0 17 (dk_at dksX2_copy_2 5 rfl rfl)
theorem dX2_copy_55 : decode cX2_copy 55 = .ok (.iload_n 1, 1) := dk_27 (dk_at dksX2_copy_2 8 rfl rfl)
theorem dX2_copy_56 : decode cX2_copy 56 = .ok (.iaload, 1) := dk_46 (dk_at dksX2_copy_2 9 rfl rfl)
theorem dX2_copy_57 : decode cX2_copy 57 = .ok (.aload_n 0, 1) := dk_42 (dk_at dksX2_copy_2 10 rfl rfl)
theorem dX2_copy_58 : decode cX2_copy 58 = .ok (.getfield 17, 3) := dk_180 0 17 (dk_at dksX2_copy_2 11 rfl rfl)
theorem dX2_copy_61 : decode cX2_copy 61 = .ok (.iload_n 3, 1) := dk_29 (dk_at dksX2_copy_2 14 rfl rfl)
theorem dX2_copy_62 : decode cX2_copy 62 = .ok (.iaload, 1) := dk_46 (dk_at dksX2_copy_2 15 rfl rfl)
theorem dX2_copy_63 : decode cX2_copy 63 = .ok (.if_icmp .eq 9, 3) := dk_159 0 9 (dk_at dksX2_copy_2 16 rfl rfl)
theorem dX2_copy_66 : decode cX2_copy 66 = .ok (.aload_n 0, 1) := dk_42 (dk_at dksX2_copy_2 19 rfl rfl)
theorem dX2_copy_67 : decode cX2_copy 67 = .ok (.iconst 5, 1) := dk_8 (dk_at dksX2_copy_2 20 rfl rfl)
theorem dX2_copy_68 : decode cX2_copy 68 = .ok (.invokevirtual 143, 3) := dk_182 0 143 (dk_at dksX2_copy_2 21 rfl rfl)
theorem dX2_copy_71 : decode cX2_copy 71 = .ok (.ireturn, 1) := dk_172 (dk_at dksX2_copy_3 0 rfl rfl)
theorem dX2_copy_72 : decode cX2_copy 72 = .ok (.iload_n 2, 1) := dk_28 (dk_at dksX2_copy_3 1 rfl rfl)
theorem dX2_copy_73 : decode cX2_copy 73 = .ok (.ifCond .lt 48, 3) := dk_155 0 48 (dk_at dksX2_copy_3 2 rfl rfl)
theorem dX2_copy_76 : decode cX2_copy 76 = .ok (.iload 4, 2) := dk_21 4 (dk_at dksX2_copy_3 5 rfl rfl)
theorem dX2_copy_78 : decode cX2_copy 78 = .ok (.ifCond .lt 43, 3) := dk_155 0 43 (dk_at dksX2_copy_3 7 rfl rfl)
theorem dX2_copy_81 : decode cX2_copy 81 = .ok (.iload 5, 2) := dk_21 5 (dk_at dksX2_copy_3 10 rfl rfl)
theorem dX2_copy_83 : decode cX2_copy 83 = .ok (.ifCond .lt 38, 3) := dk_155 0 38 (dk_at dksX2_copy_3 12 rfl rfl)
theorem dX2_copy_86 : decode cX2_copy 86 = .ok (.iload_n 2, 1) := dk_28 (dk_at dksX2_copy_3 15 rfl rfl)
theorem dX2_copy_87 : decode cX2_copy 87 = .ok (.i2l, 1) := dk_133 (dk_at dksX2_copy_3 16 rfl rfl)
theorem dX2_copy_88 : decode cX2_copy 88 = .ok (.iload 5, 2) := dk_21 5 (dk_at dksX2_copy_3 17 rfl rfl)
theorem dX2_copy_90 : decode cX2_copy 90 = .ok (.i2l, 1) := dk_133 (dk_at dksX2_copy_3 19 rfl rfl)
theorem dX2_copy_91 : decode cX2_copy 91 = .ok (.ladd, 1) := dk_97 (dk_at dksX2_copy_3 20 rfl rfl)
theorem dX2_copy_92 : decode cX2_copy 92 = .ok (.aload_n 0, 1) := dk_42 (dk_at dksX2_copy_3 21 rfl rfl)
theorem dX2_copy_93 : decode cX2_copy 93 = .ok (.getfield 21, 3) := dk_180 0 21 (dk_at dksX2_copy_4 0 rfl rfl)
theorem dX2_copy_96 : decode cX2_copy 96 = .ok (.iload_n 1, 1) := dk_27 (dk_at dksX2_copy_4 3 rfl rfl)
theorem dX2_copy_97 : decode cX2_copy 97 = .ok (.iaload, 1) := dk_46 (dk_at dksX2_copy_4 4 rfl rfl)
theorem dX2_copy_98 : decode cX2_copy 98 = .ok (.i2l, 1) := dk_133 (dk_at dksX2_copy_4 5 rfl rfl)
theorem dX2_copy_99 : decode cX2_copy 99 = .ok (.lcmp, 1) := dk_148 (dk_at dksX2_copy_4 6 rfl rfl)
theorem dX2_copy_100 : decode cX2_copy 100 = .ok (.ifCond .gt 21, 3) := dk_157 0 21 (dk_at dksX2_copy_4 7 rfl rfl)
theorem dX2_copy_103 : decode cX2_copy 103 = .ok (.iload 4, 2) := dk_21 4 (dk_at dksX2_copy_4 10 rfl rfl)
theorem dX2_copy_105 : decode cX2_copy 105 = .ok (.i2l, 1) := dk_133 (dk_at dksX2_copy_4 12 rfl rfl)
theorem dX2_copy_106 : decode cX2_copy 106 = .ok (.iload 5, 2) := dk_21 5 (dk_at dksX2_copy_4 13 rfl rfl)
theorem dX2_copy_108 : decode cX2_copy 108 = .ok (.i2l, 1) := dk_133 (dk_at dksX2_copy_4 15 rfl rfl)
theorem dX2_copy_109 : decode cX2_copy 109 = .ok (.ladd, 1) := dk_97 (dk_at dksX2_copy_4 16 rfl rfl)
theorem dX2_copy_110 : decode cX2_copy 110 = .ok (.aload_n 0, 1) := dk_42 (dk_at dksX2_copy_4 17 rfl rfl)
theorem dX2_copy_111 : decode cX2_copy 111 = .ok (.getfield 21, 3) := dk_180 0 21 (dk_at dksX2_copy_4 18 rfl rfl)
theorem dX2_copy_114 : decode cX2_copy 114 = .ok (.iload_n 3, 1) := dk_29 (dk_at dksX2_copy_4 21 rfl rfl)
theorem dX2_copy_115 : decode cX2_copy 115 = .ok (.iaload, 1) := dk_46 (dk_at dksX2_copy_4 22 rfl rfl)
theorem dX2_copy_116 : decode cX2_copy 116 = .ok (.i2l, 1) := dk_133 (dk_at dksX2_copy_4 23 rfl rfl)
theorem dX2_copy_117 : decode cX2_copy 117 = .ok (.lcmp, 1) := dk_148 (dk_at dksX2_copy_5 0 rfl rfl)
theorem dX2_copy_118 : decode cX2_copy 118 = .ok (.ifCond .le 9, 3) := dk_158 0 9 (dk_at dksX2_copy_5 1 rfl rfl)
theorem dX2_copy_121 : decode cX2_copy 121 = .ok (.aload_n 0, 1) := dk_42 (dk_at dksX2_copy_5 4 rfl rfl)
theorem dX2_copy_122 : decode cX2_copy 122 = .ok (.iconst 2, 1) := dk_5 (dk_at dksX2_copy_5 5 rfl rfl)
theorem dX2_copy_123 : decode cX2_copy 123 = .ok (.invokevirtual 143, 3) := dk_182 0 143 (dk_at dksX2_copy_5 6 rfl rfl)
theorem dX2_copy_126 : decode cX2_copy 126 = .ok (.ireturn, 1) := dk_172 (dk_at dksX2_copy_5 9 rfl rfl)
theorem dX2_copy_127 : decode cX2_copy 127 = .ok (.iload_n 2, 1) := dk_28 (dk_at dksX2_copy_5 10 rfl rfl)
theorem dX2_copy_128 : decode cX2_copy 128 = .ok (.iload 4, 2) := dk_21 4 (dk_at dksX2_copy_5 11 rfl rfl)
theorem dX2_copy_130 : decode cX2_copy 130 = .ok (.if_icmp .lt 7, 3) := dk_161 0 7 (dk_at dksX2_copy_5 13 rfl rfl)
theorem dX2_copy_133 : decode cX2_copy 133 = .ok (.iconst 1, 1) := dk_4 (dk_at dksX2_copy_5 16 rfl rfl)
theorem dX2_copy_134 : decode cX2_copy 134 = .ok (.goto 4, 3) := dk_167 0 4 (dk_at dksX2_copy_5 17 rfl rfl)
theorem dX2_copy_137 : decode cX2_copy 137 = .ok (.iconst 0, 1) := dk_3 (dk_at dksX2_copy_5 20 rfl rfl)
theorem dX2_copy_138 : decode cX2_copy 138 = .ok (.istore 6, 2) := dk_54 6 (dk_at dksX2_copy_5 21 rfl rfl)
theorem dX2_copy_140 : decode cX2_copy 140 = .ok (.iconst 0, 1) := dk_3 (dk_at dksX2_copy_5 23 rfl rfl)
theorem dX2_copy_141 : decode cX2_copy 141 = .ok (.istore 7, 2) := dk_54 7 (dk_at dksX2_copy_6 0 rfl rfl)
theorem dX2_copy_143 : decode cX2_copy 143 = .ok (.iload 7, 2) := dk_21 7 (dk_at dksX2_copy_6 2 rfl rfl)
theorem dX2_copy_145 : decode cX2_copy 145 = .ok (.iload 5, 2) := dk_21 5 (dk_at dksX2_copy_6 4 rfl rfl)
theorem dX2_copy_147 : decode cX2_copy 147 = .ok (.if_icmp .ge 57, 3) := dk_162 0 57 (dk_at dksX2_copy_6 6 rfl rfl)
theorem dX2_copy_150 : decode cX2_copy 150 = .ok (.iload 6, 2) := dk_21 6 (dk_at dksX2_copy_6 9 rfl rfl)
theorem dX2_copy_152 : decode cX2_copy 152 = .ok (.ifCond .eq 8, 3) := dk_153 0 8 (dk_at dksX2_copy_6 11 rfl rfl)
theorem dX2_copy_155 : decode cX2_copy 155 = .ok (.iload 7, 2) := dk_21 7 (dk_at dksX2_copy_6 14 rfl rfl)
theorem dX2_copy_157 : decode cX2_copy 157 = .ok (.goto 10, 3) := dk_167 0 10 (dk_at dksX2_copy_6 16 rfl rfl)
theorem dX2_copy_160 : decode cX2_copy 160 = .ok (.iload 5, 2) := dk_21 5 (dk_at dksX2_copy_6 19 rfl rfl)
theorem dX2_copy_162 : decode cX2_copy 162 = .ok (.iconst 1, 1) := dk_4 (dk_at dksX2_copy_6 21 rfl rfl)
theorem dX2_copy_163 : decode cX2_copy 163 = .ok (.isub, 1) := dk_100 (dk_at dksX2_copy_6 22 rfl rfl)
theorem dX2_copy_164 : decode cX2_copy 164 = .ok (.iload 7, 2) := dk_21 7 (dk_at dksX2_copy_7 0 rfl rfl)
theorem dX2_copy_166 : decode cX2_copy 166 = .ok (.isub, 1) := dk_100 (dk_at dksX2_copy_7 2 rfl rfl)
theorem dX2_copy_167 : decode cX2_copy 167 = .ok (.istore 8, 2) := dk_54 8 (dk_at dksX2_copy_7 3 rfl rfl)
theorem dX2_copy_169 : decode cX2_copy 169 = .ok (.aload_n 0, 1) := dk_42 (dk_at dksX2_copy_7 5 rfl rfl)
theorem dX2_copy_170 : decode cX2_copy 170 = .ok (.getfield 24, 3) := dk_180 0 24 (dk_at dksX2_copy_7 6 rfl rfl)
theorem dX2_copy_173 : decode cX2_copy 173 = .ok (.bipush 64, 2) := dk_16 64 (dk_at dksX2_copy_7 9 rfl rfl)
theorem dX2_copy_175 : decode cX2_copy 175 = .ok (.iload_n 3, 1) := dk_29 (dk_at dksX2_copy_7 11 rfl rfl)
theorem dX2_copy_176 : decode cX2_copy 176 = .ok (.imul, 1) := dk_104 (dk_at dksX2_copy_7 12 rfl rfl)
theorem dX2_copy_177 : decode cX2_copy 177 = .ok (.iload 4, 2) := dk_21 4 (dk_at dksX2_copy_7 13 rfl rfl)
theorem dX2_copy_179 : decode cX2_copy 179 = .ok (.iadd, 1) := dk_96 (dk_at dksX2_copy_7 15 rfl rfl)
theorem dX2_copy_180 : decode cX2_copy 180 = .ok (.iload 8, 2) := dk_21 8 (dk_at dksX2_copy_7 16 rfl rfl)
theorem dX2_copy_182 : decode cX2_copy 182 = .ok (.iadd, 1) := dk_96 (dk_at dksX2_copy_7 18 rfl rfl)
theorem dX2_copy_183 : decode cX2_copy 183 = .ok (.aload_n 0, 1) := dk_42 (dk_at dksX2_copy_7 19 rfl rfl)
theorem dX2_copy_184 : decode cX2_copy 184 = .ok (.getfield 24, 3) := dk_180 0 24 (dk_at dksX2_copy_7 20 rfl rfl)
theorem dX2_copy_187 : decode cX2_copy 187 = .ok (.bipush 64, 2) := dk_16 64 (dk_at dksX2_copy_8 0 rfl rfl)
theorem dX2_copy_189 : decode cX2_copy 189 = .ok (.iload_n 1, 1) := dk_27 (dk_at dksX2_copy_8 2 rfl rfl)
theorem dX2_copy_190 : decode cX2_copy 190 = .ok (.imul, 1) := dk_104 (dk_at dksX2_copy_8 3 rfl rfl)
theorem dX2_copy_191 : decode cX2_copy 191 = .ok (.iload_n 2, 1) := dk_28 (dk_at dksX2_copy_8 4 rfl rfl)
theorem dX2_copy_192 : decode cX2_copy 192 = .ok (.iadd, 1) := dk_96 (dk_at dksX2_copy_8 5 rfl rfl)
theorem dX2_copy_193 : decode cX2_copy 193 = .ok (.iload 8, 2) := dk_21 8 (dk_at dksX2_copy_8 6 rfl rfl)
theorem dX2_copy_195 : decode cX2_copy 195 = .ok (.iadd, 1) := dk_96 (dk_at dksX2_copy_8 8 rfl rfl)
theorem dX2_copy_196 : decode cX2_copy 196 = .ok (.iaload, 1) := dk_46 (dk_at dksX2_copy_8 9 rfl rfl)
theorem dX2_copy_197 : decode cX2_copy 197 = .ok (.iastore, 1) := dk_79 (dk_at dksX2_copy_8 10 rfl rfl)
theorem dX2_copy_198 : decode cX2_copy 198 = .ok (.iinc 7 1, 3) := dk_132 7 1 (dk_at dksX2_copy_8 11 rfl rfl)
theorem dX2_copy_201 : decode cX2_copy 201 = .ok (.goto (-58), 3) := dk_167 255 198 (dk_at dksX2_copy_8 14 rfl rfl)
theorem dX2_copy_204 : decode cX2_copy 204 = .ok (.iload 5, 2) := dk_21 5 (dk_at dksX2_copy_8 17 rfl rfl)
theorem dX2_copy_206 : decode cX2_copy 206 = .ok (.ireturn, 1) := dk_172 (dk_at dksX2_copy_8 19 rfl rfl)
abbrev cX2_drop : ByteArray := prog_17_method_9_code
def yX2_drop : MethodName := ⟨RX2, "drop", "(I)I"⟩
def dkwX2_drop_2 : List UInt8 := [172]
abbrev dktX2_drop_2 : List UInt8 := dkwX2_drop_2 ++ []
def dkwX2_drop_1 : List UInt8 := [27, 46, 156, 0, 9, 42, 4, 182, 0, 143, 172, 42, 180, 0, 17, 27, 2, 79, 42, 180, 0, 21, 27, 46]
abbrev dktX2_drop_1 : List UInt8 := dkwX2_drop_1 ++ dktX2_drop_2
def dkwX2_drop_0 : List UInt8 := [42, 3, 181, 0, 1, 27, 184, 0, 136, 154, 0, 6, 18, 142, 172, 42, 3, 181, 0, 7, 42, 180, 0, 17]
abbrev dktX2_drop_0 : List UInt8 := dkwX2_drop_0 ++ dktX2_drop_1
theorem dksX2_drop_0 : cX2_drop.data.toList.drop 0 = dktX2_drop_0 := by decide +kernel
theorem dksX2_drop_1 : cX2_drop.data.toList.drop 24 = dktX2_drop_1 := dk_seg dksX2_drop_0 24 rfl rfl
theorem dksX2_drop_2 : cX2_drop.data.toList.drop 48 = dktX2_drop_2 := dk_seg dksX2_drop_1 24 rfl rfl
theorem dX2_drop_0 : decode cX2_drop 0 = .ok (.aload_n 0, 1) := dk_42 (dk_at dksX2_drop_0 0 rfl rfl)
theorem dX2_drop_1 : decode cX2_drop 1 = .ok (.iconst 0, 1) := dk_3 (dk_at dksX2_drop_0 1 rfl rfl)
theorem dX2_drop_2 : decode cX2_drop 2 = .ok (.putfield 1, 3) := dk_181 0 1 (dk_at dksX2_drop_0 2 rfl rfl)
theorem dX2_drop_5 : decode cX2_drop 5 = .ok (.iload_n 1, 1) := dk_27 (dk_at dksX2_drop_0 5 rfl rfl)
theorem dX2_drop_6 : decode cX2_drop 6 = .ok (.invokestatic 136, 3) := dk_184 0 136 (dk_at dksX2_drop_0 6 rfl rfl)
theorem dX2_drop_9 : decode cX2_drop 9 = .ok (.ifCond .ne 6, 3) := dk_154 0 6 (dk_at dksX2_drop_0 9 rfl rfl)
theorem dX2_drop_12 : decode cX2_drop 12 = .ok (.ldc 142, 2) := dk_18 142 (dk_at dksX2_drop_0 12 rfl rfl)
theorem dX2_drop_14 : decode cX2_drop 14 = .ok (.ireturn, 1) := dk_172 (dk_at dksX2_drop_0 14 rfl rfl)
theorem dX2_drop_15 : decode cX2_drop 15 = .ok (.aload_n 0, 1) := dk_42 (dk_at dksX2_drop_0 15 rfl rfl)
theorem dX2_drop_16 : decode cX2_drop 16 = .ok (.iconst 0, 1) := dk_3 (dk_at dksX2_drop_0 16 rfl rfl)
theorem dX2_drop_17 : decode cX2_drop 17 = .ok (.putfield 7, 3) := dk_181 0 7 (dk_at dksX2_drop_0 17 rfl rfl)
theorem dX2_drop_20 : decode cX2_drop 20 = .ok (.aload_n 0, 1) := dk_42 (dk_at dksX2_drop_0 20 rfl rfl)
theorem dX2_drop_21 : decode cX2_drop 21 = .ok (.getfield 17, 3) := dk_180 0 17 (dk_at dksX2_drop_0 21 rfl rfl)
theorem dX2_drop_24 : decode cX2_drop 24 = .ok (.iload_n 1, 1) := dk_27 (dk_at dksX2_drop_1 0 rfl rfl)
theorem dX2_drop_25 : decode cX2_drop 25 = .ok (.iaload, 1) := dk_46 (dk_at dksX2_drop_1 1 rfl rfl)
theorem dX2_drop_26 : decode cX2_drop 26 = .ok (.ifCond .ge 9, 3) := dk_156 0 9 (dk_at dksX2_drop_1 2 rfl rfl)
theorem dX2_drop_29 : decode cX2_drop 29 = .ok (.aload_n 0, 1) := dk_42 (dk_at dksX2_drop_1 5 rfl rfl)
theorem dX2_drop_30 : decode cX2_drop 30 = .ok (.iconst 1, 1) := dk_4 (dk_at dksX2_drop_1 6 rfl rfl)
theorem dX2_drop_31 : decode cX2_drop 31 = .ok (.invokevirtual 143, 3) := dk_182 0 143 (dk_at dksX2_drop_1 7 rfl rfl)
theorem dX2_drop_34 : decode cX2_drop 34 = .ok (.ireturn, 1) := dk_172 (dk_at dksX2_drop_1 10 rfl rfl)
theorem dX2_drop_35 : decode cX2_drop 35 = .ok (.aload_n 0, 1) := dk_42 (dk_at dksX2_drop_1 11 rfl rfl)
theorem dX2_drop_36 : decode cX2_drop 36 = .ok (.getfield 17, 3) := dk_180 0 17 (dk_at dksX2_drop_1 12 rfl rfl)
theorem dX2_drop_39 : decode cX2_drop 39 = .ok (.iload_n 1, 1) := dk_27 (dk_at dksX2_drop_1 15 rfl rfl)
theorem dX2_drop_40 : decode cX2_drop 40 = .ok (.iconst (-1), 1) := dk_2 (dk_at dksX2_drop_1 16 rfl rfl)
theorem dX2_drop_41 : decode cX2_drop 41 = .ok (.iastore, 1) := dk_79 (dk_at dksX2_drop_1 17 rfl rfl)
theorem dX2_drop_42 : decode cX2_drop 42 = .ok (.aload_n 0, 1) := dk_42 (dk_at dksX2_drop_1 18 rfl rfl)
theorem dX2_drop_43 : decode cX2_drop 43 = .ok (.getfield 21, 3) := dk_180 0 21 (dk_at dksX2_drop_1 19 rfl rfl)
theorem dX2_drop_46 : decode cX2_drop 46 = .ok (.iload_n 1, 1) := dk_27 (dk_at dksX2_drop_1 22 rfl rfl)
theorem dX2_drop_47 : decode cX2_drop 47 = .ok (.iaload, 1) := dk_46 (dk_at dksX2_drop_1 23 rfl rfl)
theorem dX2_drop_48 : decode cX2_drop 48 = .ok (.ireturn, 1) := dk_172 (dk_at dksX2_drop_2 0 rfl rfl)
abbrev cX2_bell : ByteArray := prog_17_method_15_code
def yX2_bell : MethodName := ⟨RX2, "bell", "(III)I"⟩
def dkwX2_bell_2 : List UInt8 := [27, 29, 79, 4, 172]
abbrev dktX2_bell_2 : List UInt8 := dkwX2_bell_2 ++ []
def dkwX2_bell_1 : List UInt8 := [133, 20, 0, 159, 184, 0, 132, 154, 0, 6, 18, 142, 172, 42, 180, 0, 27, 27, 28, 79, 42, 180, 0, 30]
abbrev dktX2_bell_1 : List UInt8 := dkwX2_bell_1 ++ dktX2_bell_2
def dkwX2_bell_0 : List UInt8 := [42, 3, 181, 0, 1, 27, 184, 0, 153, 153, 0, 25, 28, 184, 0, 156, 153, 0, 18, 29, 133, 28, 4, 96]
abbrev dktX2_bell_0 : List UInt8 := dkwX2_bell_0 ++ dktX2_bell_1
theorem dksX2_bell_0 : cX2_bell.data.toList.drop 0 = dktX2_bell_0 := by decide +kernel
theorem dksX2_bell_1 : cX2_bell.data.toList.drop 24 = dktX2_bell_1 := dk_seg dksX2_bell_0 24 rfl rfl
theorem dksX2_bell_2 : cX2_bell.data.toList.drop 48 = dktX2_bell_2 := dk_seg dksX2_bell_1 24 rfl rfl
theorem dX2_bell_0 : decode cX2_bell 0 = .ok (.aload_n 0, 1) := dk_42 (dk_at dksX2_bell_0 0 rfl rfl)
theorem dX2_bell_1 : decode cX2_bell 1 = .ok (.iconst 0, 1) := dk_3 (dk_at dksX2_bell_0 1 rfl rfl)
theorem dX2_bell_2 : decode cX2_bell 2 = .ok (.putfield 1, 3) := dk_181 0 1 (dk_at dksX2_bell_0 2 rfl rfl)
theorem dX2_bell_5 : decode cX2_bell 5 = .ok (.iload_n 1, 1) := dk_27 (dk_at dksX2_bell_0 5 rfl rfl)
theorem dX2_bell_6 : decode cX2_bell 6 = .ok (.invokestatic 153, 3) := dk_184 0 153 (dk_at dksX2_bell_0 6 rfl rfl)
theorem dX2_bell_9 : decode cX2_bell 9 = .ok (.ifCond .eq 25, 3) := dk_153 0 25 (dk_at dksX2_bell_0 9 rfl rfl)
theorem dX2_bell_12 : decode cX2_bell 12 = .ok (.iload_n 2, 1) := dk_28 (dk_at dksX2_bell_0 12 rfl rfl)
theorem dX2_bell_13 : decode cX2_bell 13 = .ok (.invokestatic 156, 3) := dk_184 0 156 (dk_at dksX2_bell_0 13 rfl rfl)
theorem dX2_bell_16 : decode cX2_bell 16 = .ok (.ifCond .eq 18, 3) := dk_153 0 18 (dk_at dksX2_bell_0 16 rfl rfl)
theorem dX2_bell_19 : decode cX2_bell 19 = .ok (.iload_n 3, 1) := dk_29 (dk_at dksX2_bell_0 19 rfl rfl)
theorem dX2_bell_20 : decode cX2_bell 20 = .ok (.i2l, 1) := dk_133 (dk_at dksX2_bell_0 20 rfl rfl)
theorem dX2_bell_21 : decode cX2_bell 21 = .ok (.iload_n 2, 1) := dk_28 (dk_at dksX2_bell_0 21 rfl rfl)
theorem dX2_bell_22 : decode cX2_bell 22 = .ok (.iconst 1, 1) := dk_4 (dk_at dksX2_bell_0 22 rfl rfl)
theorem dX2_bell_23 : decode cX2_bell 23 = .ok (.iadd, 1) := dk_96 (dk_at dksX2_bell_0 23 rfl rfl)
theorem dX2_bell_24 : decode cX2_bell 24 = .ok (.i2l, 1) := dk_133 (dk_at dksX2_bell_1 0 rfl rfl)
theorem dX2_bell_25 : decode cX2_bell 25 = .ok (.ldc2_w 159, 3) := dk_20 0 159 (dk_at dksX2_bell_1 1 rfl rfl)
theorem dX2_bell_28 : decode cX2_bell 28 = .ok (.invokestatic 132, 3) := dk_184 0 132 (dk_at dksX2_bell_1 4 rfl rfl)
theorem dX2_bell_31 : decode cX2_bell 31 = .ok (.ifCond .ne 6, 3) := dk_154 0 6 (dk_at dksX2_bell_1 7 rfl rfl)
theorem dX2_bell_34 : decode cX2_bell 34 = .ok (.ldc 142, 2) := dk_18 142 (dk_at dksX2_bell_1 10 rfl rfl)
theorem dX2_bell_36 : decode cX2_bell 36 = .ok (.ireturn, 1) := dk_172 (dk_at dksX2_bell_1 12 rfl rfl)
theorem dX2_bell_37 : decode cX2_bell 37 = .ok (.aload_n 0, 1) := dk_42 (dk_at dksX2_bell_1 13 rfl rfl)
theorem dX2_bell_38 : decode cX2_bell 38 = .ok (.getfield 27, 3) := dk_180 0 27 (dk_at dksX2_bell_1 14 rfl rfl)
theorem dX2_bell_41 : decode cX2_bell 41 = .ok (.iload_n 1, 1) := dk_27 (dk_at dksX2_bell_1 17 rfl rfl)
theorem dX2_bell_42 : decode cX2_bell 42 = .ok (.iload_n 2, 1) := dk_28 (dk_at dksX2_bell_1 18 rfl rfl)
theorem dX2_bell_43 : decode cX2_bell 43 = .ok (.iastore, 1) := dk_79 (dk_at dksX2_bell_1 19 rfl rfl)
theorem dX2_bell_44 : decode cX2_bell 44 = .ok (.aload_n 0, 1) := dk_42 (dk_at dksX2_bell_1 20 rfl rfl)
theorem dX2_bell_45 : decode cX2_bell 45 = .ok (.getfield 30, 3) := dk_180 0 30 (dk_at dksX2_bell_1 21 rfl rfl)
theorem dX2_bell_48 : decode cX2_bell 48 = .ok (.iload_n 1, 1) := dk_27 (dk_at dksX2_bell_2 0 rfl rfl)
theorem dX2_bell_49 : decode cX2_bell 49 = .ok (.iload_n 3, 1) := dk_29 (dk_at dksX2_bell_2 1 rfl rfl)
theorem dX2_bell_50 : decode cX2_bell 50 = .ok (.iastore, 1) := dk_79 (dk_at dksX2_bell_2 2 rfl rfl)
theorem dX2_bell_51 : decode cX2_bell 51 = .ok (.iconst 1, 1) := dk_4 (dk_at dksX2_bell_2 3 rfl rfl)
theorem dX2_bell_52 : decode cX2_bell 52 = .ok (.ireturn, 1) := dk_172 (dk_at dksX2_bell_2 4 rfl rfl)
abbrev cX2_isGate : ByteArray := prog_17_method_11_code
def yX2_isGate : MethodName := ⟨RX2, "isGate", "(I)Z"⟩
def dkwX2_isGate_0 : List UInt8 := [26, 133, 9, 20, 0, 147, 184, 0, 132, 172]
abbrev dktX2_isGate_0 : List UInt8 := dkwX2_isGate_0 ++ []
theorem dksX2_isGate_0 : cX2_isGate.data.toList.drop 0 = dktX2_isGate_0 := by decide +kernel
theorem dX2_isGate_0 : decode cX2_isGate 0 = .ok (.iload_n 0, 1) := dk_26 (dk_at dksX2_isGate_0 0 rfl rfl)
theorem dX2_isGate_1 : decode cX2_isGate 1 = .ok (.i2l, 1) := dk_133 (dk_at dksX2_isGate_0 1 rfl rfl)
theorem dX2_isGate_2 : decode cX2_isGate 2 = .ok (.lconst 0, 1) := dk_9 (dk_at dksX2_isGate_0 2 rfl rfl)
theorem dX2_isGate_3 : decode cX2_isGate 3 = .ok (.ldc2_w 147, 3) := dk_20 0 147 (dk_at dksX2_isGate_0 3 rfl rfl)
theorem dX2_isGate_6 : decode cX2_isGate 6 = .ok (.invokestatic 132, 3) := dk_184 0 132 (dk_at dksX2_isGate_0 6 rfl rfl)
theorem dX2_isGate_9 : decode cX2_isGate 9 = .ok (.ireturn, 1) := dk_172 (dk_at dksX2_isGate_0 9 rfl rfl)
abbrev cX2_isMinute : ByteArray := prog_17_method_13_code
def yX2_isMinute : MethodName := ⟨RX2, "isMinute", "(I)Z"⟩
def dkwX2_isMinute_0 : List UInt8 := [26, 133, 9, 20, 0, 151, 184, 0, 132, 172]
abbrev dktX2_isMinute_0 : List UInt8 := dkwX2_isMinute_0 ++ []
theorem dksX2_isMinute_0 : cX2_isMinute.data.toList.drop 0 = dktX2_isMinute_0 := by decide +kernel
theorem dX2_isMinute_0 : decode cX2_isMinute 0 = .ok (.iload_n 0, 1) := dk_26 (dk_at dksX2_isMinute_0 0 rfl rfl)
theorem dX2_isMinute_1 : decode cX2_isMinute 1 = .ok (.i2l, 1) := dk_133 (dk_at dksX2_isMinute_0 1 rfl rfl)
theorem dX2_isMinute_2 : decode cX2_isMinute 2 = .ok (.lconst 0, 1) := dk_9 (dk_at dksX2_isMinute_0 2 rfl rfl)
theorem dX2_isMinute_3 : decode cX2_isMinute 3 = .ok (.ldc2_w 151, 3) := dk_20 0 151 (dk_at dksX2_isMinute_0 3 rfl rfl)
theorem dX2_isMinute_6 : decode cX2_isMinute 6 = .ok (.invokestatic 132, 3) := dk_184 0 132 (dk_at dksX2_isMinute_0 6 rfl rfl)
theorem dX2_isMinute_9 : decode cX2_isMinute 9 = .ok (.ireturn, 1) := dk_172 (dk_at dksX2_isMinute_0 9 rfl rfl)
abbrev cX2_part : ByteArray := prog_17_method_16_code
def yX2_part : MethodName := ⟨RX2, "part", "(II)I"⟩
def dkwX2_part_1 : List UInt8 := [18, 142, 172, 42, 180, 0, 33, 27, 46, 62, 42, 180, 0, 33, 27, 28, 79, 29, 172]
abbrev dktX2_part_1 : List UInt8 := dkwX2_part_1 ++ []
def dkwX2_part_0 : List UInt8 := [42, 3, 181, 0, 1, 27, 184, 0, 153, 153, 0, 15, 28, 133, 10, 20, 0, 161, 184, 0, 132, 154, 0, 6]
abbrev dktX2_part_0 : List UInt8 := dkwX2_part_0 ++ dktX2_part_1
theorem dksX2_part_0 : cX2_part.data.toList.drop 0 = dktX2_part_0 := by decide +kernel
theorem dksX2_part_1 : cX2_part.data.toList.drop 24 = dktX2_part_1 := dk_seg dksX2_part_0 24 rfl rfl
theorem dX2_part_0 : decode cX2_part 0 = .ok (.aload_n 0, 1) := dk_42 (dk_at dksX2_part_0 0 rfl rfl)
theorem dX2_part_1 : decode cX2_part 1 = .ok (.iconst 0, 1) := dk_3 (dk_at dksX2_part_0 1 rfl rfl)
theorem dX2_part_2 : decode cX2_part 2 = .ok (.putfield 1, 3) := dk_181 0 1 (dk_at dksX2_part_0 2 rfl rfl)
theorem dX2_part_5 : decode cX2_part 5 = .ok (.iload_n 1, 1) := dk_27 (dk_at dksX2_part_0 5 rfl rfl)
theorem dX2_part_6 : decode cX2_part 6 = .ok (.invokestatic 153, 3) := dk_184 0 153 (dk_at dksX2_part_0 6 rfl rfl)
theorem dX2_part_9 : decode cX2_part 9 = .ok (.ifCond .eq 15, 3) := dk_153 0 15 (dk_at dksX2_part_0 9 rfl rfl)
theorem dX2_part_12 : decode cX2_part 12 = .ok (.iload_n 2, 1) := dk_28 (dk_at dksX2_part_0 12 rfl rfl)
theorem dX2_part_13 : decode cX2_part 13 = .ok (.i2l, 1) := dk_133 (dk_at dksX2_part_0 13 rfl rfl)
theorem dX2_part_14 : decode cX2_part 14 = .ok (.lconst 1, 1) := dk_10 (dk_at dksX2_part_0 14 rfl rfl)
theorem dX2_part_15 : decode cX2_part 15 = .ok (.ldc2_w 161, 3) := dk_20 0 161 (dk_at dksX2_part_0 15 rfl rfl)
theorem dX2_part_18 : decode cX2_part 18 = .ok (.invokestatic 132, 3) := dk_184 0 132 (dk_at dksX2_part_0 18 rfl rfl)
theorem dX2_part_21 : decode cX2_part 21 = .ok (.ifCond .ne 6, 3) := dk_154 0 6 (dk_at dksX2_part_0 21 rfl rfl)
theorem dX2_part_24 : decode cX2_part 24 = .ok (.ldc 142, 2) := dk_18 142 (dk_at dksX2_part_1 0 rfl rfl)
theorem dX2_part_26 : decode cX2_part 26 = .ok (.ireturn, 1) := dk_172 (dk_at dksX2_part_1 2 rfl rfl)
theorem dX2_part_27 : decode cX2_part 27 = .ok (.aload_n 0, 1) := dk_42 (dk_at dksX2_part_1 3 rfl rfl)
theorem dX2_part_28 : decode cX2_part 28 = .ok (.getfield 33, 3) := dk_180 0 33 (dk_at dksX2_part_1 4 rfl rfl)
theorem dX2_part_31 : decode cX2_part 31 = .ok (.iload_n 1, 1) := dk_27 (dk_at dksX2_part_1 7 rfl rfl)
theorem dX2_part_32 : decode cX2_part 32 = .ok (.iaload, 1) := dk_46 (dk_at dksX2_part_1 8 rfl rfl)
theorem dX2_part_33 : decode cX2_part 33 = .ok (.istore_n 3, 1) := dk_62 (dk_at dksX2_part_1 9 rfl rfl)
theorem dX2_part_34 : decode cX2_part 34 = .ok (.aload_n 0, 1) := dk_42 (dk_at dksX2_part_1 10 rfl rfl)
theorem dX2_part_35 : decode cX2_part 35 = .ok (.getfield 33, 3) := dk_180 0 33 (dk_at dksX2_part_1 11 rfl rfl)
theorem dX2_part_38 : decode cX2_part 38 = .ok (.iload_n 1, 1) := dk_27 (dk_at dksX2_part_1 14 rfl rfl)
theorem dX2_part_39 : decode cX2_part 39 = .ok (.iload_n 2, 1) := dk_28 (dk_at dksX2_part_1 15 rfl rfl)
theorem dX2_part_40 : decode cX2_part 40 = .ok (.iastore, 1) := dk_79 (dk_at dksX2_part_1 16 rfl rfl)
theorem dX2_part_41 : decode cX2_part 41 = .ok (.iload_n 3, 1) := dk_29 (dk_at dksX2_part_1 17 rfl rfl)
theorem dX2_part_42 : decode cX2_part 42 = .ok (.ireturn, 1) := dk_172 (dk_at dksX2_part_1 18 rfl rfl)
abbrev cX2_stands : ByteArray := prog_17_method_17_code
def yX2_stands : MethodName := ⟨RX2, "stands", "(III)I"⟩
def dkwX2_stands_1 : List UInt8 := [180, 0, 36, 27, 28, 79, 42, 180, 0, 39, 27, 29, 79, 4, 172]
abbrev dktX2_stands_1 : List UInt8 := dkwX2_stands_1 ++ []
def dkwX2_stands_0 : List UInt8 := [42, 3, 181, 0, 1, 27, 184, 0, 153, 153, 0, 11, 28, 29, 184, 0, 163, 154, 0, 6, 18, 142, 172, 42]
abbrev dktX2_stands_0 : List UInt8 := dkwX2_stands_0 ++ dktX2_stands_1
theorem dksX2_stands_0 : cX2_stands.data.toList.drop 0 = dktX2_stands_0 := by decide +kernel
theorem dksX2_stands_1 : cX2_stands.data.toList.drop 24 = dktX2_stands_1 := dk_seg dksX2_stands_0 24 rfl rfl
theorem dX2_stands_0 : decode cX2_stands 0 = .ok (.aload_n 0, 1) := dk_42 (dk_at dksX2_stands_0 0 rfl rfl)
theorem dX2_stands_1 : decode cX2_stands 1 = .ok (.iconst 0, 1) := dk_3 (dk_at dksX2_stands_0 1 rfl rfl)
theorem dX2_stands_2 : decode cX2_stands 2 = .ok (.putfield 1, 3) := dk_181 0 1 (dk_at dksX2_stands_0 2 rfl rfl)
theorem dX2_stands_5 : decode cX2_stands 5 = .ok (.iload_n 1, 1) := dk_27 (dk_at dksX2_stands_0 5 rfl rfl)
theorem dX2_stands_6 : decode cX2_stands 6 = .ok (.invokestatic 153, 3) := dk_184 0 153 (dk_at dksX2_stands_0 6 rfl rfl)
theorem dX2_stands_9 : decode cX2_stands 9 = .ok (.ifCond .eq 11, 3) := dk_153 0 11 (dk_at dksX2_stands_0 9 rfl rfl)
theorem dX2_stands_12 : decode cX2_stands 12 = .ok (.iload_n 2, 1) := dk_28 (dk_at dksX2_stands_0 12 rfl rfl)
theorem dX2_stands_13 : decode cX2_stands 13 = .ok (.iload_n 3, 1) := dk_29 (dk_at dksX2_stands_0 13 rfl rfl)
theorem dX2_stands_14 : decode cX2_stands 14 = .ok (.invokestatic 163, 3) := dk_184 0 163 (dk_at dksX2_stands_0 14 rfl rfl)
theorem dX2_stands_17 : decode cX2_stands 17 = .ok (.ifCond .ne 6, 3) := dk_154 0 6 (dk_at dksX2_stands_0 17 rfl rfl)
theorem dX2_stands_20 : decode cX2_stands 20 = .ok (.ldc 142, 2) := dk_18 142 (dk_at dksX2_stands_0 20 rfl rfl)
theorem dX2_stands_22 : decode cX2_stands 22 = .ok (.ireturn, 1) := dk_172 (dk_at dksX2_stands_0 22 rfl rfl)
theorem dX2_stands_23 : decode cX2_stands 23 = .ok (.aload_n 0, 1) := dk_42 (dk_at dksX2_stands_0 23 rfl rfl)
theorem dX2_stands_24 : decode cX2_stands 24 = .ok (.getfield 36, 3) := dk_180 0 36 (dk_at dksX2_stands_1 0 rfl rfl)
theorem dX2_stands_27 : decode cX2_stands 27 = .ok (.iload_n 1, 1) := dk_27 (dk_at dksX2_stands_1 3 rfl rfl)
theorem dX2_stands_28 : decode cX2_stands 28 = .ok (.iload_n 2, 1) := dk_28 (dk_at dksX2_stands_1 4 rfl rfl)
theorem dX2_stands_29 : decode cX2_stands 29 = .ok (.iastore, 1) := dk_79 (dk_at dksX2_stands_1 5 rfl rfl)
theorem dX2_stands_30 : decode cX2_stands 30 = .ok (.aload_n 0, 1) := dk_42 (dk_at dksX2_stands_1 6 rfl rfl)
theorem dX2_stands_31 : decode cX2_stands 31 = .ok (.getfield 39, 3) := dk_180 0 39 (dk_at dksX2_stands_1 7 rfl rfl)
theorem dX2_stands_34 : decode cX2_stands 34 = .ok (.iload_n 1, 1) := dk_27 (dk_at dksX2_stands_1 10 rfl rfl)
theorem dX2_stands_35 : decode cX2_stands 35 = .ok (.iload_n 3, 1) := dk_29 (dk_at dksX2_stands_1 11 rfl rfl)
theorem dX2_stands_36 : decode cX2_stands 36 = .ok (.iastore, 1) := dk_79 (dk_at dksX2_stands_1 12 rfl rfl)
theorem dX2_stands_37 : decode cX2_stands 37 = .ok (.iconst 1, 1) := dk_4 (dk_at dksX2_stands_1 13 rfl rfl)
theorem dX2_stands_38 : decode cX2_stands 38 = .ok (.ireturn, 1) := dk_172 (dk_at dksX2_stands_1 14 rfl rfl)
abbrev cX2_isSpot : ByteArray := prog_17_method_14_code
def yX2_isSpot : MethodName := ⟨RX2, "isSpot", "(II)Z"⟩
def dkwX2_isSpot_1 : List UInt8 := [4, 167, 0, 4, 3, 172]
abbrev dktX2_isSpot_1 : List UInt8 := dkwX2_isSpot_1 ++ []
def dkwX2_isSpot_0 : List UInt8 := [26, 133, 9, 20, 0, 149, 184, 0, 132, 153, 0, 19, 27, 133, 9, 20, 0, 149, 184, 0, 132, 153, 0, 7]
abbrev dktX2_isSpot_0 : List UInt8 := dkwX2_isSpot_0 ++ dktX2_isSpot_1
theorem dksX2_isSpot_0 : cX2_isSpot.data.toList.drop 0 = dktX2_isSpot_0 := by decide +kernel
theorem dksX2_isSpot_1 : cX2_isSpot.data.toList.drop 24 = dktX2_isSpot_1 := dk_seg dksX2_isSpot_0 24 rfl rfl
theorem dX2_isSpot_0 : decode cX2_isSpot 0 = .ok (.iload_n 0, 1) := dk_26 (dk_at dksX2_isSpot_0 0 rfl rfl)
theorem dX2_isSpot_1 : decode cX2_isSpot 1 = .ok (.i2l, 1) := dk_133 (dk_at dksX2_isSpot_0 1 rfl rfl)
theorem dX2_isSpot_2 : decode cX2_isSpot 2 = .ok (.lconst 0, 1) := dk_9 (dk_at dksX2_isSpot_0 2 rfl rfl)
theorem dX2_isSpot_3 : decode cX2_isSpot 3 = .ok (.ldc2_w 149, 3) := dk_20 0 149 (dk_at dksX2_isSpot_0 3 rfl rfl)
theorem dX2_isSpot_6 : decode cX2_isSpot 6 = .ok (.invokestatic 132, 3) := dk_184 0 132 (dk_at dksX2_isSpot_0 6 rfl rfl)
theorem dX2_isSpot_9 : decode cX2_isSpot 9 = .ok (.ifCond .eq 19, 3) := dk_153 0 19 (dk_at dksX2_isSpot_0 9 rfl rfl)
theorem dX2_isSpot_12 : decode cX2_isSpot 12 = .ok (.iload_n 1, 1) := dk_27 (dk_at dksX2_isSpot_0 12 rfl rfl)
theorem dX2_isSpot_13 : decode cX2_isSpot 13 = .ok (.i2l, 1) := dk_133 (dk_at dksX2_isSpot_0 13 rfl rfl)
theorem dX2_isSpot_14 : decode cX2_isSpot 14 = .ok (.lconst 0, 1) := dk_9 (dk_at dksX2_isSpot_0 14 rfl rfl)
theorem dX2_isSpot_15 : decode cX2_isSpot 15 = .ok (.ldc2_w 149, 3) := dk_20 0 149 (dk_at dksX2_isSpot_0 15 rfl rfl)
theorem dX2_isSpot_18 : decode cX2_isSpot 18 = .ok (.invokestatic 132, 3) := dk_184 0 132 (dk_at dksX2_isSpot_0 18 rfl rfl)
theorem dX2_isSpot_21 : decode cX2_isSpot 21 = .ok (.ifCond .eq 7, 3) := dk_153 0 7 (dk_at dksX2_isSpot_0 21 rfl rfl)
theorem dX2_isSpot_24 : decode cX2_isSpot 24 = .ok (.iconst 1, 1) := dk_4 (dk_at dksX2_isSpot_1 0 rfl rfl)
theorem dX2_isSpot_25 : decode cX2_isSpot 25 = .ok (.goto 4, 3) := dk_167 0 4 (dk_at dksX2_isSpot_1 1 rfl rfl)
theorem dX2_isSpot_28 : decode cX2_isSpot 28 = .ok (.iconst 0, 1) := dk_3 (dk_at dksX2_isSpot_1 4 rfl rfl)
theorem dX2_isSpot_29 : decode cX2_isSpot 29 = .ok (.ireturn, 1) := dk_172 (dk_at dksX2_isSpot_1 5 rfl rfl)
abbrev cX2_feed : ByteArray := prog_17_method_19_code
def yX2_feed : MethodName := ⟨RX2, "feed", "(JI)I"⟩
def dkwX2_feed_3 : List UInt8 := [180, 0, 167, 4, 96, 181, 0, 167, 132, 4, 255, 167, 255, 217, 42, 180, 0, 167, 172]
abbrev dktX2_feed_3 : List UInt8 := dkwX2_feed_3 ++ []
def dkwX2_feed_2 : List UInt8 := [180, 0, 54, 42, 180, 0, 167, 31, 16, 8, 21, 4, 104, 123, 20, 0, 171, 127, 136, 79, 42, 89]
abbrev dktX2_feed_2 : List UInt8 := dkwX2_feed_2 ++ dktX2_feed_3
def dkwX2_feed_1 : List UInt8 := [29, 96, 17, 1, 144, 164, 0, 6, 18, 170, 172, 29, 4, 100, 54, 4, 21, 4, 155, 0, 40, 42]
abbrev dktX2_feed_1 : List UInt8 := dkwX2_feed_1 ++ dktX2_feed_2
def dkwX2_feed_0 : List UInt8 := [42, 3, 181, 0, 1, 29, 133, 10, 20, 0, 147, 184, 0, 132, 154, 0, 6, 18, 142, 172, 42, 180, 0, 167]
abbrev dktX2_feed_0 : List UInt8 := dkwX2_feed_0 ++ dktX2_feed_1
theorem dksX2_feed_0 : cX2_feed.data.toList.drop 0 = dktX2_feed_0 := by decide +kernel
theorem dksX2_feed_1 : cX2_feed.data.toList.drop 24 = dktX2_feed_1 := dk_seg dksX2_feed_0 24 rfl rfl
theorem dksX2_feed_2 : cX2_feed.data.toList.drop 46 = dktX2_feed_2 := dk_seg dksX2_feed_1 22 rfl rfl
theorem dksX2_feed_3 : cX2_feed.data.toList.drop 68 = dktX2_feed_3 := dk_seg dksX2_feed_2 22 rfl rfl
theorem dX2_feed_0 : decode cX2_feed 0 = .ok (.aload_n 0, 1) := dk_42 (dk_at dksX2_feed_0 0 rfl rfl)
theorem dX2_feed_1 : decode cX2_feed 1 = .ok (.iconst 0, 1) := dk_3 (dk_at dksX2_feed_0 1 rfl rfl)
theorem dX2_feed_2 : decode cX2_feed 2 = .ok (.putfield 1, 3) := dk_181 0 1 (dk_at dksX2_feed_0 2 rfl rfl)
theorem dX2_feed_5 : decode cX2_feed 5 = .ok (.iload_n 3, 1) := dk_29 (dk_at dksX2_feed_0 5 rfl rfl)
theorem dX2_feed_6 : decode cX2_feed 6 = .ok (.i2l, 1) := dk_133 (dk_at dksX2_feed_0 6 rfl rfl)
theorem dX2_feed_7 : decode cX2_feed 7 = .ok (.lconst 1, 1) := dk_10 (dk_at dksX2_feed_0 7 rfl rfl)
theorem dX2_feed_8 : decode cX2_feed 8 = .ok (.ldc2_w 147, 3) := dk_20 0 147 (dk_at dksX2_feed_0 8 rfl rfl)
theorem dX2_feed_11 : decode cX2_feed 11 = .ok (.invokestatic 132, 3) := dk_184 0 132 (dk_at dksX2_feed_0 11 rfl rfl)
theorem dX2_feed_14 : decode cX2_feed 14 = .ok (.ifCond .ne 6, 3) := dk_154 0 6 (dk_at dksX2_feed_0 14 rfl rfl)
theorem dX2_feed_17 : decode cX2_feed 17 = .ok (.ldc 142, 2) := dk_18 142 (dk_at dksX2_feed_0 17 rfl rfl)
theorem dX2_feed_19 : decode cX2_feed 19 = .ok (.ireturn, 1) := dk_172 (dk_at dksX2_feed_0 19 rfl rfl)
theorem dX2_feed_20 : decode cX2_feed 20 = .ok (.aload_n 0, 1) := dk_42 (dk_at dksX2_feed_0 20 rfl rfl)
theorem dX2_feed_21 : decode cX2_feed 21 = .ok (.getfield 167, 3) := dk_180 0 167 (dk_at dksX2_feed_0 21 rfl rfl)
theorem dX2_feed_24 : decode cX2_feed 24 = .ok (.iload_n 3, 1) := dk_29 (dk_at dksX2_feed_1 0 rfl rfl)
theorem dX2_feed_25 : decode cX2_feed 25 = .ok (.iadd, 1) := dk_96 (dk_at dksX2_feed_1 1 rfl rfl)
theorem dX2_feed_26 : decode cX2_feed 26 = .ok (.sipush 400, 3) := dk_17 1 144 (dk_at dksX2_feed_1 2 rfl rfl)
theorem dX2_feed_29 : decode cX2_feed 29 = .ok (.if_icmp .le 6, 3) := dk_164 0 6 (dk_at dksX2_feed_1 5 rfl rfl)
theorem dX2_feed_32 : decode cX2_feed 32 = .ok (.ldc 170, 2) := dk_18 170 (dk_at dksX2_feed_1 8 rfl rfl)
theorem dX2_feed_34 : decode cX2_feed 34 = .ok (.ireturn, 1) := dk_172 (dk_at dksX2_feed_1 10 rfl rfl)
theorem dX2_feed_35 : decode cX2_feed 35 = .ok (.iload_n 3, 1) := dk_29 (dk_at dksX2_feed_1 11 rfl rfl)
theorem dX2_feed_36 : decode cX2_feed 36 = .ok (.iconst 1, 1) := dk_4 (dk_at dksX2_feed_1 12 rfl rfl)
theorem dX2_feed_37 : decode cX2_feed 37 = .ok (.isub, 1) := dk_100 (dk_at dksX2_feed_1 13 rfl rfl)
theorem dX2_feed_38 : decode cX2_feed 38 = .ok (.istore 4, 2) := dk_54 4 (dk_at dksX2_feed_1 14 rfl rfl)
theorem dX2_feed_40 : decode cX2_feed 40 = .ok (.iload 4, 2) := dk_21 4 (dk_at dksX2_feed_1 16 rfl rfl)
theorem dX2_feed_42 : decode cX2_feed 42 = .ok (.ifCond .lt 40, 3) := dk_155 0 40 (dk_at dksX2_feed_1 18 rfl rfl)
theorem dX2_feed_45 : decode cX2_feed 45 = .ok (.aload_n 0, 1) := dk_42 (dk_at dksX2_feed_1 21 rfl rfl)
theorem dX2_feed_46 : decode cX2_feed 46 = .ok (.getfield 54, 3) := dk_180 0 54 (dk_at dksX2_feed_2 0 rfl rfl)
theorem dX2_feed_49 : decode cX2_feed 49 = .ok (.aload_n 0, 1) := dk_42 (dk_at dksX2_feed_2 3 rfl rfl)
theorem dX2_feed_50 : decode cX2_feed 50 = .ok (.getfield 167, 3) := dk_180 0 167 (dk_at dksX2_feed_2 4 rfl rfl)
theorem dX2_feed_53 : decode cX2_feed 53 = .ok (.lload_n 1, 1) := dk_31 (dk_at dksX2_feed_2 7 rfl rfl)
theorem dX2_feed_54 : decode cX2_feed 54 = .ok (.bipush 8, 2) := dk_16 8 (dk_at dksX2_feed_2 8 rfl rfl)
theorem dX2_feed_56 : decode cX2_feed 56 = .ok (.iload 4, 2) := dk_21 4 (dk_at dksX2_feed_2 10 rfl rfl)
theorem dX2_feed_58 : decode cX2_feed 58 = .ok (.imul, 1) := dk_104 (dk_at dksX2_feed_2 12 rfl rfl)
theorem dX2_feed_59 : decode cX2_feed 59 = .ok (.lshr, 1) := dk_123 (dk_at dksX2_feed_2 13 rfl rfl)
theorem dX2_feed_60 : decode cX2_feed 60 = .ok (.ldc2_w 171, 3) := dk_20 0 171 (dk_at dksX2_feed_2 14 rfl rfl)
theorem dX2_feed_63 : decode cX2_feed 63 = .ok (.land, 1) := dk_127 (dk_at dksX2_feed_2 17 rfl rfl)
theorem dX2_feed_64 : decode cX2_feed 64 = .ok (.l2i, 1) := dk_136 (dk_at dksX2_feed_2 18 rfl rfl)
theorem dX2_feed_65 : decode cX2_feed 65 = .ok (.iastore, 1) := dk_79 (dk_at dksX2_feed_2 19 rfl rfl)
theorem dX2_feed_66 : decode cX2_feed 66 = .ok (.aload_n 0, 1) := dk_42 (dk_at dksX2_feed_2 20 rfl rfl)
theorem dX2_feed_67 : decode cX2_feed 67 = .ok (.dup, 1) := dk_89 (dk_at dksX2_feed_2 21 rfl rfl)
theorem dX2_feed_68 : decode cX2_feed 68 = .ok (.getfield 167, 3) := dk_180 0 167 (dk_at dksX2_feed_3 0 rfl rfl)
theorem dX2_feed_71 : decode cX2_feed 71 = .ok (.iconst 1, 1) := dk_4 (dk_at dksX2_feed_3 3 rfl rfl)
theorem dX2_feed_72 : decode cX2_feed 72 = .ok (.iadd, 1) := dk_96 (dk_at dksX2_feed_3 4 rfl rfl)
theorem dX2_feed_73 : decode cX2_feed 73 = .ok (.putfield 167, 3) := dk_181 0 167 (dk_at dksX2_feed_3 5 rfl rfl)
theorem dX2_feed_76 : decode cX2_feed 76 = .ok (.iinc 4 (-1), 3) := dk_132 4 255 (dk_at dksX2_feed_3 8 rfl rfl)
theorem dX2_feed_79 : decode cX2_feed 79 = .ok (.goto (-39), 3) := dk_167 255 217 (dk_at dksX2_feed_3 11 rfl rfl)
theorem dX2_feed_82 : decode cX2_feed 82 = .ok (.aload_n 0, 1) := dk_42 (dk_at dksX2_feed_3 14 rfl rfl)
theorem dX2_feed_83 : decode cX2_feed 83 = .ok (.getfield 167, 3) := dk_180 0 167 (dk_at dksX2_feed_3 15 rfl rfl)
theorem dX2_feed_86 : decode cX2_feed 86 = .ok (.ireturn, 1) := dk_172 (dk_at dksX2_feed_3 18 rfl rfl)
abbrev cX2_laws : ByteArray := prog_17_method_30_code
def yX2_laws : MethodName := ⟨RX2, "laws", "()I"⟩
def dkwX2_laws_8 : List UInt8 := [180, 0, 242, 172]
abbrev dktX2_laws_8 : List UInt8 := dkwX2_laws_8 ++ []
def dkwX2_laws_7 : List UInt8 := [180, 0, 197, 181, 0, 250, 18, 253, 42, 180, 0, 200, 100, 172, 42, 42, 180, 0, 236, 181, 0, 242, 42]
abbrev dktX2_laws_7 : List UInt8 := dkwX2_laws_7 ++ dktX2_laws_8
def dkwX2_laws_6 : List UInt8 := [7, 160, 0, 7, 4, 167, 0, 4, 3, 182, 0, 210, 167, 255, 142, 42, 180, 0, 197, 158, 0, 19, 42, 42]
abbrev dktX2_laws_6 : List UInt8 := dkwX2_laws_6 ++ dktX2_laws_7
def dkwX2_laws_5 : List UInt8 := [159, 0, 7, 4, 167, 0, 4, 3, 61, 167, 255, 225, 42, 180, 0, 197, 154, 0, 20, 42, 42, 180, 0, 185]
abbrev dktX2_laws_5 : List UInt8 := dkwX2_laws_5 ++ dktX2_laws_6
def dkwX2_laws_4 : List UInt8 := [28, 153, 0, 33, 42, 27, 182, 0, 247, 42, 180, 0, 197, 154, 0, 16, 42, 182, 0, 232, 18, 129]
abbrev dktX2_laws_4 : List UInt8 := dkwX2_laws_4 ++ dktX2_laws_5
def dkwX2_laws_3 : List UInt8 := [182, 0, 210, 42, 17, 3, 231, 182, 0, 239, 60, 42, 180, 0, 197, 154, 0, 7, 4, 167, 0, 4, 3, 61]
abbrev dktX2_laws_3 : List UInt8 := dkwX2_laws_3 ++ dktX2_laws_4
def dkwX2_laws_2 : List UInt8 := [180, 0, 185, 4, 159, 0, 105, 42, 42, 182, 0, 214, 20, 0, 245, 148, 154, 0, 7, 4, 167, 0, 4, 3]
abbrev dktX2_laws_2 : List UInt8 := dkwX2_laws_2 ++ dktX2_laws_3
def dkwX2_laws_1 : List UInt8 := [3, 181, 0, 197, 42, 42, 180, 0, 242, 181, 0, 236, 42, 182, 0, 207, 42, 180, 0, 197, 154, 0, 113, 42]
abbrev dktX2_laws_1 : List UInt8 := dkwX2_laws_1 ++ dktX2_laws_2
def dkwX2_laws_0 : List UInt8 := [42, 3, 181, 0, 1, 42, 42, 180, 0, 167, 181, 0, 173, 42, 3, 181, 0, 167, 42, 3, 181, 0, 176, 42]
abbrev dktX2_laws_0 : List UInt8 := dkwX2_laws_0 ++ dktX2_laws_1
theorem dksX2_laws_0 : cX2_laws.data.toList.drop 0 = dktX2_laws_0 := by decide +kernel
theorem dksX2_laws_1 : cX2_laws.data.toList.drop 24 = dktX2_laws_1 := dk_seg dksX2_laws_0 24 rfl rfl
theorem dksX2_laws_2 : cX2_laws.data.toList.drop 48 = dktX2_laws_2 := dk_seg dksX2_laws_1 24 rfl rfl
theorem dksX2_laws_3 : cX2_laws.data.toList.drop 72 = dktX2_laws_3 := dk_seg dksX2_laws_2 24 rfl rfl
theorem dksX2_laws_4 : cX2_laws.data.toList.drop 96 = dktX2_laws_4 := dk_seg dksX2_laws_3 24 rfl rfl
theorem dksX2_laws_5 : cX2_laws.data.toList.drop 118 = dktX2_laws_5 := dk_seg dksX2_laws_4 22 rfl rfl
theorem dksX2_laws_6 : cX2_laws.data.toList.drop 142 = dktX2_laws_6 := dk_seg dksX2_laws_5 24 rfl rfl
theorem dksX2_laws_7 : cX2_laws.data.toList.drop 166 = dktX2_laws_7 := dk_seg dksX2_laws_6 24 rfl rfl
theorem dksX2_laws_8 : cX2_laws.data.toList.drop 189 = dktX2_laws_8 := dk_seg dksX2_laws_7 23 rfl rfl
theorem dX2_laws_0 : decode cX2_laws 0 = .ok (.aload_n 0, 1) := dk_42 (dk_at dksX2_laws_0 0 rfl rfl)
theorem dX2_laws_1 : decode cX2_laws 1 = .ok (.iconst 0, 1) := dk_3 (dk_at dksX2_laws_0 1 rfl rfl)
theorem dX2_laws_2 : decode cX2_laws 2 = .ok (.putfield 1, 3) := dk_181 0 1 (dk_at dksX2_laws_0 2 rfl rfl)
theorem dX2_laws_5 : decode cX2_laws 5 = .ok (.aload_n 0, 1) := dk_42 (dk_at dksX2_laws_0 5 rfl rfl)
theorem dX2_laws_6 : decode cX2_laws 6 = .ok (.aload_n 0, 1) := dk_42 (dk_at dksX2_laws_0 6 rfl rfl)
theorem dX2_laws_7 : decode cX2_laws 7 = .ok (.getfield 167, 3) := dk_180 0 167 (dk_at dksX2_laws_0 7 rfl rfl)
theorem dX2_laws_10 : decode cX2_laws 10 = .ok (.putfield 173, 3) := dk_181 0 173 (dk_at dksX2_laws_0 10 rfl rfl)
theorem dX2_laws_13 : decode cX2_laws 13 = .ok (.aload_n 0, 1) := dk_42 (dk_at dksX2_laws_0 13 rfl rfl)
theorem dX2_laws_14 : decode cX2_laws 14 = .ok (.iconst 0, 1) := dk_3 (dk_at dksX2_laws_0 14 rfl rfl)
theorem dX2_laws_15 : decode cX2_laws 15 = .ok (.putfield 167, 3) := dk_181 0 167 (dk_at dksX2_laws_0 15 rfl rfl)
theorem dX2_laws_18 : decode cX2_laws 18 = .ok (.aload_n 0, 1) := dk_42 (dk_at dksX2_laws_0 18 rfl rfl)
theorem dX2_laws_19 : decode cX2_laws 19 = .ok (.iconst 0, 1) := dk_3 (dk_at dksX2_laws_0 19 rfl rfl)
theorem dX2_laws_20 : decode cX2_laws 20 = .ok (.putfield 176, 3) := dk_181 0 176 (dk_at dksX2_laws_0 20 rfl rfl)
theorem dX2_laws_23 : decode cX2_laws 23 = .ok (.aload_n 0, 1) := dk_42 (dk_at dksX2_laws_0 23 rfl rfl)
theorem dX2_laws_24 : decode cX2_laws 24 = .ok (.iconst 0, 1) := dk_3 (dk_at dksX2_laws_1 0 rfl rfl)
theorem dX2_laws_25 : decode cX2_laws 25 = .ok (.putfield 197, 3) := dk_181 0 197 (dk_at dksX2_laws_1 1 rfl rfl)
theorem dX2_laws_28 : decode cX2_laws 28 = .ok (.aload_n 0, 1) := dk_42 (dk_at dksX2_laws_1 4 rfl rfl)
theorem dX2_laws_29 : decode cX2_laws 29 = .ok (.aload_n 0, 1) := dk_42 (dk_at dksX2_laws_1 5 rfl rfl)
theorem dX2_laws_30 : decode cX2_laws 30 = .ok (.getfield 242, 3) := dk_180 0 242 (dk_at dksX2_laws_1 6 rfl rfl)
theorem dX2_laws_33 : decode cX2_laws 33 = .ok (.putfield 236, 3) := dk_181 0 236 (dk_at dksX2_laws_1 9 rfl rfl)
theorem dX2_laws_36 : decode cX2_laws 36 = .ok (.aload_n 0, 1) := dk_42 (dk_at dksX2_laws_1 12 rfl rfl)
theorem dX2_laws_37 : decode cX2_laws 37 = .ok (.invokevirtual 207, 3) := dk_182 0 207 (dk_at dksX2_laws_1 13 rfl rfl)
theorem dX2_laws_40 : decode cX2_laws 40 = .ok (.aload_n 0, 1) := dk_42 (dk_at dksX2_laws_1 16 rfl rfl)
theorem dX2_laws_41 : decode cX2_laws 41 = .ok (.getfield 197, 3) := dk_180 0 197 (dk_at dksX2_laws_1 17 rfl rfl)
theorem dX2_laws_44 : decode cX2_laws 44 = .ok (.ifCond .ne 113, 3) := dk_154 0 113 (dk_at dksX2_laws_1 20 rfl rfl)
theorem dX2_laws_47 : decode cX2_laws 47 = .ok (.aload_n 0, 1) := dk_42 (dk_at dksX2_laws_1 23 rfl rfl)
theorem dX2_laws_48 : decode cX2_laws 48 = .ok (.getfield 185, 3) := dk_180 0 185 (dk_at dksX2_laws_2 0 rfl rfl)
theorem dX2_laws_51 : decode cX2_laws 51 = .ok (.iconst 1, 1) := dk_4 (dk_at dksX2_laws_2 3 rfl rfl)
theorem dX2_laws_52 : decode cX2_laws 52 = .ok (.if_icmp .eq 105, 3) := dk_159 0 105 (dk_at dksX2_laws_2 4 rfl rfl)
theorem dX2_laws_55 : decode cX2_laws 55 = .ok (.aload_n 0, 1) := dk_42 (dk_at dksX2_laws_2 7 rfl rfl)
theorem dX2_laws_56 : decode cX2_laws 56 = .ok (.aload_n 0, 1) := dk_42 (dk_at dksX2_laws_2 8 rfl rfl)
theorem dX2_laws_57 : decode cX2_laws 57 = .ok (.invokevirtual 214, 3) := dk_182 0 214 (dk_at dksX2_laws_2 9 rfl rfl)
theorem dX2_laws_60 : decode cX2_laws 60 = .ok (.ldc2_w 245, 3) := dk_20 0 245 (dk_at dksX2_laws_2 12 rfl rfl)
theorem dX2_laws_63 : decode cX2_laws 63 = .ok (.lcmp, 1) := dk_148 (dk_at dksX2_laws_2 15 rfl rfl)
theorem dX2_laws_64 : decode cX2_laws 64 = .ok (.ifCond .ne 7, 3) := dk_154 0 7 (dk_at dksX2_laws_2 16 rfl rfl)
theorem dX2_laws_67 : decode cX2_laws 67 = .ok (.iconst 1, 1) := dk_4 (dk_at dksX2_laws_2 19 rfl rfl)
theorem dX2_laws_68 : decode cX2_laws 68 = .ok (.goto 4, 3) := dk_167 0 4 (dk_at dksX2_laws_2 20 rfl rfl)
theorem dX2_laws_71 : decode cX2_laws 71 = .ok (.iconst 0, 1) := dk_3 (dk_at dksX2_laws_2 23 rfl rfl)
theorem dX2_laws_72 : decode cX2_laws 72 = .ok (.invokevirtual 210, 3) := dk_182 0 210 (dk_at dksX2_laws_3 0 rfl rfl)
theorem dX2_laws_75 : decode cX2_laws 75 = .ok (.aload_n 0, 1) := dk_42 (dk_at dksX2_laws_3 3 rfl rfl)
theorem dX2_laws_76 : decode cX2_laws 76 = .ok (.sipush 999, 3) := dk_17 3 231 (dk_at dksX2_laws_3 4 rfl rfl)
theorem dX2_laws_79 : decode cX2_laws 79 = .ok (.invokevirtual 239, 3) := dk_182 0 239 (dk_at dksX2_laws_3 7 rfl rfl)
theorem dX2_laws_82 : decode cX2_laws 82 = .ok (.istore_n 1, 1) := dk_60 (dk_at dksX2_laws_3 10 rfl rfl)
theorem dX2_laws_83 : decode cX2_laws 83 = .ok (.aload_n 0, 1) := dk_42 (dk_at dksX2_laws_3 11 rfl rfl)
theorem dX2_laws_84 : decode cX2_laws 84 = .ok (.getfield 197, 3) := dk_180 0 197 (dk_at dksX2_laws_3 12 rfl rfl)
theorem dX2_laws_87 : decode cX2_laws 87 = .ok (.ifCond .ne 7, 3) := dk_154 0 7 (dk_at dksX2_laws_3 15 rfl rfl)
theorem dX2_laws_90 : decode cX2_laws 90 = .ok (.iconst 1, 1) := dk_4 (dk_at dksX2_laws_3 18 rfl rfl)
theorem dX2_laws_91 : decode cX2_laws 91 = .ok (.goto 4, 3) := dk_167 0 4 (dk_at dksX2_laws_3 19 rfl rfl)
theorem dX2_laws_94 : decode cX2_laws 94 = .ok (.iconst 0, 1) := dk_3 (dk_at dksX2_laws_3 22 rfl rfl)
theorem dX2_laws_95 : decode cX2_laws 95 = .ok (.istore_n 2, 1) := dk_61 (dk_at dksX2_laws_3 23 rfl rfl)
theorem dX2_laws_96 : decode cX2_laws 96 = .ok (.iload_n 2, 1) := dk_28 (dk_at dksX2_laws_4 0 rfl rfl)
theorem dX2_laws_97 : decode cX2_laws 97 = .ok (.ifCond .eq 33, 3) := dk_153 0 33 (dk_at dksX2_laws_4 1 rfl rfl)
theorem dX2_laws_100 : decode cX2_laws 100 = .ok (.aload_n 0, 1) := dk_42 (dk_at dksX2_laws_4 4 rfl rfl)
theorem dX2_laws_101 : decode cX2_laws 101 = .ok (.iload_n 1, 1) := dk_27 (dk_at dksX2_laws_4 5 rfl rfl)
theorem dX2_laws_102 : decode cX2_laws 102 = .ok (.invokevirtual 247, 3) := dk_182 0 247 (dk_at dksX2_laws_4 6 rfl rfl)
theorem dX2_laws_105 : decode cX2_laws 105 = .ok (.aload_n 0, 1) := dk_42 (dk_at dksX2_laws_4 9 rfl rfl)
theorem dX2_laws_106 : decode cX2_laws 106 = .ok (.getfield 197, 3) := dk_180 0 197 (dk_at dksX2_laws_4 10 rfl rfl)
theorem dX2_laws_109 : decode cX2_laws 109 = .ok (.ifCond .ne 16, 3) := dk_154 0 16 (dk_at dksX2_laws_4 13 rfl rfl)
theorem dX2_laws_112 : decode cX2_laws 112 = .ok (.aload_n 0, 1) := dk_42 (dk_at dksX2_laws_4 16 rfl rfl)
theorem dX2_laws_113 : decode cX2_laws 113 = .ok (.invokevirtual 232, 3) := dk_182 0 232 (dk_at dksX2_laws_4 17 rfl rfl)
theorem dX2_laws_116 : decode cX2_laws 116 = .ok (.ldc 129, 2) := dk_18 129 (dk_at dksX2_laws_4 20 rfl rfl)
theorem dX2_laws_118 : decode cX2_laws 118 = .ok (.if_icmp .eq 7, 3) := dk_159 0 7 (dk_at dksX2_laws_5 0 rfl rfl)
theorem dX2_laws_121 : decode cX2_laws 121 = .ok (.iconst 1, 1) := dk_4 (dk_at dksX2_laws_5 3 rfl rfl)
theorem dX2_laws_122 : decode cX2_laws 122 = .ok (.goto 4, 3) := dk_167 0 4 (dk_at dksX2_laws_5 4 rfl rfl)
theorem dX2_laws_125 : decode cX2_laws 125 = .ok (.iconst 0, 1) := dk_3 (dk_at dksX2_laws_5 7 rfl rfl)
theorem dX2_laws_126 : decode cX2_laws 126 = .ok (.istore_n 2, 1) := dk_61 (dk_at dksX2_laws_5 8 rfl rfl)
theorem dX2_laws_127 : decode cX2_laws 127 = .ok (.goto (-31), 3) := dk_167 255 225 (dk_at dksX2_laws_5 9 rfl rfl)
theorem dX2_laws_130 : decode cX2_laws 130 = .ok (.aload_n 0, 1) := dk_42 (dk_at dksX2_laws_5 12 rfl rfl)
theorem dX2_laws_131 : decode cX2_laws 131 = .ok (.getfield 197, 3) := dk_180 0 197 (dk_at dksX2_laws_5 13 rfl rfl)
theorem dX2_laws_134 : decode cX2_laws 134 = .ok (.ifCond .ne 20, 3) := dk_154 0 20 (dk_at dksX2_laws_5 16 rfl rfl)
theorem dX2_laws_137 : decode cX2_laws 137 = .ok (.aload_n 0, 1) := dk_42 (dk_at dksX2_laws_5 19 rfl rfl)
theorem dX2_laws_138 : decode cX2_laws 138 = .ok (.aload_n 0, 1) := dk_42 (dk_at dksX2_laws_5 20 rfl rfl)
theorem dX2_laws_139 : decode cX2_laws 139 = .ok (.getfield 185, 3) := dk_180 0 185 (dk_at dksX2_laws_5 21 rfl rfl)
theorem dX2_laws_142 : decode cX2_laws 142 = .ok (.iconst 4, 1) := dk_7 (dk_at dksX2_laws_6 0 rfl rfl)
theorem dX2_laws_143 : decode cX2_laws 143 = .ok (.if_icmp .ne 7, 3) := dk_160 0 7 (dk_at dksX2_laws_6 1 rfl rfl)
theorem dX2_laws_146 : decode cX2_laws 146 = .ok (.iconst 1, 1) := dk_4 (dk_at dksX2_laws_6 4 rfl rfl)
theorem dX2_laws_147 : decode cX2_laws 147 = .ok (.goto 4, 3) := dk_167 0 4 (dk_at dksX2_laws_6 5 rfl rfl)
theorem dX2_laws_150 : decode cX2_laws 150 = .ok (.iconst 0, 1) := dk_3 (dk_at dksX2_laws_6 8 rfl rfl)
theorem dX2_laws_151 : decode cX2_laws 151 = .ok (.invokevirtual 210, 3) := dk_182 0 210 (dk_at dksX2_laws_6 9 rfl rfl)
theorem dX2_laws_154 : decode cX2_laws 154 = .ok (.goto (-114), 3) := dk_167 255 142 (dk_at dksX2_laws_6 12 rfl rfl)
theorem dX2_laws_157 : decode cX2_laws 157 = .ok (.aload_n 0, 1) := dk_42 (dk_at dksX2_laws_6 15 rfl rfl)
theorem dX2_laws_158 : decode cX2_laws 158 = .ok (.getfield 197, 3) := dk_180 0 197 (dk_at dksX2_laws_6 16 rfl rfl)
theorem dX2_laws_161 : decode cX2_laws 161 = .ok (.ifCond .le 19, 3) := dk_158 0 19 (dk_at dksX2_laws_6 19 rfl rfl)
theorem dX2_laws_164 : decode cX2_laws 164 = .ok (.aload_n 0, 1) := dk_42 (dk_at dksX2_laws_6 22 rfl rfl)
theorem dX2_laws_165 : decode cX2_laws 165 = .ok (.aload_n 0, 1) := dk_42 (dk_at dksX2_laws_6 23 rfl rfl)
theorem dX2_laws_166 : decode cX2_laws 166 = .ok (.getfield 197, 3) := dk_180 0 197 (dk_at dksX2_laws_7 0 rfl rfl)
theorem dX2_laws_169 : decode cX2_laws 169 = .ok (.putfield 250, 3) := dk_181 0 250 (dk_at dksX2_laws_7 3 rfl rfl)
theorem dX2_laws_172 : decode cX2_laws 172 = .ok (.ldc 253, 2) := dk_18 253 (dk_at dksX2_laws_7 6 rfl rfl)
theorem dX2_laws_174 : decode cX2_laws 174 = .ok (.aload_n 0, 1) := dk_42 (dk_at dksX2_laws_7 8 rfl rfl)
theorem dX2_laws_175 : decode cX2_laws 175 = .ok (.getfield 200, 3) := dk_180 0 200 (dk_at dksX2_laws_7 9 rfl rfl)
theorem dX2_laws_178 : decode cX2_laws 178 = .ok (.isub, 1) := dk_100 (dk_at dksX2_laws_7 12 rfl rfl)
theorem dX2_laws_179 : decode cX2_laws 179 = .ok (.ireturn, 1) := dk_172 (dk_at dksX2_laws_7 13 rfl rfl)
theorem dX2_laws_180 : decode cX2_laws 180 = .ok (.aload_n 0, 1) := dk_42 (dk_at dksX2_laws_7 14 rfl rfl)
theorem dX2_laws_181 : decode cX2_laws 181 = .ok (.aload_n 0, 1) := dk_42 (dk_at dksX2_laws_7 15 rfl rfl)
theorem dX2_laws_182 : decode cX2_laws 182 = .ok (.getfield 236, 3) := dk_180 0 236 (dk_at dksX2_laws_7 16 rfl rfl)
theorem dX2_laws_185 : decode cX2_laws 185 = .ok (.putfield 242, 3) := dk_181 0 242 (dk_at dksX2_laws_7 19 rfl rfl)
theorem dX2_laws_188 : decode cX2_laws 188 = .ok (.aload_n 0, 1) := dk_42 (dk_at dksX2_laws_7 22 rfl rfl)
theorem dX2_laws_189 : decode cX2_laws 189 = .ok (.getfield 242, 3) := dk_180 0 242 (dk_at dksX2_laws_8 0 rfl rfl)
theorem dX2_laws_192 : decode cX2_laws 192 = .ok (.ireturn, 1) := dk_172 (dk_at dksX2_laws_8 3 rfl rfl)
abbrev cX2_step : ByteArray := prog_17_method_23_code
def yX2_step : MethodName := ⟨RX2, "step", "()V"⟩
def dkwX2_step_8 : List UInt8 := [7, 167, 0, 4, 3, 181, 0, 185, 42, 42, 180, 0, 176, 181, 0, 194, 177]
abbrev dktX2_step_8 : List UInt8 := dkwX2_step_8 ++ []
def dkwX2_step_7 : List UInt8 := [6, 181, 0, 185, 167, 0, 28, 42, 89, 180, 0, 176, 4, 96, 181, 0, 176, 42, 27, 16, 59, 160, 0, 7]
abbrev dktX2_step_7 : List UInt8 := dkwX2_step_7 ++ dktX2_step_8
def dkwX2_step_6 : List UInt8 := [181, 0, 176, 167, 255, 232, 42, 42, 180, 0, 176, 42, 180, 0, 182, 100, 7, 164, 0, 7, 3, 167, 0, 4]
abbrev dktX2_step_6 : List UInt8 := dkwX2_step_6 ++ dktX2_step_7
def dkwX2_step_5 : List UInt8 := [153, 0, 55, 42, 42, 180, 0, 176, 182, 0, 179, 184, 0, 191, 153, 0, 16, 42, 89, 180, 0, 176, 4, 96]
abbrev dktX2_step_5 : List UInt8 := dkwX2_step_5 ++ dktX2_step_6
def dkwX2_step_4 : List UInt8 := [180, 0, 176, 4, 96, 181, 0, 176, 167, 255, 232, 42, 5, 181, 0, 185, 167, 0, 87, 27, 184, 0, 191]
abbrev dktX2_step_4 : List UInt8 := dkwX2_step_4 ++ dktX2_step_5
def dkwX2_step_3 : List UInt8 := [184, 0, 188, 153, 0, 38, 42, 42, 180, 0, 176, 182, 0, 179, 184, 0, 188, 153, 0, 16, 42, 89]
abbrev dktX2_step_3 : List UInt8 := dkwX2_step_3 ++ dktX2_step_4
def dkwX2_step_2 : List UInt8 := [42, 42, 180, 0, 176, 182, 0, 179, 60, 27, 18, 129, 160, 0, 11, 42, 4, 181, 0, 185, 167, 0, 129, 27]
abbrev dktX2_step_2 : List UInt8 := dkwX2_step_2 ++ dktX2_step_3
def dkwX2_step_1 : List UInt8 := [160, 0, 16, 42, 89, 180, 0, 176, 4, 96, 181, 0, 176, 167, 255, 220, 42, 42, 180, 0, 176, 181, 0, 182]
abbrev dktX2_step_1 : List UInt8 := dkwX2_step_1 ++ dktX2_step_2
def dkwX2_step_0 : List UInt8 := [42, 42, 180, 0, 176, 182, 0, 179, 16, 32, 159, 0, 16, 42, 42, 180, 0, 176, 182, 0, 179, 16, 10]
abbrev dktX2_step_0 : List UInt8 := dkwX2_step_0 ++ dktX2_step_1
theorem dksX2_step_0 : cX2_step.data.toList.drop 0 = dktX2_step_0 := by decide +kernel
theorem dksX2_step_1 : cX2_step.data.toList.drop 23 = dktX2_step_1 := dk_seg dksX2_step_0 23 rfl rfl
theorem dksX2_step_2 : cX2_step.data.toList.drop 47 = dktX2_step_2 := dk_seg dksX2_step_1 24 rfl rfl
theorem dksX2_step_3 : cX2_step.data.toList.drop 71 = dktX2_step_3 := dk_seg dksX2_step_2 24 rfl rfl
theorem dksX2_step_4 : cX2_step.data.toList.drop 93 = dktX2_step_4 := dk_seg dksX2_step_3 22 rfl rfl
theorem dksX2_step_5 : cX2_step.data.toList.drop 116 = dktX2_step_5 := dk_seg dksX2_step_4 23 rfl rfl
theorem dksX2_step_6 : cX2_step.data.toList.drop 140 = dktX2_step_6 := dk_seg dksX2_step_5 24 rfl rfl
theorem dksX2_step_7 : cX2_step.data.toList.drop 164 = dktX2_step_7 := dk_seg dksX2_step_6 24 rfl rfl
theorem dksX2_step_8 : cX2_step.data.toList.drop 188 = dktX2_step_8 := dk_seg dksX2_step_7 24 rfl rfl
theorem dX2_step_0 : decode cX2_step 0 = .ok (.aload_n 0, 1) := dk_42 (dk_at dksX2_step_0 0 rfl rfl)
theorem dX2_step_1 : decode cX2_step 1 = .ok (.aload_n 0, 1) := dk_42 (dk_at dksX2_step_0 1 rfl rfl)
theorem dX2_step_2 : decode cX2_step 2 = .ok (.getfield 176, 3) := dk_180 0 176 (dk_at dksX2_step_0 2 rfl rfl)
theorem dX2_step_5 : decode cX2_step 5 = .ok (.invokevirtual 179, 3) := dk_182 0 179 (dk_at dksX2_step_0 5 rfl rfl)
theorem dX2_step_8 : decode cX2_step 8 = .ok (.bipush 32, 2) := dk_16 32 (dk_at dksX2_step_0 8 rfl rfl)
theorem dX2_step_10 : decode cX2_step 10 = .ok (.if_icmp .eq 16, 3) := dk_159 0 16 (dk_at dksX2_step_0 10 rfl rfl)
theorem dX2_step_13 : decode cX2_step 13 = .ok (.aload_n 0, 1) := dk_42 (dk_at dksX2_step_0 13 rfl rfl)
theorem dX2_step_14 : decode cX2_step 14 = .ok (.aload_n 0, 1) := dk_42 (dk_at dksX2_step_0 14 rfl rfl)
theorem dX2_step_15 : decode cX2_step 15 = .ok (.getfield 176, 3) := dk_180 0 176 (dk_at dksX2_step_0 15 rfl rfl)
theorem dX2_step_18 : decode cX2_step 18 = .ok (.invokevirtual 179, 3) := dk_182 0 179 (dk_at dksX2_step_0 18 rfl rfl)
theorem dX2_step_21 : decode cX2_step 21 = .ok (.bipush 10, 2) := dk_16 10 (dk_at dksX2_step_0 21 rfl rfl)
theorem dX2_step_23 : decode cX2_step 23 = .ok (.if_icmp .ne 16, 3) := dk_160 0 16 (dk_at dksX2_step_1 0 rfl rfl)
theorem dX2_step_26 : decode cX2_step 26 = .ok (.aload_n 0, 1) := dk_42 (dk_at dksX2_step_1 3 rfl rfl)
theorem dX2_step_27 : decode cX2_step 27 = .ok (.dup, 1) := dk_89 (dk_at dksX2_step_1 4 rfl rfl)
theorem dX2_step_28 : decode cX2_step 28 = .ok (.getfield 176, 3) := dk_180 0 176 (dk_at dksX2_step_1 5 rfl rfl)
theorem dX2_step_31 : decode cX2_step 31 = .ok (.iconst 1, 1) := dk_4 (dk_at dksX2_step_1 8 rfl rfl)
theorem dX2_step_32 : decode cX2_step 32 = .ok (.iadd, 1) := dk_96 (dk_at dksX2_step_1 9 rfl rfl)
theorem dX2_step_33 : decode cX2_step 33 = .ok (.putfield 176, 3) := dk_181 0 176 (dk_at dksX2_step_1 10 rfl rfl)
theorem dX2_step_36 : decode cX2_step 36 = .ok (.goto (-36), 3) := dk_167 255 220 (dk_at dksX2_step_1 13 rfl rfl)
theorem dX2_step_39 : decode cX2_step 39 = .ok (.aload_n 0, 1) := dk_42 (dk_at dksX2_step_1 16 rfl rfl)
theorem dX2_step_40 : decode cX2_step 40 = .ok (.aload_n 0, 1) := dk_42 (dk_at dksX2_step_1 17 rfl rfl)
theorem dX2_step_41 : decode cX2_step 41 = .ok (.getfield 176, 3) := dk_180 0 176 (dk_at dksX2_step_1 18 rfl rfl)
theorem dX2_step_44 : decode cX2_step 44 = .ok (.putfield 182, 3) := dk_181 0 182 (dk_at dksX2_step_1 21 rfl rfl)
theorem dX2_step_47 : decode cX2_step 47 = .ok (.aload_n 0, 1) := dk_42 (dk_at dksX2_step_2 0 rfl rfl)
theorem dX2_step_48 : decode cX2_step 48 = .ok (.aload_n 0, 1) := dk_42 (dk_at dksX2_step_2 1 rfl rfl)
theorem dX2_step_49 : decode cX2_step 49 = .ok (.getfield 176, 3) := dk_180 0 176 (dk_at dksX2_step_2 2 rfl rfl)
theorem dX2_step_52 : decode cX2_step 52 = .ok (.invokevirtual 179, 3) := dk_182 0 179 (dk_at dksX2_step_2 5 rfl rfl)
theorem dX2_step_55 : decode cX2_step 55 = .ok (.istore_n 1, 1) := dk_60 (dk_at dksX2_step_2 8 rfl rfl)
theorem dX2_step_56 : decode cX2_step 56 = .ok (.iload_n 1, 1) := dk_27 (dk_at dksX2_step_2 9 rfl rfl)
theorem dX2_step_57 : decode cX2_step 57 = .ok (.ldc 129, 2) := dk_18 129 (dk_at dksX2_step_2 10 rfl rfl)
theorem dX2_step_59 : decode cX2_step 59 = .ok (.if_icmp .ne 11, 3) := dk_160 0 11 (dk_at dksX2_step_2 12 rfl rfl)
theorem dX2_step_62 : decode cX2_step 62 = .ok (.aload_n 0, 1) := dk_42 (dk_at dksX2_step_2 15 rfl rfl)
theorem dX2_step_63 : decode cX2_step 63 = .ok (.iconst 1, 1) := dk_4 (dk_at dksX2_step_2 16 rfl rfl)
theorem dX2_step_64 : decode cX2_step 64 = .ok (.putfield 185, 3) := dk_181 0 185 (dk_at dksX2_step_2 17 rfl rfl)
theorem dX2_step_67 : decode cX2_step 67 = .ok (.goto 129, 3) := dk_167 0 129 (dk_at dksX2_step_2 20 rfl rfl)
theorem dX2_step_70 : decode cX2_step 70 = .ok (.iload_n 1, 1) := dk_27 (dk_at dksX2_step_2 23 rfl rfl)
theorem dX2_step_71 : decode cX2_step 71 = .ok (.invokestatic 188, 3) := dk_184 0 188 (dk_at dksX2_step_3 0 rfl rfl)
theorem dX2_step_74 : decode cX2_step 74 = .ok (.ifCond .eq 38, 3) := dk_153 0 38 (dk_at dksX2_step_3 3 rfl rfl)
theorem dX2_step_77 : decode cX2_step 77 = .ok (.aload_n 0, 1) := dk_42 (dk_at dksX2_step_3 6 rfl rfl)
theorem dX2_step_78 : decode cX2_step 78 = .ok (.aload_n 0, 1) := dk_42 (dk_at dksX2_step_3 7 rfl rfl)
theorem dX2_step_79 : decode cX2_step 79 = .ok (.getfield 176, 3) := dk_180 0 176 (dk_at dksX2_step_3 8 rfl rfl)
theorem dX2_step_82 : decode cX2_step 82 = .ok (.invokevirtual 179, 3) := dk_182 0 179 (dk_at dksX2_step_3 11 rfl rfl)
theorem dX2_step_85 : decode cX2_step 85 = .ok (.invokestatic 188, 3) := dk_184 0 188 (dk_at dksX2_step_3 14 rfl rfl)
theorem dX2_step_88 : decode cX2_step 88 = .ok (.ifCond .eq 16, 3) := dk_153 0 16 (dk_at dksX2_step_3 17 rfl rfl)
theorem dX2_step_91 : decode cX2_step 91 = .ok (.aload_n 0, 1) := dk_42 (dk_at dksX2_step_3 20 rfl rfl)
theorem dX2_step_92 : decode cX2_step 92 = .ok (.dup, 1) := dk_89 (dk_at dksX2_step_3 21 rfl rfl)
theorem dX2_step_93 : decode cX2_step 93 = .ok (.getfield 176, 3) := dk_180 0 176 (dk_at dksX2_step_4 0 rfl rfl)
theorem dX2_step_96 : decode cX2_step 96 = .ok (.iconst 1, 1) := dk_4 (dk_at dksX2_step_4 3 rfl rfl)
theorem dX2_step_97 : decode cX2_step 97 = .ok (.iadd, 1) := dk_96 (dk_at dksX2_step_4 4 rfl rfl)
theorem dX2_step_98 : decode cX2_step 98 = .ok (.putfield 176, 3) := dk_181 0 176 (dk_at dksX2_step_4 5 rfl rfl)
theorem dX2_step_101 : decode cX2_step 101 = .ok (.goto (-24), 3) := dk_167 255 232 (dk_at dksX2_step_4 8 rfl rfl)
theorem dX2_step_104 : decode cX2_step 104 = .ok (.aload_n 0, 1) := dk_42 (dk_at dksX2_step_4 11 rfl rfl)
theorem dX2_step_105 : decode cX2_step 105 = .ok (.iconst 2, 1) := dk_5 (dk_at dksX2_step_4 12 rfl rfl)
theorem dX2_step_106 : decode cX2_step 106 = .ok (.putfield 185, 3) := dk_181 0 185 (dk_at dksX2_step_4 13 rfl rfl)
theorem dX2_step_109 : decode cX2_step 109 = .ok (.goto 87, 3) := dk_167 0 87 (dk_at dksX2_step_4 16 rfl rfl)
theorem dX2_step_112 : decode cX2_step 112 = .ok (.iload_n 1, 1) := dk_27 (dk_at dksX2_step_4 19 rfl rfl)
theorem dX2_step_113 : decode cX2_step 113 = .ok (.invokestatic 191, 3) := dk_184 0 191 (dk_at dksX2_step_4 20 rfl rfl)
theorem dX2_step_116 : decode cX2_step 116 = .ok (.ifCond .eq 55, 3) := dk_153 0 55 (dk_at dksX2_step_5 0 rfl rfl)
theorem dX2_step_119 : decode cX2_step 119 = .ok (.aload_n 0, 1) := dk_42 (dk_at dksX2_step_5 3 rfl rfl)
theorem dX2_step_120 : decode cX2_step 120 = .ok (.aload_n 0, 1) := dk_42 (dk_at dksX2_step_5 4 rfl rfl)
theorem dX2_step_121 : decode cX2_step 121 = .ok (.getfield 176, 3) := dk_180 0 176 (dk_at dksX2_step_5 5 rfl rfl)
theorem dX2_step_124 : decode cX2_step 124 = .ok (.invokevirtual 179, 3) := dk_182 0 179 (dk_at dksX2_step_5 8 rfl rfl)
theorem dX2_step_127 : decode cX2_step 127 = .ok (.invokestatic 191, 3) := dk_184 0 191 (dk_at dksX2_step_5 11 rfl rfl)
theorem dX2_step_130 : decode cX2_step 130 = .ok (.ifCond .eq 16, 3) := dk_153 0 16 (dk_at dksX2_step_5 14 rfl rfl)
theorem dX2_step_133 : decode cX2_step 133 = .ok (.aload_n 0, 1) := dk_42 (dk_at dksX2_step_5 17 rfl rfl)
theorem dX2_step_134 : decode cX2_step 134 = .ok (.dup, 1) := dk_89 (dk_at dksX2_step_5 18 rfl rfl)
theorem dX2_step_135 : decode cX2_step 135 = .ok (.getfield 176, 3) := dk_180 0 176 (dk_at dksX2_step_5 19 rfl rfl)
theorem dX2_step_138 : decode cX2_step 138 = .ok (.iconst 1, 1) := dk_4 (dk_at dksX2_step_5 22 rfl rfl)
theorem dX2_step_139 : decode cX2_step 139 = .ok (.iadd, 1) := dk_96 (dk_at dksX2_step_5 23 rfl rfl)
theorem dX2_step_140 : decode cX2_step 140 = .ok (.putfield 176, 3) := dk_181 0 176 (dk_at dksX2_step_6 0 rfl rfl)
theorem dX2_step_143 : decode cX2_step 143 = .ok (.goto (-24), 3) := dk_167 255 232 (dk_at dksX2_step_6 3 rfl rfl)
theorem dX2_step_146 : decode cX2_step 146 = .ok (.aload_n 0, 1) := dk_42 (dk_at dksX2_step_6 6 rfl rfl)
theorem dX2_step_147 : decode cX2_step 147 = .ok (.aload_n 0, 1) := dk_42 (dk_at dksX2_step_6 7 rfl rfl)
theorem dX2_step_148 : decode cX2_step 148 = .ok (.getfield 176, 3) := dk_180 0 176 (dk_at dksX2_step_6 8 rfl rfl)
theorem dX2_step_151 : decode cX2_step 151 = .ok (.aload_n 0, 1) := dk_42 (dk_at dksX2_step_6 11 rfl rfl)
theorem dX2_step_152 : decode cX2_step 152 = .ok (.getfield 182, 3) := dk_180 0 182 (dk_at dksX2_step_6 12 rfl rfl)
theorem dX2_step_155 : decode cX2_step 155 = .ok (.isub, 1) := dk_100 (dk_at dksX2_step_6 15 rfl rfl)
theorem dX2_step_156 : decode cX2_step 156 = .ok (.iconst 4, 1) := dk_7 (dk_at dksX2_step_6 16 rfl rfl)
theorem dX2_step_157 : decode cX2_step 157 = .ok (.if_icmp .le 7, 3) := dk_164 0 7 (dk_at dksX2_step_6 17 rfl rfl)
theorem dX2_step_160 : decode cX2_step 160 = .ok (.iconst 0, 1) := dk_3 (dk_at dksX2_step_6 20 rfl rfl)
theorem dX2_step_161 : decode cX2_step 161 = .ok (.goto 4, 3) := dk_167 0 4 (dk_at dksX2_step_6 21 rfl rfl)
theorem dX2_step_164 : decode cX2_step 164 = .ok (.iconst 3, 1) := dk_6 (dk_at dksX2_step_7 0 rfl rfl)
theorem dX2_step_165 : decode cX2_step 165 = .ok (.putfield 185, 3) := dk_181 0 185 (dk_at dksX2_step_7 1 rfl rfl)
theorem dX2_step_168 : decode cX2_step 168 = .ok (.goto 28, 3) := dk_167 0 28 (dk_at dksX2_step_7 4 rfl rfl)
theorem dX2_step_171 : decode cX2_step 171 = .ok (.aload_n 0, 1) := dk_42 (dk_at dksX2_step_7 7 rfl rfl)
theorem dX2_step_172 : decode cX2_step 172 = .ok (.dup, 1) := dk_89 (dk_at dksX2_step_7 8 rfl rfl)
theorem dX2_step_173 : decode cX2_step 173 = .ok (.getfield 176, 3) := dk_180 0 176 (dk_at dksX2_step_7 9 rfl rfl)
theorem dX2_step_176 : decode cX2_step 176 = .ok (.iconst 1, 1) := dk_4 (dk_at dksX2_step_7 12 rfl rfl)
theorem dX2_step_177 : decode cX2_step 177 = .ok (.iadd, 1) := dk_96 (dk_at dksX2_step_7 13 rfl rfl)
theorem dX2_step_178 : decode cX2_step 178 = .ok (.putfield 176, 3) := dk_181 0 176 (dk_at dksX2_step_7 14 rfl rfl)
theorem dX2_step_181 : decode cX2_step 181 = .ok (.aload_n 0, 1) := dk_42 (dk_at dksX2_step_7 17 rfl rfl)
theorem dX2_step_182 : decode cX2_step 182 = .ok (.iload_n 1, 1) := dk_27 (dk_at dksX2_step_7 18 rfl rfl)
theorem dX2_step_183 : decode cX2_step 183 = .ok (.bipush 59, 2) := dk_16 59 (dk_at dksX2_step_7 19 rfl rfl)
theorem dX2_step_185 : decode cX2_step 185 = .ok (.if_icmp .ne 7, 3) := dk_160 0 7 (dk_at dksX2_step_7 21 rfl rfl)
theorem dX2_step_188 : decode cX2_step 188 = .ok (.iconst 4, 1) := dk_7 (dk_at dksX2_step_8 0 rfl rfl)
theorem dX2_step_189 : decode cX2_step 189 = .ok (.goto 4, 3) := dk_167 0 4 (dk_at dksX2_step_8 1 rfl rfl)
theorem dX2_step_192 : decode cX2_step 192 = .ok (.iconst 0, 1) := dk_3 (dk_at dksX2_step_8 4 rfl rfl)
theorem dX2_step_193 : decode cX2_step 193 = .ok (.putfield 185, 3) := dk_181 0 185 (dk_at dksX2_step_8 5 rfl rfl)
theorem dX2_step_196 : decode cX2_step 196 = .ok (.aload_n 0, 1) := dk_42 (dk_at dksX2_step_8 8 rfl rfl)
theorem dX2_step_197 : decode cX2_step 197 = .ok (.aload_n 0, 1) := dk_42 (dk_at dksX2_step_8 9 rfl rfl)
theorem dX2_step_198 : decode cX2_step 198 = .ok (.getfield 176, 3) := dk_180 0 176 (dk_at dksX2_step_8 10 rfl rfl)
theorem dX2_step_201 : decode cX2_step 201 = .ok (.putfield 194, 3) := dk_181 0 194 (dk_at dksX2_step_8 13 rfl rfl)
theorem dX2_step_204 : decode cX2_step 204 = .ok (.return_, 1) := dk_177 (dk_at dksX2_step_8 16 rfl rfl)
abbrev cX2_byteAt : ByteArray := prog_17_method_20_code
def yX2_byteAt : MethodName := ⟨RX2, "byteAt", "(I)I"⟩
def dkwX2_byteAt_0 : List UInt8 := [27, 42, 180, 0, 173, 162, 0, 12, 42, 180, 0, 54, 27, 46, 167, 0, 5, 18, 129, 172]
abbrev dktX2_byteAt_0 : List UInt8 := dkwX2_byteAt_0 ++ []
theorem dksX2_byteAt_0 : cX2_byteAt.data.toList.drop 0 = dktX2_byteAt_0 := by decide +kernel
theorem dX2_byteAt_0 : decode cX2_byteAt 0 = .ok (.iload_n 1, 1) := dk_27 (dk_at dksX2_byteAt_0 0 rfl rfl)
theorem dX2_byteAt_1 : decode cX2_byteAt 1 = .ok (.aload_n 0, 1) := dk_42 (dk_at dksX2_byteAt_0 1 rfl rfl)
theorem dX2_byteAt_2 : decode cX2_byteAt 2 = .ok (.getfield 173, 3) := dk_180 0 173 (dk_at dksX2_byteAt_0 2 rfl rfl)
theorem dX2_byteAt_5 : decode cX2_byteAt 5 = .ok (.if_icmp .ge 12, 3) := dk_162 0 12 (dk_at dksX2_byteAt_0 5 rfl rfl)
theorem dX2_byteAt_8 : decode cX2_byteAt 8 = .ok (.aload_n 0, 1) := dk_42 (dk_at dksX2_byteAt_0 8 rfl rfl)
theorem dX2_byteAt_9 : decode cX2_byteAt 9 = .ok (.getfield 54, 3) := dk_180 0 54 (dk_at dksX2_byteAt_0 9 rfl rfl)
theorem dX2_byteAt_12 : decode cX2_byteAt 12 = .ok (.iload_n 1, 1) := dk_27 (dk_at dksX2_byteAt_0 12 rfl rfl)
theorem dX2_byteAt_13 : decode cX2_byteAt 13 = .ok (.iaload, 1) := dk_46 (dk_at dksX2_byteAt_0 13 rfl rfl)
theorem dX2_byteAt_14 : decode cX2_byteAt 14 = .ok (.goto 5, 3) := dk_167 0 5 (dk_at dksX2_byteAt_0 14 rfl rfl)
theorem dX2_byteAt_17 : decode cX2_byteAt 17 = .ok (.ldc 129, 2) := dk_18 129 (dk_at dksX2_byteAt_0 17 rfl rfl)
theorem dX2_byteAt_19 : decode cX2_byteAt 19 = .ok (.ireturn, 1) := dk_172 (dk_at dksX2_byteAt_0 19 rfl rfl)
abbrev cX2_isLetter : ByteArray := prog_17_method_21_code
def yX2_isLetter : MethodName := ⟨RX2, "isLetter", "(I)Z"⟩
def dkwX2_isLetter_0 : List UInt8 := [26, 16, 97, 161, 0, 13, 26, 16, 122, 163, 0, 7, 4, 167, 0, 4, 3, 172]
abbrev dktX2_isLetter_0 : List UInt8 := dkwX2_isLetter_0 ++ []
theorem dksX2_isLetter_0 : cX2_isLetter.data.toList.drop 0 = dktX2_isLetter_0 := by decide +kernel
theorem dX2_isLetter_0 : decode cX2_isLetter 0 = .ok (.iload_n 0, 1) := dk_26 (dk_at dksX2_isLetter_0 0 rfl rfl)
theorem dX2_isLetter_1 : decode cX2_isLetter 1 = .ok (.bipush 97, 2) := dk_16 97 (dk_at dksX2_isLetter_0 1 rfl rfl)
theorem dX2_isLetter_3 : decode cX2_isLetter 3 = .ok (.if_icmp .lt 13, 3) := dk_161 0 13 (dk_at dksX2_isLetter_0 3 rfl rfl)
theorem dX2_isLetter_6 : decode cX2_isLetter 6 = .ok (.iload_n 0, 1) := dk_26 (dk_at dksX2_isLetter_0 6 rfl rfl)
theorem dX2_isLetter_7 : decode cX2_isLetter 7 = .ok (.bipush 122, 2) := dk_16 122 (dk_at dksX2_isLetter_0 7 rfl rfl)
theorem dX2_isLetter_9 : decode cX2_isLetter 9 = .ok (.if_icmp .gt 7, 3) := dk_163 0 7 (dk_at dksX2_isLetter_0 9 rfl rfl)
theorem dX2_isLetter_12 : decode cX2_isLetter 12 = .ok (.iconst 1, 1) := dk_4 (dk_at dksX2_isLetter_0 12 rfl rfl)
theorem dX2_isLetter_13 : decode cX2_isLetter 13 = .ok (.goto 4, 3) := dk_167 0 4 (dk_at dksX2_isLetter_0 13 rfl rfl)
theorem dX2_isLetter_16 : decode cX2_isLetter 16 = .ok (.iconst 0, 1) := dk_3 (dk_at dksX2_isLetter_0 16 rfl rfl)
theorem dX2_isLetter_17 : decode cX2_isLetter 17 = .ok (.ireturn, 1) := dk_172 (dk_at dksX2_isLetter_0 17 rfl rfl)
abbrev cX2_isFigure : ByteArray := prog_17_method_22_code
def yX2_isFigure : MethodName := ⟨RX2, "isFigure", "(I)Z"⟩
def dkwX2_isFigure_0 : List UInt8 := [26, 16, 48, 161, 0, 13, 26, 16, 57, 163, 0, 7, 4, 167, 0, 4, 3, 172]
abbrev dktX2_isFigure_0 : List UInt8 := dkwX2_isFigure_0 ++ []
theorem dksX2_isFigure_0 : cX2_isFigure.data.toList.drop 0 = dktX2_isFigure_0 := by decide +kernel
theorem dX2_isFigure_0 : decode cX2_isFigure 0 = .ok (.iload_n 0, 1) := dk_26 (dk_at dksX2_isFigure_0 0 rfl rfl)
theorem dX2_isFigure_1 : decode cX2_isFigure 1 = .ok (.bipush 48, 2) := dk_16 48 (dk_at dksX2_isFigure_0 1 rfl rfl)
theorem dX2_isFigure_3 : decode cX2_isFigure 3 = .ok (.if_icmp .lt 13, 3) := dk_161 0 13 (dk_at dksX2_isFigure_0 3 rfl rfl)
theorem dX2_isFigure_6 : decode cX2_isFigure 6 = .ok (.iload_n 0, 1) := dk_26 (dk_at dksX2_isFigure_0 6 rfl rfl)
theorem dX2_isFigure_7 : decode cX2_isFigure 7 = .ok (.bipush 57, 2) := dk_16 57 (dk_at dksX2_isFigure_0 7 rfl rfl)
theorem dX2_isFigure_9 : decode cX2_isFigure 9 = .ok (.if_icmp .gt 7, 3) := dk_163 0 7 (dk_at dksX2_isFigure_0 9 rfl rfl)
theorem dX2_isFigure_12 : decode cX2_isFigure 12 = .ok (.iconst 1, 1) := dk_4 (dk_at dksX2_isFigure_0 12 rfl rfl)
theorem dX2_isFigure_13 : decode cX2_isFigure 13 = .ok (.goto 4, 3) := dk_167 0 4 (dk_at dksX2_isFigure_0 13 rfl rfl)
theorem dX2_isFigure_16 : decode cX2_isFigure 16 = .ok (.iconst 0, 1) := dk_3 (dk_at dksX2_isFigure_0 16 rfl rfl)
theorem dX2_isFigure_17 : decode cX2_isFigure 17 = .ok (.ireturn, 1) := dk_172 (dk_at dksX2_isFigure_0 17 rfl rfl)
abbrev cX2_word : ByteArray := prog_17_method_26_code
def yX2_word : MethodName := ⟨RX2, "word", "()J"⟩
def dkwX2_word_2 : List UInt8 := [129, 64, 132, 3, 1, 167, 255, 210, 31, 173]
abbrev dktX2_word_2 : List UInt8 := dkwX2_word_2 ++ []
def dkwX2_word_1 : List UInt8 := [180, 0, 194, 42, 180, 0, 182, 100, 16, 8, 162, 0, 22, 31, 16, 8, 121, 42, 180, 0, 54, 29, 46, 133]
abbrev dktX2_word_1 : List UInt8 := dkwX2_word_1 ++ dktX2_word_2
def dkwX2_word_0 : List UInt8 := [9, 64, 42, 180, 0, 182, 62, 29, 42, 180, 0, 194, 162, 0, 44, 42, 180, 0, 185, 5, 160, 0, 36, 42]
abbrev dktX2_word_0 : List UInt8 := dkwX2_word_0 ++ dktX2_word_1
theorem dksX2_word_0 : cX2_word.data.toList.drop 0 = dktX2_word_0 := by decide +kernel
theorem dksX2_word_1 : cX2_word.data.toList.drop 24 = dktX2_word_1 := dk_seg dksX2_word_0 24 rfl rfl
theorem dksX2_word_2 : cX2_word.data.toList.drop 48 = dktX2_word_2 := dk_seg dksX2_word_1 24 rfl rfl
theorem dX2_word_0 : decode cX2_word 0 = .ok (.lconst 0, 1) := dk_9 (dk_at dksX2_word_0 0 rfl rfl)
theorem dX2_word_1 : decode cX2_word 1 = .ok (.lstore_n 1, 1) := dk_64 (dk_at dksX2_word_0 1 rfl rfl)
theorem dX2_word_2 : decode cX2_word 2 = .ok (.aload_n 0, 1) := dk_42 (dk_at dksX2_word_0 2 rfl rfl)
theorem dX2_word_3 : decode cX2_word 3 = .ok (.getfield 182, 3) := dk_180 0 182 (dk_at dksX2_word_0 3 rfl rfl)
theorem dX2_word_6 : decode cX2_word 6 = .ok (.istore_n 3, 1) := dk_62 (dk_at dksX2_word_0 6 rfl rfl)
theorem dX2_word_7 : decode cX2_word 7 = .ok (.iload_n 3, 1) := dk_29 (dk_at dksX2_word_0 7 rfl rfl)
theorem dX2_word_8 : decode cX2_word 8 = .ok (.aload_n 0, 1) := dk_42 (dk_at dksX2_word_0 8 rfl rfl)
theorem dX2_word_9 : decode cX2_word 9 = .ok (.getfield 194, 3) := dk_180 0 194 (dk_at dksX2_word_0 9 rfl rfl)
theorem dX2_word_12 : decode cX2_word 12 = .ok (.if_icmp .ge 44, 3) := dk_162 0 44 (dk_at dksX2_word_0 12 rfl rfl)
theorem dX2_word_15 : decode cX2_word 15 = .ok (.aload_n 0, 1) := dk_42 (dk_at dksX2_word_0 15 rfl rfl)
theorem dX2_word_16 : decode cX2_word 16 = .ok (.getfield 185, 3) := dk_180 0 185 (dk_at dksX2_word_0 16 rfl rfl)
theorem dX2_word_19 : decode cX2_word 19 = .ok (.iconst 2, 1) := dk_5 (dk_at dksX2_word_0 19 rfl rfl)
theorem dX2_word_20 : decode cX2_word 20 = .ok (.if_icmp .ne 36, 3) := dk_160 0 36 (dk_at dksX2_word_0 20 rfl rfl)
theorem dX2_word_23 : decode cX2_word 23 = .ok (.aload_n 0, 1) := dk_42 (dk_at dksX2_word_0 23 rfl rfl)
theorem dX2_word_24 : decode cX2_word 24 = .ok (.getfield 194, 3) := dk_180 0 194 (dk_at dksX2_word_1 0 rfl rfl)
theorem dX2_word_27 : decode cX2_word 27 = .ok (.aload_n 0, 1) := dk_42 (dk_at dksX2_word_1 3 rfl rfl)
theorem dX2_word_28 : decode cX2_word 28 = .ok (.getfield 182, 3) := dk_180 0 182 (dk_at dksX2_word_1 4 rfl rfl)
theorem dX2_word_31 : decode cX2_word 31 = .ok (.isub, 1) := dk_100 (dk_at dksX2_word_1 7 rfl rfl)
theorem dX2_word_32 : decode cX2_word 32 = .ok (.bipush 8, 2) := dk_16 8 (dk_at dksX2_word_1 8 rfl rfl)
theorem dX2_word_34 : decode cX2_word 34 = .ok (.if_icmp .ge 22, 3) := dk_162 0 22 (dk_at dksX2_word_1 10 rfl rfl)
theorem dX2_word_37 : decode cX2_word 37 = .ok (.lload_n 1, 1) := dk_31 (dk_at dksX2_word_1 13 rfl rfl)
theorem dX2_word_38 : decode cX2_word 38 = .ok (.bipush 8, 2) := dk_16 8 (dk_at dksX2_word_1 14 rfl rfl)
theorem dX2_word_40 : decode cX2_word 40 = .ok (.lshl, 1) := dk_121 (dk_at dksX2_word_1 16 rfl rfl)
theorem dX2_word_41 : decode cX2_word 41 = .ok (.aload_n 0, 1) := dk_42 (dk_at dksX2_word_1 17 rfl rfl)
theorem dX2_word_42 : decode cX2_word 42 = .ok (.getfield 54, 3) := dk_180 0 54 (dk_at dksX2_word_1 18 rfl rfl)
theorem dX2_word_45 : decode cX2_word 45 = .ok (.iload_n 3, 1) := dk_29 (dk_at dksX2_word_1 21 rfl rfl)
theorem dX2_word_46 : decode cX2_word 46 = .ok (.iaload, 1) := dk_46 (dk_at dksX2_word_1 22 rfl rfl)
theorem dX2_word_47 : decode cX2_word 47 = .ok (.i2l, 1) := dk_133 (dk_at dksX2_word_1 23 rfl rfl)
theorem dX2_word_48 : decode cX2_word 48 = .ok (.lor, 1) := dk_129 (dk_at dksX2_word_2 0 rfl rfl)
theorem dX2_word_49 : decode cX2_word 49 = .ok (.lstore_n 1, 1) := dk_64 (dk_at dksX2_word_2 1 rfl rfl)
theorem dX2_word_50 : decode cX2_word 50 = .ok (.iinc 3 1, 3) := dk_132 3 1 (dk_at dksX2_word_2 2 rfl rfl)
theorem dX2_word_53 : decode cX2_word 53 = .ok (.goto (-46), 3) := dk_167 255 210 (dk_at dksX2_word_2 5 rfl rfl)
theorem dX2_word_56 : decode cX2_word 56 = .ok (.lload_n 1, 1) := dk_31 (dk_at dksX2_word_2 8 rfl rfl)
theorem dX2_word_57 : decode cX2_word 57 = .ok (.lreturn, 1) := dk_173 (dk_at dksX2_word_2 9 rfl rfl)
abbrev cX2_need : ByteArray := prog_17_method_25_code
def yX2_need : MethodName := ⟨RX2, "need", "(Z)V"⟩
def dkwX2_need_0 : List UInt8 := [27, 154, 0, 8, 42, 4, 182, 0, 203, 42, 180, 0, 197, 154, 0, 7, 42, 182, 0, 207, 177]
abbrev dktX2_need_0 : List UInt8 := dkwX2_need_0 ++ []
theorem dksX2_need_0 : cX2_need.data.toList.drop 0 = dktX2_need_0 := by decide +kernel
theorem dX2_need_0 : decode cX2_need 0 = .ok (.iload_n 1, 1) := dk_27 (dk_at dksX2_need_0 0 rfl rfl)
theorem dX2_need_1 : decode cX2_need 1 = .ok (.ifCond .ne 8, 3) := dk_154 0 8 (dk_at dksX2_need_0 1 rfl rfl)
theorem dX2_need_4 : decode cX2_need 4 = .ok (.aload_n 0, 1) := dk_42 (dk_at dksX2_need_0 4 rfl rfl)
theorem dX2_need_5 : decode cX2_need 5 = .ok (.iconst 1, 1) := dk_4 (dk_at dksX2_need_0 5 rfl rfl)
theorem dX2_need_6 : decode cX2_need 6 = .ok (.invokevirtual 203, 3) := dk_182 0 203 (dk_at dksX2_need_0 6 rfl rfl)
theorem dX2_need_9 : decode cX2_need 9 = .ok (.aload_n 0, 1) := dk_42 (dk_at dksX2_need_0 9 rfl rfl)
theorem dX2_need_10 : decode cX2_need 10 = .ok (.getfield 197, 3) := dk_180 0 197 (dk_at dksX2_need_0 10 rfl rfl)
theorem dX2_need_13 : decode cX2_need 13 = .ok (.ifCond .ne 7, 3) := dk_154 0 7 (dk_at dksX2_need_0 13 rfl rfl)
theorem dX2_need_16 : decode cX2_need 16 = .ok (.aload_n 0, 1) := dk_42 (dk_at dksX2_need_0 16 rfl rfl)
theorem dX2_need_17 : decode cX2_need 17 = .ok (.invokevirtual 207, 3) := dk_182 0 207 (dk_at dksX2_need_0 17 rfl rfl)
theorem dX2_need_20 : decode cX2_need 20 = .ok (.return_, 1) := dk_177 (dk_at dksX2_need_0 20 rfl rfl)
abbrev cX2_bad : ByteArray := prog_17_method_24_code
def yX2_bad : MethodName := ⟨RX2, "bad", "(I)V"⟩
def dkwX2_bad_0 : List UInt8 := [42, 180, 0, 197, 154, 0, 16, 42, 27, 181, 0, 197, 42, 42, 180, 0, 182, 181, 0, 200, 177]
abbrev dktX2_bad_0 : List UInt8 := dkwX2_bad_0 ++ []
theorem dksX2_bad_0 : cX2_bad.data.toList.drop 0 = dktX2_bad_0 := by decide +kernel
theorem dX2_bad_0 : decode cX2_bad 0 = .ok (.aload_n 0, 1) := dk_42 (dk_at dksX2_bad_0 0 rfl rfl)
theorem dX2_bad_1 : decode cX2_bad 1 = .ok (.getfield 197, 3) := dk_180 0 197 (dk_at dksX2_bad_0 1 rfl rfl)
theorem dX2_bad_4 : decode cX2_bad 4 = .ok (.ifCond .ne 16, 3) := dk_154 0 16 (dk_at dksX2_bad_0 4 rfl rfl)
theorem dX2_bad_7 : decode cX2_bad 7 = .ok (.aload_n 0, 1) := dk_42 (dk_at dksX2_bad_0 7 rfl rfl)
theorem dX2_bad_8 : decode cX2_bad 8 = .ok (.iload_n 1, 1) := dk_27 (dk_at dksX2_bad_0 8 rfl rfl)
theorem dX2_bad_9 : decode cX2_bad 9 = .ok (.putfield 197, 3) := dk_181 0 197 (dk_at dksX2_bad_0 9 rfl rfl)
theorem dX2_bad_12 : decode cX2_bad 12 = .ok (.aload_n 0, 1) := dk_42 (dk_at dksX2_bad_0 12 rfl rfl)
theorem dX2_bad_13 : decode cX2_bad 13 = .ok (.aload_n 0, 1) := dk_42 (dk_at dksX2_bad_0 13 rfl rfl)
theorem dX2_bad_14 : decode cX2_bad 14 = .ok (.getfield 182, 3) := dk_180 0 182 (dk_at dksX2_bad_0 14 rfl rfl)
theorem dX2_bad_17 : decode cX2_bad 17 = .ok (.putfield 200, 3) := dk_181 0 200 (dk_at dksX2_bad_0 17 rfl rfl)
theorem dX2_bad_20 : decode cX2_bad 20 = .ok (.return_, 1) := dk_177 (dk_at dksX2_bad_0 20 rfl rfl)
abbrev cX2_numberTo : ByteArray := prog_17_method_27_code
def yX2_numberTo : MethodName := ⟨RX2, "numberTo", "(I)I"⟩
def dkwX2_numberTo_3 : List UInt8 := [42, 42, 180, 0, 185, 6, 160, 0, 7, 4, 167, 0, 4, 3, 182, 0, 210, 28, 172]
abbrev dktX2_numberTo_3 : List UInt8 := dkwX2_numberTo_3 ++ []
def dkwX2_numberTo_2 : List UInt8 := [132, 3, 1, 167, 255, 222, 42, 180, 0, 185, 6, 160, 0, 13, 28, 27, 164, 0, 8, 42, 5, 182, 0, 203]
abbrev dktX2_numberTo_2 : List UInt8 := dkwX2_numberTo_2 ++ dktX2_numberTo_3
def dkwX2_numberTo_1 : List UInt8 := [42, 180, 0, 185, 6, 160, 0, 24, 16, 10, 28, 104, 42, 180, 0, 54, 29, 46, 96, 16, 48, 100, 61]
abbrev dktX2_numberTo_1 : List UInt8 := dkwX2_numberTo_1 ++ dktX2_numberTo_2
def dkwX2_numberTo_0 : List UInt8 := [42, 180, 0, 197, 158, 0, 5, 3, 172, 3, 61, 42, 180, 0, 182, 62, 29, 42, 180, 0, 194, 162, 0, 32]
abbrev dktX2_numberTo_0 : List UInt8 := dkwX2_numberTo_0 ++ dktX2_numberTo_1
theorem dksX2_numberTo_0 : cX2_numberTo.data.toList.drop 0 = dktX2_numberTo_0 := by decide +kernel
theorem dksX2_numberTo_1 : cX2_numberTo.data.toList.drop 24 = dktX2_numberTo_1 := dk_seg dksX2_numberTo_0 24 rfl rfl
theorem dksX2_numberTo_2 : cX2_numberTo.data.toList.drop 47 = dktX2_numberTo_2 := dk_seg dksX2_numberTo_1 23 rfl rfl
theorem dksX2_numberTo_3 : cX2_numberTo.data.toList.drop 71 = dktX2_numberTo_3 := dk_seg dksX2_numberTo_2 24 rfl rfl
theorem dX2_numberTo_0 : decode cX2_numberTo 0 = .ok (.aload_n 0, 1) := dk_42 (dk_at dksX2_numberTo_0 0 rfl rfl)
theorem dX2_numberTo_1 : decode cX2_numberTo 1 = .ok (.getfield 197, 3) := dk_180 0 197 (dk_at dksX2_numberTo_0 1 rfl rfl)
theorem dX2_numberTo_4 : decode cX2_numberTo 4 = .ok (.ifCond .le 5, 3) := dk_158 0 5 (dk_at dksX2_numberTo_0 4 rfl rfl)
theorem dX2_numberTo_7 : decode cX2_numberTo 7 = .ok (.iconst 0, 1) := dk_3 (dk_at dksX2_numberTo_0 7 rfl rfl)
theorem dX2_numberTo_8 : decode cX2_numberTo 8 = .ok (.ireturn, 1) := dk_172 (dk_at dksX2_numberTo_0 8 rfl rfl)
theorem dX2_numberTo_9 : decode cX2_numberTo 9 = .ok (.iconst 0, 1) := dk_3 (dk_at dksX2_numberTo_0 9 rfl rfl)
theorem dX2_numberTo_10 : decode cX2_numberTo 10 = .ok (.istore_n 2, 1) := dk_61 (dk_at dksX2_numberTo_0 10 rfl rfl)
theorem dX2_numberTo_11 : decode cX2_numberTo 11 = .ok (.aload_n 0, 1) := dk_42 (dk_at dksX2_numberTo_0 11 rfl rfl)
theorem dX2_numberTo_12 : decode cX2_numberTo 12 = .ok (.getfield 182, 3) := dk_180 0 182 (dk_at dksX2_numberTo_0 12 rfl rfl)
theorem dX2_numberTo_15 : decode cX2_numberTo 15 = .ok (.istore_n 3, 1) := dk_62 (dk_at dksX2_numberTo_0 15 rfl rfl)
theorem dX2_numberTo_16 : decode cX2_numberTo 16 = .ok (.iload_n 3, 1) := dk_29 (dk_at dksX2_numberTo_0 16 rfl rfl)
theorem dX2_numberTo_17 : decode cX2_numberTo 17 = .ok (.aload_n 0, 1) := dk_42 (dk_at dksX2_numberTo_0 17 rfl rfl)
theorem dX2_numberTo_18 : decode cX2_numberTo 18 = .ok (.getfield 194, 3) := dk_180 0 194 (dk_at dksX2_numberTo_0 18 rfl rfl)
theorem dX2_numberTo_21 : decode cX2_numberTo 21 = .ok (.if_icmp .ge 32, 3) := dk_162 0 32 (dk_at dksX2_numberTo_0 21 rfl rfl)
theorem dX2_numberTo_24 : decode cX2_numberTo 24 = .ok (.aload_n 0, 1) := dk_42 (dk_at dksX2_numberTo_1 0 rfl rfl)
theorem dX2_numberTo_25 : decode cX2_numberTo 25 = .ok (.getfield 185, 3) := dk_180 0 185 (dk_at dksX2_numberTo_1 1 rfl rfl)
theorem dX2_numberTo_28 : decode cX2_numberTo 28 = .ok (.iconst 3, 1) := dk_6 (dk_at dksX2_numberTo_1 4 rfl rfl)
theorem dX2_numberTo_29 : decode cX2_numberTo 29 = .ok (.if_icmp .ne 24, 3) := dk_160 0 24 (dk_at dksX2_numberTo_1 5 rfl rfl)
theorem dX2_numberTo_32 : decode cX2_numberTo 32 = .ok (.bipush 10, 2) := dk_16 10 (dk_at dksX2_numberTo_1 8 rfl rfl)
theorem dX2_numberTo_34 : decode cX2_numberTo 34 = .ok (.iload_n 2, 1) := dk_28 (dk_at dksX2_numberTo_1 10 rfl rfl)
theorem dX2_numberTo_35 : decode cX2_numberTo 35 = .ok (.imul, 1) := dk_104 (dk_at dksX2_numberTo_1 11 rfl rfl)
theorem dX2_numberTo_36 : decode cX2_numberTo 36 = .ok (.aload_n 0, 1) := dk_42 (dk_at dksX2_numberTo_1 12 rfl rfl)
theorem dX2_numberTo_37 : decode cX2_numberTo 37 = .ok (.getfield 54, 3) := dk_180 0 54 (dk_at dksX2_numberTo_1 13 rfl rfl)
theorem dX2_numberTo_40 : decode cX2_numberTo 40 = .ok (.iload_n 3, 1) := dk_29 (dk_at dksX2_numberTo_1 16 rfl rfl)
theorem dX2_numberTo_41 : decode cX2_numberTo 41 = .ok (.iaload, 1) := dk_46 (dk_at dksX2_numberTo_1 17 rfl rfl)
theorem dX2_numberTo_42 : decode cX2_numberTo 42 = .ok (.iadd, 1) := dk_96 (dk_at dksX2_numberTo_1 18 rfl rfl)
theorem dX2_numberTo_43 : decode cX2_numberTo 43 = .ok (.bipush 48, 2) := dk_16 48 (dk_at dksX2_numberTo_1 19 rfl rfl)
theorem dX2_numberTo_45 : decode cX2_numberTo 45 = .ok (.isub, 1) := dk_100 (dk_at dksX2_numberTo_1 21 rfl rfl)
theorem dX2_numberTo_46 : decode cX2_numberTo 46 = .ok (.istore_n 2, 1) := dk_61 (dk_at dksX2_numberTo_1 22 rfl rfl)
theorem dX2_numberTo_47 : decode cX2_numberTo 47 = .ok (.iinc 3 1, 3) := dk_132 3 1 (dk_at dksX2_numberTo_2 0 rfl rfl)
theorem dX2_numberTo_50 : decode cX2_numberTo 50 = .ok (.goto (-34), 3) := dk_167 255 222 (dk_at dksX2_numberTo_2 3 rfl rfl)
theorem dX2_numberTo_53 : decode cX2_numberTo 53 = .ok (.aload_n 0, 1) := dk_42 (dk_at dksX2_numberTo_2 6 rfl rfl)
theorem dX2_numberTo_54 : decode cX2_numberTo 54 = .ok (.getfield 185, 3) := dk_180 0 185 (dk_at dksX2_numberTo_2 7 rfl rfl)
theorem dX2_numberTo_57 : decode cX2_numberTo 57 = .ok (.iconst 3, 1) := dk_6 (dk_at dksX2_numberTo_2 10 rfl rfl)
theorem dX2_numberTo_58 : decode cX2_numberTo 58 = .ok (.if_icmp .ne 13, 3) := dk_160 0 13 (dk_at dksX2_numberTo_2 11 rfl rfl)
theorem dX2_numberTo_61 : decode cX2_numberTo 61 = .ok (.iload_n 2, 1) := dk_28 (dk_at dksX2_numberTo_2 14 rfl rfl)
theorem dX2_numberTo_62 : decode cX2_numberTo 62 = .ok (.iload_n 1, 1) := dk_27 (dk_at dksX2_numberTo_2 15 rfl rfl)
theorem dX2_numberTo_63 : decode cX2_numberTo 63 = .ok (.if_icmp .le 8, 3) := dk_164 0 8 (dk_at dksX2_numberTo_2 16 rfl rfl)
theorem dX2_numberTo_66 : decode cX2_numberTo 66 = .ok (.aload_n 0, 1) := dk_42 (dk_at dksX2_numberTo_2 19 rfl rfl)
theorem dX2_numberTo_67 : decode cX2_numberTo 67 = .ok (.iconst 2, 1) := dk_5 (dk_at dksX2_numberTo_2 20 rfl rfl)
theorem dX2_numberTo_68 : decode cX2_numberTo 68 = .ok (.invokevirtual 203, 3) := dk_182 0 203 (dk_at dksX2_numberTo_2 21 rfl rfl)
theorem dX2_numberTo_71 : decode cX2_numberTo 71 = .ok (.aload_n 0, 1) := dk_42 (dk_at dksX2_numberTo_3 0 rfl rfl)
theorem dX2_numberTo_72 : decode cX2_numberTo 72 = .ok (.aload_n 0, 1) := dk_42 (dk_at dksX2_numberTo_3 1 rfl rfl)
theorem dX2_numberTo_73 : decode cX2_numberTo 73 = .ok (.getfield 185, 3) := dk_180 0 185 (dk_at dksX2_numberTo_3 2 rfl rfl)
theorem dX2_numberTo_76 : decode cX2_numberTo 76 = .ok (.iconst 3, 1) := dk_6 (dk_at dksX2_numberTo_3 5 rfl rfl)
theorem dX2_numberTo_77 : decode cX2_numberTo 77 = .ok (.if_icmp .ne 7, 3) := dk_160 0 7 (dk_at dksX2_numberTo_3 6 rfl rfl)
theorem dX2_numberTo_80 : decode cX2_numberTo 80 = .ok (.iconst 1, 1) := dk_4 (dk_at dksX2_numberTo_3 9 rfl rfl)
theorem dX2_numberTo_81 : decode cX2_numberTo 81 = .ok (.goto 4, 3) := dk_167 0 4 (dk_at dksX2_numberTo_3 10 rfl rfl)
theorem dX2_numberTo_84 : decode cX2_numberTo 84 = .ok (.iconst 0, 1) := dk_3 (dk_at dksX2_numberTo_3 13 rfl rfl)
theorem dX2_numberTo_85 : decode cX2_numberTo 85 = .ok (.invokevirtual 210, 3) := dk_182 0 210 (dk_at dksX2_numberTo_3 14 rfl rfl)
theorem dX2_numberTo_88 : decode cX2_numberTo 88 = .ok (.iload_n 2, 1) := dk_28 (dk_at dksX2_numberTo_3 17 rfl rfl)
theorem dX2_numberTo_89 : decode cX2_numberTo 89 = .ok (.ireturn, 1) := dk_172 (dk_at dksX2_numberTo_3 18 rfl rfl)
abbrev cX2_readLaw : ByteArray := prog_17_method_29_code
def yX2_readLaw : MethodName := ⟨RX2, "readLaw", "(I)V"⟩
def dkwX2_readLaw_6 : List UInt8 := [181, 0, 236, 177]
abbrev dktX2_readLaw_6 : List UInt8 := dkwX2_readLaw_6 ++ []
def dkwX2_readLaw_5 : List UInt8 := [28, 6, 162, 0, 13, 42, 17, 3, 231, 182, 0, 239, 167, 0, 4, 3, 79, 42, 89, 180, 0, 236, 4, 96]
abbrev dktX2_readLaw_5 : List UInt8 := dkwX2_readLaw_5 ++ dktX2_readLaw_6
def dkwX2_readLaw_4 : List UInt8 := [16, 6, 160, 0, 8, 16, 11, 167, 0, 5, 16, 7, 182, 0, 239, 79, 42, 180, 0, 51, 42, 180, 0, 236]
abbrev dktX2_readLaw_4 : List UInt8 := dkwX2_readLaw_4 ++ dktX2_readLaw_5
def dkwX2_readLaw_3 : List UInt8 := [42, 180, 0, 48, 42, 180, 0, 236, 28, 154, 0, 7, 3, 167, 0, 25, 42, 28, 8, 159, 0, 9, 28]
abbrev dktX2_readLaw_3 : List UInt8 := dkwX2_readLaw_3 ++ dktX2_readLaw_4
def dkwX2_readLaw_2 : List UInt8 := [158, 0, 4, 177, 42, 180, 0, 42, 42, 180, 0, 236, 27, 79, 42, 180, 0, 45, 42, 180, 0, 236, 28, 79]
abbrev dktX2_readLaw_2 : List UInt8 := dkwX2_readLaw_2 ++ dktX2_readLaw_3
def dkwX2_readLaw_1 : List UInt8 := [182, 0, 203, 42, 28, 18, 129, 159, 0, 7, 4, 167, 0, 4, 3, 182, 0, 210, 42, 180, 0, 197]
abbrev dktX2_readLaw_1 : List UInt8 := dkwX2_readLaw_1 ++ dktX2_readLaw_2
def dkwX2_readLaw_0 : List UInt8 := [42, 182, 0, 232, 61, 28, 18, 129, 159, 0, 17, 42, 180, 0, 236, 16, 30, 160, 0, 8, 42, 6]
abbrev dktX2_readLaw_0 : List UInt8 := dkwX2_readLaw_0 ++ dktX2_readLaw_1
theorem dksX2_readLaw_0 : cX2_readLaw.data.toList.drop 0 = dktX2_readLaw_0 := by decide +kernel
theorem dksX2_readLaw_1 : cX2_readLaw.data.toList.drop 22 = dktX2_readLaw_1 := dk_seg dksX2_readLaw_0 22 rfl rfl
theorem dksX2_readLaw_2 : cX2_readLaw.data.toList.drop 44 = dktX2_readLaw_2 := dk_seg dksX2_readLaw_1 22 rfl rfl
theorem dksX2_readLaw_3 : cX2_readLaw.data.toList.drop 68 = dktX2_readLaw_3 := dk_seg dksX2_readLaw_2 24 rfl rfl
theorem dksX2_readLaw_4 : cX2_readLaw.data.toList.drop 91 = dktX2_readLaw_4 := dk_seg dksX2_readLaw_3 23 rfl rfl
theorem dksX2_readLaw_5 : cX2_readLaw.data.toList.drop 115 = dktX2_readLaw_5 := dk_seg dksX2_readLaw_4 24 rfl rfl
theorem dksX2_readLaw_6 : cX2_readLaw.data.toList.drop 139 = dktX2_readLaw_6 := dk_seg dksX2_readLaw_5 24 rfl rfl
theorem dX2_readLaw_0 : decode cX2_readLaw 0 = .ok (.aload_n 0, 1) := dk_42 (dk_at dksX2_readLaw_0 0 rfl rfl)
theorem dX2_readLaw_1 : decode cX2_readLaw 1 = .ok (.invokevirtual 232, 3) := dk_182 0 232 (dk_at dksX2_readLaw_0 1 rfl rfl)
theorem dX2_readLaw_4 : decode cX2_readLaw 4 = .ok (.istore_n 2, 1) := dk_61 (dk_at dksX2_readLaw_0 4 rfl rfl)
theorem dX2_readLaw_5 : decode cX2_readLaw 5 = .ok (.iload_n 2, 1) := dk_28 (dk_at dksX2_readLaw_0 5 rfl rfl)
theorem dX2_readLaw_6 : decode cX2_readLaw 6 = .ok (.ldc 129, 2) := dk_18 129 (dk_at dksX2_readLaw_0 6 rfl rfl)
theorem dX2_readLaw_8 : decode cX2_readLaw 8 = .ok (.if_icmp .eq 17, 3) := dk_159 0 17 (dk_at dksX2_readLaw_0 8 rfl rfl)
theorem dX2_readLaw_11 : decode cX2_readLaw 11 = .ok (.aload_n 0, 1) := dk_42 (dk_at dksX2_readLaw_0 11 rfl rfl)
theorem dX2_readLaw_12 : decode cX2_readLaw 12 = .ok (.getfield 236, 3) := dk_180 0 236 (dk_at dksX2_readLaw_0 12 rfl rfl)
theorem dX2_readLaw_15 : decode cX2_readLaw 15 = .ok (.bipush 30, 2) := dk_16 30 (dk_at dksX2_readLaw_0 15 rfl rfl)
theorem dX2_readLaw_17 : decode cX2_readLaw 17 = .ok (.if_icmp .ne 8, 3) := dk_160 0 8 (dk_at dksX2_readLaw_0 17 rfl rfl)
theorem dX2_readLaw_20 : decode cX2_readLaw 20 = .ok (.aload_n 0, 1) := dk_42 (dk_at dksX2_readLaw_0 20 rfl rfl)
theorem dX2_readLaw_21 : decode cX2_readLaw 21 = .ok (.iconst 3, 1) := dk_6 (dk_at dksX2_readLaw_0 21 rfl rfl)
theorem dX2_readLaw_22 : decode cX2_readLaw 22 = .ok (.invokevirtual 203, 3) := dk_182 0 203 (dk_at dksX2_readLaw_1 0 rfl rfl)
theorem dX2_readLaw_25 : decode cX2_readLaw 25 = .ok (.aload_n 0, 1) := dk_42 (dk_at dksX2_readLaw_1 3 rfl rfl)
theorem dX2_readLaw_26 : decode cX2_readLaw 26 = .ok (.iload_n 2, 1) := dk_28 (dk_at dksX2_readLaw_1 4 rfl rfl)
theorem dX2_readLaw_27 : decode cX2_readLaw 27 = .ok (.ldc 129, 2) := dk_18 129 (dk_at dksX2_readLaw_1 5 rfl rfl)
theorem dX2_readLaw_29 : decode cX2_readLaw 29 = .ok (.if_icmp .eq 7, 3) := dk_159 0 7 (dk_at dksX2_readLaw_1 7 rfl rfl)
theorem dX2_readLaw_32 : decode cX2_readLaw 32 = .ok (.iconst 1, 1) := dk_4 (dk_at dksX2_readLaw_1 10 rfl rfl)
theorem dX2_readLaw_33 : decode cX2_readLaw 33 = .ok (.goto 4, 3) := dk_167 0 4 (dk_at dksX2_readLaw_1 11 rfl rfl)
theorem dX2_readLaw_36 : decode cX2_readLaw 36 = .ok (.iconst 0, 1) := dk_3 (dk_at dksX2_readLaw_1 14 rfl rfl)
theorem dX2_readLaw_37 : decode cX2_readLaw 37 = .ok (.invokevirtual 210, 3) := dk_182 0 210 (dk_at dksX2_readLaw_1 15 rfl rfl)
theorem dX2_readLaw_40 : decode cX2_readLaw 40 = .ok (.aload_n 0, 1) := dk_42 (dk_at dksX2_readLaw_1 18 rfl rfl)
theorem dX2_readLaw_41 : decode cX2_readLaw 41 = .ok (.getfield 197, 3) := dk_180 0 197 (dk_at dksX2_readLaw_1 19 rfl rfl)
theorem dX2_readLaw_44 : decode cX2_readLaw 44 = .ok (.ifCond .le 4, 3) := dk_158 0 4 (dk_at dksX2_readLaw_2 0 rfl rfl)
theorem dX2_readLaw_47 : decode cX2_readLaw 47 = .ok (.return_, 1) := dk_177 (dk_at dksX2_readLaw_2 3 rfl rfl)
theorem dX2_readLaw_48 : decode cX2_readLaw 48 = .ok (.aload_n 0, 1) := dk_42 (dk_at dksX2_readLaw_2 4 rfl rfl)
theorem dX2_readLaw_49 : decode cX2_readLaw 49 = .ok (.getfield 42, 3) := dk_180 0 42 (dk_at dksX2_readLaw_2 5 rfl rfl)
theorem dX2_readLaw_52 : decode cX2_readLaw 52 = .ok (.aload_n 0, 1) := dk_42 (dk_at dksX2_readLaw_2 8 rfl rfl)
theorem dX2_readLaw_53 : decode cX2_readLaw 53 = .ok (.getfield 236, 3) := dk_180 0 236 (dk_at dksX2_readLaw_2 9 rfl rfl)
theorem dX2_readLaw_56 : decode cX2_readLaw 56 = .ok (.iload_n 1, 1) := dk_27 (dk_at dksX2_readLaw_2 12 rfl rfl)
theorem dX2_readLaw_57 : decode cX2_readLaw 57 = .ok (.iastore, 1) := dk_79 (dk_at dksX2_readLaw_2 13 rfl rfl)
theorem dX2_readLaw_58 : decode cX2_readLaw 58 = .ok (.aload_n 0, 1) := dk_42 (dk_at dksX2_readLaw_2 14 rfl rfl)
theorem dX2_readLaw_59 : decode cX2_readLaw 59 = .ok (.getfield 45, 3) := dk_180 0 45 (dk_at dksX2_readLaw_2 15 rfl rfl)
theorem dX2_readLaw_62 : decode cX2_readLaw 62 = .ok (.aload_n 0, 1) := dk_42 (dk_at dksX2_readLaw_2 18 rfl rfl)
theorem dX2_readLaw_63 : decode cX2_readLaw 63 = .ok (.getfield 236, 3) := dk_180 0 236 (dk_at dksX2_readLaw_2 19 rfl rfl)
theorem dX2_readLaw_66 : decode cX2_readLaw 66 = .ok (.iload_n 2, 1) := dk_28 (dk_at dksX2_readLaw_2 22 rfl rfl)
theorem dX2_readLaw_67 : decode cX2_readLaw 67 = .ok (.iastore, 1) := dk_79 (dk_at dksX2_readLaw_2 23 rfl rfl)
theorem dX2_readLaw_68 : decode cX2_readLaw 68 = .ok (.aload_n 0, 1) := dk_42 (dk_at dksX2_readLaw_3 0 rfl rfl)
theorem dX2_readLaw_69 : decode cX2_readLaw 69 = .ok (.getfield 48, 3) := dk_180 0 48 (dk_at dksX2_readLaw_3 1 rfl rfl)
theorem dX2_readLaw_72 : decode cX2_readLaw 72 = .ok (.aload_n 0, 1) := dk_42 (dk_at dksX2_readLaw_3 4 rfl rfl)
theorem dX2_readLaw_73 : decode cX2_readLaw 73 = .ok (.getfield 236, 3) := dk_180 0 236 (dk_at dksX2_readLaw_3 5 rfl rfl)
theorem dX2_readLaw_76 : decode cX2_readLaw 76 = .ok (.iload_n 2, 1) := dk_28 (dk_at dksX2_readLaw_3 8 rfl rfl)
theorem dX2_readLaw_77 : decode cX2_readLaw 77 = .ok (.ifCond .ne 7, 3) := dk_154 0 7 (dk_at dksX2_readLaw_3 9 rfl rfl)
theorem dX2_readLaw_80 : decode cX2_readLaw 80 = .ok (.iconst 0, 1) := dk_3 (dk_at dksX2_readLaw_3 12 rfl rfl)
theorem dX2_readLaw_81 : decode cX2_readLaw 81 = .ok (.goto 25, 3) := dk_167 0 25 (dk_at dksX2_readLaw_3 13 rfl rfl)
theorem dX2_readLaw_84 : decode cX2_readLaw 84 = .ok (.aload_n 0, 1) := dk_42 (dk_at dksX2_readLaw_3 16 rfl rfl)
theorem dX2_readLaw_85 : decode cX2_readLaw 85 = .ok (.iload_n 2, 1) := dk_28 (dk_at dksX2_readLaw_3 17 rfl rfl)
theorem dX2_readLaw_86 : decode cX2_readLaw 86 = .ok (.iconst 5, 1) := dk_8 (dk_at dksX2_readLaw_3 18 rfl rfl)
theorem dX2_readLaw_87 : decode cX2_readLaw 87 = .ok (.if_icmp .eq 9, 3) := dk_159 0 9 (dk_at dksX2_readLaw_3 19 rfl rfl)
theorem dX2_readLaw_90 : decode cX2_readLaw 90 = .ok (.iload_n 2, 1) := dk_28 (dk_at dksX2_readLaw_3 22 rfl rfl)
theorem dX2_readLaw_91 : decode cX2_readLaw 91 = .ok (.bipush 6, 2) := dk_16 6 (dk_at dksX2_readLaw_4 0 rfl rfl)
theorem dX2_readLaw_93 : decode cX2_readLaw 93 = .ok (.if_icmp .ne 8, 3) := dk_160 0 8 (dk_at dksX2_readLaw_4 2 rfl rfl)
theorem dX2_readLaw_96 : decode cX2_readLaw 96 = .ok (.bipush 11, 2) := dk_16 11 (dk_at dksX2_readLaw_4 5 rfl rfl)
theorem dX2_readLaw_98 : decode cX2_readLaw 98 = .ok (.goto 5, 3) := dk_167 0 5 (dk_at dksX2_readLaw_4 7 rfl rfl)
theorem dX2_readLaw_101 : decode cX2_readLaw 101 = .ok (.bipush 7, 2) := dk_16 7 (dk_at dksX2_readLaw_4 10 rfl rfl)
theorem dX2_readLaw_103 : decode cX2_readLaw 103 = .ok (.invokevirtual 239, 3) := dk_182 0 239 (dk_at dksX2_readLaw_4 12 rfl rfl)
theorem dX2_readLaw_106 : decode cX2_readLaw 106 = .ok (.iastore, 1) := dk_79 (dk_at dksX2_readLaw_4 15 rfl rfl)
theorem dX2_readLaw_107 : decode cX2_readLaw 107 = .ok (.aload_n 0, 1) := dk_42 (dk_at dksX2_readLaw_4 16 rfl rfl)
theorem dX2_readLaw_108 : decode cX2_readLaw 108 = .ok (.getfield 51, 3) := dk_180 0 51 (dk_at dksX2_readLaw_4 17 rfl rfl)
theorem dX2_readLaw_111 : decode cX2_readLaw 111 = .ok (.aload_n 0, 1) := dk_42 (dk_at dksX2_readLaw_4 20 rfl rfl)
theorem dX2_readLaw_112 : decode cX2_readLaw 112 = .ok (.getfield 236, 3) := dk_180 0 236 (dk_at dksX2_readLaw_4 21 rfl rfl)
theorem dX2_readLaw_115 : decode cX2_readLaw 115 = .ok (.iload_n 2, 1) := dk_28 (dk_at dksX2_readLaw_5 0 rfl rfl)
theorem dX2_readLaw_116 : decode cX2_readLaw 116 = .ok (.iconst 3, 1) := dk_6 (dk_at dksX2_readLaw_5 1 rfl rfl)
theorem dX2_readLaw_117 : decode cX2_readLaw 117 = .ok (.if_icmp .ge 13, 3) := dk_162 0 13 (dk_at dksX2_readLaw_5 2 rfl rfl)
theorem dX2_readLaw_120 : decode cX2_readLaw 120 = .ok (.aload_n 0, 1) := dk_42 (dk_at dksX2_readLaw_5 5 rfl rfl)
theorem dX2_readLaw_121 : decode cX2_readLaw 121 = .ok (.sipush 999, 3) := dk_17 3 231 (dk_at dksX2_readLaw_5 6 rfl rfl)
theorem dX2_readLaw_124 : decode cX2_readLaw 124 = .ok (.invokevirtual 239, 3) := dk_182 0 239 (dk_at dksX2_readLaw_5 9 rfl rfl)
theorem dX2_readLaw_127 : decode cX2_readLaw 127 = .ok (.goto 4, 3) := dk_167 0 4 (dk_at dksX2_readLaw_5 12 rfl rfl)
theorem dX2_readLaw_130 : decode cX2_readLaw 130 = .ok (.iconst 0, 1) := dk_3 (dk_at dksX2_readLaw_5 15 rfl rfl)
theorem dX2_readLaw_131 : decode cX2_readLaw 131 = .ok (.iastore, 1) := dk_79 (dk_at dksX2_readLaw_5 16 rfl rfl)
theorem dX2_readLaw_132 : decode cX2_readLaw 132 = .ok (.aload_n 0, 1) := dk_42 (dk_at dksX2_readLaw_5 17 rfl rfl)
theorem dX2_readLaw_133 : decode cX2_readLaw 133 = .ok (.dup, 1) := dk_89 (dk_at dksX2_readLaw_5 18 rfl rfl)
theorem dX2_readLaw_134 : decode cX2_readLaw 134 = .ok (.getfield 236, 3) := dk_180 0 236 (dk_at dksX2_readLaw_5 19 rfl rfl)
theorem dX2_readLaw_137 : decode cX2_readLaw 137 = .ok (.iconst 1, 1) := dk_4 (dk_at dksX2_readLaw_5 22 rfl rfl)
theorem dX2_readLaw_138 : decode cX2_readLaw 138 = .ok (.iadd, 1) := dk_96 (dk_at dksX2_readLaw_5 23 rfl rfl)
theorem dX2_readLaw_139 : decode cX2_readLaw 139 = .ok (.putfield 236, 3) := dk_181 0 236 (dk_at dksX2_readLaw_6 0 rfl rfl)
theorem dX2_readLaw_142 : decode cX2_readLaw 142 = .ok (.return_, 1) := dk_177 (dk_at dksX2_readLaw_6 3 rfl rfl)
abbrev cX2_lawOfWord : ByteArray := prog_17_method_28_code
def yX2_lawOfWord : MethodName := ⟨RX2, "lawOfWord", "()I"⟩
def dkwX2_lawOfWord_3 : List UInt8 := [154, 0, 7, 8, 167, 0, 18, 31, 20, 0, 230, 148, 154, 0, 8, 16, 6, 167, 0, 5, 18, 129, 172]
abbrev dktX2_lawOfWord_3 : List UInt8 := dkwX2_lawOfWord_3 ++ []
def dkwX2_lawOfWord_2 : List UInt8 := [154, 0, 7, 6, 167, 0, 42, 31, 20, 0, 226, 148, 154, 0, 7, 7, 167, 0, 30, 31, 20, 0, 228, 148]
abbrev dktX2_lawOfWord_2 : List UInt8 := dkwX2_lawOfWord_2 ++ dktX2_lawOfWord_3
def dkwX2_lawOfWord_1 : List UInt8 := [154, 0, 7, 4, 167, 0, 66, 31, 20, 0, 222, 148, 154, 0, 7, 5, 167, 0, 54, 31, 20, 0, 224, 148]
abbrev dktX2_lawOfWord_1 : List UInt8 := dkwX2_lawOfWord_1 ++ dktX2_lawOfWord_2
def dkwX2_lawOfWord_0 : List UInt8 := [42, 182, 0, 214, 64, 31, 20, 0, 218, 148, 154, 0, 7, 3, 167, 0, 78, 31, 20, 0, 220, 148]
abbrev dktX2_lawOfWord_0 : List UInt8 := dkwX2_lawOfWord_0 ++ dktX2_lawOfWord_1
theorem dksX2_lawOfWord_0 : cX2_lawOfWord.data.toList.drop 0 = dktX2_lawOfWord_0 := by decide +kernel
theorem dksX2_lawOfWord_1 : cX2_lawOfWord.data.toList.drop 22 = dktX2_lawOfWord_1 := dk_seg dksX2_lawOfWord_0 22 rfl rfl
theorem dksX2_lawOfWord_2 : cX2_lawOfWord.data.toList.drop 46 = dktX2_lawOfWord_2 := dk_seg dksX2_lawOfWord_1 24 rfl rfl
theorem dksX2_lawOfWord_3 : cX2_lawOfWord.data.toList.drop 70 = dktX2_lawOfWord_3 := dk_seg dksX2_lawOfWord_2 24 rfl rfl
theorem dX2_lawOfWord_0 : decode cX2_lawOfWord 0 = .ok (.aload_n 0, 1) := dk_42 (dk_at dksX2_lawOfWord_0 0 rfl rfl)
theorem dX2_lawOfWord_1 : decode cX2_lawOfWord 1 = .ok (.invokevirtual 214, 3) := dk_182 0 214 (dk_at dksX2_lawOfWord_0 1 rfl rfl)
theorem dX2_lawOfWord_4 : decode cX2_lawOfWord 4 = .ok (.lstore_n 1, 1) := dk_64 (dk_at dksX2_lawOfWord_0 4 rfl rfl)
theorem dX2_lawOfWord_5 : decode cX2_lawOfWord 5 = .ok (.lload_n 1, 1) := dk_31 (dk_at dksX2_lawOfWord_0 5 rfl rfl)
theorem dX2_lawOfWord_6 : decode cX2_lawOfWord 6 = .ok (.ldc2_w 218, 3) := dk_20 0 218 (dk_at dksX2_lawOfWord_0 6 rfl rfl)
theorem dX2_lawOfWord_9 : decode cX2_lawOfWord 9 = .ok (.lcmp, 1) := dk_148 (dk_at dksX2_lawOfWord_0 9 rfl rfl)
theorem dX2_lawOfWord_10 : decode cX2_lawOfWord 10 = .ok (.ifCond .ne 7, 3) := dk_154 0 7 (dk_at dksX2_lawOfWord_0 10 rfl rfl)
theorem dX2_lawOfWord_13 : decode cX2_lawOfWord 13 = .ok (.iconst 0, 1) := dk_3 (dk_at dksX2_lawOfWord_0 13 rfl rfl)
theorem dX2_lawOfWord_14 : decode cX2_lawOfWord 14 = .ok (.goto 78, 3) := dk_167 0 78 (dk_at dksX2_lawOfWord_0 14 rfl rfl)
theorem dX2_lawOfWord_17 : decode cX2_lawOfWord 17 = .ok (.lload_n 1, 1) := dk_31 (dk_at dksX2_lawOfWord_0 17 rfl rfl)
theorem dX2_lawOfWord_18 : decode cX2_lawOfWord 18 = .ok (.ldc2_w 220, 3) := dk_20 0 220 (dk_at dksX2_lawOfWord_0 18 rfl rfl)
theorem dX2_lawOfWord_21 : decode cX2_lawOfWord 21 = .ok (.lcmp, 1) := dk_148 (dk_at dksX2_lawOfWord_0 21 rfl rfl)
theorem dX2_lawOfWord_22 : decode cX2_lawOfWord 22 = .ok (.ifCond .ne 7, 3) := dk_154 0 7 (dk_at dksX2_lawOfWord_1 0 rfl rfl)
theorem dX2_lawOfWord_25 : decode cX2_lawOfWord 25 = .ok (.iconst 1, 1) := dk_4 (dk_at dksX2_lawOfWord_1 3 rfl rfl)
theorem dX2_lawOfWord_26 : decode cX2_lawOfWord 26 = .ok (.goto 66, 3) := dk_167 0 66 (dk_at dksX2_lawOfWord_1 4 rfl rfl)
theorem dX2_lawOfWord_29 : decode cX2_lawOfWord 29 = .ok (.lload_n 1, 1) := dk_31 (dk_at dksX2_lawOfWord_1 7 rfl rfl)
theorem dX2_lawOfWord_30 : decode cX2_lawOfWord 30 = .ok (.ldc2_w 222, 3) := dk_20 0 222 (dk_at dksX2_lawOfWord_1 8 rfl rfl)
theorem dX2_lawOfWord_33 : decode cX2_lawOfWord 33 = .ok (.lcmp, 1) := dk_148 (dk_at dksX2_lawOfWord_1 11 rfl rfl)
theorem dX2_lawOfWord_34 : decode cX2_lawOfWord 34 = .ok (.ifCond .ne 7, 3) := dk_154 0 7 (dk_at dksX2_lawOfWord_1 12 rfl rfl)
theorem dX2_lawOfWord_37 : decode cX2_lawOfWord 37 = .ok (.iconst 2, 1) := dk_5 (dk_at dksX2_lawOfWord_1 15 rfl rfl)
theorem dX2_lawOfWord_38 : decode cX2_lawOfWord 38 = .ok (.goto 54, 3) := dk_167 0 54 (dk_at dksX2_lawOfWord_1 16 rfl rfl)
theorem dX2_lawOfWord_41 : decode cX2_lawOfWord 41 = .ok (.lload_n 1, 1) := dk_31 (dk_at dksX2_lawOfWord_1 19 rfl rfl)
theorem dX2_lawOfWord_42 : decode cX2_lawOfWord 42 = .ok (.ldc2_w 224, 3) := dk_20 0 224 (dk_at dksX2_lawOfWord_1 20 rfl rfl)
theorem dX2_lawOfWord_45 : decode cX2_lawOfWord 45 = .ok (.lcmp, 1) := dk_148 (dk_at dksX2_lawOfWord_1 23 rfl rfl)
theorem dX2_lawOfWord_46 : decode cX2_lawOfWord 46 = .ok (.ifCond .ne 7, 3) := dk_154 0 7 (dk_at dksX2_lawOfWord_2 0 rfl rfl)
theorem dX2_lawOfWord_49 : decode cX2_lawOfWord 49 = .ok (.iconst 3, 1) := dk_6 (dk_at dksX2_lawOfWord_2 3 rfl rfl)
theorem dX2_lawOfWord_50 : decode cX2_lawOfWord 50 = .ok (.goto 42, 3) := dk_167 0 42 (dk_at dksX2_lawOfWord_2 4 rfl rfl)
theorem dX2_lawOfWord_53 : decode cX2_lawOfWord 53 = .ok (.lload_n 1, 1) := dk_31 (dk_at dksX2_lawOfWord_2 7 rfl rfl)
theorem dX2_lawOfWord_54 : decode cX2_lawOfWord 54 = .ok (.ldc2_w 226, 3) := dk_20 0 226 (dk_at dksX2_lawOfWord_2 8 rfl rfl)
theorem dX2_lawOfWord_57 : decode cX2_lawOfWord 57 = .ok (.lcmp, 1) := dk_148 (dk_at dksX2_lawOfWord_2 11 rfl rfl)
theorem dX2_lawOfWord_58 : decode cX2_lawOfWord 58 = .ok (.ifCond .ne 7, 3) := dk_154 0 7 (dk_at dksX2_lawOfWord_2 12 rfl rfl)
theorem dX2_lawOfWord_61 : decode cX2_lawOfWord 61 = .ok (.iconst 4, 1) := dk_7 (dk_at dksX2_lawOfWord_2 15 rfl rfl)
theorem dX2_lawOfWord_62 : decode cX2_lawOfWord 62 = .ok (.goto 30, 3) := dk_167 0 30 (dk_at dksX2_lawOfWord_2 16 rfl rfl)
theorem dX2_lawOfWord_65 : decode cX2_lawOfWord 65 = .ok (.lload_n 1, 1) := dk_31 (dk_at dksX2_lawOfWord_2 19 rfl rfl)
theorem dX2_lawOfWord_66 : decode cX2_lawOfWord 66 = .ok (.ldc2_w 228, 3) := dk_20 0 228 (dk_at dksX2_lawOfWord_2 20 rfl rfl)
theorem dX2_lawOfWord_69 : decode cX2_lawOfWord 69 = .ok (.lcmp, 1) := dk_148 (dk_at dksX2_lawOfWord_2 23 rfl rfl)
theorem dX2_lawOfWord_70 : decode cX2_lawOfWord 70 = .ok (.ifCond .ne 7, 3) := dk_154 0 7 (dk_at dksX2_lawOfWord_3 0 rfl rfl)
theorem dX2_lawOfWord_73 : decode cX2_lawOfWord 73 = .ok (.iconst 5, 1) := dk_8 (dk_at dksX2_lawOfWord_3 3 rfl rfl)
theorem dX2_lawOfWord_74 : decode cX2_lawOfWord 74 = .ok (.goto 18, 3) := dk_167 0 18 (dk_at dksX2_lawOfWord_3 4 rfl rfl)
theorem dX2_lawOfWord_77 : decode cX2_lawOfWord 77 = .ok (.lload_n 1, 1) := dk_31 (dk_at dksX2_lawOfWord_3 7 rfl rfl)
theorem dX2_lawOfWord_78 : decode cX2_lawOfWord 78 = .ok (.ldc2_w 230, 3) := dk_20 0 230 (dk_at dksX2_lawOfWord_3 8 rfl rfl)
theorem dX2_lawOfWord_81 : decode cX2_lawOfWord 81 = .ok (.lcmp, 1) := dk_148 (dk_at dksX2_lawOfWord_3 11 rfl rfl)
theorem dX2_lawOfWord_82 : decode cX2_lawOfWord 82 = .ok (.ifCond .ne 8, 3) := dk_154 0 8 (dk_at dksX2_lawOfWord_3 12 rfl rfl)
theorem dX2_lawOfWord_85 : decode cX2_lawOfWord 85 = .ok (.bipush 6, 2) := dk_16 6 (dk_at dksX2_lawOfWord_3 15 rfl rfl)
theorem dX2_lawOfWord_87 : decode cX2_lawOfWord 87 = .ok (.goto 5, 3) := dk_167 0 5 (dk_at dksX2_lawOfWord_3 17 rfl rfl)
theorem dX2_lawOfWord_90 : decode cX2_lawOfWord 90 = .ok (.ldc 129, 2) := dk_18 129 (dk_at dksX2_lawOfWord_3 20 rfl rfl)
theorem dX2_lawOfWord_92 : decode cX2_lawOfWord 92 = .ok (.ireturn, 1) := dk_172 (dk_at dksX2_lawOfWord_3 22 rfl rfl)
abbrev cX2_fault : ByteArray := prog_17_method_31_code
def yX2_fault : MethodName := ⟨RX2, "fault", "()I"⟩
def dkwX2_fault_0 : List UInt8 := [42, 3, 181, 0, 1, 42, 180, 0, 250, 172]
abbrev dktX2_fault_0 : List UInt8 := dkwX2_fault_0 ++ []
theorem dksX2_fault_0 : cX2_fault.data.toList.drop 0 = dktX2_fault_0 := by decide +kernel
theorem dX2_fault_0 : decode cX2_fault 0 = .ok (.aload_n 0, 1) := dk_42 (dk_at dksX2_fault_0 0 rfl rfl)
theorem dX2_fault_1 : decode cX2_fault 1 = .ok (.iconst 0, 1) := dk_3 (dk_at dksX2_fault_0 1 rfl rfl)
theorem dX2_fault_2 : decode cX2_fault 2 = .ok (.putfield 1, 3) := dk_181 0 1 (dk_at dksX2_fault_0 2 rfl rfl)
theorem dX2_fault_5 : decode cX2_fault 5 = .ok (.aload_n 0, 1) := dk_42 (dk_at dksX2_fault_0 5 rfl rfl)
theorem dX2_fault_6 : decode cX2_fault 6 = .ok (.getfield 250, 3) := dk_180 0 250 (dk_at dksX2_fault_0 6 rfl rfl)
theorem dX2_fault_9 : decode cX2_fault 9 = .ok (.ireturn, 1) := dk_172 (dk_at dksX2_fault_0 9 rfl rfl)
abbrev cX2_holds : ByteArray := prog_17_method_36_code
def yX2_holds : MethodName := ⟨RX2, "holds", "(II)I"⟩
def dkwX2_holds_6 : List UInt8 := [153, 0, 7, 4, 167, 0, 9, 3, 167, 0, 5, 18, 142, 172]
abbrev dktX2_holds_6 : List UInt8 := dkwX2_holds_6 ++ []
def dkwX2_holds_5 : List UInt8 := [133, 20, 1, 24, 20, 1, 26, 184, 0, 132, 153, 0, 23, 42, 28, 16, 40, 100, 27, 182, 1, 28]
abbrev dktX2_holds_5 : List UInt8 := dkwX2_holds_5 ++ dktX2_holds_6
def dkwX2_holds_4 : List UInt8 := [153, 0, 23, 42, 28, 16, 30, 100, 27, 182, 1, 21, 153, 0, 7, 4, 167, 0, 43, 3, 167, 0, 39, 28]
abbrev dktX2_holds_4 : List UInt8 := dkwX2_holds_4 ++ dktX2_holds_5
def dkwX2_holds_3 : List UInt8 := [27, 5, 28, 16, 20, 100, 182, 1, 5, 167, 0, 73, 28, 133, 20, 1, 17, 20, 1, 19, 184, 0, 132]
abbrev dktX2_holds_3 : List UInt8 := dkwX2_holds_3 ++ dktX2_holds_4
def dkwX2_holds_2 : List UInt8 := [16, 10, 100, 182, 1, 5, 167, 0, 100, 28, 133, 20, 1, 13, 20, 1, 15, 184, 0, 132, 153, 0, 16, 42]
abbrev dktX2_holds_2 : List UInt8 := dkwX2_holds_2 ++ dktX2_holds_3
def dkwX2_holds_1 : List UInt8 := [182, 1, 5, 167, 0, 127, 28, 133, 20, 1, 9, 20, 1, 11, 184, 0, 132, 153, 0, 16, 42, 27, 4, 28]
abbrev dktX2_holds_1 : List UInt8 := dkwX2_holds_1 ++ dktX2_holds_2
def dkwX2_holds_0 : List UInt8 := [42, 3, 181, 0, 1, 27, 184, 1, 2, 154, 0, 6, 18, 142, 172, 28, 154, 0, 13, 42, 27, 3, 3]
abbrev dktX2_holds_0 : List UInt8 := dkwX2_holds_0 ++ dktX2_holds_1
theorem dksX2_holds_0 : cX2_holds.data.toList.drop 0 = dktX2_holds_0 := by decide +kernel
theorem dksX2_holds_1 : cX2_holds.data.toList.drop 23 = dktX2_holds_1 := dk_seg dksX2_holds_0 23 rfl rfl
theorem dksX2_holds_2 : cX2_holds.data.toList.drop 47 = dktX2_holds_2 := dk_seg dksX2_holds_1 24 rfl rfl
theorem dksX2_holds_3 : cX2_holds.data.toList.drop 71 = dktX2_holds_3 := dk_seg dksX2_holds_2 24 rfl rfl
theorem dksX2_holds_4 : cX2_holds.data.toList.drop 94 = dktX2_holds_4 := dk_seg dksX2_holds_3 23 rfl rfl
theorem dksX2_holds_5 : cX2_holds.data.toList.drop 118 = dktX2_holds_5 := dk_seg dksX2_holds_4 24 rfl rfl
theorem dksX2_holds_6 : cX2_holds.data.toList.drop 140 = dktX2_holds_6 := dk_seg dksX2_holds_5 22 rfl rfl
theorem dX2_holds_0 : decode cX2_holds 0 = .ok (.aload_n 0, 1) := dk_42 (dk_at dksX2_holds_0 0 rfl rfl)
theorem dX2_holds_1 : decode cX2_holds 1 = .ok (.iconst 0, 1) := dk_3 (dk_at dksX2_holds_0 1 rfl rfl)
theorem dX2_holds_2 : decode cX2_holds 2 = .ok (.putfield 1, 3) := dk_181 0 1 (dk_at dksX2_holds_0 2 rfl rfl)
theorem dX2_holds_5 : decode cX2_holds 5 = .ok (.iload_n 1, 1) := dk_27 (dk_at dksX2_holds_0 5 rfl rfl)
theorem dX2_holds_6 : decode cX2_holds 6 = .ok (.invokestatic 258, 3) := dk_184 1 2 (dk_at dksX2_holds_0 6 rfl rfl)
theorem dX2_holds_9 : decode cX2_holds 9 = .ok (.ifCond .ne 6, 3) := dk_154 0 6 (dk_at dksX2_holds_0 9 rfl rfl)
theorem dX2_holds_12 : decode cX2_holds 12 = .ok (.ldc 142, 2) := dk_18 142 (dk_at dksX2_holds_0 12 rfl rfl)
theorem dX2_holds_14 : decode cX2_holds 14 = .ok (.ireturn, 1) := dk_172 (dk_at dksX2_holds_0 14 rfl rfl)
theorem dX2_holds_15 : decode cX2_holds 15 = .ok (.iload_n 2, 1) := dk_28 (dk_at dksX2_holds_0 15 rfl rfl)
theorem dX2_holds_16 : decode cX2_holds 16 = .ok (.ifCond .ne 13, 3) := dk_154 0 13 (dk_at dksX2_holds_0 16 rfl rfl)
theorem dX2_holds_19 : decode cX2_holds 19 = .ok (.aload_n 0, 1) := dk_42 (dk_at dksX2_holds_0 19 rfl rfl)
theorem dX2_holds_20 : decode cX2_holds 20 = .ok (.iload_n 1, 1) := dk_27 (dk_at dksX2_holds_0 20 rfl rfl)
theorem dX2_holds_21 : decode cX2_holds 21 = .ok (.iconst 0, 1) := dk_3 (dk_at dksX2_holds_0 21 rfl rfl)
theorem dX2_holds_22 : decode cX2_holds 22 = .ok (.iconst 0, 1) := dk_3 (dk_at dksX2_holds_0 22 rfl rfl)
theorem dX2_holds_23 : decode cX2_holds 23 = .ok (.invokevirtual 261, 3) := dk_182 1 5 (dk_at dksX2_holds_1 0 rfl rfl)
theorem dX2_holds_26 : decode cX2_holds 26 = .ok (.goto 127, 3) := dk_167 0 127 (dk_at dksX2_holds_1 3 rfl rfl)
theorem dX2_holds_29 : decode cX2_holds 29 = .ok (.iload_n 2, 1) := dk_28 (dk_at dksX2_holds_1 6 rfl rfl)
theorem dX2_holds_30 : decode cX2_holds 30 = .ok (.i2l, 1) := dk_133 (dk_at dksX2_holds_1 7 rfl rfl)
theorem dX2_holds_31 : decode cX2_holds 31 = .ok (.ldc2_w 265, 3) := dk_20 1 9 (dk_at dksX2_holds_1 8 rfl rfl)
theorem dX2_holds_34 : decode cX2_holds 34 = .ok (.ldc2_w 267, 3) := dk_20 1 11 (dk_at dksX2_holds_1 11 rfl rfl)
theorem dX2_holds_37 : decode cX2_holds 37 = .ok (.invokestatic 132, 3) := dk_184 0 132 (dk_at dksX2_holds_1 14 rfl rfl)
theorem dX2_holds_40 : decode cX2_holds 40 = .ok (.ifCond .eq 16, 3) := dk_153 0 16 (dk_at dksX2_holds_1 17 rfl rfl)
theorem dX2_holds_43 : decode cX2_holds 43 = .ok (.aload_n 0, 1) := dk_42 (dk_at dksX2_holds_1 20 rfl rfl)
theorem dX2_holds_44 : decode cX2_holds 44 = .ok (.iload_n 1, 1) := dk_27 (dk_at dksX2_holds_1 21 rfl rfl)
theorem dX2_holds_45 : decode cX2_holds 45 = .ok (.iconst 1, 1) := dk_4 (dk_at dksX2_holds_1 22 rfl rfl)
theorem dX2_holds_46 : decode cX2_holds 46 = .ok (.iload_n 2, 1) := dk_28 (dk_at dksX2_holds_1 23 rfl rfl)
theorem dX2_holds_47 : decode cX2_holds 47 = .ok (.bipush 10, 2) := dk_16 10 (dk_at dksX2_holds_2 0 rfl rfl)
theorem dX2_holds_49 : decode cX2_holds 49 = .ok (.isub, 1) := dk_100 (dk_at dksX2_holds_2 2 rfl rfl)
theorem dX2_holds_50 : decode cX2_holds 50 = .ok (.invokevirtual 261, 3) := dk_182 1 5 (dk_at dksX2_holds_2 3 rfl rfl)
theorem dX2_holds_53 : decode cX2_holds 53 = .ok (.goto 100, 3) := dk_167 0 100 (dk_at dksX2_holds_2 6 rfl rfl)
theorem dX2_holds_56 : decode cX2_holds 56 = .ok (.iload_n 2, 1) := dk_28 (dk_at dksX2_holds_2 9 rfl rfl)
theorem dX2_holds_57 : decode cX2_holds 57 = .ok (.i2l, 1) := dk_133 (dk_at dksX2_holds_2 10 rfl rfl)
theorem dX2_holds_58 : decode cX2_holds 58 = .ok (.ldc2_w 269, 3) := dk_20 1 13 (dk_at dksX2_holds_2 11 rfl rfl)
theorem dX2_holds_61 : decode cX2_holds 61 = .ok (.ldc2_w 271, 3) := dk_20 1 15 (dk_at dksX2_holds_2 14 rfl rfl)
theorem dX2_holds_64 : decode cX2_holds 64 = .ok (.invokestatic 132, 3) := dk_184 0 132 (dk_at dksX2_holds_2 17 rfl rfl)
theorem dX2_holds_67 : decode cX2_holds 67 = .ok (.ifCond .eq 16, 3) := dk_153 0 16 (dk_at dksX2_holds_2 20 rfl rfl)
theorem dX2_holds_70 : decode cX2_holds 70 = .ok (.aload_n 0, 1) := dk_42 (dk_at dksX2_holds_2 23 rfl rfl)
theorem dX2_holds_71 : decode cX2_holds 71 = .ok (.iload_n 1, 1) := dk_27 (dk_at dksX2_holds_3 0 rfl rfl)
theorem dX2_holds_72 : decode cX2_holds 72 = .ok (.iconst 2, 1) := dk_5 (dk_at dksX2_holds_3 1 rfl rfl)
theorem dX2_holds_73 : decode cX2_holds 73 = .ok (.iload_n 2, 1) := dk_28 (dk_at dksX2_holds_3 2 rfl rfl)
theorem dX2_holds_74 : decode cX2_holds 74 = .ok (.bipush 20, 2) := dk_16 20 (dk_at dksX2_holds_3 3 rfl rfl)
theorem dX2_holds_76 : decode cX2_holds 76 = .ok (.isub, 1) := dk_100 (dk_at dksX2_holds_3 5 rfl rfl)
theorem dX2_holds_77 : decode cX2_holds 77 = .ok (.invokevirtual 261, 3) := dk_182 1 5 (dk_at dksX2_holds_3 6 rfl rfl)
theorem dX2_holds_80 : decode cX2_holds 80 = .ok (.goto 73, 3) := dk_167 0 73 (dk_at dksX2_holds_3 9 rfl rfl)
theorem dX2_holds_83 : decode cX2_holds 83 = .ok (.iload_n 2, 1) := dk_28 (dk_at dksX2_holds_3 12 rfl rfl)
theorem dX2_holds_84 : decode cX2_holds 84 = .ok (.i2l, 1) := dk_133 (dk_at dksX2_holds_3 13 rfl rfl)
theorem dX2_holds_85 : decode cX2_holds 85 = .ok (.ldc2_w 273, 3) := dk_20 1 17 (dk_at dksX2_holds_3 14 rfl rfl)
theorem dX2_holds_88 : decode cX2_holds 88 = .ok (.ldc2_w 275, 3) := dk_20 1 19 (dk_at dksX2_holds_3 17 rfl rfl)
theorem dX2_holds_91 : decode cX2_holds 91 = .ok (.invokestatic 132, 3) := dk_184 0 132 (dk_at dksX2_holds_3 20 rfl rfl)
theorem dX2_holds_94 : decode cX2_holds 94 = .ok (.ifCond .eq 23, 3) := dk_153 0 23 (dk_at dksX2_holds_4 0 rfl rfl)
theorem dX2_holds_97 : decode cX2_holds 97 = .ok (.aload_n 0, 1) := dk_42 (dk_at dksX2_holds_4 3 rfl rfl)
theorem dX2_holds_98 : decode cX2_holds 98 = .ok (.iload_n 2, 1) := dk_28 (dk_at dksX2_holds_4 4 rfl rfl)
theorem dX2_holds_99 : decode cX2_holds 99 = .ok (.bipush 30, 2) := dk_16 30 (dk_at dksX2_holds_4 5 rfl rfl)
theorem dX2_holds_101 : decode cX2_holds 101 = .ok (.isub, 1) := dk_100 (dk_at dksX2_holds_4 7 rfl rfl)
theorem dX2_holds_102 : decode cX2_holds 102 = .ok (.iload_n 1, 1) := dk_27 (dk_at dksX2_holds_4 8 rfl rfl)
theorem dX2_holds_103 : decode cX2_holds 103 = .ok (.invokevirtual 277, 3) := dk_182 1 21 (dk_at dksX2_holds_4 9 rfl rfl)
theorem dX2_holds_106 : decode cX2_holds 106 = .ok (.ifCond .eq 7, 3) := dk_153 0 7 (dk_at dksX2_holds_4 12 rfl rfl)
theorem dX2_holds_109 : decode cX2_holds 109 = .ok (.iconst 1, 1) := dk_4 (dk_at dksX2_holds_4 15 rfl rfl)
theorem dX2_holds_110 : decode cX2_holds 110 = .ok (.goto 43, 3) := dk_167 0 43 (dk_at dksX2_holds_4 16 rfl rfl)
theorem dX2_holds_113 : decode cX2_holds 113 = .ok (.iconst 0, 1) := dk_3 (dk_at dksX2_holds_4 19 rfl rfl)
theorem dX2_holds_114 : decode cX2_holds 114 = .ok (.goto 39, 3) := dk_167 0 39 (dk_at dksX2_holds_4 20 rfl rfl)
theorem dX2_holds_117 : decode cX2_holds 117 = .ok (.iload_n 2, 1) := dk_28 (dk_at dksX2_holds_4 23 rfl rfl)
theorem dX2_holds_118 : decode cX2_holds 118 = .ok (.i2l, 1) := dk_133 (dk_at dksX2_holds_5 0 rfl rfl)
theorem dX2_holds_119 : decode cX2_holds 119 = .ok (.ldc2_w 280, 3) := dk_20 1 24 (dk_at dksX2_holds_5 1 rfl rfl)
theorem dX2_holds_122 : decode cX2_holds 122 = .ok (.ldc2_w 282, 3) := dk_20 1 26 (dk_at dksX2_holds_5 4 rfl rfl)
theorem dX2_holds_125 : decode cX2_holds 125 = .ok (.invokestatic 132, 3) := dk_184 0 132 (dk_at dksX2_holds_5 7 rfl rfl)
theorem dX2_holds_128 : decode cX2_holds 128 = .ok (.ifCond .eq 23, 3) := dk_153 0 23 (dk_at dksX2_holds_5 10 rfl rfl)
theorem dX2_holds_131 : decode cX2_holds 131 = .ok (.aload_n 0, 1) := dk_42 (dk_at dksX2_holds_5 13 rfl rfl)
theorem dX2_holds_132 : decode cX2_holds 132 = .ok (.iload_n 2, 1) := dk_28 (dk_at dksX2_holds_5 14 rfl rfl)
theorem dX2_holds_133 : decode cX2_holds 133 = .ok (.bipush 40, 2) := dk_16 40 (dk_at dksX2_holds_5 15 rfl rfl)
theorem dX2_holds_135 : decode cX2_holds 135 = .ok (.isub, 1) := dk_100 (dk_at dksX2_holds_5 17 rfl rfl)
theorem dX2_holds_136 : decode cX2_holds 136 = .ok (.iload_n 1, 1) := dk_27 (dk_at dksX2_holds_5 18 rfl rfl)
theorem dX2_holds_137 : decode cX2_holds 137 = .ok (.invokevirtual 284, 3) := dk_182 1 28 (dk_at dksX2_holds_5 19 rfl rfl)
theorem dX2_holds_140 : decode cX2_holds 140 = .ok (.ifCond .eq 7, 3) := dk_153 0 7 (dk_at dksX2_holds_6 0 rfl rfl)
theorem dX2_holds_143 : decode cX2_holds 143 = .ok (.iconst 1, 1) := dk_4 (dk_at dksX2_holds_6 3 rfl rfl)
theorem dX2_holds_144 : decode cX2_holds 144 = .ok (.goto 9, 3) := dk_167 0 9 (dk_at dksX2_holds_6 4 rfl rfl)
theorem dX2_holds_147 : decode cX2_holds 147 = .ok (.iconst 0, 1) := dk_3 (dk_at dksX2_holds_6 7 rfl rfl)
theorem dX2_holds_148 : decode cX2_holds 148 = .ok (.goto 5, 3) := dk_167 0 5 (dk_at dksX2_holds_6 8 rfl rfl)
theorem dX2_holds_151 : decode cX2_holds 151 = .ok (.ldc 142, 2) := dk_18 142 (dk_at dksX2_holds_6 11 rfl rfl)
theorem dX2_holds_153 : decode cX2_holds 153 = .ok (.ireturn, 1) := dk_172 (dk_at dksX2_holds_6 13 rfl rfl)
abbrev cX2_isDay : ByteArray := prog_17_method_12_code
def yX2_isDay : MethodName := ⟨RX2, "isDay", "(I)Z"⟩
def dkwX2_isDay_0 : List UInt8 := [26, 133, 9, 20, 0, 149, 184, 0, 132, 172]
abbrev dktX2_isDay_0 : List UInt8 := dkwX2_isDay_0 ++ []
theorem dksX2_isDay_0 : cX2_isDay.data.toList.drop 0 = dktX2_isDay_0 := by decide +kernel
theorem dX2_isDay_0 : decode cX2_isDay 0 = .ok (.iload_n 0, 1) := dk_26 (dk_at dksX2_isDay_0 0 rfl rfl)
theorem dX2_isDay_1 : decode cX2_isDay 1 = .ok (.i2l, 1) := dk_133 (dk_at dksX2_isDay_0 1 rfl rfl)
theorem dX2_isDay_2 : decode cX2_isDay 2 = .ok (.lconst 0, 1) := dk_9 (dk_at dksX2_isDay_0 2 rfl rfl)
theorem dX2_isDay_3 : decode cX2_isDay 3 = .ok (.ldc2_w 149, 3) := dk_20 0 149 (dk_at dksX2_isDay_0 3 rfl rfl)
theorem dX2_isDay_6 : decode cX2_isDay 6 = .ok (.invokestatic 132, 3) := dk_184 0 132 (dk_at dksX2_isDay_0 6 rfl rfl)
theorem dX2_isDay_9 : decode cX2_isDay 9 = .ok (.ireturn, 1) := dk_172 (dk_at dksX2_isDay_0 9 rfl rfl)
abbrev cX2_numberFor : ByteArray := prog_17_method_33_code
def yX2_numberFor : MethodName := ⟨RX2, "numberFor", "(III)I"⟩
def dkwX2_numberFor_1 : List UInt8 := [180, 0, 51, 21, 4, 46, 172]
abbrev dktX2_numberFor_1 : List UInt8 := dkwX2_numberFor_1 ++ []
def dkwX2_numberFor_0 : List UInt8 := [42, 27, 28, 28, 29, 182, 0, 254, 54, 4, 21, 4, 18, 129, 160, 0, 7, 3, 167, 0, 10, 42]
abbrev dktX2_numberFor_0 : List UInt8 := dkwX2_numberFor_0 ++ dktX2_numberFor_1
theorem dksX2_numberFor_0 : cX2_numberFor.data.toList.drop 0 = dktX2_numberFor_0 := by decide +kernel
theorem dksX2_numberFor_1 : cX2_numberFor.data.toList.drop 22 = dktX2_numberFor_1 := dk_seg dksX2_numberFor_0 22 rfl rfl
theorem dX2_numberFor_0 : decode cX2_numberFor 0 = .ok (.aload_n 0, 1) := dk_42 (dk_at dksX2_numberFor_0 0 rfl rfl)
theorem dX2_numberFor_1 : decode cX2_numberFor 1 = .ok (.iload_n 1, 1) := dk_27 (dk_at dksX2_numberFor_0 1 rfl rfl)
theorem dX2_numberFor_2 : decode cX2_numberFor 2 = .ok (.iload_n 2, 1) := dk_28 (dk_at dksX2_numberFor_0 2 rfl rfl)
theorem dX2_numberFor_3 : decode cX2_numberFor 3 = .ok (.iload_n 2, 1) := dk_28 (dk_at dksX2_numberFor_0 3 rfl rfl)
theorem dX2_numberFor_4 : decode cX2_numberFor 4 = .ok (.iload_n 3, 1) := dk_29 (dk_at dksX2_numberFor_0 4 rfl rfl)
theorem dX2_numberFor_5 : decode cX2_numberFor 5 = .ok (.invokevirtual 254, 3) := dk_182 0 254 (dk_at dksX2_numberFor_0 5 rfl rfl)
theorem dX2_numberFor_8 : decode cX2_numberFor 8 = .ok (.istore 4, 2) := dk_54 4 (dk_at dksX2_numberFor_0 8 rfl rfl)
theorem dX2_numberFor_10 : decode cX2_numberFor 10 = .ok (.iload 4, 2) := dk_21 4 (dk_at dksX2_numberFor_0 10 rfl rfl)
theorem dX2_numberFor_12 : decode cX2_numberFor 12 = .ok (.ldc 129, 2) := dk_18 129 (dk_at dksX2_numberFor_0 12 rfl rfl)
theorem dX2_numberFor_14 : decode cX2_numberFor 14 = .ok (.if_icmp .ne 7, 3) := dk_160 0 7 (dk_at dksX2_numberFor_0 14 rfl rfl)
theorem dX2_numberFor_17 : decode cX2_numberFor 17 = .ok (.iconst 0, 1) := dk_3 (dk_at dksX2_numberFor_0 17 rfl rfl)
theorem dX2_numberFor_18 : decode cX2_numberFor 18 = .ok (.goto 10, 3) := dk_167 0 10 (dk_at dksX2_numberFor_0 18 rfl rfl)
theorem dX2_numberFor_21 : decode cX2_numberFor 21 = .ok (.aload_n 0, 1) := dk_42 (dk_at dksX2_numberFor_0 21 rfl rfl)
theorem dX2_numberFor_22 : decode cX2_numberFor 22 = .ok (.getfield 51, 3) := dk_180 0 51 (dk_at dksX2_numberFor_1 0 rfl rfl)
theorem dX2_numberFor_25 : decode cX2_numberFor 25 = .ok (.iload 4, 2) := dk_21 4 (dk_at dksX2_numberFor_1 3 rfl rfl)
theorem dX2_numberFor_27 : decode cX2_numberFor 27 = .ok (.iaload, 1) := dk_46 (dk_at dksX2_numberFor_1 5 rfl rfl)
theorem dX2_numberFor_28 : decode cX2_numberFor 28 = .ok (.ireturn, 1) := dk_172 (dk_at dksX2_numberFor_1 6 rfl rfl)
abbrev cX2_lawFor : ByteArray := prog_17_method_32_code
def yX2_lawFor : MethodName := ⟨RX2, "lawFor", "(IIII)I"⟩
def dkwX2_lawFor_4 : List UInt8 := [161, 0, 8, 21, 6, 167, 0, 5, 21, 5, 54, 5, 132, 6, 1, 167, 255, 154, 21, 5, 172]
abbrev dktX2_lawFor_4 : List UInt8 := dkwX2_lawFor_4 ++ []
def dkwX2_lawFor_3 : List UInt8 := [153, 0, 32, 21, 5, 18, 129, 159, 0, 20, 42, 180, 0, 42, 21, 6, 46, 42, 180, 0, 42, 21, 5, 46]
abbrev dktX2_lawFor_3 : List UInt8 := dkwX2_lawFor_3 ++ dktX2_lawFor_4
def dkwX2_lawFor_2 : List UInt8 := [160, 0, 18, 42, 180, 0, 42, 21, 6, 46, 27, 163, 0, 7, 4, 167, 0, 4, 3, 54, 7, 21, 7]
abbrev dktX2_lawFor_2 : List UInt8 := dkwX2_lawFor_2 ++ dktX2_lawFor_3
def dkwX2_lawFor_1 : List UInt8 := [159, 0, 14, 42, 180, 0, 45, 21, 6, 46, 29, 160, 0, 30, 42, 180, 0, 48, 21, 6, 46, 21, 4]
abbrev dktX2_lawFor_1 : List UInt8 := dkwX2_lawFor_1 ++ dktX2_lawFor_2
def dkwX2_lawFor_0 : List UInt8 := [18, 129, 54, 5, 3, 54, 6, 21, 6, 42, 180, 0, 242, 162, 0, 99, 42, 180, 0, 45, 21, 6, 46, 28]
abbrev dktX2_lawFor_0 : List UInt8 := dkwX2_lawFor_0 ++ dktX2_lawFor_1
theorem dksX2_lawFor_0 : cX2_lawFor.data.toList.drop 0 = dktX2_lawFor_0 := by decide +kernel
theorem dksX2_lawFor_1 : cX2_lawFor.data.toList.drop 24 = dktX2_lawFor_1 := dk_seg dksX2_lawFor_0 24 rfl rfl
theorem dksX2_lawFor_2 : cX2_lawFor.data.toList.drop 47 = dktX2_lawFor_2 := dk_seg dksX2_lawFor_1 23 rfl rfl
theorem dksX2_lawFor_3 : cX2_lawFor.data.toList.drop 70 = dktX2_lawFor_3 := dk_seg dksX2_lawFor_2 23 rfl rfl
theorem dksX2_lawFor_4 : cX2_lawFor.data.toList.drop 94 = dktX2_lawFor_4 := dk_seg dksX2_lawFor_3 24 rfl rfl
theorem dX2_lawFor_0 : decode cX2_lawFor 0 = .ok (.ldc 129, 2) := dk_18 129 (dk_at dksX2_lawFor_0 0 rfl rfl)
theorem dX2_lawFor_2 : decode cX2_lawFor 2 = .ok (.istore 5, 2) := dk_54 5 (dk_at dksX2_lawFor_0 2 rfl rfl)
theorem dX2_lawFor_4 : decode cX2_lawFor 4 = .ok (.iconst 0, 1) := dk_3 (dk_at dksX2_lawFor_0 4 rfl rfl)
theorem dX2_lawFor_5 : decode cX2_lawFor 5 = .ok (.istore 6, 2) := dk_54 6 (dk_at dksX2_lawFor_0 5 rfl rfl)
theorem dX2_lawFor_7 : decode cX2_lawFor 7 = .ok (.iload 6, 2) := dk_21 6 (dk_at dksX2_lawFor_0 7 rfl rfl)
theorem dX2_lawFor_9 : decode cX2_lawFor 9 = .ok (.aload_n 0, 1) := dk_42 (dk_at dksX2_lawFor_0 9 rfl rfl)
theorem dX2_lawFor_10 : decode cX2_lawFor 10 = .ok (.getfield 242, 3) := dk_180 0 242 (dk_at dksX2_lawFor_0 10 rfl rfl)
theorem dX2_lawFor_13 : decode cX2_lawFor 13 = .ok (.if_icmp .ge 99, 3) := dk_162 0 99 (dk_at dksX2_lawFor_0 13 rfl rfl)
theorem dX2_lawFor_16 : decode cX2_lawFor 16 = .ok (.aload_n 0, 1) := dk_42 (dk_at dksX2_lawFor_0 16 rfl rfl)
theorem dX2_lawFor_17 : decode cX2_lawFor 17 = .ok (.getfield 45, 3) := dk_180 0 45 (dk_at dksX2_lawFor_0 17 rfl rfl)
theorem dX2_lawFor_20 : decode cX2_lawFor 20 = .ok (.iload 6, 2) := dk_21 6 (dk_at dksX2_lawFor_0 20 rfl rfl)
theorem dX2_lawFor_22 : decode cX2_lawFor 22 = .ok (.iaload, 1) := dk_46 (dk_at dksX2_lawFor_0 22 rfl rfl)
theorem dX2_lawFor_23 : decode cX2_lawFor 23 = .ok (.iload_n 2, 1) := dk_28 (dk_at dksX2_lawFor_0 23 rfl rfl)
theorem dX2_lawFor_24 : decode cX2_lawFor 24 = .ok (.if_icmp .eq 14, 3) := dk_159 0 14 (dk_at dksX2_lawFor_1 0 rfl rfl)
theorem dX2_lawFor_27 : decode cX2_lawFor 27 = .ok (.aload_n 0, 1) := dk_42 (dk_at dksX2_lawFor_1 3 rfl rfl)
theorem dX2_lawFor_28 : decode cX2_lawFor 28 = .ok (.getfield 45, 3) := dk_180 0 45 (dk_at dksX2_lawFor_1 4 rfl rfl)
theorem dX2_lawFor_31 : decode cX2_lawFor 31 = .ok (.iload 6, 2) := dk_21 6 (dk_at dksX2_lawFor_1 7 rfl rfl)
theorem dX2_lawFor_33 : decode cX2_lawFor 33 = .ok (.iaload, 1) := dk_46 (dk_at dksX2_lawFor_1 9 rfl rfl)
theorem dX2_lawFor_34 : decode cX2_lawFor 34 = .ok (.iload_n 3, 1) := dk_29 (dk_at dksX2_lawFor_1 10 rfl rfl)
theorem dX2_lawFor_35 : decode cX2_lawFor 35 = .ok (.if_icmp .ne 30, 3) := dk_160 0 30 (dk_at dksX2_lawFor_1 11 rfl rfl)
theorem dX2_lawFor_38 : decode cX2_lawFor 38 = .ok (.aload_n 0, 1) := dk_42 (dk_at dksX2_lawFor_1 14 rfl rfl)
theorem dX2_lawFor_39 : decode cX2_lawFor 39 = .ok (.getfield 48, 3) := dk_180 0 48 (dk_at dksX2_lawFor_1 15 rfl rfl)
theorem dX2_lawFor_42 : decode cX2_lawFor 42 = .ok (.iload 6, 2) := dk_21 6 (dk_at dksX2_lawFor_1 18 rfl rfl)
theorem dX2_lawFor_44 : decode cX2_lawFor 44 = .ok (.iaload, 1) := dk_46 (dk_at dksX2_lawFor_1 20 rfl rfl)
theorem dX2_lawFor_45 : decode cX2_lawFor 45 = .ok (.iload 4, 2) := dk_21 4 (dk_at dksX2_lawFor_1 21 rfl rfl)
theorem dX2_lawFor_47 : decode cX2_lawFor 47 = .ok (.if_icmp .ne 18, 3) := dk_160 0 18 (dk_at dksX2_lawFor_2 0 rfl rfl)
theorem dX2_lawFor_50 : decode cX2_lawFor 50 = .ok (.aload_n 0, 1) := dk_42 (dk_at dksX2_lawFor_2 3 rfl rfl)
theorem dX2_lawFor_51 : decode cX2_lawFor 51 = .ok (.getfield 42, 3) := dk_180 0 42 (dk_at dksX2_lawFor_2 4 rfl rfl)
theorem dX2_lawFor_54 : decode cX2_lawFor 54 = .ok (.iload 6, 2) := dk_21 6 (dk_at dksX2_lawFor_2 7 rfl rfl)
theorem dX2_lawFor_56 : decode cX2_lawFor 56 = .ok (.iaload, 1) := dk_46 (dk_at dksX2_lawFor_2 9 rfl rfl)
theorem dX2_lawFor_57 : decode cX2_lawFor 57 = .ok (.iload_n 1, 1) := dk_27 (dk_at dksX2_lawFor_2 10 rfl rfl)
theorem dX2_lawFor_58 : decode cX2_lawFor 58 = .ok (.if_icmp .gt 7, 3) := dk_163 0 7 (dk_at dksX2_lawFor_2 11 rfl rfl)
theorem dX2_lawFor_61 : decode cX2_lawFor 61 = .ok (.iconst 1, 1) := dk_4 (dk_at dksX2_lawFor_2 14 rfl rfl)
theorem dX2_lawFor_62 : decode cX2_lawFor 62 = .ok (.goto 4, 3) := dk_167 0 4 (dk_at dksX2_lawFor_2 15 rfl rfl)
theorem dX2_lawFor_65 : decode cX2_lawFor 65 = .ok (.iconst 0, 1) := dk_3 (dk_at dksX2_lawFor_2 18 rfl rfl)
theorem dX2_lawFor_66 : decode cX2_lawFor 66 = .ok (.istore 7, 2) := dk_54 7 (dk_at dksX2_lawFor_2 19 rfl rfl)
theorem dX2_lawFor_68 : decode cX2_lawFor 68 = .ok (.iload 7, 2) := dk_21 7 (dk_at dksX2_lawFor_2 21 rfl rfl)
theorem dX2_lawFor_70 : decode cX2_lawFor 70 = .ok (.ifCond .eq 32, 3) := dk_153 0 32 (dk_at dksX2_lawFor_3 0 rfl rfl)
theorem dX2_lawFor_73 : decode cX2_lawFor 73 = .ok (.iload 5, 2) := dk_21 5 (dk_at dksX2_lawFor_3 3 rfl rfl)
theorem dX2_lawFor_75 : decode cX2_lawFor 75 = .ok (.ldc 129, 2) := dk_18 129 (dk_at dksX2_lawFor_3 5 rfl rfl)
theorem dX2_lawFor_77 : decode cX2_lawFor 77 = .ok (.if_icmp .eq 20, 3) := dk_159 0 20 (dk_at dksX2_lawFor_3 7 rfl rfl)
theorem dX2_lawFor_80 : decode cX2_lawFor 80 = .ok (.aload_n 0, 1) := dk_42 (dk_at dksX2_lawFor_3 10 rfl rfl)
theorem dX2_lawFor_81 : decode cX2_lawFor 81 = .ok (.getfield 42, 3) := dk_180 0 42 (dk_at dksX2_lawFor_3 11 rfl rfl)
theorem dX2_lawFor_84 : decode cX2_lawFor 84 = .ok (.iload 6, 2) := dk_21 6 (dk_at dksX2_lawFor_3 14 rfl rfl)
theorem dX2_lawFor_86 : decode cX2_lawFor 86 = .ok (.iaload, 1) := dk_46 (dk_at dksX2_lawFor_3 16 rfl rfl)
theorem dX2_lawFor_87 : decode cX2_lawFor 87 = .ok (.aload_n 0, 1) := dk_42 (dk_at dksX2_lawFor_3 17 rfl rfl)
theorem dX2_lawFor_88 : decode cX2_lawFor 88 = .ok (.getfield 42, 3) := dk_180 0 42 (dk_at dksX2_lawFor_3 18 rfl rfl)
theorem dX2_lawFor_91 : decode cX2_lawFor 91 = .ok (.iload 5, 2) := dk_21 5 (dk_at dksX2_lawFor_3 21 rfl rfl)
theorem dX2_lawFor_93 : decode cX2_lawFor 93 = .ok (.iaload, 1) := dk_46 (dk_at dksX2_lawFor_3 23 rfl rfl)
theorem dX2_lawFor_94 : decode cX2_lawFor 94 = .ok (.if_icmp .lt 8, 3) := dk_161 0 8 (dk_at dksX2_lawFor_4 0 rfl rfl)
theorem dX2_lawFor_97 : decode cX2_lawFor 97 = .ok (.iload 6, 2) := dk_21 6 (dk_at dksX2_lawFor_4 3 rfl rfl)
theorem dX2_lawFor_99 : decode cX2_lawFor 99 = .ok (.goto 5, 3) := dk_167 0 5 (dk_at dksX2_lawFor_4 5 rfl rfl)
theorem dX2_lawFor_102 : decode cX2_lawFor 102 = .ok (.iload 5, 2) := dk_21 5 (dk_at dksX2_lawFor_4 8 rfl rfl)
theorem dX2_lawFor_104 : decode cX2_lawFor 104 = .ok (.istore 5, 2) := dk_54 5 (dk_at dksX2_lawFor_4 10 rfl rfl)
theorem dX2_lawFor_106 : decode cX2_lawFor 106 = .ok (.iinc 6 1, 3) := dk_132 6 1 (dk_at dksX2_lawFor_4 12 rfl rfl)
theorem dX2_lawFor_109 : decode cX2_lawFor 109 = .ok (.goto (-102), 3) := dk_167 255 154 (dk_at dksX2_lawFor_4 15 rfl rfl)
theorem dX2_lawFor_112 : decode cX2_lawFor 112 = .ok (.iload 5, 2) := dk_21 5 (dk_at dksX2_lawFor_4 18 rfl rfl)
theorem dX2_lawFor_114 : decode cX2_lawFor 114 = .ok (.ireturn, 1) := dk_172 (dk_at dksX2_lawFor_4 20 rfl rfl)
abbrev cX2_isGood : ByteArray := prog_17_method_34_code
def yX2_isGood : MethodName := ⟨RX2, "isGood", "(II)Z"⟩
def dkwX2_isGood_1 : List UInt8 := [160, 0, 7, 4, 167, 0, 4, 3, 172]
abbrev dktX2_isGood_1 : List UInt8 := dkwX2_isGood_1 ++ []
def dkwX2_isGood_0 : List UInt8 := [42, 28, 6, 7, 27, 182, 0, 254, 62, 29, 18, 129, 159, 0, 13, 42, 180, 0, 45, 29, 46, 6]
abbrev dktX2_isGood_0 : List UInt8 := dkwX2_isGood_0 ++ dktX2_isGood_1
theorem dksX2_isGood_0 : cX2_isGood.data.toList.drop 0 = dktX2_isGood_0 := by decide +kernel
theorem dksX2_isGood_1 : cX2_isGood.data.toList.drop 22 = dktX2_isGood_1 := dk_seg dksX2_isGood_0 22 rfl rfl
theorem dX2_isGood_0 : decode cX2_isGood 0 = .ok (.aload_n 0, 1) := dk_42 (dk_at dksX2_isGood_0 0 rfl rfl)
theorem dX2_isGood_1 : decode cX2_isGood 1 = .ok (.iload_n 2, 1) := dk_28 (dk_at dksX2_isGood_0 1 rfl rfl)
theorem dX2_isGood_2 : decode cX2_isGood 2 = .ok (.iconst 3, 1) := dk_6 (dk_at dksX2_isGood_0 2 rfl rfl)
theorem dX2_isGood_3 : decode cX2_isGood 3 = .ok (.iconst 4, 1) := dk_7 (dk_at dksX2_isGood_0 3 rfl rfl)
theorem dX2_isGood_4 : decode cX2_isGood 4 = .ok (.iload_n 1, 1) := dk_27 (dk_at dksX2_isGood_0 4 rfl rfl)
theorem dX2_isGood_5 : decode cX2_isGood 5 = .ok (.invokevirtual 254, 3) := dk_182 0 254 (dk_at dksX2_isGood_0 5 rfl rfl)
theorem dX2_isGood_8 : decode cX2_isGood 8 = .ok (.istore_n 3, 1) := dk_62 (dk_at dksX2_isGood_0 8 rfl rfl)
theorem dX2_isGood_9 : decode cX2_isGood 9 = .ok (.iload_n 3, 1) := dk_29 (dk_at dksX2_isGood_0 9 rfl rfl)
theorem dX2_isGood_10 : decode cX2_isGood 10 = .ok (.ldc 129, 2) := dk_18 129 (dk_at dksX2_isGood_0 10 rfl rfl)
theorem dX2_isGood_12 : decode cX2_isGood 12 = .ok (.if_icmp .eq 13, 3) := dk_159 0 13 (dk_at dksX2_isGood_0 12 rfl rfl)
theorem dX2_isGood_15 : decode cX2_isGood 15 = .ok (.aload_n 0, 1) := dk_42 (dk_at dksX2_isGood_0 15 rfl rfl)
theorem dX2_isGood_16 : decode cX2_isGood 16 = .ok (.getfield 45, 3) := dk_180 0 45 (dk_at dksX2_isGood_0 16 rfl rfl)
theorem dX2_isGood_19 : decode cX2_isGood 19 = .ok (.iload_n 3, 1) := dk_29 (dk_at dksX2_isGood_0 19 rfl rfl)
theorem dX2_isGood_20 : decode cX2_isGood 20 = .ok (.iaload, 1) := dk_46 (dk_at dksX2_isGood_0 20 rfl rfl)
theorem dX2_isGood_21 : decode cX2_isGood 21 = .ok (.iconst 3, 1) := dk_6 (dk_at dksX2_isGood_0 21 rfl rfl)
theorem dX2_isGood_22 : decode cX2_isGood 22 = .ok (.if_icmp .ne 7, 3) := dk_160 0 7 (dk_at dksX2_isGood_1 0 rfl rfl)
theorem dX2_isGood_25 : decode cX2_isGood 25 = .ok (.iconst 1, 1) := dk_4 (dk_at dksX2_isGood_1 3 rfl rfl)
theorem dX2_isGood_26 : decode cX2_isGood 26 = .ok (.goto 4, 3) := dk_167 0 4 (dk_at dksX2_isGood_1 4 rfl rfl)
theorem dX2_isGood_29 : decode cX2_isGood 29 = .ok (.iconst 0, 1) := dk_3 (dk_at dksX2_isGood_1 7 rfl rfl)
theorem dX2_isGood_30 : decode cX2_isGood 30 = .ok (.ireturn, 1) := dk_172 (dk_at dksX2_isGood_1 8 rfl rfl)
abbrev cX2_isBanned : ByteArray := prog_17_method_35_code
def yX2_isBanned : MethodName := ⟨RX2, "isBanned", "(II)Z"⟩
def dkwX2_isBanned_1 : List UInt8 := [160, 0, 7, 4, 167, 0, 4, 3, 172]
abbrev dktX2_isBanned_1 : List UInt8 := dkwX2_isBanned_1 ++ []
def dkwX2_isBanned_0 : List UInt8 := [42, 28, 8, 16, 6, 27, 182, 0, 254, 62, 29, 18, 129, 159, 0, 17, 42, 180, 0, 45, 29, 46, 8]
abbrev dktX2_isBanned_0 : List UInt8 := dkwX2_isBanned_0 ++ dktX2_isBanned_1
theorem dksX2_isBanned_0 : cX2_isBanned.data.toList.drop 0 = dktX2_isBanned_0 := by decide +kernel
theorem dksX2_isBanned_1 : cX2_isBanned.data.toList.drop 23 = dktX2_isBanned_1 := dk_seg dksX2_isBanned_0 23 rfl rfl
theorem dX2_isBanned_0 : decode cX2_isBanned 0 = .ok (.aload_n 0, 1) := dk_42 (dk_at dksX2_isBanned_0 0 rfl rfl)
theorem dX2_isBanned_1 : decode cX2_isBanned 1 = .ok (.iload_n 2, 1) := dk_28 (dk_at dksX2_isBanned_0 1 rfl rfl)
theorem dX2_isBanned_2 : decode cX2_isBanned 2 = .ok (.iconst 5, 1) := dk_8 (dk_at dksX2_isBanned_0 2 rfl rfl)
theorem dX2_isBanned_3 : decode cX2_isBanned 3 = .ok (.bipush 6, 2) := dk_16 6 (dk_at dksX2_isBanned_0 3 rfl rfl)
theorem dX2_isBanned_5 : decode cX2_isBanned 5 = .ok (.iload_n 1, 1) := dk_27 (dk_at dksX2_isBanned_0 5 rfl rfl)
theorem dX2_isBanned_6 : decode cX2_isBanned 6 = .ok (.invokevirtual 254, 3) := dk_182 0 254 (dk_at dksX2_isBanned_0 6 rfl rfl)
theorem dX2_isBanned_9 : decode cX2_isBanned 9 = .ok (.istore_n 3, 1) := dk_62 (dk_at dksX2_isBanned_0 9 rfl rfl)
theorem dX2_isBanned_10 : decode cX2_isBanned 10 = .ok (.iload_n 3, 1) := dk_29 (dk_at dksX2_isBanned_0 10 rfl rfl)
theorem dX2_isBanned_11 : decode cX2_isBanned 11 = .ok (.ldc 129, 2) := dk_18 129 (dk_at dksX2_isBanned_0 11 rfl rfl)
theorem dX2_isBanned_13 : decode cX2_isBanned 13 = .ok (.if_icmp .eq 17, 3) := dk_159 0 17 (dk_at dksX2_isBanned_0 13 rfl rfl)
theorem dX2_isBanned_16 : decode cX2_isBanned 16 = .ok (.aload_n 0, 1) := dk_42 (dk_at dksX2_isBanned_0 16 rfl rfl)
theorem dX2_isBanned_17 : decode cX2_isBanned 17 = .ok (.getfield 45, 3) := dk_180 0 45 (dk_at dksX2_isBanned_0 17 rfl rfl)
theorem dX2_isBanned_20 : decode cX2_isBanned 20 = .ok (.iload_n 3, 1) := dk_29 (dk_at dksX2_isBanned_0 20 rfl rfl)
theorem dX2_isBanned_21 : decode cX2_isBanned 21 = .ok (.iaload, 1) := dk_46 (dk_at dksX2_isBanned_0 21 rfl rfl)
theorem dX2_isBanned_22 : decode cX2_isBanned 22 = .ok (.iconst 5, 1) := dk_8 (dk_at dksX2_isBanned_0 22 rfl rfl)
theorem dX2_isBanned_23 : decode cX2_isBanned 23 = .ok (.if_icmp .ne 7, 3) := dk_160 0 7 (dk_at dksX2_isBanned_1 0 rfl rfl)
theorem dX2_isBanned_26 : decode cX2_isBanned 26 = .ok (.iconst 1, 1) := dk_4 (dk_at dksX2_isBanned_1 3 rfl rfl)
theorem dX2_isBanned_27 : decode cX2_isBanned 27 = .ok (.goto 4, 3) := dk_167 0 4 (dk_at dksX2_isBanned_1 4 rfl rfl)
theorem dX2_isBanned_30 : decode cX2_isBanned 30 = .ok (.iconst 0, 1) := dk_3 (dk_at dksX2_isBanned_1 7 rfl rfl)
theorem dX2_isBanned_31 : decode cX2_isBanned 31 = .ok (.ireturn, 1) := dk_172 (dk_at dksX2_isBanned_1 8 rfl rfl)
abbrev cX2_cart : ByteArray := prog_17_method_37_code
def yX2_cart : MethodName := ⟨RX2, "cart", "(II)I"⟩
def dkwX2_cart_6 : List UInt8 := [132, 5, 1, 167, 255, 221, 42, 89, 180, 1, 31, 4, 96, 181, 1, 31, 42, 180, 1, 31, 4, 100, 172]
abbrev dktX2_cart_6 : List UInt8 := dkwX2_cart_6 ++ []
def dkwX2_cart_5 : List UInt8 := [180, 0, 57, 16, 9, 42, 180, 1, 31, 104, 21, 5, 96, 42, 180, 0, 24, 21, 4, 21, 5, 96, 46, 79]
abbrev dktX2_cart_5 : List UInt8 := dkwX2_cart_5 ++ dktX2_cart_6
def dkwX2_cart_4 : List UInt8 := [132, 5, 1, 167, 255, 211, 42, 3, 181, 0, 7, 3, 54, 5, 21, 5, 16, 9, 162, 0, 34, 42]
abbrev dktX2_cart_4 : List UInt8 := dkwX2_cart_4 ++ dktX2_cart_5
def dkwX2_cart_3 : List UInt8 := [21, 5, 154, 0, 9, 20, 1, 37, 167, 0, 6, 20, 1, 39, 184, 0, 132, 154, 0, 6, 18, 142, 172]
abbrev dktX2_cart_3 : List UInt8 := dkwX2_cart_3 ++ dktX2_cart_4
def dkwX2_cart_2 : List UInt8 := [54, 4, 3, 54, 5, 21, 5, 16, 9, 162, 0, 44, 42, 180, 0, 24, 21, 4, 21, 5, 96, 46, 133, 9]
abbrev dktX2_cart_2 : List UInt8 := dkwX2_cart_2 ++ dktX2_cart_3
def dkwX2_cart_1 : List UInt8 := [18, 170, 172, 42, 27, 28, 16, 9, 182, 1, 34, 62, 29, 156, 0, 5, 29, 172, 16, 64, 27, 104, 28, 96]
abbrev dktX2_cart_1 : List UInt8 := dkwX2_cart_1 ++ dktX2_cart_2
def dkwX2_cart_0 : List UInt8 := [42, 3, 181, 0, 1, 27, 184, 0, 136, 154, 0, 6, 18, 142, 172, 42, 180, 1, 31, 16, 16, 160, 0, 6]
abbrev dktX2_cart_0 : List UInt8 := dkwX2_cart_0 ++ dktX2_cart_1
theorem dksX2_cart_0 : cX2_cart.data.toList.drop 0 = dktX2_cart_0 := by decide +kernel
theorem dksX2_cart_1 : cX2_cart.data.toList.drop 24 = dktX2_cart_1 := dk_seg dksX2_cart_0 24 rfl rfl
theorem dksX2_cart_2 : cX2_cart.data.toList.drop 48 = dktX2_cart_2 := dk_seg dksX2_cart_1 24 rfl rfl
theorem dksX2_cart_3 : cX2_cart.data.toList.drop 72 = dktX2_cart_3 := dk_seg dksX2_cart_2 24 rfl rfl
theorem dksX2_cart_4 : cX2_cart.data.toList.drop 95 = dktX2_cart_4 := dk_seg dksX2_cart_3 23 rfl rfl
theorem dksX2_cart_5 : cX2_cart.data.toList.drop 117 = dktX2_cart_5 := dk_seg dksX2_cart_4 22 rfl rfl
theorem dksX2_cart_6 : cX2_cart.data.toList.drop 141 = dktX2_cart_6 := dk_seg dksX2_cart_5 24 rfl rfl
theorem dX2_cart_0 : decode cX2_cart 0 = .ok (.aload_n 0, 1) := dk_42 (dk_at dksX2_cart_0 0 rfl rfl)
theorem dX2_cart_1 : decode cX2_cart 1 = .ok (.iconst 0, 1) := dk_3 (dk_at dksX2_cart_0 1 rfl rfl)
theorem dX2_cart_2 : decode cX2_cart 2 = .ok (.putfield 1, 3) := dk_181 0 1 (dk_at dksX2_cart_0 2 rfl rfl)
theorem dX2_cart_5 : decode cX2_cart 5 = .ok (.iload_n 1, 1) := dk_27 (dk_at dksX2_cart_0 5 rfl rfl)
theorem dX2_cart_6 : decode cX2_cart 6 = .ok (.invokestatic 136, 3) := dk_184 0 136 (dk_at dksX2_cart_0 6 rfl rfl)
theorem dX2_cart_9 : decode cX2_cart 9 = .ok (.ifCond .ne 6, 3) := dk_154 0 6 (dk_at dksX2_cart_0 9 rfl rfl)
theorem dX2_cart_12 : decode cX2_cart 12 = .ok (.ldc 142, 2) := dk_18 142 (dk_at dksX2_cart_0 12 rfl rfl)
theorem dX2_cart_14 : decode cX2_cart 14 = .ok (.ireturn, 1) := dk_172 (dk_at dksX2_cart_0 14 rfl rfl)
theorem dX2_cart_15 : decode cX2_cart 15 = .ok (.aload_n 0, 1) := dk_42 (dk_at dksX2_cart_0 15 rfl rfl)
theorem dX2_cart_16 : decode cX2_cart 16 = .ok (.getfield 287, 3) := dk_180 1 31 (dk_at dksX2_cart_0 16 rfl rfl)
theorem dX2_cart_19 : decode cX2_cart 19 = .ok (.bipush 16, 2) := dk_16 16 (dk_at dksX2_cart_0 19 rfl rfl)
theorem dX2_cart_21 : decode cX2_cart 21 = .ok (.if_icmp .ne 6, 3) := dk_160 0 6 (dk_at dksX2_cart_0 21 rfl rfl)
theorem dX2_cart_24 : decode cX2_cart 24 = .ok (.ldc 170, 2) := dk_18 170 (dk_at dksX2_cart_1 0 rfl rfl)
theorem dX2_cart_26 : decode cX2_cart 26 = .ok (.ireturn, 1) := dk_172 (dk_at dksX2_cart_1 2 rfl rfl)
theorem dX2_cart_27 : decode cX2_cart 27 = .ok (.aload_n 0, 1) := dk_42 (dk_at dksX2_cart_1 3 rfl rfl)
theorem dX2_cart_28 : decode cX2_cart 28 = .ok (.iload_n 1, 1) := dk_27 (dk_at dksX2_cart_1 4 rfl rfl)
theorem dX2_cart_29 : decode cX2_cart 29 = .ok (.iload_n 2, 1) := dk_28 (dk_at dksX2_cart_1 5 rfl rfl)
theorem dX2_cart_30 : decode cX2_cart 30 = .ok (.bipush 9, 2) := dk_16 9 (dk_at dksX2_cart_1 6 rfl rfl)
theorem dX2_cart_32 : decode cX2_cart 32 = .ok (.invokevirtual 290, 3) := dk_182 1 34 (dk_at dksX2_cart_1 8 rfl rfl)
theorem dX2_cart_35 : decode cX2_cart 35 = .ok (.istore_n 3, 1) := dk_62 (dk_at dksX2_cart_1 11 rfl rfl)
theorem dX2_cart_36 : decode cX2_cart 36 = .ok (.iload_n 3, 1) := dk_29 (dk_at dksX2_cart_1 12 rfl rfl)
theorem dX2_cart_37 : decode cX2_cart 37 = .ok (.ifCond .ge 5, 3) := dk_156 0 5 (dk_at dksX2_cart_1 13 rfl rfl)
theorem dX2_cart_40 : decode cX2_cart 40 = .ok (.iload_n 3, 1) := dk_29 (dk_at dksX2_cart_1 16 rfl rfl)
theorem dX2_cart_41 : decode cX2_cart 41 = .ok (.ireturn, 1) := dk_172 (dk_at dksX2_cart_1 17 rfl rfl)
theorem dX2_cart_42 : decode cX2_cart 42 = .ok (.bipush 64, 2) := dk_16 64 (dk_at dksX2_cart_1 18 rfl rfl)
theorem dX2_cart_44 : decode cX2_cart 44 = .ok (.iload_n 1, 1) := dk_27 (dk_at dksX2_cart_1 20 rfl rfl)
theorem dX2_cart_45 : decode cX2_cart 45 = .ok (.imul, 1) := dk_104 (dk_at dksX2_cart_1 21 rfl rfl)
theorem dX2_cart_46 : decode cX2_cart 46 = .ok (.iload_n 2, 1) := dk_28 (dk_at dksX2_cart_1 22 rfl rfl)
theorem dX2_cart_47 : decode cX2_cart 47 = .ok (.iadd, 1) := dk_96 (dk_at dksX2_cart_1 23 rfl rfl)
theorem dX2_cart_48 : decode cX2_cart 48 = .ok (.istore 4, 2) := dk_54 4 (dk_at dksX2_cart_2 0 rfl rfl)
theorem dX2_cart_50 : decode cX2_cart 50 = .ok (.iconst 0, 1) := dk_3 (dk_at dksX2_cart_2 2 rfl rfl)
theorem dX2_cart_51 : decode cX2_cart 51 = .ok (.istore 5, 2) := dk_54 5 (dk_at dksX2_cart_2 3 rfl rfl)
theorem dX2_cart_53 : decode cX2_cart 53 = .ok (.iload 5, 2) := dk_21 5 (dk_at dksX2_cart_2 5 rfl rfl)
theorem dX2_cart_55 : decode cX2_cart 55 = .ok (.bipush 9, 2) := dk_16 9 (dk_at dksX2_cart_2 7 rfl rfl)
theorem dX2_cart_57 : decode cX2_cart 57 = .ok (.if_icmp .ge 44, 3) := dk_162 0 44 (dk_at dksX2_cart_2 9 rfl rfl)
theorem dX2_cart_60 : decode cX2_cart 60 = .ok (.aload_n 0, 1) := dk_42 (dk_at dksX2_cart_2 12 rfl rfl)
theorem dX2_cart_61 : decode cX2_cart 61 = .ok (.getfield 24, 3) := dk_180 0 24 (dk_at dksX2_cart_2 13 rfl rfl)
theorem dX2_cart_64 : decode cX2_cart 64 = .ok (.iload 4, 2) := dk_21 4 (dk_at dksX2_cart_2 16 rfl rfl)
theorem dX2_cart_66 : decode cX2_cart 66 = .ok (.iload 5, 2) := dk_21 5 (dk_at dksX2_cart_2 18 rfl rfl)
theorem dX2_cart_68 : decode cX2_cart 68 = .ok (.iadd, 1) := dk_96 (dk_at dksX2_cart_2 20 rfl rfl)
theorem dX2_cart_69 : decode cX2_cart 69 = .ok (.iaload, 1) := dk_46 (dk_at dksX2_cart_2 21 rfl rfl)
theorem dX2_cart_70 : decode cX2_cart 70 = .ok (.i2l, 1) := dk_133 (dk_at dksX2_cart_2 22 rfl rfl)
theorem dX2_cart_71 : decode cX2_cart 71 = .ok (.lconst 0, 1) := dk_9 (dk_at dksX2_cart_2 23 rfl rfl)
theorem dX2_cart_72 : decode cX2_cart 72 = .ok (.iload 5, 2) := dk_21 5 (dk_at dksX2_cart_3 0 rfl rfl)
theorem dX2_cart_74 : decode cX2_cart 74 = .ok (.ifCond .ne 9, 3) := dk_154 0 9 (dk_at dksX2_cart_3 2 rfl rfl)
theorem dX2_cart_77 : decode cX2_cart 77 = .ok (.ldc2_w 293, 3) := dk_20 1 37 (dk_at dksX2_cart_3 5 rfl rfl)
theorem dX2_cart_80 : decode cX2_cart 80 = .ok (.goto 6, 3) := dk_167 0 6 (dk_at dksX2_cart_3 8 rfl rfl)
theorem dX2_cart_83 : decode cX2_cart 83 = .ok (.ldc2_w 295, 3) := dk_20 1 39 (dk_at dksX2_cart_3 11 rfl rfl)
theorem dX2_cart_86 : decode cX2_cart 86 = .ok (.invokestatic 132, 3) := dk_184 0 132 (dk_at dksX2_cart_3 14 rfl rfl)
theorem dX2_cart_89 : decode cX2_cart 89 = .ok (.ifCond .ne 6, 3) := dk_154 0 6 (dk_at dksX2_cart_3 17 rfl rfl)
theorem dX2_cart_92 : decode cX2_cart 92 = .ok (.ldc 142, 2) := dk_18 142 (dk_at dksX2_cart_3 20 rfl rfl)
theorem dX2_cart_94 : decode cX2_cart 94 = .ok (.ireturn, 1) := dk_172 (dk_at dksX2_cart_3 22 rfl rfl)
theorem dX2_cart_95 : decode cX2_cart 95 = .ok (.iinc 5 1, 3) := dk_132 5 1 (dk_at dksX2_cart_4 0 rfl rfl)
theorem dX2_cart_98 : decode cX2_cart 98 = .ok (.goto (-45), 3) := dk_167 255 211 (dk_at dksX2_cart_4 3 rfl rfl)
theorem dX2_cart_101 : decode cX2_cart 101 = .ok (.aload_n 0, 1) := dk_42 (dk_at dksX2_cart_4 6 rfl rfl)
theorem dX2_cart_102 : decode cX2_cart 102 = .ok (.iconst 0, 1) := dk_3 (dk_at dksX2_cart_4 7 rfl rfl)
theorem dX2_cart_103 : decode cX2_cart 103 = .ok (.putfield 7, 3) := dk_181 0 7 (dk_at dksX2_cart_4 8 rfl rfl)
theorem dX2_cart_106 : decode cX2_cart 106 = .ok (.iconst 0, 1) := dk_3 (dk_at dksX2_cart_4 11 rfl rfl)
theorem dX2_cart_107 : decode cX2_cart 107 = .ok (.istore 5, 2) := dk_54 5 (dk_at dksX2_cart_4 12 rfl rfl)
theorem dX2_cart_109 : decode cX2_cart 109 = .ok (.iload 5, 2) := dk_21 5 (dk_at dksX2_cart_4 14 rfl rfl)
theorem dX2_cart_111 : decode cX2_cart 111 = .ok (.bipush 9, 2) := dk_16 9 (dk_at dksX2_cart_4 16 rfl rfl)
theorem dX2_cart_113 : decode cX2_cart 113 = .ok (.if_icmp .ge 34, 3) := dk_162 0 34 (dk_at dksX2_cart_4 18 rfl rfl)
theorem dX2_cart_116 : decode cX2_cart 116 = .ok (.aload_n 0, 1) := dk_42 (dk_at dksX2_cart_4 21 rfl rfl)
theorem dX2_cart_117 : decode cX2_cart 117 = .ok (.getfield 57, 3) := dk_180 0 57 (dk_at dksX2_cart_5 0 rfl rfl)
theorem dX2_cart_120 : decode cX2_cart 120 = .ok (.bipush 9, 2) := dk_16 9 (dk_at dksX2_cart_5 3 rfl rfl)
theorem dX2_cart_122 : decode cX2_cart 122 = .ok (.aload_n 0, 1) := dk_42 (dk_at dksX2_cart_5 5 rfl rfl)
theorem dX2_cart_123 : decode cX2_cart 123 = .ok (.getfield 287, 3) := dk_180 1 31 (dk_at dksX2_cart_5 6 rfl rfl)
theorem dX2_cart_126 : decode cX2_cart 126 = .ok (.imul, 1) := dk_104 (dk_at dksX2_cart_5 9 rfl rfl)
theorem dX2_cart_127 : decode cX2_cart 127 = .ok (.iload 5, 2) := dk_21 5 (dk_at dksX2_cart_5 10 rfl rfl)
theorem dX2_cart_129 : decode cX2_cart 129 = .ok (.iadd, 1) := dk_96 (dk_at dksX2_cart_5 12 rfl rfl)
theorem dX2_cart_130 : decode cX2_cart 130 = .ok (.aload_n 0, 1) := dk_42 (dk_at dksX2_cart_5 13 rfl rfl)
theorem dX2_cart_131 : decode cX2_cart 131 = .ok (.getfield 24, 3) := dk_180 0 24 (dk_at dksX2_cart_5 14 rfl rfl)
theorem dX2_cart_134 : decode cX2_cart 134 = .ok (.iload 4, 2) := dk_21 4 (dk_at dksX2_cart_5 17 rfl rfl)
theorem dX2_cart_136 : decode cX2_cart 136 = .ok (.iload 5, 2) := dk_21 5 (dk_at dksX2_cart_5 19 rfl rfl)
theorem dX2_cart_138 : decode cX2_cart 138 = .ok (.iadd, 1) := dk_96 (dk_at dksX2_cart_5 21 rfl rfl)
theorem dX2_cart_139 : decode cX2_cart 139 = .ok (.iaload, 1) := dk_46 (dk_at dksX2_cart_5 22 rfl rfl)
theorem dX2_cart_140 : decode cX2_cart 140 = .ok (.iastore, 1) := dk_79 (dk_at dksX2_cart_5 23 rfl rfl)
theorem dX2_cart_141 : decode cX2_cart 141 = .ok (.iinc 5 1, 3) := dk_132 5 1 (dk_at dksX2_cart_6 0 rfl rfl)
theorem dX2_cart_144 : decode cX2_cart 144 = .ok (.goto (-35), 3) := dk_167 255 221 (dk_at dksX2_cart_6 3 rfl rfl)
theorem dX2_cart_147 : decode cX2_cart 147 = .ok (.aload_n 0, 1) := dk_42 (dk_at dksX2_cart_6 6 rfl rfl)
theorem dX2_cart_148 : decode cX2_cart 148 = .ok (.dup, 1) := dk_89 (dk_at dksX2_cart_6 7 rfl rfl)
theorem dX2_cart_149 : decode cX2_cart 149 = .ok (.getfield 287, 3) := dk_180 1 31 (dk_at dksX2_cart_6 8 rfl rfl)
theorem dX2_cart_152 : decode cX2_cart 152 = .ok (.iconst 1, 1) := dk_4 (dk_at dksX2_cart_6 11 rfl rfl)
theorem dX2_cart_153 : decode cX2_cart 153 = .ok (.iadd, 1) := dk_96 (dk_at dksX2_cart_6 12 rfl rfl)
theorem dX2_cart_154 : decode cX2_cart 154 = .ok (.putfield 287, 3) := dk_181 1 31 (dk_at dksX2_cart_6 13 rfl rfl)
theorem dX2_cart_157 : decode cX2_cart 157 = .ok (.aload_n 0, 1) := dk_42 (dk_at dksX2_cart_6 16 rfl rfl)
theorem dX2_cart_158 : decode cX2_cart 158 = .ok (.getfield 287, 3) := dk_180 1 31 (dk_at dksX2_cart_6 17 rfl rfl)
theorem dX2_cart_161 : decode cX2_cart 161 = .ok (.iconst 1, 1) := dk_4 (dk_at dksX2_cart_6 20 rfl rfl)
theorem dX2_cart_162 : decode cX2_cart 162 = .ok (.isub, 1) := dk_100 (dk_at dksX2_cart_6 21 rfl rfl)
theorem dX2_cart_163 : decode cX2_cart 163 = .ok (.ireturn, 1) := dk_172 (dk_at dksX2_cart_6 22 rfl rfl)
abbrev cX2_lookItems : ByteArray := prog_17_method_10_code
def yX2_lookItems : MethodName := ⟨RX2, "lookItems", "(III)I"⟩
def dkwX2_lookItems_1 : List UInt8 := [42, 180, 0, 21, 27, 46, 133, 148, 158, 0, 11, 42, 5, 182, 0, 143, 167, 0, 4, 3, 172]
abbrev dktX2_lookItems_1 : List UInt8 := dkwX2_lookItems_1 ++ []
def dkwX2_lookItems_0 : List UInt8 := [42, 180, 0, 17, 27, 46, 156, 0, 9, 42, 4, 182, 0, 143, 172, 28, 155, 0, 19, 28, 133, 29, 133, 97]
abbrev dktX2_lookItems_0 : List UInt8 := dkwX2_lookItems_0 ++ dktX2_lookItems_1
theorem dksX2_lookItems_0 : cX2_lookItems.data.toList.drop 0 = dktX2_lookItems_0 := by decide +kernel
theorem dksX2_lookItems_1 : cX2_lookItems.data.toList.drop 24 = dktX2_lookItems_1 := dk_seg dksX2_lookItems_0 24 rfl rfl
theorem dX2_lookItems_0 : decode cX2_lookItems 0 = .ok (.aload_n 0, 1) := dk_42 (dk_at dksX2_lookItems_0 0 rfl rfl)
theorem dX2_lookItems_1 : decode cX2_lookItems 1 = .ok (.getfield 17, 3) := dk_180 0 17 (dk_at dksX2_lookItems_0 1 rfl rfl)
theorem dX2_lookItems_4 : decode cX2_lookItems 4 = .ok (.iload_n 1, 1) := dk_27 (dk_at dksX2_lookItems_0 4 rfl rfl)
theorem dX2_lookItems_5 : decode cX2_lookItems 5 = .ok (.iaload, 1) := dk_46 (dk_at dksX2_lookItems_0 5 rfl rfl)
theorem dX2_lookItems_6 : decode cX2_lookItems 6 = .ok (.ifCond .ge 9, 3) := dk_156 0 9 (dk_at dksX2_lookItems_0 6 rfl rfl)
theorem dX2_lookItems_9 : decode cX2_lookItems 9 = .ok (.aload_n 0, 1) := dk_42 (dk_at dksX2_lookItems_0 9 rfl rfl)
theorem dX2_lookItems_10 : decode cX2_lookItems 10 = .ok (.iconst 1, 1) := dk_4 (dk_at dksX2_lookItems_0 10 rfl rfl)
theorem dX2_lookItems_11 : decode cX2_lookItems 11 = .ok (.invokevirtual 143, 3) := dk_182 0 143 (dk_at dksX2_lookItems_0 11 rfl rfl)
theorem dX2_lookItems_14 : decode cX2_lookItems 14 = .ok (.ireturn, 1) := dk_172 (dk_at dksX2_lookItems_0 14 rfl rfl)
theorem dX2_lookItems_15 : decode cX2_lookItems 15 = .ok (.iload_n 2, 1) := dk_28 (dk_at dksX2_lookItems_0 15 rfl rfl)
theorem dX2_lookItems_16 : decode cX2_lookItems 16 = .ok (.ifCond .lt 19, 3) := dk_155 0 19 (dk_at dksX2_lookItems_0 16 rfl rfl)
theorem dX2_lookItems_19 : decode cX2_lookItems 19 = .ok (.iload_n 2, 1) := dk_28 (dk_at dksX2_lookItems_0 19 rfl rfl)
theorem dX2_lookItems_20 : decode cX2_lookItems 20 = .ok (.i2l, 1) := dk_133 (dk_at dksX2_lookItems_0 20 rfl rfl)
theorem dX2_lookItems_21 : decode cX2_lookItems 21 = .ok (.iload_n 3, 1) := dk_29 (dk_at dksX2_lookItems_0 21 rfl rfl)
theorem dX2_lookItems_22 : decode cX2_lookItems 22 = .ok (.i2l, 1) := dk_133 (dk_at dksX2_lookItems_0 22 rfl rfl)
theorem dX2_lookItems_23 : decode cX2_lookItems 23 = .ok (.ladd, 1) := dk_97 (dk_at dksX2_lookItems_0 23 rfl rfl)
theorem dX2_lookItems_24 : decode cX2_lookItems 24 = .ok (.aload_n 0, 1) := dk_42 (dk_at dksX2_lookItems_1 0 rfl rfl)
theorem dX2_lookItems_25 : decode cX2_lookItems 25 = .ok (.getfield 21, 3) := dk_180 0 21 (dk_at dksX2_lookItems_1 1 rfl rfl)
theorem dX2_lookItems_28 : decode cX2_lookItems 28 = .ok (.iload_n 1, 1) := dk_27 (dk_at dksX2_lookItems_1 4 rfl rfl)
theorem dX2_lookItems_29 : decode cX2_lookItems 29 = .ok (.iaload, 1) := dk_46 (dk_at dksX2_lookItems_1 5 rfl rfl)
theorem dX2_lookItems_30 : decode cX2_lookItems 30 = .ok (.i2l, 1) := dk_133 (dk_at dksX2_lookItems_1 6 rfl rfl)
theorem dX2_lookItems_31 : decode cX2_lookItems 31 = .ok (.lcmp, 1) := dk_148 (dk_at dksX2_lookItems_1 7 rfl rfl)
theorem dX2_lookItems_32 : decode cX2_lookItems 32 = .ok (.ifCond .le 11, 3) := dk_158 0 11 (dk_at dksX2_lookItems_1 8 rfl rfl)
theorem dX2_lookItems_35 : decode cX2_lookItems 35 = .ok (.aload_n 0, 1) := dk_42 (dk_at dksX2_lookItems_1 11 rfl rfl)
theorem dX2_lookItems_36 : decode cX2_lookItems 36 = .ok (.iconst 2, 1) := dk_5 (dk_at dksX2_lookItems_1 12 rfl rfl)
theorem dX2_lookItems_37 : decode cX2_lookItems 37 = .ok (.invokevirtual 143, 3) := dk_182 0 143 (dk_at dksX2_lookItems_1 13 rfl rfl)
theorem dX2_lookItems_40 : decode cX2_lookItems 40 = .ok (.goto 4, 3) := dk_167 0 4 (dk_at dksX2_lookItems_1 16 rfl rfl)
theorem dX2_lookItems_43 : decode cX2_lookItems 43 = .ok (.iconst 0, 1) := dk_3 (dk_at dksX2_lookItems_1 19 rfl rfl)
theorem dX2_lookItems_44 : decode cX2_lookItems 44 = .ok (.ireturn, 1) := dk_172 (dk_at dksX2_lookItems_1 20 rfl rfl)
abbrev cX2_owed : ByteArray := prog_17_method_40_code
def yX2_owed : MethodName := ⟨RX2, "owed", "(III)I"⟩
def dkwX2_owed_4 : List UInt8 := [132, 5, 1, 167, 255, 218, 21, 4, 172]
abbrev dktX2_owed_4 : List UInt8 := dkwX2_owed_4 ++ []
def dkwX2_owed_3 : List UInt8 := [182, 1, 44, 42, 27, 21, 4, 29, 182, 1, 44, 162, 0, 8, 21, 5, 167, 0, 5, 21, 4, 54, 4]
abbrev dktX2_owed_3 : List UInt8 := dkwX2_owed_3 ++ dktX2_owed_4
def dkwX2_owed_2 : List UInt8 := [182, 1, 44, 172, 3, 54, 4, 4, 54, 5, 21, 5, 16, 9, 162, 0, 37, 42, 27, 21, 5, 29]
abbrev dktX2_owed_2 : List UInt8 := dkwX2_owed_2 ++ dktX2_owed_3
def dkwX2_owed_1 : List UInt8 := [153, 0, 10, 29, 184, 1, 2, 154, 0, 6, 18, 142, 172, 28, 18, 129, 159, 0, 11, 42, 27, 28, 29]
abbrev dktX2_owed_1 : List UInt8 := dkwX2_owed_1 ++ dktX2_owed_2
def dkwX2_owed_0 : List UInt8 := [42, 3, 181, 0, 1, 42, 27, 182, 1, 41, 153, 0, 23, 28, 18, 129, 159, 0, 10, 28, 184, 0, 153]
abbrev dktX2_owed_0 : List UInt8 := dkwX2_owed_0 ++ dktX2_owed_1
theorem dksX2_owed_0 : cX2_owed.data.toList.drop 0 = dktX2_owed_0 := by decide +kernel
theorem dksX2_owed_1 : cX2_owed.data.toList.drop 23 = dktX2_owed_1 := dk_seg dksX2_owed_0 23 rfl rfl
theorem dksX2_owed_2 : cX2_owed.data.toList.drop 46 = dktX2_owed_2 := dk_seg dksX2_owed_1 23 rfl rfl
theorem dksX2_owed_3 : cX2_owed.data.toList.drop 68 = dktX2_owed_3 := dk_seg dksX2_owed_2 22 rfl rfl
theorem dksX2_owed_4 : cX2_owed.data.toList.drop 91 = dktX2_owed_4 := dk_seg dksX2_owed_3 23 rfl rfl
theorem dX2_owed_0 : decode cX2_owed 0 = .ok (.aload_n 0, 1) := dk_42 (dk_at dksX2_owed_0 0 rfl rfl)
theorem dX2_owed_1 : decode cX2_owed 1 = .ok (.iconst 0, 1) := dk_3 (dk_at dksX2_owed_0 1 rfl rfl)
theorem dX2_owed_2 : decode cX2_owed 2 = .ok (.putfield 1, 3) := dk_181 0 1 (dk_at dksX2_owed_0 2 rfl rfl)
theorem dX2_owed_5 : decode cX2_owed 5 = .ok (.aload_n 0, 1) := dk_42 (dk_at dksX2_owed_0 5 rfl rfl)
theorem dX2_owed_6 : decode cX2_owed 6 = .ok (.iload_n 1, 1) := dk_27 (dk_at dksX2_owed_0 6 rfl rfl)
theorem dX2_owed_7 : decode cX2_owed 7 = .ok (.invokevirtual 297, 3) := dk_182 1 41 (dk_at dksX2_owed_0 7 rfl rfl)
theorem dX2_owed_10 : decode cX2_owed 10 = .ok (.ifCond .eq 23, 3) := dk_153 0 23 (dk_at dksX2_owed_0 10 rfl rfl)
theorem dX2_owed_13 : decode cX2_owed 13 = .ok (.iload_n 2, 1) := dk_28 (dk_at dksX2_owed_0 13 rfl rfl)
theorem dX2_owed_14 : decode cX2_owed 14 = .ok (.ldc 129, 2) := dk_18 129 (dk_at dksX2_owed_0 14 rfl rfl)
theorem dX2_owed_16 : decode cX2_owed 16 = .ok (.if_icmp .eq 10, 3) := dk_159 0 10 (dk_at dksX2_owed_0 16 rfl rfl)
theorem dX2_owed_19 : decode cX2_owed 19 = .ok (.iload_n 2, 1) := dk_28 (dk_at dksX2_owed_0 19 rfl rfl)
theorem dX2_owed_20 : decode cX2_owed 20 = .ok (.invokestatic 153, 3) := dk_184 0 153 (dk_at dksX2_owed_0 20 rfl rfl)
theorem dX2_owed_23 : decode cX2_owed 23 = .ok (.ifCond .eq 10, 3) := dk_153 0 10 (dk_at dksX2_owed_1 0 rfl rfl)
theorem dX2_owed_26 : decode cX2_owed 26 = .ok (.iload_n 3, 1) := dk_29 (dk_at dksX2_owed_1 3 rfl rfl)
theorem dX2_owed_27 : decode cX2_owed 27 = .ok (.invokestatic 258, 3) := dk_184 1 2 (dk_at dksX2_owed_1 4 rfl rfl)
theorem dX2_owed_30 : decode cX2_owed 30 = .ok (.ifCond .ne 6, 3) := dk_154 0 6 (dk_at dksX2_owed_1 7 rfl rfl)
theorem dX2_owed_33 : decode cX2_owed 33 = .ok (.ldc 142, 2) := dk_18 142 (dk_at dksX2_owed_1 10 rfl rfl)
theorem dX2_owed_35 : decode cX2_owed 35 = .ok (.ireturn, 1) := dk_172 (dk_at dksX2_owed_1 12 rfl rfl)
theorem dX2_owed_36 : decode cX2_owed 36 = .ok (.iload_n 2, 1) := dk_28 (dk_at dksX2_owed_1 13 rfl rfl)
theorem dX2_owed_37 : decode cX2_owed 37 = .ok (.ldc 129, 2) := dk_18 129 (dk_at dksX2_owed_1 14 rfl rfl)
theorem dX2_owed_39 : decode cX2_owed 39 = .ok (.if_icmp .eq 11, 3) := dk_159 0 11 (dk_at dksX2_owed_1 16 rfl rfl)
theorem dX2_owed_42 : decode cX2_owed 42 = .ok (.aload_n 0, 1) := dk_42 (dk_at dksX2_owed_1 19 rfl rfl)
theorem dX2_owed_43 : decode cX2_owed 43 = .ok (.iload_n 1, 1) := dk_27 (dk_at dksX2_owed_1 20 rfl rfl)
theorem dX2_owed_44 : decode cX2_owed 44 = .ok (.iload_n 2, 1) := dk_28 (dk_at dksX2_owed_1 21 rfl rfl)
theorem dX2_owed_45 : decode cX2_owed 45 = .ok (.iload_n 3, 1) := dk_29 (dk_at dksX2_owed_1 22 rfl rfl)
theorem dX2_owed_46 : decode cX2_owed 46 = .ok (.invokevirtual 300, 3) := dk_182 1 44 (dk_at dksX2_owed_2 0 rfl rfl)
theorem dX2_owed_49 : decode cX2_owed 49 = .ok (.ireturn, 1) := dk_172 (dk_at dksX2_owed_2 3 rfl rfl)
theorem dX2_owed_50 : decode cX2_owed 50 = .ok (.iconst 0, 1) := dk_3 (dk_at dksX2_owed_2 4 rfl rfl)
theorem dX2_owed_51 : decode cX2_owed 51 = .ok (.istore 4, 2) := dk_54 4 (dk_at dksX2_owed_2 5 rfl rfl)
theorem dX2_owed_53 : decode cX2_owed 53 = .ok (.iconst 1, 1) := dk_4 (dk_at dksX2_owed_2 7 rfl rfl)
theorem dX2_owed_54 : decode cX2_owed 54 = .ok (.istore 5, 2) := dk_54 5 (dk_at dksX2_owed_2 8 rfl rfl)
theorem dX2_owed_56 : decode cX2_owed 56 = .ok (.iload 5, 2) := dk_21 5 (dk_at dksX2_owed_2 10 rfl rfl)
theorem dX2_owed_58 : decode cX2_owed 58 = .ok (.bipush 9, 2) := dk_16 9 (dk_at dksX2_owed_2 12 rfl rfl)
theorem dX2_owed_60 : decode cX2_owed 60 = .ok (.if_icmp .ge 37, 3) := dk_162 0 37 (dk_at dksX2_owed_2 14 rfl rfl)
theorem dX2_owed_63 : decode cX2_owed 63 = .ok (.aload_n 0, 1) := dk_42 (dk_at dksX2_owed_2 17 rfl rfl)
theorem dX2_owed_64 : decode cX2_owed 64 = .ok (.iload_n 1, 1) := dk_27 (dk_at dksX2_owed_2 18 rfl rfl)
theorem dX2_owed_65 : decode cX2_owed 65 = .ok (.iload 5, 2) := dk_21 5 (dk_at dksX2_owed_2 19 rfl rfl)
theorem dX2_owed_67 : decode cX2_owed 67 = .ok (.iload_n 3, 1) := dk_29 (dk_at dksX2_owed_2 21 rfl rfl)
theorem dX2_owed_68 : decode cX2_owed 68 = .ok (.invokevirtual 300, 3) := dk_182 1 44 (dk_at dksX2_owed_3 0 rfl rfl)
theorem dX2_owed_71 : decode cX2_owed 71 = .ok (.aload_n 0, 1) := dk_42 (dk_at dksX2_owed_3 3 rfl rfl)
theorem dX2_owed_72 : decode cX2_owed 72 = .ok (.iload_n 1, 1) := dk_27 (dk_at dksX2_owed_3 4 rfl rfl)
theorem dX2_owed_73 : decode cX2_owed 73 = .ok (.iload 4, 2) := dk_21 4 (dk_at dksX2_owed_3 5 rfl rfl)
theorem dX2_owed_75 : decode cX2_owed 75 = .ok (.iload_n 3, 1) := dk_29 (dk_at dksX2_owed_3 7 rfl rfl)
theorem dX2_owed_76 : decode cX2_owed 76 = .ok (.invokevirtual 300, 3) := dk_182 1 44 (dk_at dksX2_owed_3 8 rfl rfl)
theorem dX2_owed_79 : decode cX2_owed 79 = .ok (.if_icmp .ge 8, 3) := dk_162 0 8 (dk_at dksX2_owed_3 11 rfl rfl)
theorem dX2_owed_82 : decode cX2_owed 82 = .ok (.iload 5, 2) := dk_21 5 (dk_at dksX2_owed_3 14 rfl rfl)
theorem dX2_owed_84 : decode cX2_owed 84 = .ok (.goto 5, 3) := dk_167 0 5 (dk_at dksX2_owed_3 16 rfl rfl)
theorem dX2_owed_87 : decode cX2_owed 87 = .ok (.iload 4, 2) := dk_21 4 (dk_at dksX2_owed_3 19 rfl rfl)
theorem dX2_owed_89 : decode cX2_owed 89 = .ok (.istore 4, 2) := dk_54 4 (dk_at dksX2_owed_3 21 rfl rfl)
theorem dX2_owed_91 : decode cX2_owed 91 = .ok (.iinc 5 1, 3) := dk_132 5 1 (dk_at dksX2_owed_4 0 rfl rfl)
theorem dX2_owed_94 : decode cX2_owed 94 = .ok (.goto (-38), 3) := dk_167 255 218 (dk_at dksX2_owed_4 3 rfl rfl)
theorem dX2_owed_97 : decode cX2_owed 97 = .ok (.iload 4, 2) := dk_21 4 (dk_at dksX2_owed_4 6 rfl rfl)
theorem dX2_owed_99 : decode cX2_owed 99 = .ok (.ireturn, 1) := dk_172 (dk_at dksX2_owed_4 8 rfl rfl)
abbrev cX2_isCart : ByteArray := prog_17_method_38_code
def yX2_isCart : MethodName := ⟨RX2, "isCart", "(I)Z"⟩
def dkwX2_isCart_0 : List UInt8 := [27, 133, 9, 42, 180, 1, 31, 4, 100, 133, 184, 0, 132, 172]
abbrev dktX2_isCart_0 : List UInt8 := dkwX2_isCart_0 ++ []
theorem dksX2_isCart_0 : cX2_isCart.data.toList.drop 0 = dktX2_isCart_0 := by decide +kernel
theorem dX2_isCart_0 : decode cX2_isCart 0 = .ok (.iload_n 1, 1) := dk_27 (dk_at dksX2_isCart_0 0 rfl rfl)
theorem dX2_isCart_1 : decode cX2_isCart 1 = .ok (.i2l, 1) := dk_133 (dk_at dksX2_isCart_0 1 rfl rfl)
theorem dX2_isCart_2 : decode cX2_isCart 2 = .ok (.lconst 0, 1) := dk_9 (dk_at dksX2_isCart_0 2 rfl rfl)
theorem dX2_isCart_3 : decode cX2_isCart 3 = .ok (.aload_n 0, 1) := dk_42 (dk_at dksX2_isCart_0 3 rfl rfl)
theorem dX2_isCart_4 : decode cX2_isCart 4 = .ok (.getfield 287, 3) := dk_180 1 31 (dk_at dksX2_isCart_0 4 rfl rfl)
theorem dX2_isCart_7 : decode cX2_isCart 7 = .ok (.iconst 1, 1) := dk_4 (dk_at dksX2_isCart_0 7 rfl rfl)
theorem dX2_isCart_8 : decode cX2_isCart 8 = .ok (.isub, 1) := dk_100 (dk_at dksX2_isCart_0 8 rfl rfl)
theorem dX2_isCart_9 : decode cX2_isCart 9 = .ok (.i2l, 1) := dk_133 (dk_at dksX2_isCart_0 9 rfl rfl)
theorem dX2_isCart_10 : decode cX2_isCart 10 = .ok (.invokestatic 132, 3) := dk_184 0 132 (dk_at dksX2_isCart_0 10 rfl rfl)
theorem dX2_isCart_13 : decode cX2_isCart 13 = .ok (.ireturn, 1) := dk_172 (dk_at dksX2_isCart_0 13 rfl rfl)
abbrev cX2_owedBy : ByteArray := prog_17_method_39_code
def yX2_owedBy : MethodName := ⟨RX2, "owedBy", "(III)I"⟩
def dkwX2_owedBy_4 : List UInt8 := [108, 172]
abbrev dktX2_owedBy_4 : List UInt8 := dkwX2_owedBy_4 ++ []
def dkwX2_owedBy_3 : List UInt8 := [182, 1, 5, 104, 96, 54, 4, 132, 5, 1, 167, 255, 197, 21, 4, 42, 180, 0, 33, 28, 46, 104, 16, 100]
abbrev dktX2_owedBy_3 : List UInt8 := dkwX2_owedBy_3 ++ dktX2_owedBy_4
def dkwX2_owedBy_2 : List UInt8 := [21, 6, 42, 29, 5, 21, 5, 182, 1, 5, 163, 0, 7, 3, 167, 0, 14, 21, 6, 42, 29, 4, 21, 5]
abbrev dktX2_owedBy_2 : List UInt8 := dkwX2_owedBy_2 ++ dktX2_owedBy_3
def dkwX2_owedBy_1 : List UInt8 := [16, 8, 162, 0, 58, 42, 180, 0, 57, 16, 9, 27, 104, 4, 96, 21, 5, 96, 46, 54, 6, 21, 4]
abbrev dktX2_owedBy_1 : List UInt8 := dkwX2_owedBy_1 ++ dktX2_owedBy_2
def dkwX2_owedBy_0 : List UInt8 := [42, 180, 0, 57, 16, 9, 27, 104, 46, 42, 29, 3, 3, 182, 1, 5, 104, 54, 4, 3, 54, 5, 21, 5]
abbrev dktX2_owedBy_0 : List UInt8 := dkwX2_owedBy_0 ++ dktX2_owedBy_1
theorem dksX2_owedBy_0 : cX2_owedBy.data.toList.drop 0 = dktX2_owedBy_0 := by decide +kernel
theorem dksX2_owedBy_1 : cX2_owedBy.data.toList.drop 24 = dktX2_owedBy_1 := dk_seg dksX2_owedBy_0 24 rfl rfl
theorem dksX2_owedBy_2 : cX2_owedBy.data.toList.drop 47 = dktX2_owedBy_2 := dk_seg dksX2_owedBy_1 23 rfl rfl
theorem dksX2_owedBy_3 : cX2_owedBy.data.toList.drop 71 = dktX2_owedBy_3 := dk_seg dksX2_owedBy_2 24 rfl rfl
theorem dksX2_owedBy_4 : cX2_owedBy.data.toList.drop 95 = dktX2_owedBy_4 := dk_seg dksX2_owedBy_3 24 rfl rfl
theorem dX2_owedBy_0 : decode cX2_owedBy 0 = .ok (.aload_n 0, 1) := dk_42 (dk_at dksX2_owedBy_0 0 rfl rfl)
theorem dX2_owedBy_1 : decode cX2_owedBy 1 = .ok (.getfield 57, 3) := dk_180 0 57 (dk_at dksX2_owedBy_0 1 rfl rfl)
theorem dX2_owedBy_4 : decode cX2_owedBy 4 = .ok (.bipush 9, 2) := dk_16 9 (dk_at dksX2_owedBy_0 4 rfl rfl)
theorem dX2_owedBy_6 : decode cX2_owedBy 6 = .ok (.iload_n 1, 1) := dk_27 (dk_at dksX2_owedBy_0 6 rfl rfl)
theorem dX2_owedBy_7 : decode cX2_owedBy 7 = .ok (.imul, 1) := dk_104 (dk_at dksX2_owedBy_0 7 rfl rfl)
theorem dX2_owedBy_8 : decode cX2_owedBy 8 = .ok (.iaload, 1) := dk_46 (dk_at dksX2_owedBy_0 8 rfl rfl)
theorem dX2_owedBy_9 : decode cX2_owedBy 9 = .ok (.aload_n 0, 1) := dk_42 (dk_at dksX2_owedBy_0 9 rfl rfl)
theorem dX2_owedBy_10 : decode cX2_owedBy 10 = .ok (.iload_n 3, 1) := dk_29 (dk_at dksX2_owedBy_0 10 rfl rfl)
theorem dX2_owedBy_11 : decode cX2_owedBy 11 = .ok (.iconst 0, 1) := dk_3 (dk_at dksX2_owedBy_0 11 rfl rfl)
theorem dX2_owedBy_12 : decode cX2_owedBy 12 = .ok (.iconst 0, 1) := dk_3 (dk_at dksX2_owedBy_0 12 rfl rfl)
theorem dX2_owedBy_13 : decode cX2_owedBy 13 = .ok (.invokevirtual 261, 3) := dk_182 1 5 (dk_at dksX2_owedBy_0 13 rfl rfl)
theorem dX2_owedBy_16 : decode cX2_owedBy 16 = .ok (.imul, 1) := dk_104 (dk_at dksX2_owedBy_0 16 rfl rfl)
theorem dX2_owedBy_17 : decode cX2_owedBy 17 = .ok (.istore 4, 2) := dk_54 4 (dk_at dksX2_owedBy_0 17 rfl rfl)
theorem dX2_owedBy_19 : decode cX2_owedBy 19 = .ok (.iconst 0, 1) := dk_3 (dk_at dksX2_owedBy_0 19 rfl rfl)
theorem dX2_owedBy_20 : decode cX2_owedBy 20 = .ok (.istore 5, 2) := dk_54 5 (dk_at dksX2_owedBy_0 20 rfl rfl)
theorem dX2_owedBy_22 : decode cX2_owedBy 22 = .ok (.iload 5, 2) := dk_21 5 (dk_at dksX2_owedBy_0 22 rfl rfl)
theorem dX2_owedBy_24 : decode cX2_owedBy 24 = .ok (.bipush 8, 2) := dk_16 8 (dk_at dksX2_owedBy_1 0 rfl rfl)
theorem dX2_owedBy_26 : decode cX2_owedBy 26 = .ok (.if_icmp .ge 58, 3) := dk_162 0 58 (dk_at dksX2_owedBy_1 2 rfl rfl)
theorem dX2_owedBy_29 : decode cX2_owedBy 29 = .ok (.aload_n 0, 1) := dk_42 (dk_at dksX2_owedBy_1 5 rfl rfl)
theorem dX2_owedBy_30 : decode cX2_owedBy 30 = .ok (.getfield 57, 3) := dk_180 0 57 (dk_at dksX2_owedBy_1 6 rfl rfl)
theorem dX2_owedBy_33 : decode cX2_owedBy 33 = .ok (.bipush 9, 2) := dk_16 9 (dk_at dksX2_owedBy_1 9 rfl rfl)
theorem dX2_owedBy_35 : decode cX2_owedBy 35 = .ok (.iload_n 1, 1) := dk_27 (dk_at dksX2_owedBy_1 11 rfl rfl)
theorem dX2_owedBy_36 : decode cX2_owedBy 36 = .ok (.imul, 1) := dk_104 (dk_at dksX2_owedBy_1 12 rfl rfl)
theorem dX2_owedBy_37 : decode cX2_owedBy 37 = .ok (.iconst 1, 1) := dk_4 (dk_at dksX2_owedBy_1 13 rfl rfl)
theorem dX2_owedBy_38 : decode cX2_owedBy 38 = .ok (.iadd, 1) := dk_96 (dk_at dksX2_owedBy_1 14 rfl rfl)
theorem dX2_owedBy_39 : decode cX2_owedBy 39 = .ok (.iload 5, 2) := dk_21 5 (dk_at dksX2_owedBy_1 15 rfl rfl)
theorem dX2_owedBy_41 : decode cX2_owedBy 41 = .ok (.iadd, 1) := dk_96 (dk_at dksX2_owedBy_1 17 rfl rfl)
theorem dX2_owedBy_42 : decode cX2_owedBy 42 = .ok (.iaload, 1) := dk_46 (dk_at dksX2_owedBy_1 18 rfl rfl)
theorem dX2_owedBy_43 : decode cX2_owedBy 43 = .ok (.istore 6, 2) := dk_54 6 (dk_at dksX2_owedBy_1 19 rfl rfl)
theorem dX2_owedBy_45 : decode cX2_owedBy 45 = .ok (.iload 4, 2) := dk_21 4 (dk_at dksX2_owedBy_1 21 rfl rfl)
theorem dX2_owedBy_47 : decode cX2_owedBy 47 = .ok (.iload 6, 2) := dk_21 6 (dk_at dksX2_owedBy_2 0 rfl rfl)
theorem dX2_owedBy_49 : decode cX2_owedBy 49 = .ok (.aload_n 0, 1) := dk_42 (dk_at dksX2_owedBy_2 2 rfl rfl)
theorem dX2_owedBy_50 : decode cX2_owedBy 50 = .ok (.iload_n 3, 1) := dk_29 (dk_at dksX2_owedBy_2 3 rfl rfl)
theorem dX2_owedBy_51 : decode cX2_owedBy 51 = .ok (.iconst 2, 1) := dk_5 (dk_at dksX2_owedBy_2 4 rfl rfl)
theorem dX2_owedBy_52 : decode cX2_owedBy 52 = .ok (.iload 5, 2) := dk_21 5 (dk_at dksX2_owedBy_2 5 rfl rfl)
theorem dX2_owedBy_54 : decode cX2_owedBy 54 = .ok (.invokevirtual 261, 3) := dk_182 1 5 (dk_at dksX2_owedBy_2 7 rfl rfl)
theorem dX2_owedBy_57 : decode cX2_owedBy 57 = .ok (.if_icmp .gt 7, 3) := dk_163 0 7 (dk_at dksX2_owedBy_2 10 rfl rfl)
theorem dX2_owedBy_60 : decode cX2_owedBy 60 = .ok (.iconst 0, 1) := dk_3 (dk_at dksX2_owedBy_2 13 rfl rfl)
theorem dX2_owedBy_61 : decode cX2_owedBy 61 = .ok (.goto 14, 3) := dk_167 0 14 (dk_at dksX2_owedBy_2 14 rfl rfl)
theorem dX2_owedBy_64 : decode cX2_owedBy 64 = .ok (.iload 6, 2) := dk_21 6 (dk_at dksX2_owedBy_2 17 rfl rfl)
theorem dX2_owedBy_66 : decode cX2_owedBy 66 = .ok (.aload_n 0, 1) := dk_42 (dk_at dksX2_owedBy_2 19 rfl rfl)
theorem dX2_owedBy_67 : decode cX2_owedBy 67 = .ok (.iload_n 3, 1) := dk_29 (dk_at dksX2_owedBy_2 20 rfl rfl)
theorem dX2_owedBy_68 : decode cX2_owedBy 68 = .ok (.iconst 1, 1) := dk_4 (dk_at dksX2_owedBy_2 21 rfl rfl)
theorem dX2_owedBy_69 : decode cX2_owedBy 69 = .ok (.iload 5, 2) := dk_21 5 (dk_at dksX2_owedBy_2 22 rfl rfl)
theorem dX2_owedBy_71 : decode cX2_owedBy 71 = .ok (.invokevirtual 261, 3) := dk_182 1 5 (dk_at dksX2_owedBy_3 0 rfl rfl)
theorem dX2_owedBy_74 : decode cX2_owedBy 74 = .ok (.imul, 1) := dk_104 (dk_at dksX2_owedBy_3 3 rfl rfl)
theorem dX2_owedBy_75 : decode cX2_owedBy 75 = .ok (.iadd, 1) := dk_96 (dk_at dksX2_owedBy_3 4 rfl rfl)
theorem dX2_owedBy_76 : decode cX2_owedBy 76 = .ok (.istore 4, 2) := dk_54 4 (dk_at dksX2_owedBy_3 5 rfl rfl)
theorem dX2_owedBy_78 : decode cX2_owedBy 78 = .ok (.iinc 5 1, 3) := dk_132 5 1 (dk_at dksX2_owedBy_3 7 rfl rfl)
theorem dX2_owedBy_81 : decode cX2_owedBy 81 = .ok (.goto (-59), 3) := dk_167 255 197 (dk_at dksX2_owedBy_3 10 rfl rfl)
theorem dX2_owedBy_84 : decode cX2_owedBy 84 = .ok (.iload 4, 2) := dk_21 4 (dk_at dksX2_owedBy_3 13 rfl rfl)
theorem dX2_owedBy_86 : decode cX2_owedBy 86 = .ok (.aload_n 0, 1) := dk_42 (dk_at dksX2_owedBy_3 15 rfl rfl)
theorem dX2_owedBy_87 : decode cX2_owedBy 87 = .ok (.getfield 33, 3) := dk_180 0 33 (dk_at dksX2_owedBy_3 16 rfl rfl)
theorem dX2_owedBy_90 : decode cX2_owedBy 90 = .ok (.iload_n 2, 1) := dk_28 (dk_at dksX2_owedBy_3 19 rfl rfl)
theorem dX2_owedBy_91 : decode cX2_owedBy 91 = .ok (.iaload, 1) := dk_46 (dk_at dksX2_owedBy_3 20 rfl rfl)
theorem dX2_owedBy_92 : decode cX2_owedBy 92 = .ok (.imul, 1) := dk_104 (dk_at dksX2_owedBy_3 21 rfl rfl)
theorem dX2_owedBy_93 : decode cX2_owedBy 93 = .ok (.bipush 100, 2) := dk_16 100 (dk_at dksX2_owedBy_3 22 rfl rfl)
theorem dX2_owedBy_95 : decode cX2_owedBy 95 = .ok (.idiv, 1) := dk_108 (dk_at dksX2_owedBy_4 0 rfl rfl)
theorem dX2_owedBy_96 : decode cX2_owedBy 96 = .ok (.ireturn, 1) := dk_172 (dk_at dksX2_owedBy_4 1 rfl rfl)
abbrev cX2_pass : ByteArray := prog_17_method_41_code
def yX2_pass : MethodName := ⟨RX2, "pass", "(IIIIII)I"⟩
def dkwX2_pass_6 : List UInt8 := [181, 1, 49, 42, 180, 1, 49, 172]
abbrev dktX2_pass_6 : List UInt8 := dkwX2_pass_6 ++ []
def dkwX2_pass_5 : List UInt8 := [21, 5, 96, 79, 42, 180, 0, 72, 42, 180, 1, 49, 21, 6, 79, 42, 89, 180, 1, 49, 4, 96]
abbrev dktX2_pass_5 : List UInt8 := dkwX2_pass_5 ++ dktX2_pass_6
def dkwX2_pass_4 : List UInt8 := [180, 0, 66, 42, 180, 1, 49, 29, 79, 42, 180, 0, 69, 42, 180, 1, 49, 17, 5, 160, 21, 4, 104]
abbrev dktX2_pass_4 : List UInt8 := dkwX2_pass_4 ++ dktX2_pass_5
def dkwX2_pass_3 : List UInt8 := [18, 170, 172, 42, 180, 0, 60, 42, 180, 1, 49, 27, 79, 42, 180, 0, 63, 42, 180, 1, 49, 28, 79, 42]
abbrev dktX2_pass_3 : List UInt8 := dkwX2_pass_3 ++ dktX2_pass_4
def dkwX2_pass_2 : List UInt8 := [133, 9, 20, 1, 47, 184, 0, 132, 154, 0, 6, 18, 142, 172, 42, 180, 1, 49, 16, 60, 160, 0, 6]
abbrev dktX2_pass_2 : List UInt8 := dkwX2_pass_2 ++ dktX2_pass_3
def dkwX2_pass_1 : List UInt8 := [184, 0, 153, 153, 0, 32, 21, 4, 184, 1, 2, 153, 0, 24, 21, 5, 184, 0, 156, 153, 0, 16, 21, 6]
abbrev dktX2_pass_1 : List UInt8 := dkwX2_pass_1 ++ dktX2_pass_2
def dkwX2_pass_0 : List UInt8 := [42, 3, 181, 0, 1, 42, 27, 182, 1, 41, 153, 0, 49, 28, 133, 9, 10, 184, 0, 132, 153, 0, 39, 29]
abbrev dktX2_pass_0 : List UInt8 := dkwX2_pass_0 ++ dktX2_pass_1
theorem dksX2_pass_0 : cX2_pass.data.toList.drop 0 = dktX2_pass_0 := by decide +kernel
theorem dksX2_pass_1 : cX2_pass.data.toList.drop 24 = dktX2_pass_1 := dk_seg dksX2_pass_0 24 rfl rfl
theorem dksX2_pass_2 : cX2_pass.data.toList.drop 48 = dktX2_pass_2 := dk_seg dksX2_pass_1 24 rfl rfl
theorem dksX2_pass_3 : cX2_pass.data.toList.drop 71 = dktX2_pass_3 := dk_seg dksX2_pass_2 23 rfl rfl
theorem dksX2_pass_4 : cX2_pass.data.toList.drop 95 = dktX2_pass_4 := dk_seg dksX2_pass_3 24 rfl rfl
theorem dksX2_pass_5 : cX2_pass.data.toList.drop 118 = dktX2_pass_5 := dk_seg dksX2_pass_4 23 rfl rfl
theorem dksX2_pass_6 : cX2_pass.data.toList.drop 140 = dktX2_pass_6 := dk_seg dksX2_pass_5 22 rfl rfl
theorem dX2_pass_0 : decode cX2_pass 0 = .ok (.aload_n 0, 1) := dk_42 (dk_at dksX2_pass_0 0 rfl rfl)
theorem dX2_pass_1 : decode cX2_pass 1 = .ok (.iconst 0, 1) := dk_3 (dk_at dksX2_pass_0 1 rfl rfl)
theorem dX2_pass_2 : decode cX2_pass 2 = .ok (.putfield 1, 3) := dk_181 0 1 (dk_at dksX2_pass_0 2 rfl rfl)
theorem dX2_pass_5 : decode cX2_pass 5 = .ok (.aload_n 0, 1) := dk_42 (dk_at dksX2_pass_0 5 rfl rfl)
theorem dX2_pass_6 : decode cX2_pass 6 = .ok (.iload_n 1, 1) := dk_27 (dk_at dksX2_pass_0 6 rfl rfl)
theorem dX2_pass_7 : decode cX2_pass 7 = .ok (.invokevirtual 297, 3) := dk_182 1 41 (dk_at dksX2_pass_0 7 rfl rfl)
theorem dX2_pass_10 : decode cX2_pass 10 = .ok (.ifCond .eq 49, 3) := dk_153 0 49 (dk_at dksX2_pass_0 10 rfl rfl)
theorem dX2_pass_13 : decode cX2_pass 13 = .ok (.iload_n 2, 1) := dk_28 (dk_at dksX2_pass_0 13 rfl rfl)
theorem dX2_pass_14 : decode cX2_pass 14 = .ok (.i2l, 1) := dk_133 (dk_at dksX2_pass_0 14 rfl rfl)
theorem dX2_pass_15 : decode cX2_pass 15 = .ok (.lconst 0, 1) := dk_9 (dk_at dksX2_pass_0 15 rfl rfl)
theorem dX2_pass_16 : decode cX2_pass 16 = .ok (.lconst 1, 1) := dk_10 (dk_at dksX2_pass_0 16 rfl rfl)
theorem dX2_pass_17 : decode cX2_pass 17 = .ok (.invokestatic 132, 3) := dk_184 0 132 (dk_at dksX2_pass_0 17 rfl rfl)
theorem dX2_pass_20 : decode cX2_pass 20 = .ok (.ifCond .eq 39, 3) := dk_153 0 39 (dk_at dksX2_pass_0 20 rfl rfl)
theorem dX2_pass_23 : decode cX2_pass 23 = .ok (.iload_n 3, 1) := dk_29 (dk_at dksX2_pass_0 23 rfl rfl)
theorem dX2_pass_24 : decode cX2_pass 24 = .ok (.invokestatic 153, 3) := dk_184 0 153 (dk_at dksX2_pass_1 0 rfl rfl)
theorem dX2_pass_27 : decode cX2_pass 27 = .ok (.ifCond .eq 32, 3) := dk_153 0 32 (dk_at dksX2_pass_1 3 rfl rfl)
theorem dX2_pass_30 : decode cX2_pass 30 = .ok (.iload 4, 2) := dk_21 4 (dk_at dksX2_pass_1 6 rfl rfl)
theorem dX2_pass_32 : decode cX2_pass 32 = .ok (.invokestatic 258, 3) := dk_184 1 2 (dk_at dksX2_pass_1 8 rfl rfl)
theorem dX2_pass_35 : decode cX2_pass 35 = .ok (.ifCond .eq 24, 3) := dk_153 0 24 (dk_at dksX2_pass_1 11 rfl rfl)
theorem dX2_pass_38 : decode cX2_pass 38 = .ok (.iload 5, 2) := dk_21 5 (dk_at dksX2_pass_1 14 rfl rfl)
theorem dX2_pass_40 : decode cX2_pass 40 = .ok (.invokestatic 156, 3) := dk_184 0 156 (dk_at dksX2_pass_1 16 rfl rfl)
theorem dX2_pass_43 : decode cX2_pass 43 = .ok (.ifCond .eq 16, 3) := dk_153 0 16 (dk_at dksX2_pass_1 19 rfl rfl)
theorem dX2_pass_46 : decode cX2_pass 46 = .ok (.iload 6, 2) := dk_21 6 (dk_at dksX2_pass_1 22 rfl rfl)
theorem dX2_pass_48 : decode cX2_pass 48 = .ok (.i2l, 1) := dk_133 (dk_at dksX2_pass_2 0 rfl rfl)
theorem dX2_pass_49 : decode cX2_pass 49 = .ok (.lconst 0, 1) := dk_9 (dk_at dksX2_pass_2 1 rfl rfl)
theorem dX2_pass_50 : decode cX2_pass 50 = .ok (.ldc2_w 303, 3) := dk_20 1 47 (dk_at dksX2_pass_2 2 rfl rfl)
theorem dX2_pass_53 : decode cX2_pass 53 = .ok (.invokestatic 132, 3) := dk_184 0 132 (dk_at dksX2_pass_2 5 rfl rfl)
theorem dX2_pass_56 : decode cX2_pass 56 = .ok (.ifCond .ne 6, 3) := dk_154 0 6 (dk_at dksX2_pass_2 8 rfl rfl)
theorem dX2_pass_59 : decode cX2_pass 59 = .ok (.ldc 142, 2) := dk_18 142 (dk_at dksX2_pass_2 11 rfl rfl)
theorem dX2_pass_61 : decode cX2_pass 61 = .ok (.ireturn, 1) := dk_172 (dk_at dksX2_pass_2 13 rfl rfl)
theorem dX2_pass_62 : decode cX2_pass 62 = .ok (.aload_n 0, 1) := dk_42 (dk_at dksX2_pass_2 14 rfl rfl)
theorem dX2_pass_63 : decode cX2_pass 63 = .ok (.getfield 305, 3) := dk_180 1 49 (dk_at dksX2_pass_2 15 rfl rfl)
theorem dX2_pass_66 : decode cX2_pass 66 = .ok (.bipush 60, 2) := dk_16 60 (dk_at dksX2_pass_2 18 rfl rfl)
theorem dX2_pass_68 : decode cX2_pass 68 = .ok (.if_icmp .ne 6, 3) := dk_160 0 6 (dk_at dksX2_pass_2 20 rfl rfl)
theorem dX2_pass_71 : decode cX2_pass 71 = .ok (.ldc 170, 2) := dk_18 170 (dk_at dksX2_pass_3 0 rfl rfl)
theorem dX2_pass_73 : decode cX2_pass 73 = .ok (.ireturn, 1) := dk_172 (dk_at dksX2_pass_3 2 rfl rfl)
theorem dX2_pass_74 : decode cX2_pass 74 = .ok (.aload_n 0, 1) := dk_42 (dk_at dksX2_pass_3 3 rfl rfl)
theorem dX2_pass_75 : decode cX2_pass 75 = .ok (.getfield 60, 3) := dk_180 0 60 (dk_at dksX2_pass_3 4 rfl rfl)
theorem dX2_pass_78 : decode cX2_pass 78 = .ok (.aload_n 0, 1) := dk_42 (dk_at dksX2_pass_3 7 rfl rfl)
theorem dX2_pass_79 : decode cX2_pass 79 = .ok (.getfield 305, 3) := dk_180 1 49 (dk_at dksX2_pass_3 8 rfl rfl)
theorem dX2_pass_82 : decode cX2_pass 82 = .ok (.iload_n 1, 1) := dk_27 (dk_at dksX2_pass_3 11 rfl rfl)
theorem dX2_pass_83 : decode cX2_pass 83 = .ok (.iastore, 1) := dk_79 (dk_at dksX2_pass_3 12 rfl rfl)
theorem dX2_pass_84 : decode cX2_pass 84 = .ok (.aload_n 0, 1) := dk_42 (dk_at dksX2_pass_3 13 rfl rfl)
theorem dX2_pass_85 : decode cX2_pass 85 = .ok (.getfield 63, 3) := dk_180 0 63 (dk_at dksX2_pass_3 14 rfl rfl)
theorem dX2_pass_88 : decode cX2_pass 88 = .ok (.aload_n 0, 1) := dk_42 (dk_at dksX2_pass_3 17 rfl rfl)
theorem dX2_pass_89 : decode cX2_pass 89 = .ok (.getfield 305, 3) := dk_180 1 49 (dk_at dksX2_pass_3 18 rfl rfl)
theorem dX2_pass_92 : decode cX2_pass 92 = .ok (.iload_n 2, 1) := dk_28 (dk_at dksX2_pass_3 21 rfl rfl)
theorem dX2_pass_93 : decode cX2_pass 93 = .ok (.iastore, 1) := dk_79 (dk_at dksX2_pass_3 22 rfl rfl)
theorem dX2_pass_94 : decode cX2_pass 94 = .ok (.aload_n 0, 1) := dk_42 (dk_at dksX2_pass_3 23 rfl rfl)
theorem dX2_pass_95 : decode cX2_pass 95 = .ok (.getfield 66, 3) := dk_180 0 66 (dk_at dksX2_pass_4 0 rfl rfl)
theorem dX2_pass_98 : decode cX2_pass 98 = .ok (.aload_n 0, 1) := dk_42 (dk_at dksX2_pass_4 3 rfl rfl)
theorem dX2_pass_99 : decode cX2_pass 99 = .ok (.getfield 305, 3) := dk_180 1 49 (dk_at dksX2_pass_4 4 rfl rfl)
theorem dX2_pass_102 : decode cX2_pass 102 = .ok (.iload_n 3, 1) := dk_29 (dk_at dksX2_pass_4 7 rfl rfl)
theorem dX2_pass_103 : decode cX2_pass 103 = .ok (.iastore, 1) := dk_79 (dk_at dksX2_pass_4 8 rfl rfl)
theorem dX2_pass_104 : decode cX2_pass 104 = .ok (.aload_n 0, 1) := dk_42 (dk_at dksX2_pass_4 9 rfl rfl)
theorem dX2_pass_105 : decode cX2_pass 105 = .ok (.getfield 69, 3) := dk_180 0 69 (dk_at dksX2_pass_4 10 rfl rfl)
theorem dX2_pass_108 : decode cX2_pass 108 = .ok (.aload_n 0, 1) := dk_42 (dk_at dksX2_pass_4 13 rfl rfl)
theorem dX2_pass_109 : decode cX2_pass 109 = .ok (.getfield 305, 3) := dk_180 1 49 (dk_at dksX2_pass_4 14 rfl rfl)
theorem dX2_pass_112 : decode cX2_pass 112 = .ok (.sipush 1440, 3) := dk_17 5 160 (dk_at dksX2_pass_4 17 rfl rfl)
theorem dX2_pass_115 : decode cX2_pass 115 = .ok (.iload 4, 2) := dk_21 4 (dk_at dksX2_pass_4 20 rfl rfl)
theorem dX2_pass_117 : decode cX2_pass 117 = .ok (.imul, 1) := dk_104 (dk_at dksX2_pass_4 22 rfl rfl)
theorem dX2_pass_118 : decode cX2_pass 118 = .ok (.iload 5, 2) := dk_21 5 (dk_at dksX2_pass_5 0 rfl rfl)
theorem dX2_pass_120 : decode cX2_pass 120 = .ok (.iadd, 1) := dk_96 (dk_at dksX2_pass_5 2 rfl rfl)
theorem dX2_pass_121 : decode cX2_pass 121 = .ok (.iastore, 1) := dk_79 (dk_at dksX2_pass_5 3 rfl rfl)
theorem dX2_pass_122 : decode cX2_pass 122 = .ok (.aload_n 0, 1) := dk_42 (dk_at dksX2_pass_5 4 rfl rfl)
theorem dX2_pass_123 : decode cX2_pass 123 = .ok (.getfield 72, 3) := dk_180 0 72 (dk_at dksX2_pass_5 5 rfl rfl)
theorem dX2_pass_126 : decode cX2_pass 126 = .ok (.aload_n 0, 1) := dk_42 (dk_at dksX2_pass_5 8 rfl rfl)
theorem dX2_pass_127 : decode cX2_pass 127 = .ok (.getfield 305, 3) := dk_180 1 49 (dk_at dksX2_pass_5 9 rfl rfl)
theorem dX2_pass_130 : decode cX2_pass 130 = .ok (.iload 6, 2) := dk_21 6 (dk_at dksX2_pass_5 12 rfl rfl)
theorem dX2_pass_132 : decode cX2_pass 132 = .ok (.iastore, 1) := dk_79 (dk_at dksX2_pass_5 14 rfl rfl)
theorem dX2_pass_133 : decode cX2_pass 133 = .ok (.aload_n 0, 1) := dk_42 (dk_at dksX2_pass_5 15 rfl rfl)
theorem dX2_pass_134 : decode cX2_pass 134 = .ok (.dup, 1) := dk_89 (dk_at dksX2_pass_5 16 rfl rfl)
theorem dX2_pass_135 : decode cX2_pass 135 = .ok (.getfield 305, 3) := dk_180 1 49 (dk_at dksX2_pass_5 17 rfl rfl)
theorem dX2_pass_138 : decode cX2_pass 138 = .ok (.iconst 1, 1) := dk_4 (dk_at dksX2_pass_5 20 rfl rfl)
theorem dX2_pass_139 : decode cX2_pass 139 = .ok (.iadd, 1) := dk_96 (dk_at dksX2_pass_5 21 rfl rfl)
theorem dX2_pass_140 : decode cX2_pass 140 = .ok (.putfield 305, 3) := dk_181 1 49 (dk_at dksX2_pass_6 0 rfl rfl)
theorem dX2_pass_143 : decode cX2_pass 143 = .ok (.aload_n 0, 1) := dk_42 (dk_at dksX2_pass_6 3 rfl rfl)
theorem dX2_pass_144 : decode cX2_pass 144 = .ok (.getfield 305, 3) := dk_180 1 49 (dk_at dksX2_pass_6 4 rfl rfl)
theorem dX2_pass_147 : decode cX2_pass 147 = .ok (.ireturn, 1) := dk_172 (dk_at dksX2_pass_6 7 rfl rfl)
abbrev cX2_agree : ByteArray := prog_17_method_43_code
def yX2_agree : MethodName := ⟨RX2, "agree", "(I)I"⟩
def dkwX2_agree_2 : List UInt8 := [180, 1, 58, 172]
abbrev dktX2_agree_2 : List UInt8 := dkwX2_agree_2 ++ []
def dkwX2_agree_1 : List UInt8 := [27, 154, 0, 10, 42, 180, 1, 52, 167, 0, 19, 27, 4, 160, 0, 10, 42, 180, 1, 55, 167, 0, 7, 42]
abbrev dktX2_agree_1 : List UInt8 := dkwX2_agree_1 ++ dktX2_agree_2
def dkwX2_agree_0 : List UInt8 := [42, 3, 181, 0, 1, 27, 133, 9, 20, 0, 140, 184, 0, 132, 154, 0, 6, 18, 142, 172, 42, 182, 1, 64]
abbrev dktX2_agree_0 : List UInt8 := dkwX2_agree_0 ++ dktX2_agree_1
theorem dksX2_agree_0 : cX2_agree.data.toList.drop 0 = dktX2_agree_0 := by decide +kernel
theorem dksX2_agree_1 : cX2_agree.data.toList.drop 24 = dktX2_agree_1 := dk_seg dksX2_agree_0 24 rfl rfl
theorem dksX2_agree_2 : cX2_agree.data.toList.drop 48 = dktX2_agree_2 := dk_seg dksX2_agree_1 24 rfl rfl
theorem dX2_agree_0 : decode cX2_agree 0 = .ok (.aload_n 0, 1) := dk_42 (dk_at dksX2_agree_0 0 rfl rfl)
theorem dX2_agree_1 : decode cX2_agree 1 = .ok (.iconst 0, 1) := dk_3 (dk_at dksX2_agree_0 1 rfl rfl)
theorem dX2_agree_2 : decode cX2_agree 2 = .ok (.putfield 1, 3) := dk_181 0 1 (dk_at dksX2_agree_0 2 rfl rfl)
theorem dX2_agree_5 : decode cX2_agree 5 = .ok (.iload_n 1, 1) := dk_27 (dk_at dksX2_agree_0 5 rfl rfl)
theorem dX2_agree_6 : decode cX2_agree 6 = .ok (.i2l, 1) := dk_133 (dk_at dksX2_agree_0 6 rfl rfl)
theorem dX2_agree_7 : decode cX2_agree 7 = .ok (.lconst 0, 1) := dk_9 (dk_at dksX2_agree_0 7 rfl rfl)
theorem dX2_agree_8 : decode cX2_agree 8 = .ok (.ldc2_w 140, 3) := dk_20 0 140 (dk_at dksX2_agree_0 8 rfl rfl)
theorem dX2_agree_11 : decode cX2_agree 11 = .ok (.invokestatic 132, 3) := dk_184 0 132 (dk_at dksX2_agree_0 11 rfl rfl)
theorem dX2_agree_14 : decode cX2_agree 14 = .ok (.ifCond .ne 6, 3) := dk_154 0 6 (dk_at dksX2_agree_0 14 rfl rfl)
theorem dX2_agree_17 : decode cX2_agree 17 = .ok (.ldc 142, 2) := dk_18 142 (dk_at dksX2_agree_0 17 rfl rfl)
theorem dX2_agree_19 : decode cX2_agree 19 = .ok (.ireturn, 1) := dk_172 (dk_at dksX2_agree_0 19 rfl rfl)
theorem dX2_agree_20 : decode cX2_agree 20 = .ok (.aload_n 0, 1) := dk_42 (dk_at dksX2_agree_0 20 rfl rfl)
theorem dX2_agree_21 : decode cX2_agree 21 = .ok (.invokevirtual 320, 3) := dk_182 1 64 (dk_at dksX2_agree_0 21 rfl rfl)
theorem dX2_agree_24 : decode cX2_agree 24 = .ok (.iload_n 1, 1) := dk_27 (dk_at dksX2_agree_1 0 rfl rfl)
theorem dX2_agree_25 : decode cX2_agree 25 = .ok (.ifCond .ne 10, 3) := dk_154 0 10 (dk_at dksX2_agree_1 1 rfl rfl)
theorem dX2_agree_28 : decode cX2_agree 28 = .ok (.aload_n 0, 1) := dk_42 (dk_at dksX2_agree_1 4 rfl rfl)
theorem dX2_agree_29 : decode cX2_agree 29 = .ok (.getfield 308, 3) := dk_180 1 52 (dk_at dksX2_agree_1 5 rfl rfl)
theorem dX2_agree_32 : decode cX2_agree 32 = .ok (.goto 19, 3) := dk_167 0 19 (dk_at dksX2_agree_1 8 rfl rfl)
theorem dX2_agree_35 : decode cX2_agree 35 = .ok (.iload_n 1, 1) := dk_27 (dk_at dksX2_agree_1 11 rfl rfl)
theorem dX2_agree_36 : decode cX2_agree 36 = .ok (.iconst 1, 1) := dk_4 (dk_at dksX2_agree_1 12 rfl rfl)
theorem dX2_agree_37 : decode cX2_agree 37 = .ok (.if_icmp .ne 10, 3) := dk_160 0 10 (dk_at dksX2_agree_1 13 rfl rfl)
theorem dX2_agree_40 : decode cX2_agree 40 = .ok (.aload_n 0, 1) := dk_42 (dk_at dksX2_agree_1 16 rfl rfl)
theorem dX2_agree_41 : decode cX2_agree 41 = .ok (.getfield 311, 3) := dk_180 1 55 (dk_at dksX2_agree_1 17 rfl rfl)
theorem dX2_agree_44 : decode cX2_agree 44 = .ok (.goto 7, 3) := dk_167 0 7 (dk_at dksX2_agree_1 20 rfl rfl)
theorem dX2_agree_47 : decode cX2_agree 47 = .ok (.aload_n 0, 1) := dk_42 (dk_at dksX2_agree_1 23 rfl rfl)
theorem dX2_agree_48 : decode cX2_agree 48 = .ok (.getfield 314, 3) := dk_180 1 58 (dk_at dksX2_agree_2 0 rfl rfl)
theorem dX2_agree_51 : decode cX2_agree 51 = .ok (.ireturn, 1) := dk_172 (dk_at dksX2_agree_2 3 rfl rfl)
abbrev cX2_goThrough : ByteArray := prog_17_method_42_code
def yX2_goThrough : MethodName := ⟨RX2, "goThrough", "()V"⟩
def dkwX2_goThrough_11 : List UInt8 := [181, 1, 58, 132, 1, 1, 167, 255, 10, 177]
abbrev dktX2_goThrough_11 : List UInt8 := dkwX2_goThrough_11 ++ []
def dkwX2_goThrough_10 : List UInt8 := [180, 1, 55, 28, 96, 181, 1, 55, 42, 89, 180, 1, 58, 29, 156, 0, 7, 4, 167, 0, 4, 3, 96]
abbrev dktX2_goThrough_10 : List UInt8 := dkwX2_goThrough_10 ++ dktX2_goThrough_11
def dkwX2_goThrough_9 : List UInt8 := [21, 7, 46, 61, 29, 28, 4, 160, 0, 7, 4, 167, 0, 4, 2, 96, 62, 167, 255, 62, 42, 89]
abbrev dktX2_goThrough_9 : List UInt8 := dkwX2_goThrough_9 ++ dktX2_goThrough_10
def dkwX2_goThrough_8 : List UInt8 := [46, 17, 5, 160, 112, 182, 1, 61, 154, 0, 7, 4, 167, 0, 4, 3, 96, 181, 1, 52, 42, 180, 0, 63]
abbrev dktX2_goThrough_8 : List UInt8 := dkwX2_goThrough_8 ++ dktX2_goThrough_9
def dkwX2_goThrough_7 : List UInt8 := [180, 0, 63, 21, 7, 46, 28, 159, 0, 28, 42, 42, 180, 0, 66, 21, 7, 46, 42, 180, 0, 69, 21, 7]
abbrev dktX2_goThrough_7 : List UInt8 := dkwX2_goThrough_7 ++ dktX2_goThrough_8
def dkwX2_goThrough_6 : List UInt8 := [3, 54, 6, 21, 6, 153, 0, 83, 22, 4, 10, 21, 7, 121, 129, 55, 4, 42, 89, 180, 1, 52, 42]
abbrev dktX2_goThrough_6 : List UInt8 := dkwX2_goThrough_6 ++ dktX2_goThrough_7
def dkwX2_goThrough_5 : List UInt8 := [167, 0, 5, 21, 7, 54, 7, 132, 8, 1, 167, 255, 176, 21, 7, 18, 129, 159, 0, 7, 4, 167, 0, 4]
abbrev dktX2_goThrough_5 : List UInt8 := dkwX2_goThrough_5 ++ dktX2_goThrough_6
def dkwX2_goThrough_4 : List UInt8 := [18, 129, 159, 0, 20, 42, 180, 0, 69, 21, 8, 46, 42, 180, 0, 69, 21, 7, 46, 162, 0, 8, 21, 8]
abbrev dktX2_goThrough_4 : List UInt8 := dkwX2_goThrough_4 ++ dktX2_goThrough_5
def dkwX2_goThrough_3 : List UInt8 := [21, 8, 123, 10, 127, 9, 148, 154, 0, 7, 4, 167, 0, 4, 3, 54, 9, 21, 9, 153, 0, 32, 21, 7]
abbrev dktX2_goThrough_3 : List UInt8 := dkwX2_goThrough_3 ++ dktX2_goThrough_4
def dkwX2_goThrough_2 : List UInt8 := [54, 8, 21, 8, 42, 180, 1, 49, 162, 0, 77, 42, 180, 0, 60, 21, 8, 46, 27, 160, 0, 19, 22, 4]
abbrev dktX2_goThrough_2 : List UInt8 := dkwX2_goThrough_2 ++ dktX2_goThrough_3
def dkwX2_goThrough_1 : List UInt8 := [162, 0, 244, 3, 61, 3, 62, 9, 55, 4, 4, 54, 6, 21, 6, 153, 0, 195, 18, 129, 54, 7, 3]
abbrev dktX2_goThrough_1 : List UInt8 := dkwX2_goThrough_1 ++ dktX2_goThrough_2
def dkwX2_goThrough_0 : List UInt8 := [42, 3, 181, 1, 52, 42, 3, 181, 1, 55, 42, 3, 181, 1, 58, 3, 60, 27, 42, 180, 1, 31]
abbrev dktX2_goThrough_0 : List UInt8 := dkwX2_goThrough_0 ++ dktX2_goThrough_1
theorem dksX2_goThrough_0 : cX2_goThrough.data.toList.drop 0 = dktX2_goThrough_0 := by decide +kernel
theorem dksX2_goThrough_1 : cX2_goThrough.data.toList.drop 22 = dktX2_goThrough_1 := dk_seg dksX2_goThrough_0 22 rfl rfl
theorem dksX2_goThrough_2 : cX2_goThrough.data.toList.drop 45 = dktX2_goThrough_2 := dk_seg dksX2_goThrough_1 23 rfl rfl
theorem dksX2_goThrough_3 : cX2_goThrough.data.toList.drop 69 = dktX2_goThrough_3 := dk_seg dksX2_goThrough_2 24 rfl rfl
theorem dksX2_goThrough_4 : cX2_goThrough.data.toList.drop 93 = dktX2_goThrough_4 := dk_seg dksX2_goThrough_3 24 rfl rfl
theorem dksX2_goThrough_5 : cX2_goThrough.data.toList.drop 117 = dktX2_goThrough_5 := dk_seg dksX2_goThrough_4 24 rfl rfl
theorem dksX2_goThrough_6 : cX2_goThrough.data.toList.drop 141 = dktX2_goThrough_6 := dk_seg dksX2_goThrough_5 24 rfl rfl
theorem dksX2_goThrough_7 : cX2_goThrough.data.toList.drop 164 = dktX2_goThrough_7 := dk_seg dksX2_goThrough_6 23 rfl rfl
theorem dksX2_goThrough_8 : cX2_goThrough.data.toList.drop 188 = dktX2_goThrough_8 := dk_seg dksX2_goThrough_7 24 rfl rfl
theorem dksX2_goThrough_9 : cX2_goThrough.data.toList.drop 212 = dktX2_goThrough_9 := dk_seg dksX2_goThrough_8 24 rfl rfl
theorem dksX2_goThrough_10 : cX2_goThrough.data.toList.drop 234 = dktX2_goThrough_10 := dk_seg dksX2_goThrough_9 22 rfl rfl
theorem dksX2_goThrough_11 : cX2_goThrough.data.toList.drop 257 = dktX2_goThrough_11 := dk_seg dksX2_goThrough_10 23 rfl rfl
theorem dX2_goThrough_0 : decode cX2_goThrough 0 = .ok (.aload_n 0, 1) := dk_42 (dk_at dksX2_goThrough_0 0 rfl rfl)
theorem dX2_goThrough_1 : decode cX2_goThrough 1 = .ok (.iconst 0, 1) := dk_3 (dk_at dksX2_goThrough_0 1 rfl rfl)
theorem dX2_goThrough_2 : decode cX2_goThrough 2 = .ok (.putfield 308, 3) := dk_181 1 52 (dk_at dksX2_goThrough_0 2 rfl rfl)
theorem dX2_goThrough_5 : decode cX2_goThrough 5 = .ok (.aload_n 0, 1) := dk_42 (dk_at dksX2_goThrough_0 5 rfl rfl)
theorem dX2_goThrough_6 : decode cX2_goThrough 6 = .ok (.iconst 0, 1) := dk_3 (dk_at dksX2_goThrough_0 6 rfl rfl)
theorem dX2_goThrough_7 : decode cX2_goThrough 7 = .ok (.putfield 311, 3) := dk_181 1 55 (dk_at dksX2_goThrough_0 7 rfl rfl)
theorem dX2_goThrough_10 : decode cX2_goThrough 10 = .ok (.aload_n 0, 1) := dk_42 (dk_at dksX2_goThrough_0 10 rfl rfl)
theorem dX2_goThrough_11 : decode cX2_goThrough 11 = .ok (.iconst 0, 1) := dk_3 (dk_at dksX2_goThrough_0 11 rfl rfl)
theorem dX2_goThrough_12 : decode cX2_goThrough 12 = .ok (.putfield 314, 3) := dk_181 1 58 (dk_at dksX2_goThrough_0 12 rfl rfl)
theorem dX2_goThrough_15 : decode cX2_goThrough 15 = .ok (.iconst 0, 1) := dk_3 (dk_at dksX2_goThrough_0 15 rfl rfl)
theorem dX2_goThrough_16 : decode cX2_goThrough 16 = .ok (.istore_n 1, 1) := dk_60 (dk_at dksX2_goThrough_0 16 rfl rfl)
theorem dX2_goThrough_17 : decode cX2_goThrough 17 = .ok (.iload_n 1, 1) := dk_27 (dk_at dksX2_goThrough_0 17 rfl rfl)
theorem dX2_goThrough_18 : decode cX2_goThrough 18 = .ok (.aload_n 0, 1) := dk_42 (dk_at dksX2_goThrough_0 18 rfl rfl)
theorem dX2_goThrough_19 : decode cX2_goThrough 19 = .ok (.getfield 287, 3) := dk_180 1 31 (dk_at dksX2_goThrough_0 19 rfl rfl)
theorem dX2_goThrough_22 : decode cX2_goThrough 22 = .ok (.if_icmp .ge 244, 3) := dk_162 0 244 (dk_at dksX2_goThrough_1 0 rfl rfl)
theorem dX2_goThrough_25 : decode cX2_goThrough 25 = .ok (.iconst 0, 1) := dk_3 (dk_at dksX2_goThrough_1 3 rfl rfl)
theorem dX2_goThrough_26 : decode cX2_goThrough 26 = .ok (.istore_n 2, 1) := dk_61 (dk_at dksX2_goThrough_1 4 rfl rfl)
theorem dX2_goThrough_27 : decode cX2_goThrough 27 = .ok (.iconst 0, 1) := dk_3 (dk_at dksX2_goThrough_1 5 rfl rfl)
theorem dX2_goThrough_28 : decode cX2_goThrough 28 = .ok (.istore_n 3, 1) := dk_62 (dk_at dksX2_goThrough_1 6 rfl rfl)
theorem dX2_goThrough_29 : decode cX2_goThrough 29 = .ok (.lconst 0, 1) := dk_9 (dk_at dksX2_goThrough_1 7 rfl rfl)
theorem dX2_goThrough_30 : decode cX2_goThrough 30 = .ok (.lstore 4, 2) := dk_55 4 (dk_at dksX2_goThrough_1 8 rfl rfl)
theorem dX2_goThrough_32 : decode cX2_goThrough 32 = .ok (.iconst 1, 1) := dk_4 (dk_at dksX2_goThrough_1 10 rfl rfl)
theorem dX2_goThrough_33 : decode cX2_goThrough 33 = .ok (.istore 6, 2) := dk_54 6 (dk_at dksX2_goThrough_1 11 rfl rfl)
theorem dX2_goThrough_35 : decode cX2_goThrough 35 = .ok (.iload 6, 2) := dk_21 6 (dk_at dksX2_goThrough_1 13 rfl rfl)
theorem dX2_goThrough_37 : decode cX2_goThrough 37 = .ok (.ifCond .eq 195, 3) := dk_153 0 195 (dk_at dksX2_goThrough_1 15 rfl rfl)
theorem dX2_goThrough_40 : decode cX2_goThrough 40 = .ok (.ldc 129, 2) := dk_18 129 (dk_at dksX2_goThrough_1 18 rfl rfl)
theorem dX2_goThrough_42 : decode cX2_goThrough 42 = .ok (.istore 7, 2) := dk_54 7 (dk_at dksX2_goThrough_1 20 rfl rfl)
theorem dX2_goThrough_44 : decode cX2_goThrough 44 = .ok (.iconst 0, 1) := dk_3 (dk_at dksX2_goThrough_1 22 rfl rfl)
theorem dX2_goThrough_45 : decode cX2_goThrough 45 = .ok (.istore 8, 2) := dk_54 8 (dk_at dksX2_goThrough_2 0 rfl rfl)
theorem dX2_goThrough_47 : decode cX2_goThrough 47 = .ok (.iload 8, 2) := dk_21 8 (dk_at dksX2_goThrough_2 2 rfl rfl)
theorem dX2_goThrough_49 : decode cX2_goThrough 49 = .ok (.aload_n 0, 1) := dk_42 (dk_at dksX2_goThrough_2 4 rfl rfl)
theorem dX2_goThrough_50 : decode cX2_goThrough 50 = .ok (.getfield 305, 3) := dk_180 1 49 (dk_at dksX2_goThrough_2 5 rfl rfl)
theorem dX2_goThrough_53 : decode cX2_goThrough 53 = .ok (.if_icmp .ge 77, 3) := dk_162 0 77 (dk_at dksX2_goThrough_2 8 rfl rfl)
theorem dX2_goThrough_56 : decode cX2_goThrough 56 = .ok (.aload_n 0, 1) := dk_42 (dk_at dksX2_goThrough_2 11 rfl rfl)
theorem dX2_goThrough_57 : decode cX2_goThrough 57 = .ok (.getfield 60, 3) := dk_180 0 60 (dk_at dksX2_goThrough_2 12 rfl rfl)
theorem dX2_goThrough_60 : decode cX2_goThrough 60 = .ok (.iload 8, 2) := dk_21 8 (dk_at dksX2_goThrough_2 15 rfl rfl)
theorem dX2_goThrough_62 : decode cX2_goThrough 62 = .ok (.iaload, 1) := dk_46 (dk_at dksX2_goThrough_2 17 rfl rfl)
theorem dX2_goThrough_63 : decode cX2_goThrough 63 = .ok (.iload_n 1, 1) := dk_27 (dk_at dksX2_goThrough_2 18 rfl rfl)
theorem dX2_goThrough_64 : decode cX2_goThrough 64 = .ok (.if_icmp .ne 19, 3) := dk_160 0 19 (dk_at dksX2_goThrough_2 19 rfl rfl)
theorem dX2_goThrough_67 : decode cX2_goThrough 67 = .ok (.lload 4, 2) := dk_22 4 (dk_at dksX2_goThrough_2 22 rfl rfl)
theorem dX2_goThrough_69 : decode cX2_goThrough 69 = .ok (.iload 8, 2) := dk_21 8 (dk_at dksX2_goThrough_3 0 rfl rfl)
theorem dX2_goThrough_71 : decode cX2_goThrough 71 = .ok (.lshr, 1) := dk_123 (dk_at dksX2_goThrough_3 2 rfl rfl)
theorem dX2_goThrough_72 : decode cX2_goThrough 72 = .ok (.lconst 1, 1) := dk_10 (dk_at dksX2_goThrough_3 3 rfl rfl)
theorem dX2_goThrough_73 : decode cX2_goThrough 73 = .ok (.land, 1) := dk_127 (dk_at dksX2_goThrough_3 4 rfl rfl)
theorem dX2_goThrough_74 : decode cX2_goThrough 74 = .ok (.lconst 0, 1) := dk_9 (dk_at dksX2_goThrough_3 5 rfl rfl)
theorem dX2_goThrough_75 : decode cX2_goThrough 75 = .ok (.lcmp, 1) := dk_148 (dk_at dksX2_goThrough_3 6 rfl rfl)
theorem dX2_goThrough_76 : decode cX2_goThrough 76 = .ok (.ifCond .ne 7, 3) := dk_154 0 7 (dk_at dksX2_goThrough_3 7 rfl rfl)
theorem dX2_goThrough_79 : decode cX2_goThrough 79 = .ok (.iconst 1, 1) := dk_4 (dk_at dksX2_goThrough_3 10 rfl rfl)
theorem dX2_goThrough_80 : decode cX2_goThrough 80 = .ok (.goto 4, 3) := dk_167 0 4 (dk_at dksX2_goThrough_3 11 rfl rfl)
theorem dX2_goThrough_83 : decode cX2_goThrough 83 = .ok (.iconst 0, 1) := dk_3 (dk_at dksX2_goThrough_3 14 rfl rfl)
theorem dX2_goThrough_84 : decode cX2_goThrough 84 = .ok (.istore 9, 2) := dk_54 9 (dk_at dksX2_goThrough_3 15 rfl rfl)
theorem dX2_goThrough_86 : decode cX2_goThrough 86 = .ok (.iload 9, 2) := dk_21 9 (dk_at dksX2_goThrough_3 17 rfl rfl)
theorem dX2_goThrough_88 : decode cX2_goThrough 88 = .ok (.ifCond .eq 32, 3) := dk_153 0 32 (dk_at dksX2_goThrough_3 19 rfl rfl)
theorem dX2_goThrough_91 : decode cX2_goThrough 91 = .ok (.iload 7, 2) := dk_21 7 (dk_at dksX2_goThrough_3 22 rfl rfl)
theorem dX2_goThrough_93 : decode cX2_goThrough 93 = .ok (.ldc 129, 2) := dk_18 129 (dk_at dksX2_goThrough_4 0 rfl rfl)
theorem dX2_goThrough_95 : decode cX2_goThrough 95 = .ok (.if_icmp .eq 20, 3) := dk_159 0 20 (dk_at dksX2_goThrough_4 2 rfl rfl)
theorem dX2_goThrough_98 : decode cX2_goThrough 98 = .ok (.aload_n 0, 1) := dk_42 (dk_at dksX2_goThrough_4 5 rfl rfl)
theorem dX2_goThrough_99 : decode cX2_goThrough 99 = .ok (.getfield 69, 3) := dk_180 0 69 (dk_at dksX2_goThrough_4 6 rfl rfl)
theorem dX2_goThrough_102 : decode cX2_goThrough 102 = .ok (.iload 8, 2) := dk_21 8 (dk_at dksX2_goThrough_4 9 rfl rfl)
theorem dX2_goThrough_104 : decode cX2_goThrough 104 = .ok (.iaload, 1) := dk_46 (dk_at dksX2_goThrough_4 11 rfl rfl)
theorem dX2_goThrough_105 : decode cX2_goThrough 105 = .ok (.aload_n 0, 1) := dk_42 (dk_at dksX2_goThrough_4 12 rfl rfl)
theorem dX2_goThrough_106 : decode cX2_goThrough 106 = .ok (.getfield 69, 3) := dk_180 0 69 (dk_at dksX2_goThrough_4 13 rfl rfl)
theorem dX2_goThrough_109 : decode cX2_goThrough 109 = .ok (.iload 7, 2) := dk_21 7 (dk_at dksX2_goThrough_4 16 rfl rfl)
theorem dX2_goThrough_111 : decode cX2_goThrough 111 = .ok (.iaload, 1) := dk_46 (dk_at dksX2_goThrough_4 18 rfl rfl)
theorem dX2_goThrough_112 : decode cX2_goThrough 112 = .ok (.if_icmp .ge 8, 3) := dk_162 0 8 (dk_at dksX2_goThrough_4 19 rfl rfl)
theorem dX2_goThrough_115 : decode cX2_goThrough 115 = .ok (.iload 8, 2) := dk_21 8 (dk_at dksX2_goThrough_4 22 rfl rfl)
theorem dX2_goThrough_117 : decode cX2_goThrough 117 = .ok (.goto 5, 3) := dk_167 0 5 (dk_at dksX2_goThrough_5 0 rfl rfl)
theorem dX2_goThrough_120 : decode cX2_goThrough 120 = .ok (.iload 7, 2) := dk_21 7 (dk_at dksX2_goThrough_5 3 rfl rfl)
theorem dX2_goThrough_122 : decode cX2_goThrough 122 = .ok (.istore 7, 2) := dk_54 7 (dk_at dksX2_goThrough_5 5 rfl rfl)
theorem dX2_goThrough_124 : decode cX2_goThrough 124 = .ok (.iinc 8 1, 3) := dk_132 8 1 (dk_at dksX2_goThrough_5 7 rfl rfl)
theorem dX2_goThrough_127 : decode cX2_goThrough 127 = .ok (.goto (-80), 3) := dk_167 255 176 (dk_at dksX2_goThrough_5 10 rfl rfl)
theorem dX2_goThrough_130 : decode cX2_goThrough 130 = .ok (.iload 7, 2) := dk_21 7 (dk_at dksX2_goThrough_5 13 rfl rfl)
theorem dX2_goThrough_132 : decode cX2_goThrough 132 = .ok (.ldc 129, 2) := dk_18 129 (dk_at dksX2_goThrough_5 15 rfl rfl)
theorem dX2_goThrough_134 : decode cX2_goThrough 134 = .ok (.if_icmp .eq 7, 3) := dk_159 0 7 (dk_at dksX2_goThrough_5 17 rfl rfl)
theorem dX2_goThrough_137 : decode cX2_goThrough 137 = .ok (.iconst 1, 1) := dk_4 (dk_at dksX2_goThrough_5 20 rfl rfl)
theorem dX2_goThrough_138 : decode cX2_goThrough 138 = .ok (.goto 4, 3) := dk_167 0 4 (dk_at dksX2_goThrough_5 21 rfl rfl)
theorem dX2_goThrough_141 : decode cX2_goThrough 141 = .ok (.iconst 0, 1) := dk_3 (dk_at dksX2_goThrough_6 0 rfl rfl)
theorem dX2_goThrough_142 : decode cX2_goThrough 142 = .ok (.istore 6, 2) := dk_54 6 (dk_at dksX2_goThrough_6 1 rfl rfl)
theorem dX2_goThrough_144 : decode cX2_goThrough 144 = .ok (.iload 6, 2) := dk_21 6 (dk_at dksX2_goThrough_6 3 rfl rfl)
theorem dX2_goThrough_146 : decode cX2_goThrough 146 = .ok (.ifCond .eq 83, 3) := dk_153 0 83 (dk_at dksX2_goThrough_6 5 rfl rfl)
theorem dX2_goThrough_149 : decode cX2_goThrough 149 = .ok (.lload 4, 2) := dk_22 4 (dk_at dksX2_goThrough_6 8 rfl rfl)
theorem dX2_goThrough_151 : decode cX2_goThrough 151 = .ok (.lconst 1, 1) := dk_10 (dk_at dksX2_goThrough_6 10 rfl rfl)
theorem dX2_goThrough_152 : decode cX2_goThrough 152 = .ok (.iload 7, 2) := dk_21 7 (dk_at dksX2_goThrough_6 11 rfl rfl)
theorem dX2_goThrough_154 : decode cX2_goThrough 154 = .ok (.lshl, 1) := dk_121 (dk_at dksX2_goThrough_6 13 rfl rfl)
theorem dX2_goThrough_155 : decode cX2_goThrough 155 = .ok (.lor, 1) := dk_129 (dk_at dksX2_goThrough_6 14 rfl rfl)
theorem dX2_goThrough_156 : decode cX2_goThrough 156 = .ok (.lstore 4, 2) := dk_55 4 (dk_at dksX2_goThrough_6 15 rfl rfl)
theorem dX2_goThrough_158 : decode cX2_goThrough 158 = .ok (.aload_n 0, 1) := dk_42 (dk_at dksX2_goThrough_6 17 rfl rfl)
theorem dX2_goThrough_159 : decode cX2_goThrough 159 = .ok (.dup, 1) := dk_89 (dk_at dksX2_goThrough_6 18 rfl rfl)
theorem dX2_goThrough_160 : decode cX2_goThrough 160 = .ok (.getfield 308, 3) := dk_180 1 52 (dk_at dksX2_goThrough_6 19 rfl rfl)
theorem dX2_goThrough_163 : decode cX2_goThrough 163 = .ok (.aload_n 0, 1) := dk_42 (dk_at dksX2_goThrough_6 22 rfl rfl)
theorem dX2_goThrough_164 : decode cX2_goThrough 164 = .ok (.getfield 63, 3) := dk_180 0 63 (dk_at dksX2_goThrough_7 0 rfl rfl)
theorem dX2_goThrough_167 : decode cX2_goThrough 167 = .ok (.iload 7, 2) := dk_21 7 (dk_at dksX2_goThrough_7 3 rfl rfl)
theorem dX2_goThrough_169 : decode cX2_goThrough 169 = .ok (.iaload, 1) := dk_46 (dk_at dksX2_goThrough_7 5 rfl rfl)
theorem dX2_goThrough_170 : decode cX2_goThrough 170 = .ok (.iload_n 2, 1) := dk_28 (dk_at dksX2_goThrough_7 6 rfl rfl)
theorem dX2_goThrough_171 : decode cX2_goThrough 171 = .ok (.if_icmp .eq 28, 3) := dk_159 0 28 (dk_at dksX2_goThrough_7 7 rfl rfl)
theorem dX2_goThrough_174 : decode cX2_goThrough 174 = .ok (.aload_n 0, 1) := dk_42 (dk_at dksX2_goThrough_7 10 rfl rfl)
theorem dX2_goThrough_175 : decode cX2_goThrough 175 = .ok (.aload_n 0, 1) := dk_42 (dk_at dksX2_goThrough_7 11 rfl rfl)
theorem dX2_goThrough_176 : decode cX2_goThrough 176 = .ok (.getfield 66, 3) := dk_180 0 66 (dk_at dksX2_goThrough_7 12 rfl rfl)
theorem dX2_goThrough_179 : decode cX2_goThrough 179 = .ok (.iload 7, 2) := dk_21 7 (dk_at dksX2_goThrough_7 15 rfl rfl)
theorem dX2_goThrough_181 : decode cX2_goThrough 181 = .ok (.iaload, 1) := dk_46 (dk_at dksX2_goThrough_7 17 rfl rfl)
theorem dX2_goThrough_182 : decode cX2_goThrough 182 = .ok (.aload_n 0, 1) := dk_42 (dk_at dksX2_goThrough_7 18 rfl rfl)
theorem dX2_goThrough_183 : decode cX2_goThrough 183 = .ok (.getfield 69, 3) := dk_180 0 69 (dk_at dksX2_goThrough_7 19 rfl rfl)
theorem dX2_goThrough_186 : decode cX2_goThrough 186 = .ok (.iload 7, 2) := dk_21 7 (dk_at dksX2_goThrough_7 22 rfl rfl)
theorem dX2_goThrough_188 : decode cX2_goThrough 188 = .ok (.iaload, 1) := dk_46 (dk_at dksX2_goThrough_8 0 rfl rfl)
theorem dX2_goThrough_189 : decode cX2_goThrough 189 = .ok (.sipush 1440, 3) := dk_17 5 160 (dk_at dksX2_goThrough_8 1 rfl rfl)
theorem dX2_goThrough_192 : decode cX2_goThrough 192 = .ok (.irem, 1) := dk_112 (dk_at dksX2_goThrough_8 4 rfl rfl)
theorem dX2_goThrough_193 : decode cX2_goThrough 193 = .ok (.invokevirtual 317, 3) := dk_182 1 61 (dk_at dksX2_goThrough_8 5 rfl rfl)
theorem dX2_goThrough_196 : decode cX2_goThrough 196 = .ok (.ifCond .ne 7, 3) := dk_154 0 7 (dk_at dksX2_goThrough_8 8 rfl rfl)
theorem dX2_goThrough_199 : decode cX2_goThrough 199 = .ok (.iconst 1, 1) := dk_4 (dk_at dksX2_goThrough_8 11 rfl rfl)
theorem dX2_goThrough_200 : decode cX2_goThrough 200 = .ok (.goto 4, 3) := dk_167 0 4 (dk_at dksX2_goThrough_8 12 rfl rfl)
theorem dX2_goThrough_203 : decode cX2_goThrough 203 = .ok (.iconst 0, 1) := dk_3 (dk_at dksX2_goThrough_8 15 rfl rfl)
theorem dX2_goThrough_204 : decode cX2_goThrough 204 = .ok (.iadd, 1) := dk_96 (dk_at dksX2_goThrough_8 16 rfl rfl)
theorem dX2_goThrough_205 : decode cX2_goThrough 205 = .ok (.putfield 308, 3) := dk_181 1 52 (dk_at dksX2_goThrough_8 17 rfl rfl)
theorem dX2_goThrough_208 : decode cX2_goThrough 208 = .ok (.aload_n 0, 1) := dk_42 (dk_at dksX2_goThrough_8 20 rfl rfl)
theorem dX2_goThrough_209 : decode cX2_goThrough 209 = .ok (.getfield 63, 3) := dk_180 0 63 (dk_at dksX2_goThrough_8 21 rfl rfl)
theorem dX2_goThrough_212 : decode cX2_goThrough 212 = .ok (.iload 7, 2) := dk_21 7 (dk_at dksX2_goThrough_9 0 rfl rfl)
theorem dX2_goThrough_214 : decode cX2_goThrough 214 = .ok (.iaload, 1) := dk_46 (dk_at dksX2_goThrough_9 2 rfl rfl)
theorem dX2_goThrough_215 : decode cX2_goThrough 215 = .ok (.istore_n 2, 1) := dk_61 (dk_at dksX2_goThrough_9 3 rfl rfl)
theorem dX2_goThrough_216 : decode cX2_goThrough 216 = .ok (.iload_n 3, 1) := dk_29 (dk_at dksX2_goThrough_9 4 rfl rfl)
theorem dX2_goThrough_217 : decode cX2_goThrough 217 = .ok (.iload_n 2, 1) := dk_28 (dk_at dksX2_goThrough_9 5 rfl rfl)
theorem dX2_goThrough_218 : decode cX2_goThrough 218 = .ok (.iconst 1, 1) := dk_4 (dk_at dksX2_goThrough_9 6 rfl rfl)
theorem dX2_goThrough_219 : decode cX2_goThrough 219 = .ok (.if_icmp .ne 7, 3) := dk_160 0 7 (dk_at dksX2_goThrough_9 7 rfl rfl)
theorem dX2_goThrough_222 : decode cX2_goThrough 222 = .ok (.iconst 1, 1) := dk_4 (dk_at dksX2_goThrough_9 10 rfl rfl)
theorem dX2_goThrough_223 : decode cX2_goThrough 223 = .ok (.goto 4, 3) := dk_167 0 4 (dk_at dksX2_goThrough_9 11 rfl rfl)
theorem dX2_goThrough_226 : decode cX2_goThrough 226 = .ok (.iconst (-1), 1) := dk_2 (dk_at dksX2_goThrough_9 14 rfl rfl)
theorem dX2_goThrough_227 : decode cX2_goThrough 227 = .ok (.iadd, 1) := dk_96 (dk_at dksX2_goThrough_9 15 rfl rfl)
theorem dX2_goThrough_228 : decode cX2_goThrough 228 = .ok (.istore_n 3, 1) := dk_62 (dk_at dksX2_goThrough_9 16 rfl rfl)
theorem dX2_goThrough_229 : decode cX2_goThrough 229 = .ok (.goto (-194), 3) := dk_167 255 62 (dk_at dksX2_goThrough_9 17 rfl rfl)
theorem dX2_goThrough_232 : decode cX2_goThrough 232 = .ok (.aload_n 0, 1) := dk_42 (dk_at dksX2_goThrough_9 20 rfl rfl)
theorem dX2_goThrough_233 : decode cX2_goThrough 233 = .ok (.dup, 1) := dk_89 (dk_at dksX2_goThrough_9 21 rfl rfl)
theorem dX2_goThrough_234 : decode cX2_goThrough 234 = .ok (.getfield 311, 3) := dk_180 1 55 (dk_at dksX2_goThrough_10 0 rfl rfl)
theorem dX2_goThrough_237 : decode cX2_goThrough 237 = .ok (.iload_n 2, 1) := dk_28 (dk_at dksX2_goThrough_10 3 rfl rfl)
theorem dX2_goThrough_238 : decode cX2_goThrough 238 = .ok (.iadd, 1) := dk_96 (dk_at dksX2_goThrough_10 4 rfl rfl)
theorem dX2_goThrough_239 : decode cX2_goThrough 239 = .ok (.putfield 311, 3) := dk_181 1 55 (dk_at dksX2_goThrough_10 5 rfl rfl)
theorem dX2_goThrough_242 : decode cX2_goThrough 242 = .ok (.aload_n 0, 1) := dk_42 (dk_at dksX2_goThrough_10 8 rfl rfl)
theorem dX2_goThrough_243 : decode cX2_goThrough 243 = .ok (.dup, 1) := dk_89 (dk_at dksX2_goThrough_10 9 rfl rfl)
theorem dX2_goThrough_244 : decode cX2_goThrough 244 = .ok (.getfield 314, 3) := dk_180 1 58 (dk_at dksX2_goThrough_10 10 rfl rfl)
theorem dX2_goThrough_247 : decode cX2_goThrough 247 = .ok (.iload_n 3, 1) := dk_29 (dk_at dksX2_goThrough_10 13 rfl rfl)
theorem dX2_goThrough_248 : decode cX2_goThrough 248 = .ok (.ifCond .ge 7, 3) := dk_156 0 7 (dk_at dksX2_goThrough_10 14 rfl rfl)
theorem dX2_goThrough_251 : decode cX2_goThrough 251 = .ok (.iconst 1, 1) := dk_4 (dk_at dksX2_goThrough_10 17 rfl rfl)
theorem dX2_goThrough_252 : decode cX2_goThrough 252 = .ok (.goto 4, 3) := dk_167 0 4 (dk_at dksX2_goThrough_10 18 rfl rfl)
theorem dX2_goThrough_255 : decode cX2_goThrough 255 = .ok (.iconst 0, 1) := dk_3 (dk_at dksX2_goThrough_10 21 rfl rfl)
theorem dX2_goThrough_256 : decode cX2_goThrough 256 = .ok (.iadd, 1) := dk_96 (dk_at dksX2_goThrough_10 22 rfl rfl)
theorem dX2_goThrough_257 : decode cX2_goThrough 257 = .ok (.putfield 314, 3) := dk_181 1 58 (dk_at dksX2_goThrough_11 0 rfl rfl)
theorem dX2_goThrough_260 : decode cX2_goThrough 260 = .ok (.iinc 1 1, 3) := dk_132 1 1 (dk_at dksX2_goThrough_11 3 rfl rfl)
theorem dX2_goThrough_263 : decode cX2_goThrough 263 = .ok (.goto (-246), 3) := dk_167 255 10 (dk_at dksX2_goThrough_11 6 rfl rfl)
theorem dX2_goThrough_266 : decode cX2_goThrough 266 = .ok (.return_, 1) := dk_177 (dk_at dksX2_goThrough_11 9 rfl rfl)
abbrev cX2_isOpen : ByteArray := prog_17_method_18_code
def yX2_isOpen : MethodName := ⟨RX2, "isOpen", "(II)Z"⟩
def dkwX2_isOpen_1 : List UInt8 := [3, 172]
abbrev dktX2_isOpen_1 : List UInt8 := dkwX2_isOpen_1 ++ []
def dkwX2_isOpen_0 : List UInt8 := [28, 42, 180, 0, 27, 27, 46, 161, 0, 17, 28, 42, 180, 0, 30, 27, 46, 162, 0, 7, 4, 167, 0, 4]
abbrev dktX2_isOpen_0 : List UInt8 := dkwX2_isOpen_0 ++ dktX2_isOpen_1
theorem dksX2_isOpen_0 : cX2_isOpen.data.toList.drop 0 = dktX2_isOpen_0 := by decide +kernel
theorem dksX2_isOpen_1 : cX2_isOpen.data.toList.drop 24 = dktX2_isOpen_1 := dk_seg dksX2_isOpen_0 24 rfl rfl
theorem dX2_isOpen_0 : decode cX2_isOpen 0 = .ok (.iload_n 2, 1) := dk_28 (dk_at dksX2_isOpen_0 0 rfl rfl)
theorem dX2_isOpen_1 : decode cX2_isOpen 1 = .ok (.aload_n 0, 1) := dk_42 (dk_at dksX2_isOpen_0 1 rfl rfl)
theorem dX2_isOpen_2 : decode cX2_isOpen 2 = .ok (.getfield 27, 3) := dk_180 0 27 (dk_at dksX2_isOpen_0 2 rfl rfl)
theorem dX2_isOpen_5 : decode cX2_isOpen 5 = .ok (.iload_n 1, 1) := dk_27 (dk_at dksX2_isOpen_0 5 rfl rfl)
theorem dX2_isOpen_6 : decode cX2_isOpen 6 = .ok (.iaload, 1) := dk_46 (dk_at dksX2_isOpen_0 6 rfl rfl)
theorem dX2_isOpen_7 : decode cX2_isOpen 7 = .ok (.if_icmp .lt 17, 3) := dk_161 0 17 (dk_at dksX2_isOpen_0 7 rfl rfl)
theorem dX2_isOpen_10 : decode cX2_isOpen 10 = .ok (.iload_n 2, 1) := dk_28 (dk_at dksX2_isOpen_0 10 rfl rfl)
theorem dX2_isOpen_11 : decode cX2_isOpen 11 = .ok (.aload_n 0, 1) := dk_42 (dk_at dksX2_isOpen_0 11 rfl rfl)
theorem dX2_isOpen_12 : decode cX2_isOpen 12 = .ok (.getfield 30, 3) := dk_180 0 30 (dk_at dksX2_isOpen_0 12 rfl rfl)
theorem dX2_isOpen_15 : decode cX2_isOpen 15 = .ok (.iload_n 1, 1) := dk_27 (dk_at dksX2_isOpen_0 15 rfl rfl)
theorem dX2_isOpen_16 : decode cX2_isOpen 16 = .ok (.iaload, 1) := dk_46 (dk_at dksX2_isOpen_0 16 rfl rfl)
theorem dX2_isOpen_17 : decode cX2_isOpen 17 = .ok (.if_icmp .ge 7, 3) := dk_162 0 7 (dk_at dksX2_isOpen_0 17 rfl rfl)
theorem dX2_isOpen_20 : decode cX2_isOpen 20 = .ok (.iconst 1, 1) := dk_4 (dk_at dksX2_isOpen_0 20 rfl rfl)
theorem dX2_isOpen_21 : decode cX2_isOpen 21 = .ok (.goto 4, 3) := dk_167 0 4 (dk_at dksX2_isOpen_0 21 rfl rfl)
theorem dX2_isOpen_24 : decode cX2_isOpen 24 = .ok (.iconst 0, 1) := dk_3 (dk_at dksX2_isOpen_1 0 rfl rfl)
theorem dX2_isOpen_25 : decode cX2_isOpen 25 = .ok (.ireturn, 1) := dk_172 (dk_at dksX2_isOpen_1 1 rfl rfl)
abbrev cX2_amiss : ByteArray := prog_17_method_44_code
def yX2_amiss : MethodName := ⟨RX2, "amiss", "(III)I"⟩
def dkwX2_amiss_6 : List UInt8 := [54, 4, 132, 5, 1, 167, 255, 158, 21, 4, 172]
abbrev dktX2_amiss_6 : List UInt8 := dkwX2_amiss_6 ++ []
def dkwX2_amiss_5 : List UInt8 := [21, 5, 46, 42, 180, 0, 66, 21, 5, 46, 21, 6, 182, 1, 44, 42, 180, 0, 72, 21, 5, 46, 100, 96]
abbrev dktX2_amiss_5 : List UInt8 := dkwX2_amiss_5 ++ dktX2_amiss_6
def dkwX2_amiss_4 : List UInt8 := [27, 160, 0, 48, 21, 6, 28, 161, 0, 42, 21, 6, 29, 163, 0, 36, 21, 4, 42, 42, 180, 0, 60]
abbrev dktX2_amiss_4 : List UInt8 := dkwX2_amiss_4 ++ dktX2_amiss_5
def dkwX2_amiss_3 : List UInt8 := [42, 180, 0, 63, 21, 5, 46, 4, 160, 0, 65, 27, 18, 129, 159, 0, 14, 42, 180, 0, 66, 21, 5, 46]
abbrev dktX2_amiss_3 : List UInt8 := dkwX2_amiss_3 ++ dktX2_amiss_4
def dkwX2_amiss_2 : List UInt8 := [54, 5, 21, 5, 42, 180, 1, 49, 162, 0, 95, 42, 180, 0, 69, 21, 5, 46, 17, 5, 160, 108, 54, 6]
abbrev dktX2_amiss_2 : List UInt8 := dkwX2_amiss_2 ++ dktX2_amiss_3
def dkwX2_amiss_1 : List UInt8 := [153, 0, 16, 29, 133, 28, 133, 20, 0, 149, 184, 0, 132, 154, 0, 6, 18, 142, 172, 3, 54, 4, 3]
abbrev dktX2_amiss_1 : List UInt8 := dkwX2_amiss_1 ++ dktX2_amiss_2
def dkwX2_amiss_0 : List UInt8 := [42, 3, 181, 0, 1, 27, 18, 129, 159, 0, 10, 27, 184, 0, 153, 153, 0, 23, 28, 184, 1, 2]
abbrev dktX2_amiss_0 : List UInt8 := dkwX2_amiss_0 ++ dktX2_amiss_1
theorem dksX2_amiss_0 : cX2_amiss.data.toList.drop 0 = dktX2_amiss_0 := by decide +kernel
theorem dksX2_amiss_1 : cX2_amiss.data.toList.drop 22 = dktX2_amiss_1 := dk_seg dksX2_amiss_0 22 rfl rfl
theorem dksX2_amiss_2 : cX2_amiss.data.toList.drop 45 = dktX2_amiss_2 := dk_seg dksX2_amiss_1 23 rfl rfl
theorem dksX2_amiss_3 : cX2_amiss.data.toList.drop 69 = dktX2_amiss_3 := dk_seg dksX2_amiss_2 24 rfl rfl
theorem dksX2_amiss_4 : cX2_amiss.data.toList.drop 93 = dktX2_amiss_4 := dk_seg dksX2_amiss_3 24 rfl rfl
theorem dksX2_amiss_5 : cX2_amiss.data.toList.drop 116 = dktX2_amiss_5 := dk_seg dksX2_amiss_4 23 rfl rfl
theorem dksX2_amiss_6 : cX2_amiss.data.toList.drop 140 = dktX2_amiss_6 := dk_seg dksX2_amiss_5 24 rfl rfl
theorem dX2_amiss_0 : decode cX2_amiss 0 = .ok (.aload_n 0, 1) := dk_42 (dk_at dksX2_amiss_0 0 rfl rfl)
theorem dX2_amiss_1 : decode cX2_amiss 1 = .ok (.iconst 0, 1) := dk_3 (dk_at dksX2_amiss_0 1 rfl rfl)
theorem dX2_amiss_2 : decode cX2_amiss 2 = .ok (.putfield 1, 3) := dk_181 0 1 (dk_at dksX2_amiss_0 2 rfl rfl)
theorem dX2_amiss_5 : decode cX2_amiss 5 = .ok (.iload_n 1, 1) := dk_27 (dk_at dksX2_amiss_0 5 rfl rfl)
theorem dX2_amiss_6 : decode cX2_amiss 6 = .ok (.ldc 129, 2) := dk_18 129 (dk_at dksX2_amiss_0 6 rfl rfl)
theorem dX2_amiss_8 : decode cX2_amiss 8 = .ok (.if_icmp .eq 10, 3) := dk_159 0 10 (dk_at dksX2_amiss_0 8 rfl rfl)
theorem dX2_amiss_11 : decode cX2_amiss 11 = .ok (.iload_n 1, 1) := dk_27 (dk_at dksX2_amiss_0 11 rfl rfl)
theorem dX2_amiss_12 : decode cX2_amiss 12 = .ok (.invokestatic 153, 3) := dk_184 0 153 (dk_at dksX2_amiss_0 12 rfl rfl)
theorem dX2_amiss_15 : decode cX2_amiss 15 = .ok (.ifCond .eq 23, 3) := dk_153 0 23 (dk_at dksX2_amiss_0 15 rfl rfl)
theorem dX2_amiss_18 : decode cX2_amiss 18 = .ok (.iload_n 2, 1) := dk_28 (dk_at dksX2_amiss_0 18 rfl rfl)
theorem dX2_amiss_19 : decode cX2_amiss 19 = .ok (.invokestatic 258, 3) := dk_184 1 2 (dk_at dksX2_amiss_0 19 rfl rfl)
theorem dX2_amiss_22 : decode cX2_amiss 22 = .ok (.ifCond .eq 16, 3) := dk_153 0 16 (dk_at dksX2_amiss_1 0 rfl rfl)
theorem dX2_amiss_25 : decode cX2_amiss 25 = .ok (.iload_n 3, 1) := dk_29 (dk_at dksX2_amiss_1 3 rfl rfl)
theorem dX2_amiss_26 : decode cX2_amiss 26 = .ok (.i2l, 1) := dk_133 (dk_at dksX2_amiss_1 4 rfl rfl)
theorem dX2_amiss_27 : decode cX2_amiss 27 = .ok (.iload_n 2, 1) := dk_28 (dk_at dksX2_amiss_1 5 rfl rfl)
theorem dX2_amiss_28 : decode cX2_amiss 28 = .ok (.i2l, 1) := dk_133 (dk_at dksX2_amiss_1 6 rfl rfl)
theorem dX2_amiss_29 : decode cX2_amiss 29 = .ok (.ldc2_w 149, 3) := dk_20 0 149 (dk_at dksX2_amiss_1 7 rfl rfl)
theorem dX2_amiss_32 : decode cX2_amiss 32 = .ok (.invokestatic 132, 3) := dk_184 0 132 (dk_at dksX2_amiss_1 10 rfl rfl)
theorem dX2_amiss_35 : decode cX2_amiss 35 = .ok (.ifCond .ne 6, 3) := dk_154 0 6 (dk_at dksX2_amiss_1 13 rfl rfl)
theorem dX2_amiss_38 : decode cX2_amiss 38 = .ok (.ldc 142, 2) := dk_18 142 (dk_at dksX2_amiss_1 16 rfl rfl)
theorem dX2_amiss_40 : decode cX2_amiss 40 = .ok (.ireturn, 1) := dk_172 (dk_at dksX2_amiss_1 18 rfl rfl)
theorem dX2_amiss_41 : decode cX2_amiss 41 = .ok (.iconst 0, 1) := dk_3 (dk_at dksX2_amiss_1 19 rfl rfl)
theorem dX2_amiss_42 : decode cX2_amiss 42 = .ok (.istore 4, 2) := dk_54 4 (dk_at dksX2_amiss_1 20 rfl rfl)
theorem dX2_amiss_44 : decode cX2_amiss 44 = .ok (.iconst 0, 1) := dk_3 (dk_at dksX2_amiss_1 22 rfl rfl)
theorem dX2_amiss_45 : decode cX2_amiss 45 = .ok (.istore 5, 2) := dk_54 5 (dk_at dksX2_amiss_2 0 rfl rfl)
theorem dX2_amiss_47 : decode cX2_amiss 47 = .ok (.iload 5, 2) := dk_21 5 (dk_at dksX2_amiss_2 2 rfl rfl)
theorem dX2_amiss_49 : decode cX2_amiss 49 = .ok (.aload_n 0, 1) := dk_42 (dk_at dksX2_amiss_2 4 rfl rfl)
theorem dX2_amiss_50 : decode cX2_amiss 50 = .ok (.getfield 305, 3) := dk_180 1 49 (dk_at dksX2_amiss_2 5 rfl rfl)
theorem dX2_amiss_53 : decode cX2_amiss 53 = .ok (.if_icmp .ge 95, 3) := dk_162 0 95 (dk_at dksX2_amiss_2 8 rfl rfl)
theorem dX2_amiss_56 : decode cX2_amiss 56 = .ok (.aload_n 0, 1) := dk_42 (dk_at dksX2_amiss_2 11 rfl rfl)
theorem dX2_amiss_57 : decode cX2_amiss 57 = .ok (.getfield 69, 3) := dk_180 0 69 (dk_at dksX2_amiss_2 12 rfl rfl)
theorem dX2_amiss_60 : decode cX2_amiss 60 = .ok (.iload 5, 2) := dk_21 5 (dk_at dksX2_amiss_2 15 rfl rfl)
theorem dX2_amiss_62 : decode cX2_amiss 62 = .ok (.iaload, 1) := dk_46 (dk_at dksX2_amiss_2 17 rfl rfl)
theorem dX2_amiss_63 : decode cX2_amiss 63 = .ok (.sipush 1440, 3) := dk_17 5 160 (dk_at dksX2_amiss_2 18 rfl rfl)
theorem dX2_amiss_66 : decode cX2_amiss 66 = .ok (.idiv, 1) := dk_108 (dk_at dksX2_amiss_2 21 rfl rfl)
theorem dX2_amiss_67 : decode cX2_amiss 67 = .ok (.istore 6, 2) := dk_54 6 (dk_at dksX2_amiss_2 22 rfl rfl)
theorem dX2_amiss_69 : decode cX2_amiss 69 = .ok (.aload_n 0, 1) := dk_42 (dk_at dksX2_amiss_3 0 rfl rfl)
theorem dX2_amiss_70 : decode cX2_amiss 70 = .ok (.getfield 63, 3) := dk_180 0 63 (dk_at dksX2_amiss_3 1 rfl rfl)
theorem dX2_amiss_73 : decode cX2_amiss 73 = .ok (.iload 5, 2) := dk_21 5 (dk_at dksX2_amiss_3 4 rfl rfl)
theorem dX2_amiss_75 : decode cX2_amiss 75 = .ok (.iaload, 1) := dk_46 (dk_at dksX2_amiss_3 6 rfl rfl)
theorem dX2_amiss_76 : decode cX2_amiss 76 = .ok (.iconst 1, 1) := dk_4 (dk_at dksX2_amiss_3 7 rfl rfl)
theorem dX2_amiss_77 : decode cX2_amiss 77 = .ok (.if_icmp .ne 65, 3) := dk_160 0 65 (dk_at dksX2_amiss_3 8 rfl rfl)
theorem dX2_amiss_80 : decode cX2_amiss 80 = .ok (.iload_n 1, 1) := dk_27 (dk_at dksX2_amiss_3 11 rfl rfl)
theorem dX2_amiss_81 : decode cX2_amiss 81 = .ok (.ldc 129, 2) := dk_18 129 (dk_at dksX2_amiss_3 12 rfl rfl)
theorem dX2_amiss_83 : decode cX2_amiss 83 = .ok (.if_icmp .eq 14, 3) := dk_159 0 14 (dk_at dksX2_amiss_3 14 rfl rfl)
theorem dX2_amiss_86 : decode cX2_amiss 86 = .ok (.aload_n 0, 1) := dk_42 (dk_at dksX2_amiss_3 17 rfl rfl)
theorem dX2_amiss_87 : decode cX2_amiss 87 = .ok (.getfield 66, 3) := dk_180 0 66 (dk_at dksX2_amiss_3 18 rfl rfl)
theorem dX2_amiss_90 : decode cX2_amiss 90 = .ok (.iload 5, 2) := dk_21 5 (dk_at dksX2_amiss_3 21 rfl rfl)
theorem dX2_amiss_92 : decode cX2_amiss 92 = .ok (.iaload, 1) := dk_46 (dk_at dksX2_amiss_3 23 rfl rfl)
theorem dX2_amiss_93 : decode cX2_amiss 93 = .ok (.iload_n 1, 1) := dk_27 (dk_at dksX2_amiss_4 0 rfl rfl)
theorem dX2_amiss_94 : decode cX2_amiss 94 = .ok (.if_icmp .ne 48, 3) := dk_160 0 48 (dk_at dksX2_amiss_4 1 rfl rfl)
theorem dX2_amiss_97 : decode cX2_amiss 97 = .ok (.iload 6, 2) := dk_21 6 (dk_at dksX2_amiss_4 4 rfl rfl)
theorem dX2_amiss_99 : decode cX2_amiss 99 = .ok (.iload_n 2, 1) := dk_28 (dk_at dksX2_amiss_4 6 rfl rfl)
theorem dX2_amiss_100 : decode cX2_amiss 100 = .ok (.if_icmp .lt 42, 3) := dk_161 0 42 (dk_at dksX2_amiss_4 7 rfl rfl)
theorem dX2_amiss_103 : decode cX2_amiss 103 = .ok (.iload 6, 2) := dk_21 6 (dk_at dksX2_amiss_4 10 rfl rfl)
theorem dX2_amiss_105 : decode cX2_amiss 105 = .ok (.iload_n 3, 1) := dk_29 (dk_at dksX2_amiss_4 12 rfl rfl)
theorem dX2_amiss_106 : decode cX2_amiss 106 = .ok (.if_icmp .gt 36, 3) := dk_163 0 36 (dk_at dksX2_amiss_4 13 rfl rfl)
theorem dX2_amiss_109 : decode cX2_amiss 109 = .ok (.iload 4, 2) := dk_21 4 (dk_at dksX2_amiss_4 16 rfl rfl)
theorem dX2_amiss_111 : decode cX2_amiss 111 = .ok (.aload_n 0, 1) := dk_42 (dk_at dksX2_amiss_4 18 rfl rfl)
theorem dX2_amiss_112 : decode cX2_amiss 112 = .ok (.aload_n 0, 1) := dk_42 (dk_at dksX2_amiss_4 19 rfl rfl)
theorem dX2_amiss_113 : decode cX2_amiss 113 = .ok (.getfield 60, 3) := dk_180 0 60 (dk_at dksX2_amiss_4 20 rfl rfl)
theorem dX2_amiss_116 : decode cX2_amiss 116 = .ok (.iload 5, 2) := dk_21 5 (dk_at dksX2_amiss_5 0 rfl rfl)
theorem dX2_amiss_118 : decode cX2_amiss 118 = .ok (.iaload, 1) := dk_46 (dk_at dksX2_amiss_5 2 rfl rfl)
theorem dX2_amiss_119 : decode cX2_amiss 119 = .ok (.aload_n 0, 1) := dk_42 (dk_at dksX2_amiss_5 3 rfl rfl)
theorem dX2_amiss_120 : decode cX2_amiss 120 = .ok (.getfield 66, 3) := dk_180 0 66 (dk_at dksX2_amiss_5 4 rfl rfl)
theorem dX2_amiss_123 : decode cX2_amiss 123 = .ok (.iload 5, 2) := dk_21 5 (dk_at dksX2_amiss_5 7 rfl rfl)
theorem dX2_amiss_125 : decode cX2_amiss 125 = .ok (.iaload, 1) := dk_46 (dk_at dksX2_amiss_5 9 rfl rfl)
theorem dX2_amiss_126 : decode cX2_amiss 126 = .ok (.iload 6, 2) := dk_21 6 (dk_at dksX2_amiss_5 10 rfl rfl)
theorem dX2_amiss_128 : decode cX2_amiss 128 = .ok (.invokevirtual 300, 3) := dk_182 1 44 (dk_at dksX2_amiss_5 12 rfl rfl)
theorem dX2_amiss_131 : decode cX2_amiss 131 = .ok (.aload_n 0, 1) := dk_42 (dk_at dksX2_amiss_5 15 rfl rfl)
theorem dX2_amiss_132 : decode cX2_amiss 132 = .ok (.getfield 72, 3) := dk_180 0 72 (dk_at dksX2_amiss_5 16 rfl rfl)
theorem dX2_amiss_135 : decode cX2_amiss 135 = .ok (.iload 5, 2) := dk_21 5 (dk_at dksX2_amiss_5 19 rfl rfl)
theorem dX2_amiss_137 : decode cX2_amiss 137 = .ok (.iaload, 1) := dk_46 (dk_at dksX2_amiss_5 21 rfl rfl)
theorem dX2_amiss_138 : decode cX2_amiss 138 = .ok (.isub, 1) := dk_100 (dk_at dksX2_amiss_5 22 rfl rfl)
theorem dX2_amiss_139 : decode cX2_amiss 139 = .ok (.iadd, 1) := dk_96 (dk_at dksX2_amiss_5 23 rfl rfl)
theorem dX2_amiss_140 : decode cX2_amiss 140 = .ok (.istore 4, 2) := dk_54 4 (dk_at dksX2_amiss_6 0 rfl rfl)
theorem dX2_amiss_142 : decode cX2_amiss 142 = .ok (.iinc 5 1, 3) := dk_132 5 1 (dk_at dksX2_amiss_6 2 rfl rfl)
theorem dX2_amiss_145 : decode cX2_amiss 145 = .ok (.goto (-98), 3) := dk_167 255 158 (dk_at dksX2_amiss_6 5 rfl rfl)
theorem dX2_amiss_148 : decode cX2_amiss 148 = .ok (.iload 4, 2) := dk_21 4 (dk_at dksX2_amiss_6 8 rfl rfl)
theorem dX2_amiss_150 : decode cX2_amiss 150 = .ok (.ireturn, 1) := dk_172 (dk_at dksX2_amiss_6 10 rfl rfl)
abbrev cX2_road : ByteArray := prog_17_method_47_code
def yX2_road : MethodName := ⟨RX2, "road", "(III)I"⟩
def dkwX2_road_4 : List UInt8 := [16, 8, 28, 104, 27, 96, 29, 79, 21, 5, 172]
abbrev dktX2_road_4 : List UInt8 := dkwX2_road_4 ++ []
def dkwX2_road_3 : List UInt8 := [21, 4, 46, 54, 5, 42, 180, 0, 75, 21, 4, 29, 79, 28, 18, 129, 159, 0, 15, 42, 180, 0, 75]
abbrev dktX2_road_3 : List UInt8 := dkwX2_road_3 ++ dktX2_road_4
def dkwX2_road_2 : List UInt8 := [18, 129, 160, 0, 10, 16, 64, 27, 96, 167, 0, 9, 16, 8, 27, 104, 28, 96, 54, 4, 42, 180, 0, 75]
abbrev dktX2_road_2 : List UInt8 := dkwX2_road_2 ++ dktX2_road_3
def dkwX2_road_1 : List UInt8 := [153, 0, 20, 27, 28, 159, 0, 15, 29, 133, 10, 20, 1, 72, 184, 0, 132, 154, 0, 6, 18, 142, 172, 28]
abbrev dktX2_road_1 : List UInt8 := dkwX2_road_1 ++ dktX2_road_2
def dkwX2_road_0 : List UInt8 := [42, 3, 181, 0, 1, 27, 184, 1, 69, 153, 0, 33, 28, 18, 129, 159, 0, 10, 28, 184, 1, 69]
abbrev dktX2_road_0 : List UInt8 := dkwX2_road_0 ++ dktX2_road_1
theorem dksX2_road_0 : cX2_road.data.toList.drop 0 = dktX2_road_0 := by decide +kernel
theorem dksX2_road_1 : cX2_road.data.toList.drop 22 = dktX2_road_1 := dk_seg dksX2_road_0 22 rfl rfl
theorem dksX2_road_2 : cX2_road.data.toList.drop 46 = dktX2_road_2 := dk_seg dksX2_road_1 24 rfl rfl
theorem dksX2_road_3 : cX2_road.data.toList.drop 70 = dktX2_road_3 := dk_seg dksX2_road_2 24 rfl rfl
theorem dksX2_road_4 : cX2_road.data.toList.drop 93 = dktX2_road_4 := dk_seg dksX2_road_3 23 rfl rfl
theorem dX2_road_0 : decode cX2_road 0 = .ok (.aload_n 0, 1) := dk_42 (dk_at dksX2_road_0 0 rfl rfl)
theorem dX2_road_1 : decode cX2_road 1 = .ok (.iconst 0, 1) := dk_3 (dk_at dksX2_road_0 1 rfl rfl)
theorem dX2_road_2 : decode cX2_road 2 = .ok (.putfield 1, 3) := dk_181 0 1 (dk_at dksX2_road_0 2 rfl rfl)
theorem dX2_road_5 : decode cX2_road 5 = .ok (.iload_n 1, 1) := dk_27 (dk_at dksX2_road_0 5 rfl rfl)
theorem dX2_road_6 : decode cX2_road 6 = .ok (.invokestatic 325, 3) := dk_184 1 69 (dk_at dksX2_road_0 6 rfl rfl)
theorem dX2_road_9 : decode cX2_road 9 = .ok (.ifCond .eq 33, 3) := dk_153 0 33 (dk_at dksX2_road_0 9 rfl rfl)
theorem dX2_road_12 : decode cX2_road 12 = .ok (.iload_n 2, 1) := dk_28 (dk_at dksX2_road_0 12 rfl rfl)
theorem dX2_road_13 : decode cX2_road 13 = .ok (.ldc 129, 2) := dk_18 129 (dk_at dksX2_road_0 13 rfl rfl)
theorem dX2_road_15 : decode cX2_road 15 = .ok (.if_icmp .eq 10, 3) := dk_159 0 10 (dk_at dksX2_road_0 15 rfl rfl)
theorem dX2_road_18 : decode cX2_road 18 = .ok (.iload_n 2, 1) := dk_28 (dk_at dksX2_road_0 18 rfl rfl)
theorem dX2_road_19 : decode cX2_road 19 = .ok (.invokestatic 325, 3) := dk_184 1 69 (dk_at dksX2_road_0 19 rfl rfl)
theorem dX2_road_22 : decode cX2_road 22 = .ok (.ifCond .eq 20, 3) := dk_153 0 20 (dk_at dksX2_road_1 0 rfl rfl)
theorem dX2_road_25 : decode cX2_road 25 = .ok (.iload_n 1, 1) := dk_27 (dk_at dksX2_road_1 3 rfl rfl)
theorem dX2_road_26 : decode cX2_road 26 = .ok (.iload_n 2, 1) := dk_28 (dk_at dksX2_road_1 4 rfl rfl)
theorem dX2_road_27 : decode cX2_road 27 = .ok (.if_icmp .eq 15, 3) := dk_159 0 15 (dk_at dksX2_road_1 5 rfl rfl)
theorem dX2_road_30 : decode cX2_road 30 = .ok (.iload_n 3, 1) := dk_29 (dk_at dksX2_road_1 8 rfl rfl)
theorem dX2_road_31 : decode cX2_road 31 = .ok (.i2l, 1) := dk_133 (dk_at dksX2_road_1 9 rfl rfl)
theorem dX2_road_32 : decode cX2_road 32 = .ok (.lconst 1, 1) := dk_10 (dk_at dksX2_road_1 10 rfl rfl)
theorem dX2_road_33 : decode cX2_road 33 = .ok (.ldc2_w 328, 3) := dk_20 1 72 (dk_at dksX2_road_1 11 rfl rfl)
theorem dX2_road_36 : decode cX2_road 36 = .ok (.invokestatic 132, 3) := dk_184 0 132 (dk_at dksX2_road_1 14 rfl rfl)
theorem dX2_road_39 : decode cX2_road 39 = .ok (.ifCond .ne 6, 3) := dk_154 0 6 (dk_at dksX2_road_1 17 rfl rfl)
theorem dX2_road_42 : decode cX2_road 42 = .ok (.ldc 142, 2) := dk_18 142 (dk_at dksX2_road_1 20 rfl rfl)
theorem dX2_road_44 : decode cX2_road 44 = .ok (.ireturn, 1) := dk_172 (dk_at dksX2_road_1 22 rfl rfl)
theorem dX2_road_45 : decode cX2_road 45 = .ok (.iload_n 2, 1) := dk_28 (dk_at dksX2_road_1 23 rfl rfl)
theorem dX2_road_46 : decode cX2_road 46 = .ok (.ldc 129, 2) := dk_18 129 (dk_at dksX2_road_2 0 rfl rfl)
theorem dX2_road_48 : decode cX2_road 48 = .ok (.if_icmp .ne 10, 3) := dk_160 0 10 (dk_at dksX2_road_2 2 rfl rfl)
theorem dX2_road_51 : decode cX2_road 51 = .ok (.bipush 64, 2) := dk_16 64 (dk_at dksX2_road_2 5 rfl rfl)
theorem dX2_road_53 : decode cX2_road 53 = .ok (.iload_n 1, 1) := dk_27 (dk_at dksX2_road_2 7 rfl rfl)
theorem dX2_road_54 : decode cX2_road 54 = .ok (.iadd, 1) := dk_96 (dk_at dksX2_road_2 8 rfl rfl)
theorem dX2_road_55 : decode cX2_road 55 = .ok (.goto 9, 3) := dk_167 0 9 (dk_at dksX2_road_2 9 rfl rfl)
theorem dX2_road_58 : decode cX2_road 58 = .ok (.bipush 8, 2) := dk_16 8 (dk_at dksX2_road_2 12 rfl rfl)
theorem dX2_road_60 : decode cX2_road 60 = .ok (.iload_n 1, 1) := dk_27 (dk_at dksX2_road_2 14 rfl rfl)
theorem dX2_road_61 : decode cX2_road 61 = .ok (.imul, 1) := dk_104 (dk_at dksX2_road_2 15 rfl rfl)
theorem dX2_road_62 : decode cX2_road 62 = .ok (.iload_n 2, 1) := dk_28 (dk_at dksX2_road_2 16 rfl rfl)
theorem dX2_road_63 : decode cX2_road 63 = .ok (.iadd, 1) := dk_96 (dk_at dksX2_road_2 17 rfl rfl)
theorem dX2_road_64 : decode cX2_road 64 = .ok (.istore 4, 2) := dk_54 4 (dk_at dksX2_road_2 18 rfl rfl)
theorem dX2_road_66 : decode cX2_road 66 = .ok (.aload_n 0, 1) := dk_42 (dk_at dksX2_road_2 20 rfl rfl)
theorem dX2_road_67 : decode cX2_road 67 = .ok (.getfield 75, 3) := dk_180 0 75 (dk_at dksX2_road_2 21 rfl rfl)
theorem dX2_road_70 : decode cX2_road 70 = .ok (.iload 4, 2) := dk_21 4 (dk_at dksX2_road_3 0 rfl rfl)
theorem dX2_road_72 : decode cX2_road 72 = .ok (.iaload, 1) := dk_46 (dk_at dksX2_road_3 2 rfl rfl)
theorem dX2_road_73 : decode cX2_road 73 = .ok (.istore 5, 2) := dk_54 5 (dk_at dksX2_road_3 3 rfl rfl)
theorem dX2_road_75 : decode cX2_road 75 = .ok (.aload_n 0, 1) := dk_42 (dk_at dksX2_road_3 5 rfl rfl)
theorem dX2_road_76 : decode cX2_road 76 = .ok (.getfield 75, 3) := dk_180 0 75 (dk_at dksX2_road_3 6 rfl rfl)
theorem dX2_road_79 : decode cX2_road 79 = .ok (.iload 4, 2) := dk_21 4 (dk_at dksX2_road_3 9 rfl rfl)
theorem dX2_road_81 : decode cX2_road 81 = .ok (.iload_n 3, 1) := dk_29 (dk_at dksX2_road_3 11 rfl rfl)
theorem dX2_road_82 : decode cX2_road 82 = .ok (.iastore, 1) := dk_79 (dk_at dksX2_road_3 12 rfl rfl)
theorem dX2_road_83 : decode cX2_road 83 = .ok (.iload_n 2, 1) := dk_28 (dk_at dksX2_road_3 13 rfl rfl)
theorem dX2_road_84 : decode cX2_road 84 = .ok (.ldc 129, 2) := dk_18 129 (dk_at dksX2_road_3 14 rfl rfl)
theorem dX2_road_86 : decode cX2_road 86 = .ok (.if_icmp .eq 15, 3) := dk_159 0 15 (dk_at dksX2_road_3 16 rfl rfl)
theorem dX2_road_89 : decode cX2_road 89 = .ok (.aload_n 0, 1) := dk_42 (dk_at dksX2_road_3 19 rfl rfl)
theorem dX2_road_90 : decode cX2_road 90 = .ok (.getfield 75, 3) := dk_180 0 75 (dk_at dksX2_road_3 20 rfl rfl)
theorem dX2_road_93 : decode cX2_road 93 = .ok (.bipush 8, 2) := dk_16 8 (dk_at dksX2_road_4 0 rfl rfl)
theorem dX2_road_95 : decode cX2_road 95 = .ok (.iload_n 2, 1) := dk_28 (dk_at dksX2_road_4 2 rfl rfl)
theorem dX2_road_96 : decode cX2_road 96 = .ok (.imul, 1) := dk_104 (dk_at dksX2_road_4 3 rfl rfl)
theorem dX2_road_97 : decode cX2_road 97 = .ok (.iload_n 1, 1) := dk_27 (dk_at dksX2_road_4 4 rfl rfl)
theorem dX2_road_98 : decode cX2_road 98 = .ok (.iadd, 1) := dk_96 (dk_at dksX2_road_4 5 rfl rfl)
theorem dX2_road_99 : decode cX2_road 99 = .ok (.iload_n 3, 1) := dk_29 (dk_at dksX2_road_4 6 rfl rfl)
theorem dX2_road_100 : decode cX2_road 100 = .ok (.iastore, 1) := dk_79 (dk_at dksX2_road_4 7 rfl rfl)
theorem dX2_road_101 : decode cX2_road 101 = .ok (.iload 5, 2) := dk_21 5 (dk_at dksX2_road_4 8 rfl rfl)
theorem dX2_road_103 : decode cX2_road 103 = .ok (.ireturn, 1) := dk_172 (dk_at dksX2_road_4 10 rfl rfl)
abbrev cX2_isTown : ByteArray := prog_17_method_45_code
def yX2_isTown : MethodName := ⟨RX2, "isTown", "(I)Z"⟩
def dkwX2_isTown_0 : List UInt8 := [26, 133, 9, 20, 0, 130, 184, 0, 132, 172]
abbrev dktX2_isTown_0 : List UInt8 := dkwX2_isTown_0 ++ []
theorem dksX2_isTown_0 : cX2_isTown.data.toList.drop 0 = dktX2_isTown_0 := by decide +kernel
theorem dX2_isTown_0 : decode cX2_isTown 0 = .ok (.iload_n 0, 1) := dk_26 (dk_at dksX2_isTown_0 0 rfl rfl)
theorem dX2_isTown_1 : decode cX2_isTown 1 = .ok (.i2l, 1) := dk_133 (dk_at dksX2_isTown_0 1 rfl rfl)
theorem dX2_isTown_2 : decode cX2_isTown 2 = .ok (.lconst 0, 1) := dk_9 (dk_at dksX2_isTown_0 2 rfl rfl)
theorem dX2_isTown_3 : decode cX2_isTown 3 = .ok (.ldc2_w 130, 3) := dk_20 0 130 (dk_at dksX2_isTown_0 3 rfl rfl)
theorem dX2_isTown_6 : decode cX2_isTown 6 = .ok (.invokestatic 132, 3) := dk_184 0 132 (dk_at dksX2_isTown_0 6 rfl rfl)
theorem dX2_isTown_9 : decode cX2_isTown 9 = .ok (.ireturn, 1) := dk_172 (dk_at dksX2_isTown_0 9 rfl rfl)
abbrev cX2_sick : ByteArray := prog_17_method_48_code
def yX2_sick : MethodName := ⟨RX2, "sick", "(III)I"⟩
def dkwX2_sick_3 : List UInt8 := [42, 180, 1, 74, 29, 79, 42, 89, 180, 1, 74, 4, 96, 181, 1, 74, 42, 180, 1, 74, 172]
abbrev dktX2_sick_3 : List UInt8 := dkwX2_sick_3 ++ []
def dkwX2_sick_2 : List UInt8 := [42, 180, 0, 78, 42, 180, 1, 74, 27, 79, 42, 180, 0, 81, 42, 180, 1, 74, 28, 79, 42, 180, 0, 84]
abbrev dktX2_sick_2 : List UInt8 := dkwX2_sick_2 ++ dktX2_sick_3
def dkwX2_sick_1 : List UInt8 := [20, 0, 149, 184, 0, 132, 154, 0, 6, 18, 142, 172, 42, 180, 1, 74, 16, 20, 160, 0, 6, 18, 170, 172]
abbrev dktX2_sick_1 : List UInt8 := dkwX2_sick_1 ++ dktX2_sick_2
def dkwX2_sick_0 : List UInt8 := [42, 3, 181, 0, 1, 27, 184, 1, 69, 153, 0, 23, 28, 184, 1, 2, 153, 0, 16, 29, 133, 28, 133]
abbrev dktX2_sick_0 : List UInt8 := dkwX2_sick_0 ++ dktX2_sick_1
theorem dksX2_sick_0 : cX2_sick.data.toList.drop 0 = dktX2_sick_0 := by decide +kernel
theorem dksX2_sick_1 : cX2_sick.data.toList.drop 23 = dktX2_sick_1 := dk_seg dksX2_sick_0 23 rfl rfl
theorem dksX2_sick_2 : cX2_sick.data.toList.drop 47 = dktX2_sick_2 := dk_seg dksX2_sick_1 24 rfl rfl
theorem dksX2_sick_3 : cX2_sick.data.toList.drop 71 = dktX2_sick_3 := dk_seg dksX2_sick_2 24 rfl rfl
theorem dX2_sick_0 : decode cX2_sick 0 = .ok (.aload_n 0, 1) := dk_42 (dk_at dksX2_sick_0 0 rfl rfl)
theorem dX2_sick_1 : decode cX2_sick 1 = .ok (.iconst 0, 1) := dk_3 (dk_at dksX2_sick_0 1 rfl rfl)
theorem dX2_sick_2 : decode cX2_sick 2 = .ok (.putfield 1, 3) := dk_181 0 1 (dk_at dksX2_sick_0 2 rfl rfl)
theorem dX2_sick_5 : decode cX2_sick 5 = .ok (.iload_n 1, 1) := dk_27 (dk_at dksX2_sick_0 5 rfl rfl)
theorem dX2_sick_6 : decode cX2_sick 6 = .ok (.invokestatic 325, 3) := dk_184 1 69 (dk_at dksX2_sick_0 6 rfl rfl)
theorem dX2_sick_9 : decode cX2_sick 9 = .ok (.ifCond .eq 23, 3) := dk_153 0 23 (dk_at dksX2_sick_0 9 rfl rfl)
theorem dX2_sick_12 : decode cX2_sick 12 = .ok (.iload_n 2, 1) := dk_28 (dk_at dksX2_sick_0 12 rfl rfl)
theorem dX2_sick_13 : decode cX2_sick 13 = .ok (.invokestatic 258, 3) := dk_184 1 2 (dk_at dksX2_sick_0 13 rfl rfl)
theorem dX2_sick_16 : decode cX2_sick 16 = .ok (.ifCond .eq 16, 3) := dk_153 0 16 (dk_at dksX2_sick_0 16 rfl rfl)
theorem dX2_sick_19 : decode cX2_sick 19 = .ok (.iload_n 3, 1) := dk_29 (dk_at dksX2_sick_0 19 rfl rfl)
theorem dX2_sick_20 : decode cX2_sick 20 = .ok (.i2l, 1) := dk_133 (dk_at dksX2_sick_0 20 rfl rfl)
theorem dX2_sick_21 : decode cX2_sick 21 = .ok (.iload_n 2, 1) := dk_28 (dk_at dksX2_sick_0 21 rfl rfl)
theorem dX2_sick_22 : decode cX2_sick 22 = .ok (.i2l, 1) := dk_133 (dk_at dksX2_sick_0 22 rfl rfl)
theorem dX2_sick_23 : decode cX2_sick 23 = .ok (.ldc2_w 149, 3) := dk_20 0 149 (dk_at dksX2_sick_1 0 rfl rfl)
theorem dX2_sick_26 : decode cX2_sick 26 = .ok (.invokestatic 132, 3) := dk_184 0 132 (dk_at dksX2_sick_1 3 rfl rfl)
theorem dX2_sick_29 : decode cX2_sick 29 = .ok (.ifCond .ne 6, 3) := dk_154 0 6 (dk_at dksX2_sick_1 6 rfl rfl)
theorem dX2_sick_32 : decode cX2_sick 32 = .ok (.ldc 142, 2) := dk_18 142 (dk_at dksX2_sick_1 9 rfl rfl)
theorem dX2_sick_34 : decode cX2_sick 34 = .ok (.ireturn, 1) := dk_172 (dk_at dksX2_sick_1 11 rfl rfl)
theorem dX2_sick_35 : decode cX2_sick 35 = .ok (.aload_n 0, 1) := dk_42 (dk_at dksX2_sick_1 12 rfl rfl)
theorem dX2_sick_36 : decode cX2_sick 36 = .ok (.getfield 330, 3) := dk_180 1 74 (dk_at dksX2_sick_1 13 rfl rfl)
theorem dX2_sick_39 : decode cX2_sick 39 = .ok (.bipush 20, 2) := dk_16 20 (dk_at dksX2_sick_1 16 rfl rfl)
theorem dX2_sick_41 : decode cX2_sick 41 = .ok (.if_icmp .ne 6, 3) := dk_160 0 6 (dk_at dksX2_sick_1 18 rfl rfl)
theorem dX2_sick_44 : decode cX2_sick 44 = .ok (.ldc 170, 2) := dk_18 170 (dk_at dksX2_sick_1 21 rfl rfl)
theorem dX2_sick_46 : decode cX2_sick 46 = .ok (.ireturn, 1) := dk_172 (dk_at dksX2_sick_1 23 rfl rfl)
theorem dX2_sick_47 : decode cX2_sick 47 = .ok (.aload_n 0, 1) := dk_42 (dk_at dksX2_sick_2 0 rfl rfl)
theorem dX2_sick_48 : decode cX2_sick 48 = .ok (.getfield 78, 3) := dk_180 0 78 (dk_at dksX2_sick_2 1 rfl rfl)
theorem dX2_sick_51 : decode cX2_sick 51 = .ok (.aload_n 0, 1) := dk_42 (dk_at dksX2_sick_2 4 rfl rfl)
theorem dX2_sick_52 : decode cX2_sick 52 = .ok (.getfield 330, 3) := dk_180 1 74 (dk_at dksX2_sick_2 5 rfl rfl)
theorem dX2_sick_55 : decode cX2_sick 55 = .ok (.iload_n 1, 1) := dk_27 (dk_at dksX2_sick_2 8 rfl rfl)
theorem dX2_sick_56 : decode cX2_sick 56 = .ok (.iastore, 1) := dk_79 (dk_at dksX2_sick_2 9 rfl rfl)
theorem dX2_sick_57 : decode cX2_sick 57 = .ok (.aload_n 0, 1) := dk_42 (dk_at dksX2_sick_2 10 rfl rfl)
theorem dX2_sick_58 : decode cX2_sick 58 = .ok (.getfield 81, 3) := dk_180 0 81 (dk_at dksX2_sick_2 11 rfl rfl)
theorem dX2_sick_61 : decode cX2_sick 61 = .ok (.aload_n 0, 1) := dk_42 (dk_at dksX2_sick_2 14 rfl rfl)
theorem dX2_sick_62 : decode cX2_sick 62 = .ok (.getfield 330, 3) := dk_180 1 74 (dk_at dksX2_sick_2 15 rfl rfl)
theorem dX2_sick_65 : decode cX2_sick 65 = .ok (.iload_n 2, 1) := dk_28 (dk_at dksX2_sick_2 18 rfl rfl)
theorem dX2_sick_66 : decode cX2_sick 66 = .ok (.iastore, 1) := dk_79 (dk_at dksX2_sick_2 19 rfl rfl)
theorem dX2_sick_67 : decode cX2_sick 67 = .ok (.aload_n 0, 1) := dk_42 (dk_at dksX2_sick_2 20 rfl rfl)
theorem dX2_sick_68 : decode cX2_sick 68 = .ok (.getfield 84, 3) := dk_180 0 84 (dk_at dksX2_sick_2 21 rfl rfl)
theorem dX2_sick_71 : decode cX2_sick 71 = .ok (.aload_n 0, 1) := dk_42 (dk_at dksX2_sick_3 0 rfl rfl)
theorem dX2_sick_72 : decode cX2_sick 72 = .ok (.getfield 330, 3) := dk_180 1 74 (dk_at dksX2_sick_3 1 rfl rfl)
theorem dX2_sick_75 : decode cX2_sick 75 = .ok (.iload_n 3, 1) := dk_29 (dk_at dksX2_sick_3 4 rfl rfl)
theorem dX2_sick_76 : decode cX2_sick 76 = .ok (.iastore, 1) := dk_79 (dk_at dksX2_sick_3 5 rfl rfl)
theorem dX2_sick_77 : decode cX2_sick 77 = .ok (.aload_n 0, 1) := dk_42 (dk_at dksX2_sick_3 6 rfl rfl)
theorem dX2_sick_78 : decode cX2_sick 78 = .ok (.dup, 1) := dk_89 (dk_at dksX2_sick_3 7 rfl rfl)
theorem dX2_sick_79 : decode cX2_sick 79 = .ok (.getfield 330, 3) := dk_180 1 74 (dk_at dksX2_sick_3 8 rfl rfl)
theorem dX2_sick_82 : decode cX2_sick 82 = .ok (.iconst 1, 1) := dk_4 (dk_at dksX2_sick_3 11 rfl rfl)
theorem dX2_sick_83 : decode cX2_sick 83 = .ok (.iadd, 1) := dk_96 (dk_at dksX2_sick_3 12 rfl rfl)
theorem dX2_sick_84 : decode cX2_sick 84 = .ok (.putfield 330, 3) := dk_181 1 74 (dk_at dksX2_sick_3 13 rfl rfl)
theorem dX2_sick_87 : decode cX2_sick 87 = .ok (.aload_n 0, 1) := dk_42 (dk_at dksX2_sick_3 16 rfl rfl)
theorem dX2_sick_88 : decode cX2_sick 88 = .ok (.getfield 330, 3) := dk_180 1 74 (dk_at dksX2_sick_3 17 rfl rfl)
theorem dX2_sick_91 : decode cX2_sick 91 = .ok (.ireturn, 1) := dk_172 (dk_at dksX2_sick_3 20 rfl rfl)
abbrev cX2_seal : ByteArray := prog_17_method_49_code
def yX2_seal : MethodName := ⟨RX2, "seal", "(II)I"⟩
def dkwX2_seal_10 : List UInt8 := [180, 1, 77, 4, 96, 181, 1, 77, 42, 180, 1, 77, 4, 100, 172]
abbrev dktX2_seal_10 : List UInt8 := dkwX2_seal_10 ++ []
def dkwX2_seal_9 : List UInt8 := [104, 21, 5, 96, 42, 180, 0, 24, 21, 4, 21, 5, 96, 46, 79, 132, 5, 1, 167, 255, 221, 42, 89]
abbrev dktX2_seal_9 : List UInt8 := dkwX2_seal_9 ++ dktX2_seal_10
def dkwX2_seal_8 : List UInt8 := [3, 181, 0, 7, 3, 54, 5, 21, 5, 16, 7, 162, 0, 34, 42, 180, 0, 87, 16, 7, 42, 180, 1, 77]
abbrev dktX2_seal_8 : List UInt8 := dkwX2_seal_8 ++ dktX2_seal_9
def dkwX2_seal_7 : List UInt8 := [133, 42, 180, 0, 24, 21, 4, 8, 96, 46, 133, 20, 0, 149, 184, 0, 132, 154, 0, 6, 18, 142, 172, 42]
abbrev dktX2_seal_7 : List UInt8 := dkwX2_seal_7 ++ dktX2_seal_8
def dkwX2_seal_6 : List UInt8 := [180, 0, 24, 21, 4, 8, 96, 46, 184, 1, 2, 153, 0, 33, 42, 180, 0, 24, 21, 4, 16, 6, 96, 46]
abbrev dktX2_seal_6 : List UInt8 := dkwX2_seal_6 ++ dktX2_seal_7
def dkwX2_seal_5 : List UInt8 := [184, 0, 132, 153, 0, 63, 42, 180, 0, 24, 21, 4, 7, 96, 46, 184, 1, 69, 153, 0, 48, 42]
abbrev dktX2_seal_5 : List UInt8 := dkwX2_seal_5 ++ dktX2_seal_6
def dkwX2_seal_4 : List UInt8 := [20, 1, 39, 184, 0, 132, 153, 0, 83, 42, 180, 0, 24, 21, 4, 6, 96, 46, 133, 9, 20, 1, 85]
abbrev dktX2_seal_4 : List UInt8 := dkwX2_seal_4 ++ dktX2_seal_5
def dkwX2_seal_3 : List UInt8 := [21, 4, 4, 96, 46, 184, 1, 82, 153, 0, 103, 42, 180, 0, 24, 21, 4, 5, 96, 46, 133, 9]
abbrev dktX2_seal_3 : List UInt8 := dkwX2_seal_3 ++ dktX2_seal_4
def dkwX2_seal_2 : List UInt8 := [54, 4, 42, 180, 0, 24, 21, 4, 46, 133, 9, 20, 1, 80, 184, 0, 132, 153, 0, 118, 42, 180, 0, 24]
abbrev dktX2_seal_2 : List UInt8 := dkwX2_seal_2 ++ dktX2_seal_3
def dkwX2_seal_1 : List UInt8 := [18, 170, 172, 42, 27, 28, 16, 7, 182, 1, 34, 62, 29, 156, 0, 5, 29, 172, 16, 64, 27, 104, 28, 96]
abbrev dktX2_seal_1 : List UInt8 := dkwX2_seal_1 ++ dktX2_seal_2
def dkwX2_seal_0 : List UInt8 := [42, 3, 181, 0, 1, 27, 184, 0, 136, 154, 0, 6, 18, 142, 172, 42, 180, 1, 77, 16, 16, 160, 0, 6]
abbrev dktX2_seal_0 : List UInt8 := dkwX2_seal_0 ++ dktX2_seal_1
theorem dksX2_seal_0 : cX2_seal.data.toList.drop 0 = dktX2_seal_0 := by decide +kernel
theorem dksX2_seal_1 : cX2_seal.data.toList.drop 24 = dktX2_seal_1 := dk_seg dksX2_seal_0 24 rfl rfl
theorem dksX2_seal_2 : cX2_seal.data.toList.drop 48 = dktX2_seal_2 := dk_seg dksX2_seal_1 24 rfl rfl
theorem dksX2_seal_3 : cX2_seal.data.toList.drop 72 = dktX2_seal_3 := dk_seg dksX2_seal_2 24 rfl rfl
theorem dksX2_seal_4 : cX2_seal.data.toList.drop 94 = dktX2_seal_4 := dk_seg dksX2_seal_3 22 rfl rfl
theorem dksX2_seal_5 : cX2_seal.data.toList.drop 117 = dktX2_seal_5 := dk_seg dksX2_seal_4 23 rfl rfl
theorem dksX2_seal_6 : cX2_seal.data.toList.drop 139 = dktX2_seal_6 := dk_seg dksX2_seal_5 22 rfl rfl
theorem dksX2_seal_7 : cX2_seal.data.toList.drop 163 = dktX2_seal_7 := dk_seg dksX2_seal_6 24 rfl rfl
theorem dksX2_seal_8 : cX2_seal.data.toList.drop 187 = dktX2_seal_8 := dk_seg dksX2_seal_7 24 rfl rfl
theorem dksX2_seal_9 : cX2_seal.data.toList.drop 211 = dktX2_seal_9 := dk_seg dksX2_seal_8 24 rfl rfl
theorem dksX2_seal_10 : cX2_seal.data.toList.drop 234 = dktX2_seal_10 := dk_seg dksX2_seal_9 23 rfl rfl
theorem dX2_seal_0 : decode cX2_seal 0 = .ok (.aload_n 0, 1) := dk_42 (dk_at dksX2_seal_0 0 rfl rfl)
theorem dX2_seal_1 : decode cX2_seal 1 = .ok (.iconst 0, 1) := dk_3 (dk_at dksX2_seal_0 1 rfl rfl)
theorem dX2_seal_2 : decode cX2_seal 2 = .ok (.putfield 1, 3) := dk_181 0 1 (dk_at dksX2_seal_0 2 rfl rfl)
theorem dX2_seal_5 : decode cX2_seal 5 = .ok (.iload_n 1, 1) := dk_27 (dk_at dksX2_seal_0 5 rfl rfl)
theorem dX2_seal_6 : decode cX2_seal 6 = .ok (.invokestatic 136, 3) := dk_184 0 136 (dk_at dksX2_seal_0 6 rfl rfl)
theorem dX2_seal_9 : decode cX2_seal 9 = .ok (.ifCond .ne 6, 3) := dk_154 0 6 (dk_at dksX2_seal_0 9 rfl rfl)
theorem dX2_seal_12 : decode cX2_seal 12 = .ok (.ldc 142, 2) := dk_18 142 (dk_at dksX2_seal_0 12 rfl rfl)
theorem dX2_seal_14 : decode cX2_seal 14 = .ok (.ireturn, 1) := dk_172 (dk_at dksX2_seal_0 14 rfl rfl)
theorem dX2_seal_15 : decode cX2_seal 15 = .ok (.aload_n 0, 1) := dk_42 (dk_at dksX2_seal_0 15 rfl rfl)
theorem dX2_seal_16 : decode cX2_seal 16 = .ok (.getfield 333, 3) := dk_180 1 77 (dk_at dksX2_seal_0 16 rfl rfl)
theorem dX2_seal_19 : decode cX2_seal 19 = .ok (.bipush 16, 2) := dk_16 16 (dk_at dksX2_seal_0 19 rfl rfl)
theorem dX2_seal_21 : decode cX2_seal 21 = .ok (.if_icmp .ne 6, 3) := dk_160 0 6 (dk_at dksX2_seal_0 21 rfl rfl)
theorem dX2_seal_24 : decode cX2_seal 24 = .ok (.ldc 170, 2) := dk_18 170 (dk_at dksX2_seal_1 0 rfl rfl)
theorem dX2_seal_26 : decode cX2_seal 26 = .ok (.ireturn, 1) := dk_172 (dk_at dksX2_seal_1 2 rfl rfl)
theorem dX2_seal_27 : decode cX2_seal 27 = .ok (.aload_n 0, 1) := dk_42 (dk_at dksX2_seal_1 3 rfl rfl)
theorem dX2_seal_28 : decode cX2_seal 28 = .ok (.iload_n 1, 1) := dk_27 (dk_at dksX2_seal_1 4 rfl rfl)
theorem dX2_seal_29 : decode cX2_seal 29 = .ok (.iload_n 2, 1) := dk_28 (dk_at dksX2_seal_1 5 rfl rfl)
theorem dX2_seal_30 : decode cX2_seal 30 = .ok (.bipush 7, 2) := dk_16 7 (dk_at dksX2_seal_1 6 rfl rfl)
theorem dX2_seal_32 : decode cX2_seal 32 = .ok (.invokevirtual 290, 3) := dk_182 1 34 (dk_at dksX2_seal_1 8 rfl rfl)
theorem dX2_seal_35 : decode cX2_seal 35 = .ok (.istore_n 3, 1) := dk_62 (dk_at dksX2_seal_1 11 rfl rfl)
theorem dX2_seal_36 : decode cX2_seal 36 = .ok (.iload_n 3, 1) := dk_29 (dk_at dksX2_seal_1 12 rfl rfl)
theorem dX2_seal_37 : decode cX2_seal 37 = .ok (.ifCond .ge 5, 3) := dk_156 0 5 (dk_at dksX2_seal_1 13 rfl rfl)
theorem dX2_seal_40 : decode cX2_seal 40 = .ok (.iload_n 3, 1) := dk_29 (dk_at dksX2_seal_1 16 rfl rfl)
theorem dX2_seal_41 : decode cX2_seal 41 = .ok (.ireturn, 1) := dk_172 (dk_at dksX2_seal_1 17 rfl rfl)
theorem dX2_seal_42 : decode cX2_seal 42 = .ok (.bipush 64, 2) := dk_16 64 (dk_at dksX2_seal_1 18 rfl rfl)
theorem dX2_seal_44 : decode cX2_seal 44 = .ok (.iload_n 1, 1) := dk_27 (dk_at dksX2_seal_1 20 rfl rfl)
theorem dX2_seal_45 : decode cX2_seal 45 = .ok (.imul, 1) := dk_104 (dk_at dksX2_seal_1 21 rfl rfl)
theorem dX2_seal_46 : decode cX2_seal 46 = .ok (.iload_n 2, 1) := dk_28 (dk_at dksX2_seal_1 22 rfl rfl)
theorem dX2_seal_47 : decode cX2_seal 47 = .ok (.iadd, 1) := dk_96 (dk_at dksX2_seal_1 23 rfl rfl)
theorem dX2_seal_48 : decode cX2_seal 48 = .ok (.istore 4, 2) := dk_54 4 (dk_at dksX2_seal_2 0 rfl rfl)
theorem dX2_seal_50 : decode cX2_seal 50 = .ok (.aload_n 0, 1) := dk_42 (dk_at dksX2_seal_2 2 rfl rfl)
theorem dX2_seal_51 : decode cX2_seal 51 = .ok (.getfield 24, 3) := dk_180 0 24 (dk_at dksX2_seal_2 3 rfl rfl)
theorem dX2_seal_54 : decode cX2_seal 54 = .ok (.iload 4, 2) := dk_21 4 (dk_at dksX2_seal_2 6 rfl rfl)
theorem dX2_seal_56 : decode cX2_seal 56 = .ok (.iaload, 1) := dk_46 (dk_at dksX2_seal_2 8 rfl rfl)
theorem dX2_seal_57 : decode cX2_seal 57 = .ok (.i2l, 1) := dk_133 (dk_at dksX2_seal_2 9 rfl rfl)
theorem dX2_seal_58 : decode cX2_seal 58 = .ok (.lconst 0, 1) := dk_9 (dk_at dksX2_seal_2 10 rfl rfl)
theorem dX2_seal_59 : decode cX2_seal 59 = .ok (.ldc2_w 336, 3) := dk_20 1 80 (dk_at dksX2_seal_2 11 rfl rfl)
theorem dX2_seal_62 : decode cX2_seal 62 = .ok (.invokestatic 132, 3) := dk_184 0 132 (dk_at dksX2_seal_2 14 rfl rfl)
theorem dX2_seal_65 : decode cX2_seal 65 = .ok (.ifCond .eq 118, 3) := dk_153 0 118 (dk_at dksX2_seal_2 17 rfl rfl)
theorem dX2_seal_68 : decode cX2_seal 68 = .ok (.aload_n 0, 1) := dk_42 (dk_at dksX2_seal_2 20 rfl rfl)
theorem dX2_seal_69 : decode cX2_seal 69 = .ok (.getfield 24, 3) := dk_180 0 24 (dk_at dksX2_seal_2 21 rfl rfl)
theorem dX2_seal_72 : decode cX2_seal 72 = .ok (.iload 4, 2) := dk_21 4 (dk_at dksX2_seal_3 0 rfl rfl)
theorem dX2_seal_74 : decode cX2_seal 74 = .ok (.iconst 1, 1) := dk_4 (dk_at dksX2_seal_3 2 rfl rfl)
theorem dX2_seal_75 : decode cX2_seal 75 = .ok (.iadd, 1) := dk_96 (dk_at dksX2_seal_3 3 rfl rfl)
theorem dX2_seal_76 : decode cX2_seal 76 = .ok (.iaload, 1) := dk_46 (dk_at dksX2_seal_3 4 rfl rfl)
theorem dX2_seal_77 : decode cX2_seal 77 = .ok (.invokestatic 338, 3) := dk_184 1 82 (dk_at dksX2_seal_3 5 rfl rfl)
theorem dX2_seal_80 : decode cX2_seal 80 = .ok (.ifCond .eq 103, 3) := dk_153 0 103 (dk_at dksX2_seal_3 8 rfl rfl)
theorem dX2_seal_83 : decode cX2_seal 83 = .ok (.aload_n 0, 1) := dk_42 (dk_at dksX2_seal_3 11 rfl rfl)
theorem dX2_seal_84 : decode cX2_seal 84 = .ok (.getfield 24, 3) := dk_180 0 24 (dk_at dksX2_seal_3 12 rfl rfl)
theorem dX2_seal_87 : decode cX2_seal 87 = .ok (.iload 4, 2) := dk_21 4 (dk_at dksX2_seal_3 15 rfl rfl)
theorem dX2_seal_89 : decode cX2_seal 89 = .ok (.iconst 2, 1) := dk_5 (dk_at dksX2_seal_3 17 rfl rfl)
theorem dX2_seal_90 : decode cX2_seal 90 = .ok (.iadd, 1) := dk_96 (dk_at dksX2_seal_3 18 rfl rfl)
theorem dX2_seal_91 : decode cX2_seal 91 = .ok (.iaload, 1) := dk_46 (dk_at dksX2_seal_3 19 rfl rfl)
theorem dX2_seal_92 : decode cX2_seal 92 = .ok (.i2l, 1) := dk_133 (dk_at dksX2_seal_3 20 rfl rfl)
theorem dX2_seal_93 : decode cX2_seal 93 = .ok (.lconst 0, 1) := dk_9 (dk_at dksX2_seal_3 21 rfl rfl)
theorem dX2_seal_94 : decode cX2_seal 94 = .ok (.ldc2_w 295, 3) := dk_20 1 39 (dk_at dksX2_seal_4 0 rfl rfl)
theorem dX2_seal_97 : decode cX2_seal 97 = .ok (.invokestatic 132, 3) := dk_184 0 132 (dk_at dksX2_seal_4 3 rfl rfl)
theorem dX2_seal_100 : decode cX2_seal 100 = .ok (.ifCond .eq 83, 3) := dk_153 0 83 (dk_at dksX2_seal_4 6 rfl rfl)
theorem dX2_seal_103 : decode cX2_seal 103 = .ok (.aload_n 0, 1) := dk_42 (dk_at dksX2_seal_4 9 rfl rfl)
theorem dX2_seal_104 : decode cX2_seal 104 = .ok (.getfield 24, 3) := dk_180 0 24 (dk_at dksX2_seal_4 10 rfl rfl)
theorem dX2_seal_107 : decode cX2_seal 107 = .ok (.iload 4, 2) := dk_21 4 (dk_at dksX2_seal_4 13 rfl rfl)
theorem dX2_seal_109 : decode cX2_seal 109 = .ok (.iconst 3, 1) := dk_6 (dk_at dksX2_seal_4 15 rfl rfl)
theorem dX2_seal_110 : decode cX2_seal 110 = .ok (.iadd, 1) := dk_96 (dk_at dksX2_seal_4 16 rfl rfl)
theorem dX2_seal_111 : decode cX2_seal 111 = .ok (.iaload, 1) := dk_46 (dk_at dksX2_seal_4 17 rfl rfl)
theorem dX2_seal_112 : decode cX2_seal 112 = .ok (.i2l, 1) := dk_133 (dk_at dksX2_seal_4 18 rfl rfl)
theorem dX2_seal_113 : decode cX2_seal 113 = .ok (.lconst 0, 1) := dk_9 (dk_at dksX2_seal_4 19 rfl rfl)
theorem dX2_seal_114 : decode cX2_seal 114 = .ok (.ldc2_w 341, 3) := dk_20 1 85 (dk_at dksX2_seal_4 20 rfl rfl)
theorem dX2_seal_117 : decode cX2_seal 117 = .ok (.invokestatic 132, 3) := dk_184 0 132 (dk_at dksX2_seal_5 0 rfl rfl)
theorem dX2_seal_120 : decode cX2_seal 120 = .ok (.ifCond .eq 63, 3) := dk_153 0 63 (dk_at dksX2_seal_5 3 rfl rfl)
theorem dX2_seal_123 : decode cX2_seal 123 = .ok (.aload_n 0, 1) := dk_42 (dk_at dksX2_seal_5 6 rfl rfl)
theorem dX2_seal_124 : decode cX2_seal 124 = .ok (.getfield 24, 3) := dk_180 0 24 (dk_at dksX2_seal_5 7 rfl rfl)
theorem dX2_seal_127 : decode cX2_seal 127 = .ok (.iload 4, 2) := dk_21 4 (dk_at dksX2_seal_5 10 rfl rfl)
theorem dX2_seal_129 : decode cX2_seal 129 = .ok (.iconst 4, 1) := dk_7 (dk_at dksX2_seal_5 12 rfl rfl)
theorem dX2_seal_130 : decode cX2_seal 130 = .ok (.iadd, 1) := dk_96 (dk_at dksX2_seal_5 13 rfl rfl)
theorem dX2_seal_131 : decode cX2_seal 131 = .ok (.iaload, 1) := dk_46 (dk_at dksX2_seal_5 14 rfl rfl)
theorem dX2_seal_132 : decode cX2_seal 132 = .ok (.invokestatic 325, 3) := dk_184 1 69 (dk_at dksX2_seal_5 15 rfl rfl)
theorem dX2_seal_135 : decode cX2_seal 135 = .ok (.ifCond .eq 48, 3) := dk_153 0 48 (dk_at dksX2_seal_5 18 rfl rfl)
theorem dX2_seal_138 : decode cX2_seal 138 = .ok (.aload_n 0, 1) := dk_42 (dk_at dksX2_seal_5 21 rfl rfl)
theorem dX2_seal_139 : decode cX2_seal 139 = .ok (.getfield 24, 3) := dk_180 0 24 (dk_at dksX2_seal_6 0 rfl rfl)
theorem dX2_seal_142 : decode cX2_seal 142 = .ok (.iload 4, 2) := dk_21 4 (dk_at dksX2_seal_6 3 rfl rfl)
theorem dX2_seal_144 : decode cX2_seal 144 = .ok (.iconst 5, 1) := dk_8 (dk_at dksX2_seal_6 5 rfl rfl)
theorem dX2_seal_145 : decode cX2_seal 145 = .ok (.iadd, 1) := dk_96 (dk_at dksX2_seal_6 6 rfl rfl)
theorem dX2_seal_146 : decode cX2_seal 146 = .ok (.iaload, 1) := dk_46 (dk_at dksX2_seal_6 7 rfl rfl)
theorem dX2_seal_147 : decode cX2_seal 147 = .ok (.invokestatic 258, 3) := dk_184 1 2 (dk_at dksX2_seal_6 8 rfl rfl)
theorem dX2_seal_150 : decode cX2_seal 150 = .ok (.ifCond .eq 33, 3) := dk_153 0 33 (dk_at dksX2_seal_6 11 rfl rfl)
theorem dX2_seal_153 : decode cX2_seal 153 = .ok (.aload_n 0, 1) := dk_42 (dk_at dksX2_seal_6 14 rfl rfl)
theorem dX2_seal_154 : decode cX2_seal 154 = .ok (.getfield 24, 3) := dk_180 0 24 (dk_at dksX2_seal_6 15 rfl rfl)
theorem dX2_seal_157 : decode cX2_seal 157 = .ok (.iload 4, 2) := dk_21 4 (dk_at dksX2_seal_6 18 rfl rfl)
theorem dX2_seal_159 : decode cX2_seal 159 = .ok (.bipush 6, 2) := dk_16 6 (dk_at dksX2_seal_6 20 rfl rfl)
theorem dX2_seal_161 : decode cX2_seal 161 = .ok (.iadd, 1) := dk_96 (dk_at dksX2_seal_6 22 rfl rfl)
theorem dX2_seal_162 : decode cX2_seal 162 = .ok (.iaload, 1) := dk_46 (dk_at dksX2_seal_6 23 rfl rfl)
theorem dX2_seal_163 : decode cX2_seal 163 = .ok (.i2l, 1) := dk_133 (dk_at dksX2_seal_7 0 rfl rfl)
theorem dX2_seal_164 : decode cX2_seal 164 = .ok (.aload_n 0, 1) := dk_42 (dk_at dksX2_seal_7 1 rfl rfl)
theorem dX2_seal_165 : decode cX2_seal 165 = .ok (.getfield 24, 3) := dk_180 0 24 (dk_at dksX2_seal_7 2 rfl rfl)
theorem dX2_seal_168 : decode cX2_seal 168 = .ok (.iload 4, 2) := dk_21 4 (dk_at dksX2_seal_7 5 rfl rfl)
theorem dX2_seal_170 : decode cX2_seal 170 = .ok (.iconst 5, 1) := dk_8 (dk_at dksX2_seal_7 7 rfl rfl)
theorem dX2_seal_171 : decode cX2_seal 171 = .ok (.iadd, 1) := dk_96 (dk_at dksX2_seal_7 8 rfl rfl)
theorem dX2_seal_172 : decode cX2_seal 172 = .ok (.iaload, 1) := dk_46 (dk_at dksX2_seal_7 9 rfl rfl)
theorem dX2_seal_173 : decode cX2_seal 173 = .ok (.i2l, 1) := dk_133 (dk_at dksX2_seal_7 10 rfl rfl)
theorem dX2_seal_174 : decode cX2_seal 174 = .ok (.ldc2_w 149, 3) := dk_20 0 149 (dk_at dksX2_seal_7 11 rfl rfl)
theorem dX2_seal_177 : decode cX2_seal 177 = .ok (.invokestatic 132, 3) := dk_184 0 132 (dk_at dksX2_seal_7 14 rfl rfl)
theorem dX2_seal_180 : decode cX2_seal 180 = .ok (.ifCond .ne 6, 3) := dk_154 0 6 (dk_at dksX2_seal_7 17 rfl rfl)
theorem dX2_seal_183 : decode cX2_seal 183 = .ok (.ldc 142, 2) := dk_18 142 (dk_at dksX2_seal_7 20 rfl rfl)
theorem dX2_seal_185 : decode cX2_seal 185 = .ok (.ireturn, 1) := dk_172 (dk_at dksX2_seal_7 22 rfl rfl)
theorem dX2_seal_186 : decode cX2_seal 186 = .ok (.aload_n 0, 1) := dk_42 (dk_at dksX2_seal_7 23 rfl rfl)
theorem dX2_seal_187 : decode cX2_seal 187 = .ok (.iconst 0, 1) := dk_3 (dk_at dksX2_seal_8 0 rfl rfl)
theorem dX2_seal_188 : decode cX2_seal 188 = .ok (.putfield 7, 3) := dk_181 0 7 (dk_at dksX2_seal_8 1 rfl rfl)
theorem dX2_seal_191 : decode cX2_seal 191 = .ok (.iconst 0, 1) := dk_3 (dk_at dksX2_seal_8 4 rfl rfl)
theorem dX2_seal_192 : decode cX2_seal 192 = .ok (.istore 5, 2) := dk_54 5 (dk_at dksX2_seal_8 5 rfl rfl)
theorem dX2_seal_194 : decode cX2_seal 194 = .ok (.iload 5, 2) := dk_21 5 (dk_at dksX2_seal_8 7 rfl rfl)
theorem dX2_seal_196 : decode cX2_seal 196 = .ok (.bipush 7, 2) := dk_16 7 (dk_at dksX2_seal_8 9 rfl rfl)
theorem dX2_seal_198 : decode cX2_seal 198 = .ok (.if_icmp .ge 34, 3) := dk_162 0 34 (dk_at dksX2_seal_8 11 rfl rfl)
theorem dX2_seal_201 : decode cX2_seal 201 = .ok (.aload_n 0, 1) := dk_42 (dk_at dksX2_seal_8 14 rfl rfl)
theorem dX2_seal_202 : decode cX2_seal 202 = .ok (.getfield 87, 3) := dk_180 0 87 (dk_at dksX2_seal_8 15 rfl rfl)
theorem dX2_seal_205 : decode cX2_seal 205 = .ok (.bipush 7, 2) := dk_16 7 (dk_at dksX2_seal_8 18 rfl rfl)
theorem dX2_seal_207 : decode cX2_seal 207 = .ok (.aload_n 0, 1) := dk_42 (dk_at dksX2_seal_8 20 rfl rfl)
theorem dX2_seal_208 : decode cX2_seal 208 = .ok (.getfield 333, 3) := dk_180 1 77 (dk_at dksX2_seal_8 21 rfl rfl)
theorem dX2_seal_211 : decode cX2_seal 211 = .ok (.imul, 1) := dk_104 (dk_at dksX2_seal_9 0 rfl rfl)
theorem dX2_seal_212 : decode cX2_seal 212 = .ok (.iload 5, 2) := dk_21 5 (dk_at dksX2_seal_9 1 rfl rfl)
theorem dX2_seal_214 : decode cX2_seal 214 = .ok (.iadd, 1) := dk_96 (dk_at dksX2_seal_9 3 rfl rfl)
theorem dX2_seal_215 : decode cX2_seal 215 = .ok (.aload_n 0, 1) := dk_42 (dk_at dksX2_seal_9 4 rfl rfl)
theorem dX2_seal_216 : decode cX2_seal 216 = .ok (.getfield 24, 3) := dk_180 0 24 (dk_at dksX2_seal_9 5 rfl rfl)
theorem dX2_seal_219 : decode cX2_seal 219 = .ok (.iload 4, 2) := dk_21 4 (dk_at dksX2_seal_9 8 rfl rfl)
theorem dX2_seal_221 : decode cX2_seal 221 = .ok (.iload 5, 2) := dk_21 5 (dk_at dksX2_seal_9 10 rfl rfl)
theorem dX2_seal_223 : decode cX2_seal 223 = .ok (.iadd, 1) := dk_96 (dk_at dksX2_seal_9 12 rfl rfl)
theorem dX2_seal_224 : decode cX2_seal 224 = .ok (.iaload, 1) := dk_46 (dk_at dksX2_seal_9 13 rfl rfl)
theorem dX2_seal_225 : decode cX2_seal 225 = .ok (.iastore, 1) := dk_79 (dk_at dksX2_seal_9 14 rfl rfl)
theorem dX2_seal_226 : decode cX2_seal 226 = .ok (.iinc 5 1, 3) := dk_132 5 1 (dk_at dksX2_seal_9 15 rfl rfl)
theorem dX2_seal_229 : decode cX2_seal 229 = .ok (.goto (-35), 3) := dk_167 255 221 (dk_at dksX2_seal_9 18 rfl rfl)
theorem dX2_seal_232 : decode cX2_seal 232 = .ok (.aload_n 0, 1) := dk_42 (dk_at dksX2_seal_9 21 rfl rfl)
theorem dX2_seal_233 : decode cX2_seal 233 = .ok (.dup, 1) := dk_89 (dk_at dksX2_seal_9 22 rfl rfl)
theorem dX2_seal_234 : decode cX2_seal 234 = .ok (.getfield 333, 3) := dk_180 1 77 (dk_at dksX2_seal_10 0 rfl rfl)
theorem dX2_seal_237 : decode cX2_seal 237 = .ok (.iconst 1, 1) := dk_4 (dk_at dksX2_seal_10 3 rfl rfl)
theorem dX2_seal_238 : decode cX2_seal 238 = .ok (.iadd, 1) := dk_96 (dk_at dksX2_seal_10 4 rfl rfl)
theorem dX2_seal_239 : decode cX2_seal 239 = .ok (.putfield 333, 3) := dk_181 1 77 (dk_at dksX2_seal_10 5 rfl rfl)
theorem dX2_seal_242 : decode cX2_seal 242 = .ok (.aload_n 0, 1) := dk_42 (dk_at dksX2_seal_10 8 rfl rfl)
theorem dX2_seal_243 : decode cX2_seal 243 = .ok (.getfield 333, 3) := dk_180 1 77 (dk_at dksX2_seal_10 9 rfl rfl)
theorem dX2_seal_246 : decode cX2_seal 246 = .ok (.iconst 1, 1) := dk_4 (dk_at dksX2_seal_10 12 rfl rfl)
theorem dX2_seal_247 : decode cX2_seal 247 = .ok (.isub, 1) := dk_100 (dk_at dksX2_seal_10 13 rfl rfl)
theorem dX2_seal_248 : decode cX2_seal 248 = .ok (.ireturn, 1) := dk_172 (dk_at dksX2_seal_10 14 rfl rfl)
abbrev cX2_isPerson : ByteArray := prog_17_method_46_code
def yX2_isPerson : MethodName := ⟨RX2, "isPerson", "(I)Z"⟩
def dkwX2_isPerson_0 : List UInt8 := [26, 133, 9, 20, 1, 67, 184, 0, 132, 172]
abbrev dktX2_isPerson_0 : List UInt8 := dkwX2_isPerson_0 ++ []
theorem dksX2_isPerson_0 : cX2_isPerson.data.toList.drop 0 = dktX2_isPerson_0 := by decide +kernel
theorem dX2_isPerson_0 : decode cX2_isPerson 0 = .ok (.iload_n 0, 1) := dk_26 (dk_at dksX2_isPerson_0 0 rfl rfl)
theorem dX2_isPerson_1 : decode cX2_isPerson 1 = .ok (.i2l, 1) := dk_133 (dk_at dksX2_isPerson_0 1 rfl rfl)
theorem dX2_isPerson_2 : decode cX2_isPerson 2 = .ok (.lconst 0, 1) := dk_9 (dk_at dksX2_isPerson_0 2 rfl rfl)
theorem dX2_isPerson_3 : decode cX2_isPerson 3 = .ok (.ldc2_w 323, 3) := dk_20 1 67 (dk_at dksX2_isPerson_0 3 rfl rfl)
theorem dX2_isPerson_6 : decode cX2_isPerson 6 = .ok (.invokestatic 132, 3) := dk_184 0 132 (dk_at dksX2_isPerson_0 6 rfl rfl)
theorem dX2_isPerson_9 : decode cX2_isPerson 9 = .ok (.ireturn, 1) := dk_172 (dk_at dksX2_isPerson_0 9 rfl rfl)
abbrev cX2_canbe : ByteArray := prog_17_method_54_code
def yX2_canbe : MethodName := ⟨RX2, "canbe", "(I)I"⟩
def dkwX2_canbe_7 : List UInt8 := [167, 0, 4, 3, 172]
abbrev dktX2_canbe_7 : List UInt8 := dkwX2_canbe_7 ++ []
def dkwX2_canbe_6 : List UInt8 := [167, 0, 4, 3, 61, 132, 4, 1, 167, 255, 138, 132, 3, 1, 167, 255, 121, 28, 153, 0, 7, 4]
abbrev dktX2_canbe_6 : List UInt8 := dkwX2_canbe_6 ++ dktX2_canbe_7
def dkwX2_canbe_5 : List UInt8 := [27, 160, 0, 21, 21, 5, 156, 0, 9, 21, 5, 116, 167, 0, 5, 21, 5, 21, 6, 161, 0, 7, 4]
abbrev dktX2_canbe_5 : List UInt8 := dkwX2_canbe_5 ++ dktX2_canbe_6
def dkwX2_canbe_4 : List UInt8 := [46, 54, 6, 28, 153, 0, 46, 42, 29, 4, 182, 1, 87, 27, 160, 0, 32, 42, 21, 4, 4, 182, 1, 87]
abbrev dktX2_canbe_4 : List UInt8 := dkwX2_canbe_4 ++ dktX2_canbe_5
def dkwX2_canbe_3 : List UInt8 := [167, 0, 25, 42, 180, 0, 75, 16, 8, 42, 29, 7, 182, 1, 87, 104, 42, 21, 4, 7, 182, 1, 87, 96]
abbrev dktX2_canbe_3 : List UInt8 := dkwX2_canbe_3 ++ dktX2_canbe_4
def dkwX2_canbe_2 : List UInt8 := [182, 1, 87, 100, 54, 5, 42, 29, 7, 182, 1, 87, 42, 21, 4, 7, 182, 1, 87, 160, 0, 7, 3]
abbrev dktX2_canbe_2 : List UInt8 := dkwX2_canbe_2 ++ dktX2_canbe_3
def dkwX2_canbe_1 : List UInt8 := [162, 0, 133, 3, 54, 4, 21, 4, 29, 162, 0, 118, 42, 29, 8, 182, 1, 87, 42, 21, 4, 8]
abbrev dktX2_canbe_1 : List UInt8 := dkwX2_canbe_1 ++ dktX2_canbe_2
def dkwX2_canbe_0 : List UInt8 := [42, 3, 181, 0, 1, 27, 184, 1, 82, 154, 0, 6, 18, 142, 172, 4, 61, 3, 62, 29, 42, 180, 1, 77]
abbrev dktX2_canbe_0 : List UInt8 := dkwX2_canbe_0 ++ dktX2_canbe_1
theorem dksX2_canbe_0 : cX2_canbe.data.toList.drop 0 = dktX2_canbe_0 := by decide +kernel
theorem dksX2_canbe_1 : cX2_canbe.data.toList.drop 24 = dktX2_canbe_1 := dk_seg dksX2_canbe_0 24 rfl rfl
theorem dksX2_canbe_2 : cX2_canbe.data.toList.drop 46 = dktX2_canbe_2 := dk_seg dksX2_canbe_1 22 rfl rfl
theorem dksX2_canbe_3 : cX2_canbe.data.toList.drop 69 = dktX2_canbe_3 := dk_seg dksX2_canbe_2 23 rfl rfl
theorem dksX2_canbe_4 : cX2_canbe.data.toList.drop 93 = dktX2_canbe_4 := dk_seg dksX2_canbe_3 24 rfl rfl
theorem dksX2_canbe_5 : cX2_canbe.data.toList.drop 117 = dktX2_canbe_5 := dk_seg dksX2_canbe_4 24 rfl rfl
theorem dksX2_canbe_6 : cX2_canbe.data.toList.drop 140 = dktX2_canbe_6 := dk_seg dksX2_canbe_5 23 rfl rfl
theorem dksX2_canbe_7 : cX2_canbe.data.toList.drop 162 = dktX2_canbe_7 := dk_seg dksX2_canbe_6 22 rfl rfl
theorem dX2_canbe_0 : decode cX2_canbe 0 = .ok (.aload_n 0, 1) := dk_42 (dk_at dksX2_canbe_0 0 rfl rfl)
theorem dX2_canbe_1 : decode cX2_canbe 1 = .ok (.iconst 0, 1) := dk_3 (dk_at dksX2_canbe_0 1 rfl rfl)
theorem dX2_canbe_2 : decode cX2_canbe 2 = .ok (.putfield 1, 3) := dk_181 0 1 (dk_at dksX2_canbe_0 2 rfl rfl)
theorem dX2_canbe_5 : decode cX2_canbe 5 = .ok (.iload_n 1, 1) := dk_27 (dk_at dksX2_canbe_0 5 rfl rfl)
theorem dX2_canbe_6 : decode cX2_canbe 6 = .ok (.invokestatic 338, 3) := dk_184 1 82 (dk_at dksX2_canbe_0 6 rfl rfl)
theorem dX2_canbe_9 : decode cX2_canbe 9 = .ok (.ifCond .ne 6, 3) := dk_154 0 6 (dk_at dksX2_canbe_0 9 rfl rfl)
theorem dX2_canbe_12 : decode cX2_canbe 12 = .ok (.ldc 142, 2) := dk_18 142 (dk_at dksX2_canbe_0 12 rfl rfl)
theorem dX2_canbe_14 : decode cX2_canbe 14 = .ok (.ireturn, 1) := dk_172 (dk_at dksX2_canbe_0 14 rfl rfl)
theorem dX2_canbe_15 : decode cX2_canbe 15 = .ok (.iconst 1, 1) := dk_4 (dk_at dksX2_canbe_0 15 rfl rfl)
theorem dX2_canbe_16 : decode cX2_canbe 16 = .ok (.istore_n 2, 1) := dk_61 (dk_at dksX2_canbe_0 16 rfl rfl)
theorem dX2_canbe_17 : decode cX2_canbe 17 = .ok (.iconst 0, 1) := dk_3 (dk_at dksX2_canbe_0 17 rfl rfl)
theorem dX2_canbe_18 : decode cX2_canbe 18 = .ok (.istore_n 3, 1) := dk_62 (dk_at dksX2_canbe_0 18 rfl rfl)
theorem dX2_canbe_19 : decode cX2_canbe 19 = .ok (.iload_n 3, 1) := dk_29 (dk_at dksX2_canbe_0 19 rfl rfl)
theorem dX2_canbe_20 : decode cX2_canbe 20 = .ok (.aload_n 0, 1) := dk_42 (dk_at dksX2_canbe_0 20 rfl rfl)
theorem dX2_canbe_21 : decode cX2_canbe 21 = .ok (.getfield 333, 3) := dk_180 1 77 (dk_at dksX2_canbe_0 21 rfl rfl)
theorem dX2_canbe_24 : decode cX2_canbe 24 = .ok (.if_icmp .ge 133, 3) := dk_162 0 133 (dk_at dksX2_canbe_1 0 rfl rfl)
theorem dX2_canbe_27 : decode cX2_canbe 27 = .ok (.iconst 0, 1) := dk_3 (dk_at dksX2_canbe_1 3 rfl rfl)
theorem dX2_canbe_28 : decode cX2_canbe 28 = .ok (.istore 4, 2) := dk_54 4 (dk_at dksX2_canbe_1 4 rfl rfl)
theorem dX2_canbe_30 : decode cX2_canbe 30 = .ok (.iload 4, 2) := dk_21 4 (dk_at dksX2_canbe_1 6 rfl rfl)
theorem dX2_canbe_32 : decode cX2_canbe 32 = .ok (.iload_n 3, 1) := dk_29 (dk_at dksX2_canbe_1 8 rfl rfl)
theorem dX2_canbe_33 : decode cX2_canbe 33 = .ok (.if_icmp .ge 118, 3) := dk_162 0 118 (dk_at dksX2_canbe_1 9 rfl rfl)
theorem dX2_canbe_36 : decode cX2_canbe 36 = .ok (.aload_n 0, 1) := dk_42 (dk_at dksX2_canbe_1 12 rfl rfl)
theorem dX2_canbe_37 : decode cX2_canbe 37 = .ok (.iload_n 3, 1) := dk_29 (dk_at dksX2_canbe_1 13 rfl rfl)
theorem dX2_canbe_38 : decode cX2_canbe 38 = .ok (.iconst 5, 1) := dk_8 (dk_at dksX2_canbe_1 14 rfl rfl)
theorem dX2_canbe_39 : decode cX2_canbe 39 = .ok (.invokevirtual 343, 3) := dk_182 1 87 (dk_at dksX2_canbe_1 15 rfl rfl)
theorem dX2_canbe_42 : decode cX2_canbe 42 = .ok (.aload_n 0, 1) := dk_42 (dk_at dksX2_canbe_1 18 rfl rfl)
theorem dX2_canbe_43 : decode cX2_canbe 43 = .ok (.iload 4, 2) := dk_21 4 (dk_at dksX2_canbe_1 19 rfl rfl)
theorem dX2_canbe_45 : decode cX2_canbe 45 = .ok (.iconst 5, 1) := dk_8 (dk_at dksX2_canbe_1 21 rfl rfl)
theorem dX2_canbe_46 : decode cX2_canbe 46 = .ok (.invokevirtual 343, 3) := dk_182 1 87 (dk_at dksX2_canbe_2 0 rfl rfl)
theorem dX2_canbe_49 : decode cX2_canbe 49 = .ok (.isub, 1) := dk_100 (dk_at dksX2_canbe_2 3 rfl rfl)
theorem dX2_canbe_50 : decode cX2_canbe 50 = .ok (.istore 5, 2) := dk_54 5 (dk_at dksX2_canbe_2 4 rfl rfl)
theorem dX2_canbe_52 : decode cX2_canbe 52 = .ok (.aload_n 0, 1) := dk_42 (dk_at dksX2_canbe_2 6 rfl rfl)
theorem dX2_canbe_53 : decode cX2_canbe 53 = .ok (.iload_n 3, 1) := dk_29 (dk_at dksX2_canbe_2 7 rfl rfl)
theorem dX2_canbe_54 : decode cX2_canbe 54 = .ok (.iconst 4, 1) := dk_7 (dk_at dksX2_canbe_2 8 rfl rfl)
theorem dX2_canbe_55 : decode cX2_canbe 55 = .ok (.invokevirtual 343, 3) := dk_182 1 87 (dk_at dksX2_canbe_2 9 rfl rfl)
theorem dX2_canbe_58 : decode cX2_canbe 58 = .ok (.aload_n 0, 1) := dk_42 (dk_at dksX2_canbe_2 12 rfl rfl)
theorem dX2_canbe_59 : decode cX2_canbe 59 = .ok (.iload 4, 2) := dk_21 4 (dk_at dksX2_canbe_2 13 rfl rfl)
theorem dX2_canbe_61 : decode cX2_canbe 61 = .ok (.iconst 4, 1) := dk_7 (dk_at dksX2_canbe_2 15 rfl rfl)
theorem dX2_canbe_62 : decode cX2_canbe 62 = .ok (.invokevirtual 343, 3) := dk_182 1 87 (dk_at dksX2_canbe_2 16 rfl rfl)
theorem dX2_canbe_65 : decode cX2_canbe 65 = .ok (.if_icmp .ne 7, 3) := dk_160 0 7 (dk_at dksX2_canbe_2 19 rfl rfl)
theorem dX2_canbe_68 : decode cX2_canbe 68 = .ok (.iconst 0, 1) := dk_3 (dk_at dksX2_canbe_2 22 rfl rfl)
theorem dX2_canbe_69 : decode cX2_canbe 69 = .ok (.goto 25, 3) := dk_167 0 25 (dk_at dksX2_canbe_3 0 rfl rfl)
theorem dX2_canbe_72 : decode cX2_canbe 72 = .ok (.aload_n 0, 1) := dk_42 (dk_at dksX2_canbe_3 3 rfl rfl)
theorem dX2_canbe_73 : decode cX2_canbe 73 = .ok (.getfield 75, 3) := dk_180 0 75 (dk_at dksX2_canbe_3 4 rfl rfl)
theorem dX2_canbe_76 : decode cX2_canbe 76 = .ok (.bipush 8, 2) := dk_16 8 (dk_at dksX2_canbe_3 7 rfl rfl)
theorem dX2_canbe_78 : decode cX2_canbe 78 = .ok (.aload_n 0, 1) := dk_42 (dk_at dksX2_canbe_3 9 rfl rfl)
theorem dX2_canbe_79 : decode cX2_canbe 79 = .ok (.iload_n 3, 1) := dk_29 (dk_at dksX2_canbe_3 10 rfl rfl)
theorem dX2_canbe_80 : decode cX2_canbe 80 = .ok (.iconst 4, 1) := dk_7 (dk_at dksX2_canbe_3 11 rfl rfl)
theorem dX2_canbe_81 : decode cX2_canbe 81 = .ok (.invokevirtual 343, 3) := dk_182 1 87 (dk_at dksX2_canbe_3 12 rfl rfl)
theorem dX2_canbe_84 : decode cX2_canbe 84 = .ok (.imul, 1) := dk_104 (dk_at dksX2_canbe_3 15 rfl rfl)
theorem dX2_canbe_85 : decode cX2_canbe 85 = .ok (.aload_n 0, 1) := dk_42 (dk_at dksX2_canbe_3 16 rfl rfl)
theorem dX2_canbe_86 : decode cX2_canbe 86 = .ok (.iload 4, 2) := dk_21 4 (dk_at dksX2_canbe_3 17 rfl rfl)
theorem dX2_canbe_88 : decode cX2_canbe 88 = .ok (.iconst 4, 1) := dk_7 (dk_at dksX2_canbe_3 19 rfl rfl)
theorem dX2_canbe_89 : decode cX2_canbe 89 = .ok (.invokevirtual 343, 3) := dk_182 1 87 (dk_at dksX2_canbe_3 20 rfl rfl)
theorem dX2_canbe_92 : decode cX2_canbe 92 = .ok (.iadd, 1) := dk_96 (dk_at dksX2_canbe_3 23 rfl rfl)
theorem dX2_canbe_93 : decode cX2_canbe 93 = .ok (.iaload, 1) := dk_46 (dk_at dksX2_canbe_4 0 rfl rfl)
theorem dX2_canbe_94 : decode cX2_canbe 94 = .ok (.istore 6, 2) := dk_54 6 (dk_at dksX2_canbe_4 1 rfl rfl)
theorem dX2_canbe_96 : decode cX2_canbe 96 = .ok (.iload_n 2, 1) := dk_28 (dk_at dksX2_canbe_4 3 rfl rfl)
theorem dX2_canbe_97 : decode cX2_canbe 97 = .ok (.ifCond .eq 46, 3) := dk_153 0 46 (dk_at dksX2_canbe_4 4 rfl rfl)
theorem dX2_canbe_100 : decode cX2_canbe 100 = .ok (.aload_n 0, 1) := dk_42 (dk_at dksX2_canbe_4 7 rfl rfl)
theorem dX2_canbe_101 : decode cX2_canbe 101 = .ok (.iload_n 3, 1) := dk_29 (dk_at dksX2_canbe_4 8 rfl rfl)
theorem dX2_canbe_102 : decode cX2_canbe 102 = .ok (.iconst 1, 1) := dk_4 (dk_at dksX2_canbe_4 9 rfl rfl)
theorem dX2_canbe_103 : decode cX2_canbe 103 = .ok (.invokevirtual 343, 3) := dk_182 1 87 (dk_at dksX2_canbe_4 10 rfl rfl)
theorem dX2_canbe_106 : decode cX2_canbe 106 = .ok (.iload_n 1, 1) := dk_27 (dk_at dksX2_canbe_4 13 rfl rfl)
theorem dX2_canbe_107 : decode cX2_canbe 107 = .ok (.if_icmp .ne 32, 3) := dk_160 0 32 (dk_at dksX2_canbe_4 14 rfl rfl)
theorem dX2_canbe_110 : decode cX2_canbe 110 = .ok (.aload_n 0, 1) := dk_42 (dk_at dksX2_canbe_4 17 rfl rfl)
theorem dX2_canbe_111 : decode cX2_canbe 111 = .ok (.iload 4, 2) := dk_21 4 (dk_at dksX2_canbe_4 18 rfl rfl)
theorem dX2_canbe_113 : decode cX2_canbe 113 = .ok (.iconst 1, 1) := dk_4 (dk_at dksX2_canbe_4 20 rfl rfl)
theorem dX2_canbe_114 : decode cX2_canbe 114 = .ok (.invokevirtual 343, 3) := dk_182 1 87 (dk_at dksX2_canbe_4 21 rfl rfl)
theorem dX2_canbe_117 : decode cX2_canbe 117 = .ok (.iload_n 1, 1) := dk_27 (dk_at dksX2_canbe_5 0 rfl rfl)
theorem dX2_canbe_118 : decode cX2_canbe 118 = .ok (.if_icmp .ne 21, 3) := dk_160 0 21 (dk_at dksX2_canbe_5 1 rfl rfl)
theorem dX2_canbe_121 : decode cX2_canbe 121 = .ok (.iload 5, 2) := dk_21 5 (dk_at dksX2_canbe_5 4 rfl rfl)
theorem dX2_canbe_123 : decode cX2_canbe 123 = .ok (.ifCond .ge 9, 3) := dk_156 0 9 (dk_at dksX2_canbe_5 6 rfl rfl)
theorem dX2_canbe_126 : decode cX2_canbe 126 = .ok (.iload 5, 2) := dk_21 5 (dk_at dksX2_canbe_5 9 rfl rfl)
theorem dX2_canbe_128 : decode cX2_canbe 128 = .ok (.ineg, 1) := dk_116 (dk_at dksX2_canbe_5 11 rfl rfl)
theorem dX2_canbe_129 : decode cX2_canbe 129 = .ok (.goto 5, 3) := dk_167 0 5 (dk_at dksX2_canbe_5 12 rfl rfl)
theorem dX2_canbe_132 : decode cX2_canbe 132 = .ok (.iload 5, 2) := dk_21 5 (dk_at dksX2_canbe_5 15 rfl rfl)
theorem dX2_canbe_134 : decode cX2_canbe 134 = .ok (.iload 6, 2) := dk_21 6 (dk_at dksX2_canbe_5 17 rfl rfl)
theorem dX2_canbe_136 : decode cX2_canbe 136 = .ok (.if_icmp .lt 7, 3) := dk_161 0 7 (dk_at dksX2_canbe_5 19 rfl rfl)
theorem dX2_canbe_139 : decode cX2_canbe 139 = .ok (.iconst 1, 1) := dk_4 (dk_at dksX2_canbe_5 22 rfl rfl)
theorem dX2_canbe_140 : decode cX2_canbe 140 = .ok (.goto 4, 3) := dk_167 0 4 (dk_at dksX2_canbe_6 0 rfl rfl)
theorem dX2_canbe_143 : decode cX2_canbe 143 = .ok (.iconst 0, 1) := dk_3 (dk_at dksX2_canbe_6 3 rfl rfl)
theorem dX2_canbe_144 : decode cX2_canbe 144 = .ok (.istore_n 2, 1) := dk_61 (dk_at dksX2_canbe_6 4 rfl rfl)
theorem dX2_canbe_145 : decode cX2_canbe 145 = .ok (.iinc 4 1, 3) := dk_132 4 1 (dk_at dksX2_canbe_6 5 rfl rfl)
theorem dX2_canbe_148 : decode cX2_canbe 148 = .ok (.goto (-118), 3) := dk_167 255 138 (dk_at dksX2_canbe_6 8 rfl rfl)
theorem dX2_canbe_151 : decode cX2_canbe 151 = .ok (.iinc 3 1, 3) := dk_132 3 1 (dk_at dksX2_canbe_6 11 rfl rfl)
theorem dX2_canbe_154 : decode cX2_canbe 154 = .ok (.goto (-135), 3) := dk_167 255 121 (dk_at dksX2_canbe_6 14 rfl rfl)
theorem dX2_canbe_157 : decode cX2_canbe 157 = .ok (.iload_n 2, 1) := dk_28 (dk_at dksX2_canbe_6 17 rfl rfl)
theorem dX2_canbe_158 : decode cX2_canbe 158 = .ok (.ifCond .eq 7, 3) := dk_153 0 7 (dk_at dksX2_canbe_6 18 rfl rfl)
theorem dX2_canbe_161 : decode cX2_canbe 161 = .ok (.iconst 1, 1) := dk_4 (dk_at dksX2_canbe_6 21 rfl rfl)
theorem dX2_canbe_162 : decode cX2_canbe 162 = .ok (.goto 4, 3) := dk_167 0 4 (dk_at dksX2_canbe_7 0 rfl rfl)
theorem dX2_canbe_165 : decode cX2_canbe 165 = .ok (.iconst 0, 1) := dk_3 (dk_at dksX2_canbe_7 3 rfl rfl)
theorem dX2_canbe_166 : decode cX2_canbe 166 = .ok (.ireturn, 1) := dk_172 (dk_at dksX2_canbe_7 4 rfl rfl)
abbrev cX2_on : ByteArray := prog_17_method_51_code
def yX2_on : MethodName := ⟨RX2, "on", "(II)I"⟩
def dkwX2_on_0 : List UInt8 := [42, 180, 0, 87, 16, 7, 27, 104, 28, 96, 46, 172]
abbrev dktX2_on_0 : List UInt8 := dkwX2_on_0 ++ []
theorem dksX2_on_0 : cX2_on.data.toList.drop 0 = dktX2_on_0 := by decide +kernel
theorem dX2_on_0 : decode cX2_on 0 = .ok (.aload_n 0, 1) := dk_42 (dk_at dksX2_on_0 0 rfl rfl)
theorem dX2_on_1 : decode cX2_on 1 = .ok (.getfield 87, 3) := dk_180 0 87 (dk_at dksX2_on_0 1 rfl rfl)
theorem dX2_on_4 : decode cX2_on 4 = .ok (.bipush 7, 2) := dk_16 7 (dk_at dksX2_on_0 4 rfl rfl)
theorem dX2_on_6 : decode cX2_on 6 = .ok (.iload_n 1, 1) := dk_27 (dk_at dksX2_on_0 6 rfl rfl)
theorem dX2_on_7 : decode cX2_on 7 = .ok (.imul, 1) := dk_104 (dk_at dksX2_on_0 7 rfl rfl)
theorem dX2_on_8 : decode cX2_on 8 = .ok (.iload_n 2, 1) := dk_28 (dk_at dksX2_on_0 8 rfl rfl)
theorem dX2_on_9 : decode cX2_on 9 = .ok (.iadd, 1) := dk_96 (dk_at dksX2_on_0 9 rfl rfl)
theorem dX2_on_10 : decode cX2_on 10 = .ok (.iaload, 1) := dk_46 (dk_at dksX2_on_0 10 rfl rfl)
theorem dX2_on_11 : decode cX2_on 11 = .ok (.ireturn, 1) := dk_172 (dk_at dksX2_on_0 11 rfl rfl)
abbrev cX2_lets : ByteArray := prog_17_method_55_code
def yX2_lets : MethodName := ⟨RX2, "lets", "(IIII)I"⟩
def dkwX2_lets_5 : List UInt8 := [167, 0, 4, 3, 54, 5, 21, 5, 153, 0, 7, 4, 167, 0, 4, 3, 172]
abbrev dktX2_lets_5 : List UInt8 := dkwX2_lets_5 ++ []
def dkwX2_lets_4 : List UInt8 := [154, 0, 27, 42, 29, 21, 4, 182, 1, 61, 154, 0, 13, 42, 27, 3, 182, 1, 87, 6, 160, 0, 7, 4]
abbrev dktX2_lets_4 : List UInt8 := dkwX2_lets_4 ++ dktX2_lets_5
def dkwX2_lets_3 : List UInt8 := [100, 42, 180, 0, 75, 16, 64, 42, 27, 7, 182, 1, 87, 96, 46, 161, 0, 36, 42, 27, 28, 182, 1, 94]
abbrev dktX2_lets_3 : List UInt8 := dkwX2_lets_3 ++ dktX2_lets_4
def dkwX2_lets_2 : List UInt8 := [182, 1, 28, 154, 0, 72, 28, 42, 27, 16, 6, 182, 1, 87, 163, 0, 61, 28, 42, 27, 8, 182, 1, 87]
abbrev dktX2_lets_2 : List UInt8 := dkwX2_lets_2 ++ dktX2_lets_3
def dkwX2_lets_1 : List UInt8 := [153, 0, 11, 21, 4, 184, 0, 156, 154, 0, 6, 18, 142, 172, 42, 42, 27, 4, 182, 1, 87, 28]
abbrev dktX2_lets_1 : List UInt8 := dkwX2_lets_1 ++ dktX2_lets_2
def dkwX2_lets_0 : List UInt8 := [42, 3, 181, 0, 1, 42, 27, 182, 1, 97, 153, 0, 25, 28, 184, 1, 2, 153, 0, 18, 29, 184, 0, 153]
abbrev dktX2_lets_0 : List UInt8 := dkwX2_lets_0 ++ dktX2_lets_1
theorem dksX2_lets_0 : cX2_lets.data.toList.drop 0 = dktX2_lets_0 := by decide +kernel
theorem dksX2_lets_1 : cX2_lets.data.toList.drop 24 = dktX2_lets_1 := dk_seg dksX2_lets_0 24 rfl rfl
theorem dksX2_lets_2 : cX2_lets.data.toList.drop 46 = dktX2_lets_2 := dk_seg dksX2_lets_1 22 rfl rfl
theorem dksX2_lets_3 : cX2_lets.data.toList.drop 70 = dktX2_lets_3 := dk_seg dksX2_lets_2 24 rfl rfl
theorem dksX2_lets_4 : cX2_lets.data.toList.drop 94 = dktX2_lets_4 := dk_seg dksX2_lets_3 24 rfl rfl
theorem dksX2_lets_5 : cX2_lets.data.toList.drop 118 = dktX2_lets_5 := dk_seg dksX2_lets_4 24 rfl rfl
theorem dX2_lets_0 : decode cX2_lets 0 = .ok (.aload_n 0, 1) := dk_42 (dk_at dksX2_lets_0 0 rfl rfl)
theorem dX2_lets_1 : decode cX2_lets 1 = .ok (.iconst 0, 1) := dk_3 (dk_at dksX2_lets_0 1 rfl rfl)
theorem dX2_lets_2 : decode cX2_lets 2 = .ok (.putfield 1, 3) := dk_181 0 1 (dk_at dksX2_lets_0 2 rfl rfl)
theorem dX2_lets_5 : decode cX2_lets 5 = .ok (.aload_n 0, 1) := dk_42 (dk_at dksX2_lets_0 5 rfl rfl)
theorem dX2_lets_6 : decode cX2_lets 6 = .ok (.iload_n 1, 1) := dk_27 (dk_at dksX2_lets_0 6 rfl rfl)
theorem dX2_lets_7 : decode cX2_lets 7 = .ok (.invokevirtual 353, 3) := dk_182 1 97 (dk_at dksX2_lets_0 7 rfl rfl)
theorem dX2_lets_10 : decode cX2_lets 10 = .ok (.ifCond .eq 25, 3) := dk_153 0 25 (dk_at dksX2_lets_0 10 rfl rfl)
theorem dX2_lets_13 : decode cX2_lets 13 = .ok (.iload_n 2, 1) := dk_28 (dk_at dksX2_lets_0 13 rfl rfl)
theorem dX2_lets_14 : decode cX2_lets 14 = .ok (.invokestatic 258, 3) := dk_184 1 2 (dk_at dksX2_lets_0 14 rfl rfl)
theorem dX2_lets_17 : decode cX2_lets 17 = .ok (.ifCond .eq 18, 3) := dk_153 0 18 (dk_at dksX2_lets_0 17 rfl rfl)
theorem dX2_lets_20 : decode cX2_lets 20 = .ok (.iload_n 3, 1) := dk_29 (dk_at dksX2_lets_0 20 rfl rfl)
theorem dX2_lets_21 : decode cX2_lets 21 = .ok (.invokestatic 153, 3) := dk_184 0 153 (dk_at dksX2_lets_0 21 rfl rfl)
theorem dX2_lets_24 : decode cX2_lets 24 = .ok (.ifCond .eq 11, 3) := dk_153 0 11 (dk_at dksX2_lets_1 0 rfl rfl)
theorem dX2_lets_27 : decode cX2_lets 27 = .ok (.iload 4, 2) := dk_21 4 (dk_at dksX2_lets_1 3 rfl rfl)
theorem dX2_lets_29 : decode cX2_lets 29 = .ok (.invokestatic 156, 3) := dk_184 0 156 (dk_at dksX2_lets_1 5 rfl rfl)
theorem dX2_lets_32 : decode cX2_lets 32 = .ok (.ifCond .ne 6, 3) := dk_154 0 6 (dk_at dksX2_lets_1 8 rfl rfl)
theorem dX2_lets_35 : decode cX2_lets 35 = .ok (.ldc 142, 2) := dk_18 142 (dk_at dksX2_lets_1 11 rfl rfl)
theorem dX2_lets_37 : decode cX2_lets 37 = .ok (.ireturn, 1) := dk_172 (dk_at dksX2_lets_1 13 rfl rfl)
theorem dX2_lets_38 : decode cX2_lets 38 = .ok (.aload_n 0, 1) := dk_42 (dk_at dksX2_lets_1 14 rfl rfl)
theorem dX2_lets_39 : decode cX2_lets 39 = .ok (.aload_n 0, 1) := dk_42 (dk_at dksX2_lets_1 15 rfl rfl)
theorem dX2_lets_40 : decode cX2_lets 40 = .ok (.iload_n 1, 1) := dk_27 (dk_at dksX2_lets_1 16 rfl rfl)
theorem dX2_lets_41 : decode cX2_lets 41 = .ok (.iconst 1, 1) := dk_4 (dk_at dksX2_lets_1 17 rfl rfl)
theorem dX2_lets_42 : decode cX2_lets 42 = .ok (.invokevirtual 343, 3) := dk_182 1 87 (dk_at dksX2_lets_1 18 rfl rfl)
theorem dX2_lets_45 : decode cX2_lets 45 = .ok (.iload_n 2, 1) := dk_28 (dk_at dksX2_lets_1 21 rfl rfl)
theorem dX2_lets_46 : decode cX2_lets 46 = .ok (.invokevirtual 284, 3) := dk_182 1 28 (dk_at dksX2_lets_2 0 rfl rfl)
theorem dX2_lets_49 : decode cX2_lets 49 = .ok (.ifCond .ne 72, 3) := dk_154 0 72 (dk_at dksX2_lets_2 3 rfl rfl)
theorem dX2_lets_52 : decode cX2_lets 52 = .ok (.iload_n 2, 1) := dk_28 (dk_at dksX2_lets_2 6 rfl rfl)
theorem dX2_lets_53 : decode cX2_lets 53 = .ok (.aload_n 0, 1) := dk_42 (dk_at dksX2_lets_2 7 rfl rfl)
theorem dX2_lets_54 : decode cX2_lets 54 = .ok (.iload_n 1, 1) := dk_27 (dk_at dksX2_lets_2 8 rfl rfl)
theorem dX2_lets_55 : decode cX2_lets 55 = .ok (.bipush 6, 2) := dk_16 6 (dk_at dksX2_lets_2 9 rfl rfl)
theorem dX2_lets_57 : decode cX2_lets 57 = .ok (.invokevirtual 343, 3) := dk_182 1 87 (dk_at dksX2_lets_2 11 rfl rfl)
theorem dX2_lets_60 : decode cX2_lets 60 = .ok (.if_icmp .gt 61, 3) := dk_163 0 61 (dk_at dksX2_lets_2 14 rfl rfl)
theorem dX2_lets_63 : decode cX2_lets 63 = .ok (.iload_n 2, 1) := dk_28 (dk_at dksX2_lets_2 17 rfl rfl)
theorem dX2_lets_64 : decode cX2_lets 64 = .ok (.aload_n 0, 1) := dk_42 (dk_at dksX2_lets_2 18 rfl rfl)
theorem dX2_lets_65 : decode cX2_lets 65 = .ok (.iload_n 1, 1) := dk_27 (dk_at dksX2_lets_2 19 rfl rfl)
theorem dX2_lets_66 : decode cX2_lets 66 = .ok (.iconst 5, 1) := dk_8 (dk_at dksX2_lets_2 20 rfl rfl)
theorem dX2_lets_67 : decode cX2_lets 67 = .ok (.invokevirtual 343, 3) := dk_182 1 87 (dk_at dksX2_lets_2 21 rfl rfl)
theorem dX2_lets_70 : decode cX2_lets 70 = .ok (.isub, 1) := dk_100 (dk_at dksX2_lets_3 0 rfl rfl)
theorem dX2_lets_71 : decode cX2_lets 71 = .ok (.aload_n 0, 1) := dk_42 (dk_at dksX2_lets_3 1 rfl rfl)
theorem dX2_lets_72 : decode cX2_lets 72 = .ok (.getfield 75, 3) := dk_180 0 75 (dk_at dksX2_lets_3 2 rfl rfl)
theorem dX2_lets_75 : decode cX2_lets 75 = .ok (.bipush 64, 2) := dk_16 64 (dk_at dksX2_lets_3 5 rfl rfl)
theorem dX2_lets_77 : decode cX2_lets 77 = .ok (.aload_n 0, 1) := dk_42 (dk_at dksX2_lets_3 7 rfl rfl)
theorem dX2_lets_78 : decode cX2_lets 78 = .ok (.iload_n 1, 1) := dk_27 (dk_at dksX2_lets_3 8 rfl rfl)
theorem dX2_lets_79 : decode cX2_lets 79 = .ok (.iconst 4, 1) := dk_7 (dk_at dksX2_lets_3 9 rfl rfl)
theorem dX2_lets_80 : decode cX2_lets 80 = .ok (.invokevirtual 343, 3) := dk_182 1 87 (dk_at dksX2_lets_3 10 rfl rfl)
theorem dX2_lets_83 : decode cX2_lets 83 = .ok (.iadd, 1) := dk_96 (dk_at dksX2_lets_3 13 rfl rfl)
theorem dX2_lets_84 : decode cX2_lets 84 = .ok (.iaload, 1) := dk_46 (dk_at dksX2_lets_3 14 rfl rfl)
theorem dX2_lets_85 : decode cX2_lets 85 = .ok (.if_icmp .lt 36, 3) := dk_161 0 36 (dk_at dksX2_lets_3 15 rfl rfl)
theorem dX2_lets_88 : decode cX2_lets 88 = .ok (.aload_n 0, 1) := dk_42 (dk_at dksX2_lets_3 18 rfl rfl)
theorem dX2_lets_89 : decode cX2_lets 89 = .ok (.iload_n 1, 1) := dk_27 (dk_at dksX2_lets_3 19 rfl rfl)
theorem dX2_lets_90 : decode cX2_lets 90 = .ok (.iload_n 2, 1) := dk_28 (dk_at dksX2_lets_3 20 rfl rfl)
theorem dX2_lets_91 : decode cX2_lets 91 = .ok (.invokevirtual 350, 3) := dk_182 1 94 (dk_at dksX2_lets_3 21 rfl rfl)
theorem dX2_lets_94 : decode cX2_lets 94 = .ok (.ifCond .ne 27, 3) := dk_154 0 27 (dk_at dksX2_lets_4 0 rfl rfl)
theorem dX2_lets_97 : decode cX2_lets 97 = .ok (.aload_n 0, 1) := dk_42 (dk_at dksX2_lets_4 3 rfl rfl)
theorem dX2_lets_98 : decode cX2_lets 98 = .ok (.iload_n 3, 1) := dk_29 (dk_at dksX2_lets_4 4 rfl rfl)
theorem dX2_lets_99 : decode cX2_lets 99 = .ok (.iload 4, 2) := dk_21 4 (dk_at dksX2_lets_4 5 rfl rfl)
theorem dX2_lets_101 : decode cX2_lets 101 = .ok (.invokevirtual 317, 3) := dk_182 1 61 (dk_at dksX2_lets_4 7 rfl rfl)
theorem dX2_lets_104 : decode cX2_lets 104 = .ok (.ifCond .ne 13, 3) := dk_154 0 13 (dk_at dksX2_lets_4 10 rfl rfl)
theorem dX2_lets_107 : decode cX2_lets 107 = .ok (.aload_n 0, 1) := dk_42 (dk_at dksX2_lets_4 13 rfl rfl)
theorem dX2_lets_108 : decode cX2_lets 108 = .ok (.iload_n 1, 1) := dk_27 (dk_at dksX2_lets_4 14 rfl rfl)
theorem dX2_lets_109 : decode cX2_lets 109 = .ok (.iconst 0, 1) := dk_3 (dk_at dksX2_lets_4 15 rfl rfl)
theorem dX2_lets_110 : decode cX2_lets 110 = .ok (.invokevirtual 343, 3) := dk_182 1 87 (dk_at dksX2_lets_4 16 rfl rfl)
theorem dX2_lets_113 : decode cX2_lets 113 = .ok (.iconst 3, 1) := dk_6 (dk_at dksX2_lets_4 19 rfl rfl)
theorem dX2_lets_114 : decode cX2_lets 114 = .ok (.if_icmp .ne 7, 3) := dk_160 0 7 (dk_at dksX2_lets_4 20 rfl rfl)
theorem dX2_lets_117 : decode cX2_lets 117 = .ok (.iconst 1, 1) := dk_4 (dk_at dksX2_lets_4 23 rfl rfl)
theorem dX2_lets_118 : decode cX2_lets 118 = .ok (.goto 4, 3) := dk_167 0 4 (dk_at dksX2_lets_5 0 rfl rfl)
theorem dX2_lets_121 : decode cX2_lets 121 = .ok (.iconst 0, 1) := dk_3 (dk_at dksX2_lets_5 3 rfl rfl)
theorem dX2_lets_122 : decode cX2_lets 122 = .ok (.istore 5, 2) := dk_54 5 (dk_at dksX2_lets_5 4 rfl rfl)
theorem dX2_lets_124 : decode cX2_lets 124 = .ok (.iload 5, 2) := dk_21 5 (dk_at dksX2_lets_5 6 rfl rfl)
theorem dX2_lets_126 : decode cX2_lets 126 = .ok (.ifCond .eq 7, 3) := dk_153 0 7 (dk_at dksX2_lets_5 8 rfl rfl)
theorem dX2_lets_129 : decode cX2_lets 129 = .ok (.iconst 1, 1) := dk_4 (dk_at dksX2_lets_5 11 rfl rfl)
theorem dX2_lets_130 : decode cX2_lets 130 = .ok (.goto 4, 3) := dk_167 0 4 (dk_at dksX2_lets_5 12 rfl rfl)
theorem dX2_lets_133 : decode cX2_lets 133 = .ok (.iconst 0, 1) := dk_3 (dk_at dksX2_lets_5 15 rfl rfl)
theorem dX2_lets_134 : decode cX2_lets 134 = .ok (.ireturn, 1) := dk_172 (dk_at dksX2_lets_5 16 rfl rfl)
abbrev cX2_isPass : ByteArray := prog_17_method_50_code
def yX2_isPass : MethodName := ⟨RX2, "isPass", "(I)Z"⟩
def dkwX2_isPass_0 : List UInt8 := [27, 133, 9, 42, 180, 1, 77, 4, 100, 133, 184, 0, 132, 172]
abbrev dktX2_isPass_0 : List UInt8 := dkwX2_isPass_0 ++ []
theorem dksX2_isPass_0 : cX2_isPass.data.toList.drop 0 = dktX2_isPass_0 := by decide +kernel
theorem dX2_isPass_0 : decode cX2_isPass 0 = .ok (.iload_n 1, 1) := dk_27 (dk_at dksX2_isPass_0 0 rfl rfl)
theorem dX2_isPass_1 : decode cX2_isPass 1 = .ok (.i2l, 1) := dk_133 (dk_at dksX2_isPass_0 1 rfl rfl)
theorem dX2_isPass_2 : decode cX2_isPass 2 = .ok (.lconst 0, 1) := dk_9 (dk_at dksX2_isPass_0 2 rfl rfl)
theorem dX2_isPass_3 : decode cX2_isPass 3 = .ok (.aload_n 0, 1) := dk_42 (dk_at dksX2_isPass_0 3 rfl rfl)
theorem dX2_isPass_4 : decode cX2_isPass 4 = .ok (.getfield 333, 3) := dk_180 1 77 (dk_at dksX2_isPass_0 4 rfl rfl)
theorem dX2_isPass_7 : decode cX2_isPass 7 = .ok (.iconst 1, 1) := dk_4 (dk_at dksX2_isPass_0 7 rfl rfl)
theorem dX2_isPass_8 : decode cX2_isPass 8 = .ok (.isub, 1) := dk_100 (dk_at dksX2_isPass_0 8 rfl rfl)
theorem dX2_isPass_9 : decode cX2_isPass 9 = .ok (.i2l, 1) := dk_133 (dk_at dksX2_isPass_0 9 rfl rfl)
theorem dX2_isPass_10 : decode cX2_isPass 10 = .ok (.invokestatic 132, 3) := dk_184 0 132 (dk_at dksX2_isPass_0 10 rfl rfl)
theorem dX2_isPass_13 : decode cX2_isPass 13 = .ok (.ireturn, 1) := dk_172 (dk_at dksX2_isPass_0 13 rfl rfl)
abbrev cX2_isForged : ByteArray := prog_17_method_52_code
def yX2_isForged : MethodName := ⟨RX2, "isForged", "(II)Z"⟩
def dkwX2_isForged_7 : List UInt8 := [160, 0, 7, 4, 167, 0, 4, 3, 172]
abbrev dktX2_isForged_7 : List UInt8 := dkwX2_isForged_7 ++ []
def dkwX2_isForged_6 : List UInt8 := [4, 167, 0, 4, 3, 62, 132, 4, 1, 167, 255, 205, 29, 153, 0, 17, 42, 27, 3, 182, 1, 87, 5]
abbrev dktX2_isForged_6 : List UInt8 := dkwX2_isForged_6 ++ dktX2_isForged_7
def dkwX2_isForged_5 : List UInt8 := [27, 5, 182, 1, 87, 160, 0, 23, 42, 21, 4, 6, 182, 1, 87, 42, 27, 6, 182, 1, 87, 159, 0, 7]
abbrev dktX2_isForged_5 : List UInt8 := dkwX2_isForged_5 ++ dktX2_isForged_6
def dkwX2_isForged_4 : List UInt8 := [167, 255, 189, 3, 54, 4, 21, 4, 27, 162, 0, 51, 29, 154, 0, 35, 42, 21, 4, 5, 182, 1, 87, 42]
abbrev dktX2_isForged_4 : List UInt8 := dkwX2_isForged_4 ++ dktX2_isForged_5
def dkwX2_isForged_3 : List UInt8 := [180, 0, 84, 21, 4, 46, 133, 184, 0, 132, 153, 0, 7, 4, 167, 0, 4, 3, 62, 132, 4, 1]
abbrev dktX2_isForged_3 : List UInt8 := dkwX2_isForged_3 ++ dktX2_isForged_4
def dkwX2_isForged_2 : List UInt8 := [182, 1, 87, 160, 0, 36, 42, 27, 8, 182, 1, 87, 133, 42, 180, 0, 81, 21, 4, 46, 133, 42]
abbrev dktX2_isForged_2 : List UInt8 := dkwX2_isForged_2 ++ dktX2_isForged_3
def dkwX2_isForged_1 : List UInt8 := [21, 4, 42, 180, 1, 74, 162, 0, 64, 29, 154, 0, 48, 42, 180, 0, 78, 21, 4, 46, 42, 27, 7]
abbrev dktX2_isForged_1 : List UInt8 := dkwX2_isForged_1 ++ dktX2_isForged_2
def dkwX2_isForged_0 : List UInt8 := [42, 42, 27, 7, 182, 1, 87, 28, 182, 1, 21, 154, 0, 7, 4, 167, 0, 4, 3, 62, 3, 54, 4]
abbrev dktX2_isForged_0 : List UInt8 := dkwX2_isForged_0 ++ dktX2_isForged_1
theorem dksX2_isForged_0 : cX2_isForged.data.toList.drop 0 = dktX2_isForged_0 := by decide +kernel
theorem dksX2_isForged_1 : cX2_isForged.data.toList.drop 23 = dktX2_isForged_1 := dk_seg dksX2_isForged_0 23 rfl rfl
theorem dksX2_isForged_2 : cX2_isForged.data.toList.drop 46 = dktX2_isForged_2 := dk_seg dksX2_isForged_1 23 rfl rfl
theorem dksX2_isForged_3 : cX2_isForged.data.toList.drop 68 = dktX2_isForged_3 := dk_seg dksX2_isForged_2 22 rfl rfl
theorem dksX2_isForged_4 : cX2_isForged.data.toList.drop 90 = dktX2_isForged_4 := dk_seg dksX2_isForged_3 22 rfl rfl
theorem dksX2_isForged_5 : cX2_isForged.data.toList.drop 114 = dktX2_isForged_5 := dk_seg dksX2_isForged_4 24 rfl rfl
theorem dksX2_isForged_6 : cX2_isForged.data.toList.drop 138 = dktX2_isForged_6 := dk_seg dksX2_isForged_5 24 rfl rfl
theorem dksX2_isForged_7 : cX2_isForged.data.toList.drop 161 = dktX2_isForged_7 := dk_seg dksX2_isForged_6 23 rfl rfl
theorem dX2_isForged_0 : decode cX2_isForged 0 = .ok (.aload_n 0, 1) := dk_42 (dk_at dksX2_isForged_0 0 rfl rfl)
theorem dX2_isForged_1 : decode cX2_isForged 1 = .ok (.aload_n 0, 1) := dk_42 (dk_at dksX2_isForged_0 1 rfl rfl)
theorem dX2_isForged_2 : decode cX2_isForged 2 = .ok (.iload_n 1, 1) := dk_27 (dk_at dksX2_isForged_0 2 rfl rfl)
theorem dX2_isForged_3 : decode cX2_isForged 3 = .ok (.iconst 4, 1) := dk_7 (dk_at dksX2_isForged_0 3 rfl rfl)
theorem dX2_isForged_4 : decode cX2_isForged 4 = .ok (.invokevirtual 343, 3) := dk_182 1 87 (dk_at dksX2_isForged_0 4 rfl rfl)
theorem dX2_isForged_7 : decode cX2_isForged 7 = .ok (.iload_n 2, 1) := dk_28 (dk_at dksX2_isForged_0 7 rfl rfl)
theorem dX2_isForged_8 : decode cX2_isForged 8 = .ok (.invokevirtual 277, 3) := dk_182 1 21 (dk_at dksX2_isForged_0 8 rfl rfl)
theorem dX2_isForged_11 : decode cX2_isForged 11 = .ok (.ifCond .ne 7, 3) := dk_154 0 7 (dk_at dksX2_isForged_0 11 rfl rfl)
theorem dX2_isForged_14 : decode cX2_isForged 14 = .ok (.iconst 1, 1) := dk_4 (dk_at dksX2_isForged_0 14 rfl rfl)
theorem dX2_isForged_15 : decode cX2_isForged 15 = .ok (.goto 4, 3) := dk_167 0 4 (dk_at dksX2_isForged_0 15 rfl rfl)
theorem dX2_isForged_18 : decode cX2_isForged 18 = .ok (.iconst 0, 1) := dk_3 (dk_at dksX2_isForged_0 18 rfl rfl)
theorem dX2_isForged_19 : decode cX2_isForged 19 = .ok (.istore_n 3, 1) := dk_62 (dk_at dksX2_isForged_0 19 rfl rfl)
theorem dX2_isForged_20 : decode cX2_isForged 20 = .ok (.iconst 0, 1) := dk_3 (dk_at dksX2_isForged_0 20 rfl rfl)
theorem dX2_isForged_21 : decode cX2_isForged 21 = .ok (.istore 4, 2) := dk_54 4 (dk_at dksX2_isForged_0 21 rfl rfl)
theorem dX2_isForged_23 : decode cX2_isForged 23 = .ok (.iload 4, 2) := dk_21 4 (dk_at dksX2_isForged_1 0 rfl rfl)
theorem dX2_isForged_25 : decode cX2_isForged 25 = .ok (.aload_n 0, 1) := dk_42 (dk_at dksX2_isForged_1 2 rfl rfl)
theorem dX2_isForged_26 : decode cX2_isForged 26 = .ok (.getfield 330, 3) := dk_180 1 74 (dk_at dksX2_isForged_1 3 rfl rfl)
theorem dX2_isForged_29 : decode cX2_isForged 29 = .ok (.if_icmp .ge 64, 3) := dk_162 0 64 (dk_at dksX2_isForged_1 6 rfl rfl)
theorem dX2_isForged_32 : decode cX2_isForged 32 = .ok (.iload_n 3, 1) := dk_29 (dk_at dksX2_isForged_1 9 rfl rfl)
theorem dX2_isForged_33 : decode cX2_isForged 33 = .ok (.ifCond .ne 48, 3) := dk_154 0 48 (dk_at dksX2_isForged_1 10 rfl rfl)
theorem dX2_isForged_36 : decode cX2_isForged 36 = .ok (.aload_n 0, 1) := dk_42 (dk_at dksX2_isForged_1 13 rfl rfl)
theorem dX2_isForged_37 : decode cX2_isForged 37 = .ok (.getfield 78, 3) := dk_180 0 78 (dk_at dksX2_isForged_1 14 rfl rfl)
theorem dX2_isForged_40 : decode cX2_isForged 40 = .ok (.iload 4, 2) := dk_21 4 (dk_at dksX2_isForged_1 17 rfl rfl)
theorem dX2_isForged_42 : decode cX2_isForged 42 = .ok (.iaload, 1) := dk_46 (dk_at dksX2_isForged_1 19 rfl rfl)
theorem dX2_isForged_43 : decode cX2_isForged 43 = .ok (.aload_n 0, 1) := dk_42 (dk_at dksX2_isForged_1 20 rfl rfl)
theorem dX2_isForged_44 : decode cX2_isForged 44 = .ok (.iload_n 1, 1) := dk_27 (dk_at dksX2_isForged_1 21 rfl rfl)
theorem dX2_isForged_45 : decode cX2_isForged 45 = .ok (.iconst 4, 1) := dk_7 (dk_at dksX2_isForged_1 22 rfl rfl)
theorem dX2_isForged_46 : decode cX2_isForged 46 = .ok (.invokevirtual 343, 3) := dk_182 1 87 (dk_at dksX2_isForged_2 0 rfl rfl)
theorem dX2_isForged_49 : decode cX2_isForged 49 = .ok (.if_icmp .ne 36, 3) := dk_160 0 36 (dk_at dksX2_isForged_2 3 rfl rfl)
theorem dX2_isForged_52 : decode cX2_isForged 52 = .ok (.aload_n 0, 1) := dk_42 (dk_at dksX2_isForged_2 6 rfl rfl)
theorem dX2_isForged_53 : decode cX2_isForged 53 = .ok (.iload_n 1, 1) := dk_27 (dk_at dksX2_isForged_2 7 rfl rfl)
theorem dX2_isForged_54 : decode cX2_isForged 54 = .ok (.iconst 5, 1) := dk_8 (dk_at dksX2_isForged_2 8 rfl rfl)
theorem dX2_isForged_55 : decode cX2_isForged 55 = .ok (.invokevirtual 343, 3) := dk_182 1 87 (dk_at dksX2_isForged_2 9 rfl rfl)
theorem dX2_isForged_58 : decode cX2_isForged 58 = .ok (.i2l, 1) := dk_133 (dk_at dksX2_isForged_2 12 rfl rfl)
theorem dX2_isForged_59 : decode cX2_isForged 59 = .ok (.aload_n 0, 1) := dk_42 (dk_at dksX2_isForged_2 13 rfl rfl)
theorem dX2_isForged_60 : decode cX2_isForged 60 = .ok (.getfield 81, 3) := dk_180 0 81 (dk_at dksX2_isForged_2 14 rfl rfl)
theorem dX2_isForged_63 : decode cX2_isForged 63 = .ok (.iload 4, 2) := dk_21 4 (dk_at dksX2_isForged_2 17 rfl rfl)
theorem dX2_isForged_65 : decode cX2_isForged 65 = .ok (.iaload, 1) := dk_46 (dk_at dksX2_isForged_2 19 rfl rfl)
theorem dX2_isForged_66 : decode cX2_isForged 66 = .ok (.i2l, 1) := dk_133 (dk_at dksX2_isForged_2 20 rfl rfl)
theorem dX2_isForged_67 : decode cX2_isForged 67 = .ok (.aload_n 0, 1) := dk_42 (dk_at dksX2_isForged_2 21 rfl rfl)
theorem dX2_isForged_68 : decode cX2_isForged 68 = .ok (.getfield 84, 3) := dk_180 0 84 (dk_at dksX2_isForged_3 0 rfl rfl)
theorem dX2_isForged_71 : decode cX2_isForged 71 = .ok (.iload 4, 2) := dk_21 4 (dk_at dksX2_isForged_3 3 rfl rfl)
theorem dX2_isForged_73 : decode cX2_isForged 73 = .ok (.iaload, 1) := dk_46 (dk_at dksX2_isForged_3 5 rfl rfl)
theorem dX2_isForged_74 : decode cX2_isForged 74 = .ok (.i2l, 1) := dk_133 (dk_at dksX2_isForged_3 6 rfl rfl)
theorem dX2_isForged_75 : decode cX2_isForged 75 = .ok (.invokestatic 132, 3) := dk_184 0 132 (dk_at dksX2_isForged_3 7 rfl rfl)
theorem dX2_isForged_78 : decode cX2_isForged 78 = .ok (.ifCond .eq 7, 3) := dk_153 0 7 (dk_at dksX2_isForged_3 10 rfl rfl)
theorem dX2_isForged_81 : decode cX2_isForged 81 = .ok (.iconst 1, 1) := dk_4 (dk_at dksX2_isForged_3 13 rfl rfl)
theorem dX2_isForged_82 : decode cX2_isForged 82 = .ok (.goto 4, 3) := dk_167 0 4 (dk_at dksX2_isForged_3 14 rfl rfl)
theorem dX2_isForged_85 : decode cX2_isForged 85 = .ok (.iconst 0, 1) := dk_3 (dk_at dksX2_isForged_3 17 rfl rfl)
theorem dX2_isForged_86 : decode cX2_isForged 86 = .ok (.istore_n 3, 1) := dk_62 (dk_at dksX2_isForged_3 18 rfl rfl)
theorem dX2_isForged_87 : decode cX2_isForged 87 = .ok (.iinc 4 1, 3) := dk_132 4 1 (dk_at dksX2_isForged_3 19 rfl rfl)
theorem dX2_isForged_90 : decode cX2_isForged 90 = .ok (.goto (-67), 3) := dk_167 255 189 (dk_at dksX2_isForged_4 0 rfl rfl)
theorem dX2_isForged_93 : decode cX2_isForged 93 = .ok (.iconst 0, 1) := dk_3 (dk_at dksX2_isForged_4 3 rfl rfl)
theorem dX2_isForged_94 : decode cX2_isForged 94 = .ok (.istore 4, 2) := dk_54 4 (dk_at dksX2_isForged_4 4 rfl rfl)
theorem dX2_isForged_96 : decode cX2_isForged 96 = .ok (.iload 4, 2) := dk_21 4 (dk_at dksX2_isForged_4 6 rfl rfl)
theorem dX2_isForged_98 : decode cX2_isForged 98 = .ok (.iload_n 1, 1) := dk_27 (dk_at dksX2_isForged_4 8 rfl rfl)
theorem dX2_isForged_99 : decode cX2_isForged 99 = .ok (.if_icmp .ge 51, 3) := dk_162 0 51 (dk_at dksX2_isForged_4 9 rfl rfl)
theorem dX2_isForged_102 : decode cX2_isForged 102 = .ok (.iload_n 3, 1) := dk_29 (dk_at dksX2_isForged_4 12 rfl rfl)
theorem dX2_isForged_103 : decode cX2_isForged 103 = .ok (.ifCond .ne 35, 3) := dk_154 0 35 (dk_at dksX2_isForged_4 13 rfl rfl)
theorem dX2_isForged_106 : decode cX2_isForged 106 = .ok (.aload_n 0, 1) := dk_42 (dk_at dksX2_isForged_4 16 rfl rfl)
theorem dX2_isForged_107 : decode cX2_isForged 107 = .ok (.iload 4, 2) := dk_21 4 (dk_at dksX2_isForged_4 17 rfl rfl)
theorem dX2_isForged_109 : decode cX2_isForged 109 = .ok (.iconst 2, 1) := dk_5 (dk_at dksX2_isForged_4 19 rfl rfl)
theorem dX2_isForged_110 : decode cX2_isForged 110 = .ok (.invokevirtual 343, 3) := dk_182 1 87 (dk_at dksX2_isForged_4 20 rfl rfl)
theorem dX2_isForged_113 : decode cX2_isForged 113 = .ok (.aload_n 0, 1) := dk_42 (dk_at dksX2_isForged_4 23 rfl rfl)
theorem dX2_isForged_114 : decode cX2_isForged 114 = .ok (.iload_n 1, 1) := dk_27 (dk_at dksX2_isForged_5 0 rfl rfl)
theorem dX2_isForged_115 : decode cX2_isForged 115 = .ok (.iconst 2, 1) := dk_5 (dk_at dksX2_isForged_5 1 rfl rfl)
theorem dX2_isForged_116 : decode cX2_isForged 116 = .ok (.invokevirtual 343, 3) := dk_182 1 87 (dk_at dksX2_isForged_5 2 rfl rfl)
theorem dX2_isForged_119 : decode cX2_isForged 119 = .ok (.if_icmp .ne 23, 3) := dk_160 0 23 (dk_at dksX2_isForged_5 5 rfl rfl)
theorem dX2_isForged_122 : decode cX2_isForged 122 = .ok (.aload_n 0, 1) := dk_42 (dk_at dksX2_isForged_5 8 rfl rfl)
theorem dX2_isForged_123 : decode cX2_isForged 123 = .ok (.iload 4, 2) := dk_21 4 (dk_at dksX2_isForged_5 9 rfl rfl)
theorem dX2_isForged_125 : decode cX2_isForged 125 = .ok (.iconst 3, 1) := dk_6 (dk_at dksX2_isForged_5 11 rfl rfl)
theorem dX2_isForged_126 : decode cX2_isForged 126 = .ok (.invokevirtual 343, 3) := dk_182 1 87 (dk_at dksX2_isForged_5 12 rfl rfl)
theorem dX2_isForged_129 : decode cX2_isForged 129 = .ok (.aload_n 0, 1) := dk_42 (dk_at dksX2_isForged_5 15 rfl rfl)
theorem dX2_isForged_130 : decode cX2_isForged 130 = .ok (.iload_n 1, 1) := dk_27 (dk_at dksX2_isForged_5 16 rfl rfl)
theorem dX2_isForged_131 : decode cX2_isForged 131 = .ok (.iconst 3, 1) := dk_6 (dk_at dksX2_isForged_5 17 rfl rfl)
theorem dX2_isForged_132 : decode cX2_isForged 132 = .ok (.invokevirtual 343, 3) := dk_182 1 87 (dk_at dksX2_isForged_5 18 rfl rfl)
theorem dX2_isForged_135 : decode cX2_isForged 135 = .ok (.if_icmp .eq 7, 3) := dk_159 0 7 (dk_at dksX2_isForged_5 21 rfl rfl)
theorem dX2_isForged_138 : decode cX2_isForged 138 = .ok (.iconst 1, 1) := dk_4 (dk_at dksX2_isForged_6 0 rfl rfl)
theorem dX2_isForged_139 : decode cX2_isForged 139 = .ok (.goto 4, 3) := dk_167 0 4 (dk_at dksX2_isForged_6 1 rfl rfl)
theorem dX2_isForged_142 : decode cX2_isForged 142 = .ok (.iconst 0, 1) := dk_3 (dk_at dksX2_isForged_6 4 rfl rfl)
theorem dX2_isForged_143 : decode cX2_isForged 143 = .ok (.istore_n 3, 1) := dk_62 (dk_at dksX2_isForged_6 5 rfl rfl)
theorem dX2_isForged_144 : decode cX2_isForged 144 = .ok (.iinc 4 1, 3) := dk_132 4 1 (dk_at dksX2_isForged_6 6 rfl rfl)
theorem dX2_isForged_147 : decode cX2_isForged 147 = .ok (.goto (-51), 3) := dk_167 255 205 (dk_at dksX2_isForged_6 9 rfl rfl)
theorem dX2_isForged_150 : decode cX2_isForged 150 = .ok (.iload_n 3, 1) := dk_29 (dk_at dksX2_isForged_6 12 rfl rfl)
theorem dX2_isForged_151 : decode cX2_isForged 151 = .ok (.ifCond .eq 17, 3) := dk_153 0 17 (dk_at dksX2_isForged_6 13 rfl rfl)
theorem dX2_isForged_154 : decode cX2_isForged 154 = .ok (.aload_n 0, 1) := dk_42 (dk_at dksX2_isForged_6 16 rfl rfl)
theorem dX2_isForged_155 : decode cX2_isForged 155 = .ok (.iload_n 1, 1) := dk_27 (dk_at dksX2_isForged_6 17 rfl rfl)
theorem dX2_isForged_156 : decode cX2_isForged 156 = .ok (.iconst 0, 1) := dk_3 (dk_at dksX2_isForged_6 18 rfl rfl)
theorem dX2_isForged_157 : decode cX2_isForged 157 = .ok (.invokevirtual 343, 3) := dk_182 1 87 (dk_at dksX2_isForged_6 19 rfl rfl)
theorem dX2_isForged_160 : decode cX2_isForged 160 = .ok (.iconst 2, 1) := dk_5 (dk_at dksX2_isForged_6 22 rfl rfl)
theorem dX2_isForged_161 : decode cX2_isForged 161 = .ok (.if_icmp .ne 7, 3) := dk_160 0 7 (dk_at dksX2_isForged_7 0 rfl rfl)
theorem dX2_isForged_164 : decode cX2_isForged 164 = .ok (.iconst 1, 1) := dk_4 (dk_at dksX2_isForged_7 3 rfl rfl)
theorem dX2_isForged_165 : decode cX2_isForged 165 = .ok (.goto 4, 3) := dk_167 0 4 (dk_at dksX2_isForged_7 4 rfl rfl)
theorem dX2_isForged_168 : decode cX2_isForged 168 = .ok (.iconst 0, 1) := dk_3 (dk_at dksX2_isForged_7 7 rfl rfl)
theorem dX2_isForged_169 : decode cX2_isForged 169 = .ok (.ireturn, 1) := dk_172 (dk_at dksX2_isForged_7 8 rfl rfl)
abbrev cX2_dusk : ByteArray := prog_17_method_57_code
def yX2_dusk : MethodName := ⟨RX2, "dusk", "(IIII)I"⟩
def dkwX2_dusk_6 : List UInt8 := [21, 8, 54, 6, 132, 7, 1, 167, 255, 153, 21, 5, 172]
abbrev dktX2_dusk_6 : List UInt8 := dkwX2_dusk_6 ++ []
def dkwX2_dusk_5 : List UInt8 := [21, 7, 46, 162, 0, 25, 21, 5, 18, 129, 159, 0, 10, 21, 8, 21, 6, 162, 0, 11, 21, 7, 54, 5]
abbrev dktX2_dusk_5 : List UInt8 := dkwX2_dusk_5 ++ dktX2_dusk_6
def dkwX2_dusk_4 : List UInt8 := [162, 0, 13, 42, 180, 0, 27, 21, 7, 46, 167, 0, 5, 21, 8, 54, 8, 21, 8, 42, 180, 0, 30]
abbrev dktX2_dusk_4 : List UInt8 := dkwX2_dusk_4 ++ dktX2_dusk_5
def dkwX2_dusk_3 : List UInt8 := [46, 184, 1, 100, 96, 21, 4, 104, 16, 100, 108, 96, 54, 8, 21, 8, 42, 180, 0, 27, 21, 7, 46]
abbrev dktX2_dusk_3 : List UInt8 := dkwX2_dusk_3 ++ dktX2_dusk_4
def dkwX2_dusk_2 : List UInt8 := [16, 9, 162, 0, 102, 29, 27, 42, 180, 0, 36, 21, 7, 46, 184, 1, 100, 28, 42, 180, 0, 39, 21, 7]
abbrev dktX2_dusk_2 : List UInt8 := dkwX2_dusk_2 ++ dktX2_dusk_3
def dkwX2_dusk_1 : List UInt8 := [20, 1, 72, 184, 0, 132, 154, 0, 6, 18, 142, 172, 18, 129, 54, 5, 3, 54, 6, 3, 54, 7, 21, 7]
abbrev dktX2_dusk_1 : List UInt8 := dkwX2_dusk_1 ++ dktX2_dusk_2
def dkwX2_dusk_0 : List UInt8 := [42, 3, 181, 0, 1, 27, 28, 184, 0, 163, 153, 0, 23, 29, 184, 0, 156, 153, 0, 16, 21, 4, 133, 10]
abbrev dktX2_dusk_0 : List UInt8 := dkwX2_dusk_0 ++ dktX2_dusk_1
theorem dksX2_dusk_0 : cX2_dusk.data.toList.drop 0 = dktX2_dusk_0 := by decide +kernel
theorem dksX2_dusk_1 : cX2_dusk.data.toList.drop 24 = dktX2_dusk_1 := dk_seg dksX2_dusk_0 24 rfl rfl
theorem dksX2_dusk_2 : cX2_dusk.data.toList.drop 48 = dktX2_dusk_2 := dk_seg dksX2_dusk_1 24 rfl rfl
theorem dksX2_dusk_3 : cX2_dusk.data.toList.drop 72 = dktX2_dusk_3 := dk_seg dksX2_dusk_2 24 rfl rfl
theorem dksX2_dusk_4 : cX2_dusk.data.toList.drop 95 = dktX2_dusk_4 := dk_seg dksX2_dusk_3 23 rfl rfl
theorem dksX2_dusk_5 : cX2_dusk.data.toList.drop 118 = dktX2_dusk_5 := dk_seg dksX2_dusk_4 23 rfl rfl
theorem dksX2_dusk_6 : cX2_dusk.data.toList.drop 142 = dktX2_dusk_6 := dk_seg dksX2_dusk_5 24 rfl rfl
theorem dX2_dusk_0 : decode cX2_dusk 0 = .ok (.aload_n 0, 1) := dk_42 (dk_at dksX2_dusk_0 0 rfl rfl)
theorem dX2_dusk_1 : decode cX2_dusk 1 = .ok (.iconst 0, 1) := dk_3 (dk_at dksX2_dusk_0 1 rfl rfl)
theorem dX2_dusk_2 : decode cX2_dusk 2 = .ok (.putfield 1, 3) := dk_181 0 1 (dk_at dksX2_dusk_0 2 rfl rfl)
theorem dX2_dusk_5 : decode cX2_dusk 5 = .ok (.iload_n 1, 1) := dk_27 (dk_at dksX2_dusk_0 5 rfl rfl)
theorem dX2_dusk_6 : decode cX2_dusk 6 = .ok (.iload_n 2, 1) := dk_28 (dk_at dksX2_dusk_0 6 rfl rfl)
theorem dX2_dusk_7 : decode cX2_dusk 7 = .ok (.invokestatic 163, 3) := dk_184 0 163 (dk_at dksX2_dusk_0 7 rfl rfl)
theorem dX2_dusk_10 : decode cX2_dusk 10 = .ok (.ifCond .eq 23, 3) := dk_153 0 23 (dk_at dksX2_dusk_0 10 rfl rfl)
theorem dX2_dusk_13 : decode cX2_dusk 13 = .ok (.iload_n 3, 1) := dk_29 (dk_at dksX2_dusk_0 13 rfl rfl)
theorem dX2_dusk_14 : decode cX2_dusk 14 = .ok (.invokestatic 156, 3) := dk_184 0 156 (dk_at dksX2_dusk_0 14 rfl rfl)
theorem dX2_dusk_17 : decode cX2_dusk 17 = .ok (.ifCond .eq 16, 3) := dk_153 0 16 (dk_at dksX2_dusk_0 17 rfl rfl)
theorem dX2_dusk_20 : decode cX2_dusk 20 = .ok (.iload 4, 2) := dk_21 4 (dk_at dksX2_dusk_0 20 rfl rfl)
theorem dX2_dusk_22 : decode cX2_dusk 22 = .ok (.i2l, 1) := dk_133 (dk_at dksX2_dusk_0 22 rfl rfl)
theorem dX2_dusk_23 : decode cX2_dusk 23 = .ok (.lconst 1, 1) := dk_10 (dk_at dksX2_dusk_0 23 rfl rfl)
theorem dX2_dusk_24 : decode cX2_dusk 24 = .ok (.ldc2_w 328, 3) := dk_20 1 72 (dk_at dksX2_dusk_1 0 rfl rfl)
theorem dX2_dusk_27 : decode cX2_dusk 27 = .ok (.invokestatic 132, 3) := dk_184 0 132 (dk_at dksX2_dusk_1 3 rfl rfl)
theorem dX2_dusk_30 : decode cX2_dusk 30 = .ok (.ifCond .ne 6, 3) := dk_154 0 6 (dk_at dksX2_dusk_1 6 rfl rfl)
theorem dX2_dusk_33 : decode cX2_dusk 33 = .ok (.ldc 142, 2) := dk_18 142 (dk_at dksX2_dusk_1 9 rfl rfl)
theorem dX2_dusk_35 : decode cX2_dusk 35 = .ok (.ireturn, 1) := dk_172 (dk_at dksX2_dusk_1 11 rfl rfl)
theorem dX2_dusk_36 : decode cX2_dusk 36 = .ok (.ldc 129, 2) := dk_18 129 (dk_at dksX2_dusk_1 12 rfl rfl)
theorem dX2_dusk_38 : decode cX2_dusk 38 = .ok (.istore 5, 2) := dk_54 5 (dk_at dksX2_dusk_1 14 rfl rfl)
theorem dX2_dusk_40 : decode cX2_dusk 40 = .ok (.iconst 0, 1) := dk_3 (dk_at dksX2_dusk_1 16 rfl rfl)
theorem dX2_dusk_41 : decode cX2_dusk 41 = .ok (.istore 6, 2) := dk_54 6 (dk_at dksX2_dusk_1 17 rfl rfl)
theorem dX2_dusk_43 : decode cX2_dusk 43 = .ok (.iconst 0, 1) := dk_3 (dk_at dksX2_dusk_1 19 rfl rfl)
theorem dX2_dusk_44 : decode cX2_dusk 44 = .ok (.istore 7, 2) := dk_54 7 (dk_at dksX2_dusk_1 20 rfl rfl)
theorem dX2_dusk_46 : decode cX2_dusk 46 = .ok (.iload 7, 2) := dk_21 7 (dk_at dksX2_dusk_1 22 rfl rfl)
theorem dX2_dusk_48 : decode cX2_dusk 48 = .ok (.bipush 9, 2) := dk_16 9 (dk_at dksX2_dusk_2 0 rfl rfl)
theorem dX2_dusk_50 : decode cX2_dusk 50 = .ok (.if_icmp .ge 102, 3) := dk_162 0 102 (dk_at dksX2_dusk_2 2 rfl rfl)
theorem dX2_dusk_53 : decode cX2_dusk 53 = .ok (.iload_n 3, 1) := dk_29 (dk_at dksX2_dusk_2 5 rfl rfl)
theorem dX2_dusk_54 : decode cX2_dusk 54 = .ok (.iload_n 1, 1) := dk_27 (dk_at dksX2_dusk_2 6 rfl rfl)
theorem dX2_dusk_55 : decode cX2_dusk 55 = .ok (.aload_n 0, 1) := dk_42 (dk_at dksX2_dusk_2 7 rfl rfl)
theorem dX2_dusk_56 : decode cX2_dusk 56 = .ok (.getfield 36, 3) := dk_180 0 36 (dk_at dksX2_dusk_2 8 rfl rfl)
theorem dX2_dusk_59 : decode cX2_dusk 59 = .ok (.iload 7, 2) := dk_21 7 (dk_at dksX2_dusk_2 11 rfl rfl)
theorem dX2_dusk_61 : decode cX2_dusk 61 = .ok (.iaload, 1) := dk_46 (dk_at dksX2_dusk_2 13 rfl rfl)
theorem dX2_dusk_62 : decode cX2_dusk 62 = .ok (.invokestatic 356, 3) := dk_184 1 100 (dk_at dksX2_dusk_2 14 rfl rfl)
theorem dX2_dusk_65 : decode cX2_dusk 65 = .ok (.iload_n 2, 1) := dk_28 (dk_at dksX2_dusk_2 17 rfl rfl)
theorem dX2_dusk_66 : decode cX2_dusk 66 = .ok (.aload_n 0, 1) := dk_42 (dk_at dksX2_dusk_2 18 rfl rfl)
theorem dX2_dusk_67 : decode cX2_dusk 67 = .ok (.getfield 39, 3) := dk_180 0 39 (dk_at dksX2_dusk_2 19 rfl rfl)
theorem dX2_dusk_70 : decode cX2_dusk 70 = .ok (.iload 7, 2) := dk_21 7 (dk_at dksX2_dusk_2 22 rfl rfl)
theorem dX2_dusk_72 : decode cX2_dusk 72 = .ok (.iaload, 1) := dk_46 (dk_at dksX2_dusk_3 0 rfl rfl)
theorem dX2_dusk_73 : decode cX2_dusk 73 = .ok (.invokestatic 356, 3) := dk_184 1 100 (dk_at dksX2_dusk_3 1 rfl rfl)
theorem dX2_dusk_76 : decode cX2_dusk 76 = .ok (.iadd, 1) := dk_96 (dk_at dksX2_dusk_3 4 rfl rfl)
theorem dX2_dusk_77 : decode cX2_dusk 77 = .ok (.iload 4, 2) := dk_21 4 (dk_at dksX2_dusk_3 5 rfl rfl)
theorem dX2_dusk_79 : decode cX2_dusk 79 = .ok (.imul, 1) := dk_104 (dk_at dksX2_dusk_3 7 rfl rfl)
theorem dX2_dusk_80 : decode cX2_dusk 80 = .ok (.bipush 100, 2) := dk_16 100 (dk_at dksX2_dusk_3 8 rfl rfl)
theorem dX2_dusk_82 : decode cX2_dusk 82 = .ok (.idiv, 1) := dk_108 (dk_at dksX2_dusk_3 10 rfl rfl)
theorem dX2_dusk_83 : decode cX2_dusk 83 = .ok (.iadd, 1) := dk_96 (dk_at dksX2_dusk_3 11 rfl rfl)
theorem dX2_dusk_84 : decode cX2_dusk 84 = .ok (.istore 8, 2) := dk_54 8 (dk_at dksX2_dusk_3 12 rfl rfl)
theorem dX2_dusk_86 : decode cX2_dusk 86 = .ok (.iload 8, 2) := dk_21 8 (dk_at dksX2_dusk_3 14 rfl rfl)
theorem dX2_dusk_88 : decode cX2_dusk 88 = .ok (.aload_n 0, 1) := dk_42 (dk_at dksX2_dusk_3 16 rfl rfl)
theorem dX2_dusk_89 : decode cX2_dusk 89 = .ok (.getfield 27, 3) := dk_180 0 27 (dk_at dksX2_dusk_3 17 rfl rfl)
theorem dX2_dusk_92 : decode cX2_dusk 92 = .ok (.iload 7, 2) := dk_21 7 (dk_at dksX2_dusk_3 20 rfl rfl)
theorem dX2_dusk_94 : decode cX2_dusk 94 = .ok (.iaload, 1) := dk_46 (dk_at dksX2_dusk_3 22 rfl rfl)
theorem dX2_dusk_95 : decode cX2_dusk 95 = .ok (.if_icmp .ge 13, 3) := dk_162 0 13 (dk_at dksX2_dusk_4 0 rfl rfl)
theorem dX2_dusk_98 : decode cX2_dusk 98 = .ok (.aload_n 0, 1) := dk_42 (dk_at dksX2_dusk_4 3 rfl rfl)
theorem dX2_dusk_99 : decode cX2_dusk 99 = .ok (.getfield 27, 3) := dk_180 0 27 (dk_at dksX2_dusk_4 4 rfl rfl)
theorem dX2_dusk_102 : decode cX2_dusk 102 = .ok (.iload 7, 2) := dk_21 7 (dk_at dksX2_dusk_4 7 rfl rfl)
theorem dX2_dusk_104 : decode cX2_dusk 104 = .ok (.iaload, 1) := dk_46 (dk_at dksX2_dusk_4 9 rfl rfl)
theorem dX2_dusk_105 : decode cX2_dusk 105 = .ok (.goto 5, 3) := dk_167 0 5 (dk_at dksX2_dusk_4 10 rfl rfl)
theorem dX2_dusk_108 : decode cX2_dusk 108 = .ok (.iload 8, 2) := dk_21 8 (dk_at dksX2_dusk_4 13 rfl rfl)
theorem dX2_dusk_110 : decode cX2_dusk 110 = .ok (.istore 8, 2) := dk_54 8 (dk_at dksX2_dusk_4 15 rfl rfl)
theorem dX2_dusk_112 : decode cX2_dusk 112 = .ok (.iload 8, 2) := dk_21 8 (dk_at dksX2_dusk_4 17 rfl rfl)
theorem dX2_dusk_114 : decode cX2_dusk 114 = .ok (.aload_n 0, 1) := dk_42 (dk_at dksX2_dusk_4 19 rfl rfl)
theorem dX2_dusk_115 : decode cX2_dusk 115 = .ok (.getfield 30, 3) := dk_180 0 30 (dk_at dksX2_dusk_4 20 rfl rfl)
theorem dX2_dusk_118 : decode cX2_dusk 118 = .ok (.iload 7, 2) := dk_21 7 (dk_at dksX2_dusk_5 0 rfl rfl)
theorem dX2_dusk_120 : decode cX2_dusk 120 = .ok (.iaload, 1) := dk_46 (dk_at dksX2_dusk_5 2 rfl rfl)
theorem dX2_dusk_121 : decode cX2_dusk 121 = .ok (.if_icmp .ge 25, 3) := dk_162 0 25 (dk_at dksX2_dusk_5 3 rfl rfl)
theorem dX2_dusk_124 : decode cX2_dusk 124 = .ok (.iload 5, 2) := dk_21 5 (dk_at dksX2_dusk_5 6 rfl rfl)
theorem dX2_dusk_126 : decode cX2_dusk 126 = .ok (.ldc 129, 2) := dk_18 129 (dk_at dksX2_dusk_5 8 rfl rfl)
theorem dX2_dusk_128 : decode cX2_dusk 128 = .ok (.if_icmp .eq 10, 3) := dk_159 0 10 (dk_at dksX2_dusk_5 10 rfl rfl)
theorem dX2_dusk_131 : decode cX2_dusk 131 = .ok (.iload 8, 2) := dk_21 8 (dk_at dksX2_dusk_5 13 rfl rfl)
theorem dX2_dusk_133 : decode cX2_dusk 133 = .ok (.iload 6, 2) := dk_21 6 (dk_at dksX2_dusk_5 15 rfl rfl)
theorem dX2_dusk_135 : decode cX2_dusk 135 = .ok (.if_icmp .ge 11, 3) := dk_162 0 11 (dk_at dksX2_dusk_5 17 rfl rfl)
theorem dX2_dusk_138 : decode cX2_dusk 138 = .ok (.iload 7, 2) := dk_21 7 (dk_at dksX2_dusk_5 20 rfl rfl)
theorem dX2_dusk_140 : decode cX2_dusk 140 = .ok (.istore 5, 2) := dk_54 5 (dk_at dksX2_dusk_5 22 rfl rfl)
theorem dX2_dusk_142 : decode cX2_dusk 142 = .ok (.iload 8, 2) := dk_21 8 (dk_at dksX2_dusk_6 0 rfl rfl)
theorem dX2_dusk_144 : decode cX2_dusk 144 = .ok (.istore 6, 2) := dk_54 6 (dk_at dksX2_dusk_6 2 rfl rfl)
theorem dX2_dusk_146 : decode cX2_dusk 146 = .ok (.iinc 7 1, 3) := dk_132 7 1 (dk_at dksX2_dusk_6 4 rfl rfl)
theorem dX2_dusk_149 : decode cX2_dusk 149 = .ok (.goto (-103), 3) := dk_167 255 153 (dk_at dksX2_dusk_6 7 rfl rfl)
theorem dX2_dusk_152 : decode cX2_dusk 152 = .ok (.iload 5, 2) := dk_21 5 (dk_at dksX2_dusk_6 10 rfl rfl)
theorem dX2_dusk_154 : decode cX2_dusk 154 = .ok (.ireturn, 1) := dk_172 (dk_at dksX2_dusk_6 12 rfl rfl)
abbrev cX2_far : ByteArray := prog_17_method_56_code
def yX2_far : MethodName := ⟨RX2, "far", "(II)I"⟩
def dkwX2_far_0 : List UInt8 := [26, 27, 162, 0, 9, 27, 26, 100, 167, 0, 6, 26, 27, 100, 172]
abbrev dktX2_far_0 : List UInt8 := dkwX2_far_0 ++ []
theorem dksX2_far_0 : cX2_far.data.toList.drop 0 = dktX2_far_0 := by decide +kernel
theorem dX2_far_0 : decode cX2_far 0 = .ok (.iload_n 0, 1) := dk_26 (dk_at dksX2_far_0 0 rfl rfl)
theorem dX2_far_1 : decode cX2_far 1 = .ok (.iload_n 1, 1) := dk_27 (dk_at dksX2_far_0 1 rfl rfl)
theorem dX2_far_2 : decode cX2_far 2 = .ok (.if_icmp .ge 9, 3) := dk_162 0 9 (dk_at dksX2_far_0 2 rfl rfl)
theorem dX2_far_5 : decode cX2_far 5 = .ok (.iload_n 1, 1) := dk_27 (dk_at dksX2_far_0 5 rfl rfl)
theorem dX2_far_6 : decode cX2_far 6 = .ok (.iload_n 0, 1) := dk_26 (dk_at dksX2_far_0 6 rfl rfl)
theorem dX2_far_7 : decode cX2_far 7 = .ok (.isub, 1) := dk_100 (dk_at dksX2_far_0 7 rfl rfl)
theorem dX2_far_8 : decode cX2_far 8 = .ok (.goto 6, 3) := dk_167 0 6 (dk_at dksX2_far_0 8 rfl rfl)
theorem dX2_far_11 : decode cX2_far 11 = .ok (.iload_n 0, 1) := dk_26 (dk_at dksX2_far_0 11 rfl rfl)
theorem dX2_far_12 : decode cX2_far 12 = .ok (.iload_n 1, 1) := dk_27 (dk_at dksX2_far_0 12 rfl rfl)
theorem dX2_far_13 : decode cX2_far 13 = .ok (.isub, 1) := dk_100 (dk_at dksX2_far_0 13 rfl rfl)
theorem dX2_far_14 : decode cX2_far 14 = .ok (.ireturn, 1) := dk_172 (dk_at dksX2_far_0 14 rfl rfl)
abbrev cX2_clerks : ByteArray := prog_17_method_59_code
def yX2_clerks : MethodName := ⟨RX2, "clerks", "(IIIIII)I"⟩
def dkwX2_clerks_20 : List UInt8 := [21, 9, 167, 0, 12, 42, 180, 0, 93, 21, 6, 4, 100, 46, 172]
abbrev dktX2_clerks_20 : List UInt8 := dkwX2_clerks_20 ++ []
def dkwX2_clerks_19 : List UInt8 := [132, 10, 255, 167, 255, 99, 21, 9, 18, 129, 160, 0, 8, 18, 129, 167, 0, 22, 21, 6, 154, 0, 8]
abbrev dktX2_clerks_19 : List UInt8 := dkwX2_clerks_19 ++ dktX2_clerks_20
def dkwX2_clerks_18 : List UInt8 := [5, 21, 12, 79, 42, 180, 0, 93, 6, 21, 13, 79, 132, 12, 255, 167, 255, 138, 132, 11, 255, 167, 255, 117]
abbrev dktX2_clerks_18 : List UInt8 := dkwX2_clerks_18 ++ dktX2_clerks_19
def dkwX2_clerks_17 : List UInt8 := [21, 14, 54, 9, 42, 180, 0, 93, 3, 21, 10, 79, 42, 180, 0, 93, 4, 21, 11, 79, 42, 180, 0, 93]
abbrev dktX2_clerks_17 : List UInt8 := dkwX2_clerks_17 ++ dktX2_clerks_18
def dkwX2_clerks_16 : List UInt8 := [96, 46, 96, 54, 14, 21, 14, 155, 0, 53, 21, 9, 18, 129, 159, 0, 10, 21, 14, 21, 9, 162, 0, 39]
abbrev dktX2_clerks_16 : List UInt8 := dkwX2_clerks_16 ++ dktX2_clerks_17
def dkwX2_clerks_15 : List UInt8 := [21, 11, 96, 46, 96, 42, 180, 0, 96, 16, 18, 21, 12, 96, 46, 96, 42, 180, 0, 96, 16, 27, 21, 13]
abbrev dktX2_clerks_15 : List UInt8 := dkwX2_clerks_15 ++ dktX2_clerks_16
def dkwX2_clerks_14 : List UInt8 := [21, 10, 100, 21, 11, 100, 21, 12, 100, 54, 13, 42, 180, 0, 96, 21, 10, 46, 42, 180, 0, 96, 16, 9]
abbrev dktX2_clerks_14 : List UInt8 := dkwX2_clerks_14 ++ dktX2_clerks_15
def dkwX2_clerks_13 : List UInt8 := [54, 11, 21, 11, 155, 0, 140, 21, 5, 21, 10, 100, 21, 11, 100, 54, 12, 21, 12, 155, 0, 119, 21, 5]
abbrev dktX2_clerks_13 : List UInt8 := dkwX2_clerks_13 ++ dktX2_clerks_14
def dkwX2_clerks_12 : List UInt8 := [132, 9, 1, 167, 255, 137, 18, 129, 54, 9, 21, 5, 54, 10, 21, 10, 155, 0, 158, 21, 5, 21, 10, 100]
abbrev dktX2_clerks_12 : List UInt8 := dkwX2_clerks_12 ++ dktX2_clerks_13
def dkwX2_clerks_11 : List UInt8 := [21, 11, 96, 42, 21, 8, 29, 21, 9, 21, 4, 21, 11, 182, 1, 103, 79, 132, 11, 1, 167, 255, 220]
abbrev dktX2_clerks_11 : List UInt8 := dkwX2_clerks_11 ++ dktX2_clerks_12
def dkwX2_clerks_10 : List UInt8 := [167, 0, 4, 3, 79, 4, 54, 11, 21, 11, 21, 5, 163, 0, 35, 42, 180, 0, 96, 16, 9, 21, 9, 104]
abbrev dktX2_clerks_10 : List UInt8 := dkwX2_clerks_10 ++ dktX2_clerks_11
def dkwX2_clerks_9 : List UInt8 := [132, 11, 1, 167, 255, 218, 42, 180, 0, 96, 16, 9, 21, 9, 104, 21, 10, 153, 0, 8, 18, 129]
abbrev dktX2_clerks_9 : List UInt8 := dkwX2_clerks_9 ++ dktX2_clerks_10
def dkwX2_clerks_8 : List UInt8 := [180, 0, 24, 21, 8, 5, 21, 11, 104, 96, 46, 21, 9, 160, 0, 7, 4, 167, 0, 4, 3, 54, 10]
abbrev dktX2_clerks_8 : List UInt8 := dkwX2_clerks_8 ++ dktX2_clerks_9
def dkwX2_clerks_7 : List UInt8 := [21, 9, 7, 162, 0, 119, 3, 54, 10, 3, 54, 11, 21, 11, 29, 162, 0, 38, 21, 10, 154, 0, 20, 42]
abbrev dktX2_clerks_7 : List UInt8 := dkwX2_clerks_7 ++ dktX2_clerks_8
def dkwX2_clerks_6 : List UInt8 := [184, 0, 156, 154, 0, 6, 18, 142, 172, 132, 9, 1, 167, 255, 201, 42, 3, 181, 0, 7, 3, 54, 9]
abbrev dktX2_clerks_6 : List UInt8 := dkwX2_clerks_6 ++ dktX2_clerks_7
def dkwX2_clerks_5 : List UInt8 := [20, 1, 80, 184, 0, 132, 153, 0, 23, 42, 180, 0, 24, 21, 8, 5, 21, 9, 104, 96, 4, 96, 46]
abbrev dktX2_clerks_5 : List UInt8 := dkwX2_clerks_5 ++ dktX2_clerks_6
def dkwX2_clerks_4 : List UInt8 := [54, 9, 21, 9, 29, 162, 0, 55, 42, 180, 0, 24, 21, 8, 5, 21, 9, 104, 96, 46, 133, 9]
abbrev dktX2_clerks_4 : List UInt8 := dkwX2_clerks_4 ++ dktX2_clerks_5
def dkwX2_clerks_3 : List UInt8 := [104, 182, 1, 34, 54, 7, 21, 7, 156, 0, 6, 21, 7, 172, 16, 64, 27, 104, 28, 96, 54, 8, 3]
abbrev dktX2_clerks_3 : List UInt8 := dkwX2_clerks_3 ++ dktX2_clerks_4
def dkwX2_clerks_2 : List UInt8 := [153, 0, 16, 21, 6, 133, 9, 20, 1, 37, 184, 0, 132, 154, 0, 6, 18, 142, 172, 42, 27, 28, 5, 29]
abbrev dktX2_clerks_2 : List UInt8 := dkwX2_clerks_2 ++ dktX2_clerks_3
def dkwX2_clerks_1 : List UInt8 := [21, 4, 133, 10, 20, 1, 72, 184, 0, 132, 153, 0, 29, 21, 5, 133, 10, 20, 0, 147, 184, 0, 132]
abbrev dktX2_clerks_1 : List UInt8 := dkwX2_clerks_1 ++ dktX2_clerks_2
def dkwX2_clerks_0 : List UInt8 := [42, 3, 181, 0, 1, 27, 184, 0, 136, 153, 0, 54, 29, 133, 10, 20, 1, 13, 184, 0, 132, 153, 0, 42]
abbrev dktX2_clerks_0 : List UInt8 := dkwX2_clerks_0 ++ dktX2_clerks_1
theorem dksX2_clerks_0 : cX2_clerks.data.toList.drop 0 = dktX2_clerks_0 := by decide +kernel
theorem dksX2_clerks_1 : cX2_clerks.data.toList.drop 24 = dktX2_clerks_1 := dk_seg dksX2_clerks_0 24 rfl rfl
theorem dksX2_clerks_2 : cX2_clerks.data.toList.drop 47 = dktX2_clerks_2 := dk_seg dksX2_clerks_1 23 rfl rfl
theorem dksX2_clerks_3 : cX2_clerks.data.toList.drop 71 = dktX2_clerks_3 := dk_seg dksX2_clerks_2 24 rfl rfl
theorem dksX2_clerks_4 : cX2_clerks.data.toList.drop 94 = dktX2_clerks_4 := dk_seg dksX2_clerks_3 23 rfl rfl
theorem dksX2_clerks_5 : cX2_clerks.data.toList.drop 116 = dktX2_clerks_5 := dk_seg dksX2_clerks_4 22 rfl rfl
theorem dksX2_clerks_6 : cX2_clerks.data.toList.drop 139 = dktX2_clerks_6 := dk_seg dksX2_clerks_5 23 rfl rfl
theorem dksX2_clerks_7 : cX2_clerks.data.toList.drop 162 = dktX2_clerks_7 := dk_seg dksX2_clerks_6 23 rfl rfl
theorem dksX2_clerks_8 : cX2_clerks.data.toList.drop 186 = dktX2_clerks_8 := dk_seg dksX2_clerks_7 24 rfl rfl
theorem dksX2_clerks_9 : cX2_clerks.data.toList.drop 209 = dktX2_clerks_9 := dk_seg dksX2_clerks_8 23 rfl rfl
theorem dksX2_clerks_10 : cX2_clerks.data.toList.drop 231 = dktX2_clerks_10 := dk_seg dksX2_clerks_9 22 rfl rfl
theorem dksX2_clerks_11 : cX2_clerks.data.toList.drop 255 = dktX2_clerks_11 := dk_seg dksX2_clerks_10 24 rfl rfl
theorem dksX2_clerks_12 : cX2_clerks.data.toList.drop 278 = dktX2_clerks_12 := dk_seg dksX2_clerks_11 23 rfl rfl
theorem dksX2_clerks_13 : cX2_clerks.data.toList.drop 302 = dktX2_clerks_13 := dk_seg dksX2_clerks_12 24 rfl rfl
theorem dksX2_clerks_14 : cX2_clerks.data.toList.drop 326 = dktX2_clerks_14 := dk_seg dksX2_clerks_13 24 rfl rfl
theorem dksX2_clerks_15 : cX2_clerks.data.toList.drop 350 = dktX2_clerks_15 := dk_seg dksX2_clerks_14 24 rfl rfl
theorem dksX2_clerks_16 : cX2_clerks.data.toList.drop 374 = dktX2_clerks_16 := dk_seg dksX2_clerks_15 24 rfl rfl
theorem dksX2_clerks_17 : cX2_clerks.data.toList.drop 398 = dktX2_clerks_17 := dk_seg dksX2_clerks_16 24 rfl rfl
theorem dksX2_clerks_18 : cX2_clerks.data.toList.drop 422 = dktX2_clerks_18 := dk_seg dksX2_clerks_17 24 rfl rfl
theorem dksX2_clerks_19 : cX2_clerks.data.toList.drop 446 = dktX2_clerks_19 := dk_seg dksX2_clerks_18 24 rfl rfl
theorem dksX2_clerks_20 : cX2_clerks.data.toList.drop 469 = dktX2_clerks_20 := dk_seg dksX2_clerks_19 23 rfl rfl
theorem dX2_clerks_0 : decode cX2_clerks 0 = .ok (.aload_n 0, 1) := dk_42 (dk_at dksX2_clerks_0 0 rfl rfl)
theorem dX2_clerks_1 : decode cX2_clerks 1 = .ok (.iconst 0, 1) := dk_3 (dk_at dksX2_clerks_0 1 rfl rfl)
theorem dX2_clerks_2 : decode cX2_clerks 2 = .ok (.putfield 1, 3) := dk_181 0 1 (dk_at dksX2_clerks_0 2 rfl rfl)
theorem dX2_clerks_5 : decode cX2_clerks 5 = .ok (.iload_n 1, 1) := dk_27 (dk_at dksX2_clerks_0 5 rfl rfl)
theorem dX2_clerks_6 : decode cX2_clerks 6 = .ok (.invokestatic 136, 3) := dk_184 0 136 (dk_at dksX2_clerks_0 6 rfl rfl)
theorem dX2_clerks_9 : decode cX2_clerks 9 = .ok (.ifCond .eq 54, 3) := dk_153 0 54 (dk_at dksX2_clerks_0 9 rfl rfl)
theorem dX2_clerks_12 : decode cX2_clerks 12 = .ok (.iload_n 3, 1) := dk_29 (dk_at dksX2_clerks_0 12 rfl rfl)
theorem dX2_clerks_13 : decode cX2_clerks 13 = .ok (.i2l, 1) := dk_133 (dk_at dksX2_clerks_0 13 rfl rfl)
theorem dX2_clerks_14 : decode cX2_clerks 14 = .ok (.lconst 1, 1) := dk_10 (dk_at dksX2_clerks_0 14 rfl rfl)
theorem dX2_clerks_15 : decode cX2_clerks 15 = .ok (.ldc2_w 269, 3) := dk_20 1 13 (dk_at dksX2_clerks_0 15 rfl rfl)
theorem dX2_clerks_18 : decode cX2_clerks 18 = .ok (.invokestatic 132, 3) := dk_184 0 132 (dk_at dksX2_clerks_0 18 rfl rfl)
theorem dX2_clerks_21 : decode cX2_clerks 21 = .ok (.ifCond .eq 42, 3) := dk_153 0 42 (dk_at dksX2_clerks_0 21 rfl rfl)
theorem dX2_clerks_24 : decode cX2_clerks 24 = .ok (.iload 4, 2) := dk_21 4 (dk_at dksX2_clerks_1 0 rfl rfl)
theorem dX2_clerks_26 : decode cX2_clerks 26 = .ok (.i2l, 1) := dk_133 (dk_at dksX2_clerks_1 2 rfl rfl)
theorem dX2_clerks_27 : decode cX2_clerks 27 = .ok (.lconst 1, 1) := dk_10 (dk_at dksX2_clerks_1 3 rfl rfl)
theorem dX2_clerks_28 : decode cX2_clerks 28 = .ok (.ldc2_w 328, 3) := dk_20 1 72 (dk_at dksX2_clerks_1 4 rfl rfl)
theorem dX2_clerks_31 : decode cX2_clerks 31 = .ok (.invokestatic 132, 3) := dk_184 0 132 (dk_at dksX2_clerks_1 7 rfl rfl)
theorem dX2_clerks_34 : decode cX2_clerks 34 = .ok (.ifCond .eq 29, 3) := dk_153 0 29 (dk_at dksX2_clerks_1 10 rfl rfl)
theorem dX2_clerks_37 : decode cX2_clerks 37 = .ok (.iload 5, 2) := dk_21 5 (dk_at dksX2_clerks_1 13 rfl rfl)
theorem dX2_clerks_39 : decode cX2_clerks 39 = .ok (.i2l, 1) := dk_133 (dk_at dksX2_clerks_1 15 rfl rfl)
theorem dX2_clerks_40 : decode cX2_clerks 40 = .ok (.lconst 1, 1) := dk_10 (dk_at dksX2_clerks_1 16 rfl rfl)
theorem dX2_clerks_41 : decode cX2_clerks 41 = .ok (.ldc2_w 147, 3) := dk_20 0 147 (dk_at dksX2_clerks_1 17 rfl rfl)
theorem dX2_clerks_44 : decode cX2_clerks 44 = .ok (.invokestatic 132, 3) := dk_184 0 132 (dk_at dksX2_clerks_1 20 rfl rfl)
theorem dX2_clerks_47 : decode cX2_clerks 47 = .ok (.ifCond .eq 16, 3) := dk_153 0 16 (dk_at dksX2_clerks_2 0 rfl rfl)
theorem dX2_clerks_50 : decode cX2_clerks 50 = .ok (.iload 6, 2) := dk_21 6 (dk_at dksX2_clerks_2 3 rfl rfl)
theorem dX2_clerks_52 : decode cX2_clerks 52 = .ok (.i2l, 1) := dk_133 (dk_at dksX2_clerks_2 5 rfl rfl)
theorem dX2_clerks_53 : decode cX2_clerks 53 = .ok (.lconst 0, 1) := dk_9 (dk_at dksX2_clerks_2 6 rfl rfl)
theorem dX2_clerks_54 : decode cX2_clerks 54 = .ok (.ldc2_w 293, 3) := dk_20 1 37 (dk_at dksX2_clerks_2 7 rfl rfl)
theorem dX2_clerks_57 : decode cX2_clerks 57 = .ok (.invokestatic 132, 3) := dk_184 0 132 (dk_at dksX2_clerks_2 10 rfl rfl)
theorem dX2_clerks_60 : decode cX2_clerks 60 = .ok (.ifCond .ne 6, 3) := dk_154 0 6 (dk_at dksX2_clerks_2 13 rfl rfl)
theorem dX2_clerks_63 : decode cX2_clerks 63 = .ok (.ldc 142, 2) := dk_18 142 (dk_at dksX2_clerks_2 16 rfl rfl)
theorem dX2_clerks_65 : decode cX2_clerks 65 = .ok (.ireturn, 1) := dk_172 (dk_at dksX2_clerks_2 18 rfl rfl)
theorem dX2_clerks_66 : decode cX2_clerks 66 = .ok (.aload_n 0, 1) := dk_42 (dk_at dksX2_clerks_2 19 rfl rfl)
theorem dX2_clerks_67 : decode cX2_clerks 67 = .ok (.iload_n 1, 1) := dk_27 (dk_at dksX2_clerks_2 20 rfl rfl)
theorem dX2_clerks_68 : decode cX2_clerks 68 = .ok (.iload_n 2, 1) := dk_28 (dk_at dksX2_clerks_2 21 rfl rfl)
theorem dX2_clerks_69 : decode cX2_clerks 69 = .ok (.iconst 2, 1) := dk_5 (dk_at dksX2_clerks_2 22 rfl rfl)
theorem dX2_clerks_70 : decode cX2_clerks 70 = .ok (.iload_n 3, 1) := dk_29 (dk_at dksX2_clerks_2 23 rfl rfl)
theorem dX2_clerks_71 : decode cX2_clerks 71 = .ok (.imul, 1) := dk_104 (dk_at dksX2_clerks_3 0 rfl rfl)
theorem dX2_clerks_72 : decode cX2_clerks 72 = .ok (.invokevirtual 290, 3) := dk_182 1 34 (dk_at dksX2_clerks_3 1 rfl rfl)
theorem dX2_clerks_75 : decode cX2_clerks 75 = .ok (.istore 7, 2) := dk_54 7 (dk_at dksX2_clerks_3 4 rfl rfl)
theorem dX2_clerks_77 : decode cX2_clerks 77 = .ok (.iload 7, 2) := dk_21 7 (dk_at dksX2_clerks_3 6 rfl rfl)
theorem dX2_clerks_79 : decode cX2_clerks 79 = .ok (.ifCond .ge 6, 3) := dk_156 0 6 (dk_at dksX2_clerks_3 8 rfl rfl)
theorem dX2_clerks_82 : decode cX2_clerks 82 = .ok (.iload 7, 2) := dk_21 7 (dk_at dksX2_clerks_3 11 rfl rfl)
theorem dX2_clerks_84 : decode cX2_clerks 84 = .ok (.ireturn, 1) := dk_172 (dk_at dksX2_clerks_3 13 rfl rfl)
theorem dX2_clerks_85 : decode cX2_clerks 85 = .ok (.bipush 64, 2) := dk_16 64 (dk_at dksX2_clerks_3 14 rfl rfl)
theorem dX2_clerks_87 : decode cX2_clerks 87 = .ok (.iload_n 1, 1) := dk_27 (dk_at dksX2_clerks_3 16 rfl rfl)
theorem dX2_clerks_88 : decode cX2_clerks 88 = .ok (.imul, 1) := dk_104 (dk_at dksX2_clerks_3 17 rfl rfl)
theorem dX2_clerks_89 : decode cX2_clerks 89 = .ok (.iload_n 2, 1) := dk_28 (dk_at dksX2_clerks_3 18 rfl rfl)
theorem dX2_clerks_90 : decode cX2_clerks 90 = .ok (.iadd, 1) := dk_96 (dk_at dksX2_clerks_3 19 rfl rfl)
theorem dX2_clerks_91 : decode cX2_clerks 91 = .ok (.istore 8, 2) := dk_54 8 (dk_at dksX2_clerks_3 20 rfl rfl)
theorem dX2_clerks_93 : decode cX2_clerks 93 = .ok (.iconst 0, 1) := dk_3 (dk_at dksX2_clerks_3 22 rfl rfl)
theorem dX2_clerks_94 : decode cX2_clerks 94 = .ok (.istore 9, 2) := dk_54 9 (dk_at dksX2_clerks_4 0 rfl rfl)
theorem dX2_clerks_96 : decode cX2_clerks 96 = .ok (.iload 9, 2) := dk_21 9 (dk_at dksX2_clerks_4 2 rfl rfl)
theorem dX2_clerks_98 : decode cX2_clerks 98 = .ok (.iload_n 3, 1) := dk_29 (dk_at dksX2_clerks_4 4 rfl rfl)
theorem dX2_clerks_99 : decode cX2_clerks 99 = .ok (.if_icmp .ge 55, 3) := dk_162 0 55 (dk_at dksX2_clerks_4 5 rfl rfl)
theorem dX2_clerks_102 : decode cX2_clerks 102 = .ok (.aload_n 0, 1) := dk_42 (dk_at dksX2_clerks_4 8 rfl rfl)
theorem dX2_clerks_103 : decode cX2_clerks 103 = .ok (.getfield 24, 3) := dk_180 0 24 (dk_at dksX2_clerks_4 9 rfl rfl)
theorem dX2_clerks_106 : decode cX2_clerks 106 = .ok (.iload 8, 2) := dk_21 8 (dk_at dksX2_clerks_4 12 rfl rfl)
theorem dX2_clerks_108 : decode cX2_clerks 108 = .ok (.iconst 2, 1) := dk_5 (dk_at dksX2_clerks_4 14 rfl rfl)
theorem dX2_clerks_109 : decode cX2_clerks 109 = .ok (.iload 9, 2) := dk_21 9 (dk_at dksX2_clerks_4 15 rfl rfl)
theorem dX2_clerks_111 : decode cX2_clerks 111 = .ok (.imul, 1) := dk_104 (dk_at dksX2_clerks_4 17 rfl rfl)
theorem dX2_clerks_112 : decode cX2_clerks 112 = .ok (.iadd, 1) := dk_96 (dk_at dksX2_clerks_4 18 rfl rfl)
theorem dX2_clerks_113 : decode cX2_clerks 113 = .ok (.iaload, 1) := dk_46 (dk_at dksX2_clerks_4 19 rfl rfl)
theorem dX2_clerks_114 : decode cX2_clerks 114 = .ok (.i2l, 1) := dk_133 (dk_at dksX2_clerks_4 20 rfl rfl)
theorem dX2_clerks_115 : decode cX2_clerks 115 = .ok (.lconst 0, 1) := dk_9 (dk_at dksX2_clerks_4 21 rfl rfl)
theorem dX2_clerks_116 : decode cX2_clerks 116 = .ok (.ldc2_w 336, 3) := dk_20 1 80 (dk_at dksX2_clerks_5 0 rfl rfl)
theorem dX2_clerks_119 : decode cX2_clerks 119 = .ok (.invokestatic 132, 3) := dk_184 0 132 (dk_at dksX2_clerks_5 3 rfl rfl)
theorem dX2_clerks_122 : decode cX2_clerks 122 = .ok (.ifCond .eq 23, 3) := dk_153 0 23 (dk_at dksX2_clerks_5 6 rfl rfl)
theorem dX2_clerks_125 : decode cX2_clerks 125 = .ok (.aload_n 0, 1) := dk_42 (dk_at dksX2_clerks_5 9 rfl rfl)
theorem dX2_clerks_126 : decode cX2_clerks 126 = .ok (.getfield 24, 3) := dk_180 0 24 (dk_at dksX2_clerks_5 10 rfl rfl)
theorem dX2_clerks_129 : decode cX2_clerks 129 = .ok (.iload 8, 2) := dk_21 8 (dk_at dksX2_clerks_5 13 rfl rfl)
theorem dX2_clerks_131 : decode cX2_clerks 131 = .ok (.iconst 2, 1) := dk_5 (dk_at dksX2_clerks_5 15 rfl rfl)
theorem dX2_clerks_132 : decode cX2_clerks 132 = .ok (.iload 9, 2) := dk_21 9 (dk_at dksX2_clerks_5 16 rfl rfl)
theorem dX2_clerks_134 : decode cX2_clerks 134 = .ok (.imul, 1) := dk_104 (dk_at dksX2_clerks_5 18 rfl rfl)
theorem dX2_clerks_135 : decode cX2_clerks 135 = .ok (.iadd, 1) := dk_96 (dk_at dksX2_clerks_5 19 rfl rfl)
theorem dX2_clerks_136 : decode cX2_clerks 136 = .ok (.iconst 1, 1) := dk_4 (dk_at dksX2_clerks_5 20 rfl rfl)
theorem dX2_clerks_137 : decode cX2_clerks 137 = .ok (.iadd, 1) := dk_96 (dk_at dksX2_clerks_5 21 rfl rfl)
theorem dX2_clerks_138 : decode cX2_clerks 138 = .ok (.iaload, 1) := dk_46 (dk_at dksX2_clerks_5 22 rfl rfl)
theorem dX2_clerks_139 : decode cX2_clerks 139 = .ok (.invokestatic 156, 3) := dk_184 0 156 (dk_at dksX2_clerks_6 0 rfl rfl)
theorem dX2_clerks_142 : decode cX2_clerks 142 = .ok (.ifCond .ne 6, 3) := dk_154 0 6 (dk_at dksX2_clerks_6 3 rfl rfl)
theorem dX2_clerks_145 : decode cX2_clerks 145 = .ok (.ldc 142, 2) := dk_18 142 (dk_at dksX2_clerks_6 6 rfl rfl)
theorem dX2_clerks_147 : decode cX2_clerks 147 = .ok (.ireturn, 1) := dk_172 (dk_at dksX2_clerks_6 8 rfl rfl)
theorem dX2_clerks_148 : decode cX2_clerks 148 = .ok (.iinc 9 1, 3) := dk_132 9 1 (dk_at dksX2_clerks_6 9 rfl rfl)
theorem dX2_clerks_151 : decode cX2_clerks 151 = .ok (.goto (-55), 3) := dk_167 255 201 (dk_at dksX2_clerks_6 12 rfl rfl)
theorem dX2_clerks_154 : decode cX2_clerks 154 = .ok (.aload_n 0, 1) := dk_42 (dk_at dksX2_clerks_6 15 rfl rfl)
theorem dX2_clerks_155 : decode cX2_clerks 155 = .ok (.iconst 0, 1) := dk_3 (dk_at dksX2_clerks_6 16 rfl rfl)
theorem dX2_clerks_156 : decode cX2_clerks 156 = .ok (.putfield 7, 3) := dk_181 0 7 (dk_at dksX2_clerks_6 17 rfl rfl)
theorem dX2_clerks_159 : decode cX2_clerks 159 = .ok (.iconst 0, 1) := dk_3 (dk_at dksX2_clerks_6 20 rfl rfl)
theorem dX2_clerks_160 : decode cX2_clerks 160 = .ok (.istore 9, 2) := dk_54 9 (dk_at dksX2_clerks_6 21 rfl rfl)
theorem dX2_clerks_162 : decode cX2_clerks 162 = .ok (.iload 9, 2) := dk_21 9 (dk_at dksX2_clerks_7 0 rfl rfl)
theorem dX2_clerks_164 : decode cX2_clerks 164 = .ok (.iconst 4, 1) := dk_7 (dk_at dksX2_clerks_7 2 rfl rfl)
theorem dX2_clerks_165 : decode cX2_clerks 165 = .ok (.if_icmp .ge 119, 3) := dk_162 0 119 (dk_at dksX2_clerks_7 3 rfl rfl)
theorem dX2_clerks_168 : decode cX2_clerks 168 = .ok (.iconst 0, 1) := dk_3 (dk_at dksX2_clerks_7 6 rfl rfl)
theorem dX2_clerks_169 : decode cX2_clerks 169 = .ok (.istore 10, 2) := dk_54 10 (dk_at dksX2_clerks_7 7 rfl rfl)
theorem dX2_clerks_171 : decode cX2_clerks 171 = .ok (.iconst 0, 1) := dk_3 (dk_at dksX2_clerks_7 9 rfl rfl)
theorem dX2_clerks_172 : decode cX2_clerks 172 = .ok (.istore 11, 2) := dk_54 11 (dk_at dksX2_clerks_7 10 rfl rfl)
theorem dX2_clerks_174 : decode cX2_clerks 174 = .ok (.iload 11, 2) := dk_21 11 (dk_at dksX2_clerks_7 12 rfl rfl)
theorem dX2_clerks_176 : decode cX2_clerks 176 = .ok (.iload_n 3, 1) := dk_29 (dk_at dksX2_clerks_7 14 rfl rfl)
theorem dX2_clerks_177 : decode cX2_clerks 177 = .ok (.if_icmp .ge 38, 3) := dk_162 0 38 (dk_at dksX2_clerks_7 15 rfl rfl)
theorem dX2_clerks_180 : decode cX2_clerks 180 = .ok (.iload 10, 2) := dk_21 10 (dk_at dksX2_clerks_7 18 rfl rfl)
theorem dX2_clerks_182 : decode cX2_clerks 182 = .ok (.ifCond .ne 20, 3) := dk_154 0 20 (dk_at dksX2_clerks_7 20 rfl rfl)
theorem dX2_clerks_185 : decode cX2_clerks 185 = .ok (.aload_n 0, 1) := dk_42 (dk_at dksX2_clerks_7 23 rfl rfl)
theorem dX2_clerks_186 : decode cX2_clerks 186 = .ok (.getfield 24, 3) := dk_180 0 24 (dk_at dksX2_clerks_8 0 rfl rfl)
theorem dX2_clerks_189 : decode cX2_clerks 189 = .ok (.iload 8, 2) := dk_21 8 (dk_at dksX2_clerks_8 3 rfl rfl)
theorem dX2_clerks_191 : decode cX2_clerks 191 = .ok (.iconst 2, 1) := dk_5 (dk_at dksX2_clerks_8 5 rfl rfl)
theorem dX2_clerks_192 : decode cX2_clerks 192 = .ok (.iload 11, 2) := dk_21 11 (dk_at dksX2_clerks_8 6 rfl rfl)
theorem dX2_clerks_194 : decode cX2_clerks 194 = .ok (.imul, 1) := dk_104 (dk_at dksX2_clerks_8 8 rfl rfl)
theorem dX2_clerks_195 : decode cX2_clerks 195 = .ok (.iadd, 1) := dk_96 (dk_at dksX2_clerks_8 9 rfl rfl)
theorem dX2_clerks_196 : decode cX2_clerks 196 = .ok (.iaload, 1) := dk_46 (dk_at dksX2_clerks_8 10 rfl rfl)
theorem dX2_clerks_197 : decode cX2_clerks 197 = .ok (.iload 9, 2) := dk_21 9 (dk_at dksX2_clerks_8 11 rfl rfl)
theorem dX2_clerks_199 : decode cX2_clerks 199 = .ok (.if_icmp .ne 7, 3) := dk_160 0 7 (dk_at dksX2_clerks_8 13 rfl rfl)
theorem dX2_clerks_202 : decode cX2_clerks 202 = .ok (.iconst 1, 1) := dk_4 (dk_at dksX2_clerks_8 16 rfl rfl)
theorem dX2_clerks_203 : decode cX2_clerks 203 = .ok (.goto 4, 3) := dk_167 0 4 (dk_at dksX2_clerks_8 17 rfl rfl)
theorem dX2_clerks_206 : decode cX2_clerks 206 = .ok (.iconst 0, 1) := dk_3 (dk_at dksX2_clerks_8 20 rfl rfl)
theorem dX2_clerks_207 : decode cX2_clerks 207 = .ok (.istore 10, 2) := dk_54 10 (dk_at dksX2_clerks_8 21 rfl rfl)
theorem dX2_clerks_209 : decode cX2_clerks 209 = .ok (.iinc 11 1, 3) := dk_132 11 1 (dk_at dksX2_clerks_9 0 rfl rfl)
theorem dX2_clerks_212 : decode cX2_clerks 212 = .ok (.goto (-38), 3) := dk_167 255 218 (dk_at dksX2_clerks_9 3 rfl rfl)
theorem dX2_clerks_215 : decode cX2_clerks 215 = .ok (.aload_n 0, 1) := dk_42 (dk_at dksX2_clerks_9 6 rfl rfl)
theorem dX2_clerks_216 : decode cX2_clerks 216 = .ok (.getfield 96, 3) := dk_180 0 96 (dk_at dksX2_clerks_9 7 rfl rfl)
theorem dX2_clerks_219 : decode cX2_clerks 219 = .ok (.bipush 9, 2) := dk_16 9 (dk_at dksX2_clerks_9 10 rfl rfl)
theorem dX2_clerks_221 : decode cX2_clerks 221 = .ok (.iload 9, 2) := dk_21 9 (dk_at dksX2_clerks_9 12 rfl rfl)
theorem dX2_clerks_223 : decode cX2_clerks 223 = .ok (.imul, 1) := dk_104 (dk_at dksX2_clerks_9 14 rfl rfl)
theorem dX2_clerks_224 : decode cX2_clerks 224 = .ok (.iload 10, 2) := dk_21 10 (dk_at dksX2_clerks_9 15 rfl rfl)
theorem dX2_clerks_226 : decode cX2_clerks 226 = .ok (.ifCond .eq 8, 3) := dk_153 0 8 (dk_at dksX2_clerks_9 17 rfl rfl)
theorem dX2_clerks_229 : decode cX2_clerks 229 = .ok (.ldc 129, 2) := dk_18 129 (dk_at dksX2_clerks_9 20 rfl rfl)
theorem dX2_clerks_231 : decode cX2_clerks 231 = .ok (.goto 4, 3) := dk_167 0 4 (dk_at dksX2_clerks_10 0 rfl rfl)
theorem dX2_clerks_234 : decode cX2_clerks 234 = .ok (.iconst 0, 1) := dk_3 (dk_at dksX2_clerks_10 3 rfl rfl)
theorem dX2_clerks_235 : decode cX2_clerks 235 = .ok (.iastore, 1) := dk_79 (dk_at dksX2_clerks_10 4 rfl rfl)
theorem dX2_clerks_236 : decode cX2_clerks 236 = .ok (.iconst 1, 1) := dk_4 (dk_at dksX2_clerks_10 5 rfl rfl)
theorem dX2_clerks_237 : decode cX2_clerks 237 = .ok (.istore 11, 2) := dk_54 11 (dk_at dksX2_clerks_10 6 rfl rfl)
theorem dX2_clerks_239 : decode cX2_clerks 239 = .ok (.iload 11, 2) := dk_21 11 (dk_at dksX2_clerks_10 8 rfl rfl)
theorem dX2_clerks_241 : decode cX2_clerks 241 = .ok (.iload 5, 2) := dk_21 5 (dk_at dksX2_clerks_10 10 rfl rfl)
theorem dX2_clerks_243 : decode cX2_clerks 243 = .ok (.if_icmp .gt 35, 3) := dk_163 0 35 (dk_at dksX2_clerks_10 12 rfl rfl)
theorem dX2_clerks_246 : decode cX2_clerks 246 = .ok (.aload_n 0, 1) := dk_42 (dk_at dksX2_clerks_10 15 rfl rfl)
theorem dX2_clerks_247 : decode cX2_clerks 247 = .ok (.getfield 96, 3) := dk_180 0 96 (dk_at dksX2_clerks_10 16 rfl rfl)
theorem dX2_clerks_250 : decode cX2_clerks 250 = .ok (.bipush 9, 2) := dk_16 9 (dk_at dksX2_clerks_10 19 rfl rfl)
theorem dX2_clerks_252 : decode cX2_clerks 252 = .ok (.iload 9, 2) := dk_21 9 (dk_at dksX2_clerks_10 21 rfl rfl)
theorem dX2_clerks_254 : decode cX2_clerks 254 = .ok (.imul, 1) := dk_104 (dk_at dksX2_clerks_10 23 rfl rfl)
theorem dX2_clerks_255 : decode cX2_clerks 255 = .ok (.iload 11, 2) := dk_21 11 (dk_at dksX2_clerks_11 0 rfl rfl)
theorem dX2_clerks_257 : decode cX2_clerks 257 = .ok (.iadd, 1) := dk_96 (dk_at dksX2_clerks_11 2 rfl rfl)
theorem dX2_clerks_258 : decode cX2_clerks 258 = .ok (.aload_n 0, 1) := dk_42 (dk_at dksX2_clerks_11 3 rfl rfl)
theorem dX2_clerks_259 : decode cX2_clerks 259 = .ok (.iload 8, 2) := dk_21 8 (dk_at dksX2_clerks_11 4 rfl rfl)
theorem dX2_clerks_261 : decode cX2_clerks 261 = .ok (.iload_n 3, 1) := dk_29 (dk_at dksX2_clerks_11 6 rfl rfl)
theorem dX2_clerks_262 : decode cX2_clerks 262 = .ok (.iload 9, 2) := dk_21 9 (dk_at dksX2_clerks_11 7 rfl rfl)
theorem dX2_clerks_264 : decode cX2_clerks 264 = .ok (.iload 4, 2) := dk_21 4 (dk_at dksX2_clerks_11 9 rfl rfl)
theorem dX2_clerks_266 : decode cX2_clerks 266 = .ok (.iload 11, 2) := dk_21 11 (dk_at dksX2_clerks_11 11 rfl rfl)
theorem dX2_clerks_268 : decode cX2_clerks 268 = .ok (.invokevirtual 359, 3) := dk_182 1 103 (dk_at dksX2_clerks_11 13 rfl rfl)
theorem dX2_clerks_271 : decode cX2_clerks 271 = .ok (.iastore, 1) := dk_79 (dk_at dksX2_clerks_11 16 rfl rfl)
theorem dX2_clerks_272 : decode cX2_clerks 272 = .ok (.iinc 11 1, 3) := dk_132 11 1 (dk_at dksX2_clerks_11 17 rfl rfl)
theorem dX2_clerks_275 : decode cX2_clerks 275 = .ok (.goto (-36), 3) := dk_167 255 220 (dk_at dksX2_clerks_11 20 rfl rfl)
theorem dX2_clerks_278 : decode cX2_clerks 278 = .ok (.iinc 9 1, 3) := dk_132 9 1 (dk_at dksX2_clerks_12 0 rfl rfl)
theorem dX2_clerks_281 : decode cX2_clerks 281 = .ok (.goto (-119), 3) := dk_167 255 137 (dk_at dksX2_clerks_12 3 rfl rfl)
theorem dX2_clerks_284 : decode cX2_clerks 284 = .ok (.ldc 129, 2) := dk_18 129 (dk_at dksX2_clerks_12 6 rfl rfl)
theorem dX2_clerks_286 : decode cX2_clerks 286 = .ok (.istore 9, 2) := dk_54 9 (dk_at dksX2_clerks_12 8 rfl rfl)
theorem dX2_clerks_288 : decode cX2_clerks 288 = .ok (.iload 5, 2) := dk_21 5 (dk_at dksX2_clerks_12 10 rfl rfl)
theorem dX2_clerks_290 : decode cX2_clerks 290 = .ok (.istore 10, 2) := dk_54 10 (dk_at dksX2_clerks_12 12 rfl rfl)
theorem dX2_clerks_292 : decode cX2_clerks 292 = .ok (.iload 10, 2) := dk_21 10 (dk_at dksX2_clerks_12 14 rfl rfl)
theorem dX2_clerks_294 : decode cX2_clerks 294 = .ok (.ifCond .lt 158, 3) := dk_155 0 158 (dk_at dksX2_clerks_12 16 rfl rfl)
theorem dX2_clerks_297 : decode cX2_clerks 297 = .ok (.iload 5, 2) := dk_21 5 (dk_at dksX2_clerks_12 19 rfl rfl)
theorem dX2_clerks_299 : decode cX2_clerks 299 = .ok (.iload 10, 2) := dk_21 10 (dk_at dksX2_clerks_12 21 rfl rfl)
theorem dX2_clerks_301 : decode cX2_clerks 301 = .ok (.isub, 1) := dk_100 (dk_at dksX2_clerks_12 23 rfl rfl)
theorem dX2_clerks_302 : decode cX2_clerks 302 = .ok (.istore 11, 2) := dk_54 11 (dk_at dksX2_clerks_13 0 rfl rfl)
theorem dX2_clerks_304 : decode cX2_clerks 304 = .ok (.iload 11, 2) := dk_21 11 (dk_at dksX2_clerks_13 2 rfl rfl)
theorem dX2_clerks_306 : decode cX2_clerks 306 = .ok (.ifCond .lt 140, 3) := dk_155 0 140 (dk_at dksX2_clerks_13 4 rfl rfl)
theorem dX2_clerks_309 : decode cX2_clerks 309 = .ok (.iload 5, 2) := dk_21 5 (dk_at dksX2_clerks_13 7 rfl rfl)
theorem dX2_clerks_311 : decode cX2_clerks 311 = .ok (.iload 10, 2) := dk_21 10 (dk_at dksX2_clerks_13 9 rfl rfl)
theorem dX2_clerks_313 : decode cX2_clerks 313 = .ok (.isub, 1) := dk_100 (dk_at dksX2_clerks_13 11 rfl rfl)
theorem dX2_clerks_314 : decode cX2_clerks 314 = .ok (.iload 11, 2) := dk_21 11 (dk_at dksX2_clerks_13 12 rfl rfl)
theorem dX2_clerks_316 : decode cX2_clerks 316 = .ok (.isub, 1) := dk_100 (dk_at dksX2_clerks_13 14 rfl rfl)
theorem dX2_clerks_317 : decode cX2_clerks 317 = .ok (.istore 12, 2) := dk_54 12 (dk_at dksX2_clerks_13 15 rfl rfl)
theorem dX2_clerks_319 : decode cX2_clerks 319 = .ok (.iload 12, 2) := dk_21 12 (dk_at dksX2_clerks_13 17 rfl rfl)
theorem dX2_clerks_321 : decode cX2_clerks 321 = .ok (.ifCond .lt 119, 3) := dk_155 0 119 (dk_at dksX2_clerks_13 19 rfl rfl)
theorem dX2_clerks_324 : decode cX2_clerks 324 = .ok (.iload 5, 2) := dk_21 5 (dk_at dksX2_clerks_13 22 rfl rfl)
theorem dX2_clerks_326 : decode cX2_clerks 326 = .ok (.iload 10, 2) := dk_21 10 (dk_at dksX2_clerks_14 0 rfl rfl)
theorem dX2_clerks_328 : decode cX2_clerks 328 = .ok (.isub, 1) := dk_100 (dk_at dksX2_clerks_14 2 rfl rfl)
theorem dX2_clerks_329 : decode cX2_clerks 329 = .ok (.iload 11, 2) := dk_21 11 (dk_at dksX2_clerks_14 3 rfl rfl)
theorem dX2_clerks_331 : decode cX2_clerks 331 = .ok (.isub, 1) := dk_100 (dk_at dksX2_clerks_14 5 rfl rfl)
theorem dX2_clerks_332 : decode cX2_clerks 332 = .ok (.iload 12, 2) := dk_21 12 (dk_at dksX2_clerks_14 6 rfl rfl)
theorem dX2_clerks_334 : decode cX2_clerks 334 = .ok (.isub, 1) := dk_100 (dk_at dksX2_clerks_14 8 rfl rfl)
theorem dX2_clerks_335 : decode cX2_clerks 335 = .ok (.istore 13, 2) := dk_54 13 (dk_at dksX2_clerks_14 9 rfl rfl)
theorem dX2_clerks_337 : decode cX2_clerks 337 = .ok (.aload_n 0, 1) := dk_42 (dk_at dksX2_clerks_14 11 rfl rfl)
theorem dX2_clerks_338 : decode cX2_clerks 338 = .ok (.getfield 96, 3) := dk_180 0 96 (dk_at dksX2_clerks_14 12 rfl rfl)
theorem dX2_clerks_341 : decode cX2_clerks 341 = .ok (.iload 10, 2) := dk_21 10 (dk_at dksX2_clerks_14 15 rfl rfl)
theorem dX2_clerks_343 : decode cX2_clerks 343 = .ok (.iaload, 1) := dk_46 (dk_at dksX2_clerks_14 17 rfl rfl)
theorem dX2_clerks_344 : decode cX2_clerks 344 = .ok (.aload_n 0, 1) := dk_42 (dk_at dksX2_clerks_14 18 rfl rfl)
theorem dX2_clerks_345 : decode cX2_clerks 345 = .ok (.getfield 96, 3) := dk_180 0 96 (dk_at dksX2_clerks_14 19 rfl rfl)
theorem dX2_clerks_348 : decode cX2_clerks 348 = .ok (.bipush 9, 2) := dk_16 9 (dk_at dksX2_clerks_14 22 rfl rfl)
theorem dX2_clerks_350 : decode cX2_clerks 350 = .ok (.iload 11, 2) := dk_21 11 (dk_at dksX2_clerks_15 0 rfl rfl)
theorem dX2_clerks_352 : decode cX2_clerks 352 = .ok (.iadd, 1) := dk_96 (dk_at dksX2_clerks_15 2 rfl rfl)
theorem dX2_clerks_353 : decode cX2_clerks 353 = .ok (.iaload, 1) := dk_46 (dk_at dksX2_clerks_15 3 rfl rfl)
theorem dX2_clerks_354 : decode cX2_clerks 354 = .ok (.iadd, 1) := dk_96 (dk_at dksX2_clerks_15 4 rfl rfl)
theorem dX2_clerks_355 : decode cX2_clerks 355 = .ok (.aload_n 0, 1) := dk_42 (dk_at dksX2_clerks_15 5 rfl rfl)
theorem dX2_clerks_356 : decode cX2_clerks 356 = .ok (.getfield 96, 3) := dk_180 0 96 (dk_at dksX2_clerks_15 6 rfl rfl)
theorem dX2_clerks_359 : decode cX2_clerks 359 = .ok (.bipush 18, 2) := dk_16 18 (dk_at dksX2_clerks_15 9 rfl rfl)
theorem dX2_clerks_361 : decode cX2_clerks 361 = .ok (.iload 12, 2) := dk_21 12 (dk_at dksX2_clerks_15 11 rfl rfl)
theorem dX2_clerks_363 : decode cX2_clerks 363 = .ok (.iadd, 1) := dk_96 (dk_at dksX2_clerks_15 13 rfl rfl)
theorem dX2_clerks_364 : decode cX2_clerks 364 = .ok (.iaload, 1) := dk_46 (dk_at dksX2_clerks_15 14 rfl rfl)
theorem dX2_clerks_365 : decode cX2_clerks 365 = .ok (.iadd, 1) := dk_96 (dk_at dksX2_clerks_15 15 rfl rfl)
theorem dX2_clerks_366 : decode cX2_clerks 366 = .ok (.aload_n 0, 1) := dk_42 (dk_at dksX2_clerks_15 16 rfl rfl)
theorem dX2_clerks_367 : decode cX2_clerks 367 = .ok (.getfield 96, 3) := dk_180 0 96 (dk_at dksX2_clerks_15 17 rfl rfl)
theorem dX2_clerks_370 : decode cX2_clerks 370 = .ok (.bipush 27, 2) := dk_16 27 (dk_at dksX2_clerks_15 20 rfl rfl)
theorem dX2_clerks_372 : decode cX2_clerks 372 = .ok (.iload 13, 2) := dk_21 13 (dk_at dksX2_clerks_15 22 rfl rfl)
theorem dX2_clerks_374 : decode cX2_clerks 374 = .ok (.iadd, 1) := dk_96 (dk_at dksX2_clerks_16 0 rfl rfl)
theorem dX2_clerks_375 : decode cX2_clerks 375 = .ok (.iaload, 1) := dk_46 (dk_at dksX2_clerks_16 1 rfl rfl)
theorem dX2_clerks_376 : decode cX2_clerks 376 = .ok (.iadd, 1) := dk_96 (dk_at dksX2_clerks_16 2 rfl rfl)
theorem dX2_clerks_377 : decode cX2_clerks 377 = .ok (.istore 14, 2) := dk_54 14 (dk_at dksX2_clerks_16 3 rfl rfl)
theorem dX2_clerks_379 : decode cX2_clerks 379 = .ok (.iload 14, 2) := dk_21 14 (dk_at dksX2_clerks_16 5 rfl rfl)
theorem dX2_clerks_381 : decode cX2_clerks 381 = .ok (.ifCond .lt 53, 3) := dk_155 0 53 (dk_at dksX2_clerks_16 7 rfl rfl)
theorem dX2_clerks_384 : decode cX2_clerks 384 = .ok (.iload 9, 2) := dk_21 9 (dk_at dksX2_clerks_16 10 rfl rfl)
theorem dX2_clerks_386 : decode cX2_clerks 386 = .ok (.ldc 129, 2) := dk_18 129 (dk_at dksX2_clerks_16 12 rfl rfl)
theorem dX2_clerks_388 : decode cX2_clerks 388 = .ok (.if_icmp .eq 10, 3) := dk_159 0 10 (dk_at dksX2_clerks_16 14 rfl rfl)
theorem dX2_clerks_391 : decode cX2_clerks 391 = .ok (.iload 14, 2) := dk_21 14 (dk_at dksX2_clerks_16 17 rfl rfl)
theorem dX2_clerks_393 : decode cX2_clerks 393 = .ok (.iload 9, 2) := dk_21 9 (dk_at dksX2_clerks_16 19 rfl rfl)
theorem dX2_clerks_395 : decode cX2_clerks 395 = .ok (.if_icmp .ge 39, 3) := dk_162 0 39 (dk_at dksX2_clerks_16 21 rfl rfl)
theorem dX2_clerks_398 : decode cX2_clerks 398 = .ok (.iload 14, 2) := dk_21 14 (dk_at dksX2_clerks_17 0 rfl rfl)
theorem dX2_clerks_400 : decode cX2_clerks 400 = .ok (.istore 9, 2) := dk_54 9 (dk_at dksX2_clerks_17 2 rfl rfl)
theorem dX2_clerks_402 : decode cX2_clerks 402 = .ok (.aload_n 0, 1) := dk_42 (dk_at dksX2_clerks_17 4 rfl rfl)
theorem dX2_clerks_403 : decode cX2_clerks 403 = .ok (.getfield 93, 3) := dk_180 0 93 (dk_at dksX2_clerks_17 5 rfl rfl)
theorem dX2_clerks_406 : decode cX2_clerks 406 = .ok (.iconst 0, 1) := dk_3 (dk_at dksX2_clerks_17 8 rfl rfl)
theorem dX2_clerks_407 : decode cX2_clerks 407 = .ok (.iload 10, 2) := dk_21 10 (dk_at dksX2_clerks_17 9 rfl rfl)
theorem dX2_clerks_409 : decode cX2_clerks 409 = .ok (.iastore, 1) := dk_79 (dk_at dksX2_clerks_17 11 rfl rfl)
theorem dX2_clerks_410 : decode cX2_clerks 410 = .ok (.aload_n 0, 1) := dk_42 (dk_at dksX2_clerks_17 12 rfl rfl)
theorem dX2_clerks_411 : decode cX2_clerks 411 = .ok (.getfield 93, 3) := dk_180 0 93 (dk_at dksX2_clerks_17 13 rfl rfl)
theorem dX2_clerks_414 : decode cX2_clerks 414 = .ok (.iconst 1, 1) := dk_4 (dk_at dksX2_clerks_17 16 rfl rfl)
theorem dX2_clerks_415 : decode cX2_clerks 415 = .ok (.iload 11, 2) := dk_21 11 (dk_at dksX2_clerks_17 17 rfl rfl)
theorem dX2_clerks_417 : decode cX2_clerks 417 = .ok (.iastore, 1) := dk_79 (dk_at dksX2_clerks_17 19 rfl rfl)
theorem dX2_clerks_418 : decode cX2_clerks 418 = .ok (.aload_n 0, 1) := dk_42 (dk_at dksX2_clerks_17 20 rfl rfl)
theorem dX2_clerks_419 : decode cX2_clerks 419 = .ok (.getfield 93, 3) := dk_180 0 93 (dk_at dksX2_clerks_17 21 rfl rfl)
theorem dX2_clerks_422 : decode cX2_clerks 422 = .ok (.iconst 2, 1) := dk_5 (dk_at dksX2_clerks_18 0 rfl rfl)
theorem dX2_clerks_423 : decode cX2_clerks 423 = .ok (.iload 12, 2) := dk_21 12 (dk_at dksX2_clerks_18 1 rfl rfl)
theorem dX2_clerks_425 : decode cX2_clerks 425 = .ok (.iastore, 1) := dk_79 (dk_at dksX2_clerks_18 3 rfl rfl)
theorem dX2_clerks_426 : decode cX2_clerks 426 = .ok (.aload_n 0, 1) := dk_42 (dk_at dksX2_clerks_18 4 rfl rfl)
theorem dX2_clerks_427 : decode cX2_clerks 427 = .ok (.getfield 93, 3) := dk_180 0 93 (dk_at dksX2_clerks_18 5 rfl rfl)
theorem dX2_clerks_430 : decode cX2_clerks 430 = .ok (.iconst 3, 1) := dk_6 (dk_at dksX2_clerks_18 8 rfl rfl)
theorem dX2_clerks_431 : decode cX2_clerks 431 = .ok (.iload 13, 2) := dk_21 13 (dk_at dksX2_clerks_18 9 rfl rfl)
theorem dX2_clerks_433 : decode cX2_clerks 433 = .ok (.iastore, 1) := dk_79 (dk_at dksX2_clerks_18 11 rfl rfl)
theorem dX2_clerks_434 : decode cX2_clerks 434 = .ok (.iinc 12 (-1), 3) := dk_132 12 255 (dk_at dksX2_clerks_18 12 rfl rfl)
theorem dX2_clerks_437 : decode cX2_clerks 437 = .ok (.goto (-118), 3) := dk_167 255 138 (dk_at dksX2_clerks_18 15 rfl rfl)
theorem dX2_clerks_440 : decode cX2_clerks 440 = .ok (.iinc 11 (-1), 3) := dk_132 11 255 (dk_at dksX2_clerks_18 18 rfl rfl)
theorem dX2_clerks_443 : decode cX2_clerks 443 = .ok (.goto (-139), 3) := dk_167 255 117 (dk_at dksX2_clerks_18 21 rfl rfl)
theorem dX2_clerks_446 : decode cX2_clerks 446 = .ok (.iinc 10 (-1), 3) := dk_132 10 255 (dk_at dksX2_clerks_19 0 rfl rfl)
theorem dX2_clerks_449 : decode cX2_clerks 449 = .ok (.goto (-157), 3) := dk_167 255 99 (dk_at dksX2_clerks_19 3 rfl rfl)
theorem dX2_clerks_452 : decode cX2_clerks 452 = .ok (.iload 9, 2) := dk_21 9 (dk_at dksX2_clerks_19 6 rfl rfl)
theorem dX2_clerks_454 : decode cX2_clerks 454 = .ok (.ldc 129, 2) := dk_18 129 (dk_at dksX2_clerks_19 8 rfl rfl)
theorem dX2_clerks_456 : decode cX2_clerks 456 = .ok (.if_icmp .ne 8, 3) := dk_160 0 8 (dk_at dksX2_clerks_19 10 rfl rfl)
theorem dX2_clerks_459 : decode cX2_clerks 459 = .ok (.ldc 129, 2) := dk_18 129 (dk_at dksX2_clerks_19 13 rfl rfl)
theorem dX2_clerks_461 : decode cX2_clerks 461 = .ok (.goto 22, 3) := dk_167 0 22 (dk_at dksX2_clerks_19 15 rfl rfl)
theorem dX2_clerks_464 : decode cX2_clerks 464 = .ok (.iload 6, 2) := dk_21 6 (dk_at dksX2_clerks_19 18 rfl rfl)
theorem dX2_clerks_466 : decode cX2_clerks 466 = .ok (.ifCond .ne 8, 3) := dk_154 0 8 (dk_at dksX2_clerks_19 20 rfl rfl)
theorem dX2_clerks_469 : decode cX2_clerks 469 = .ok (.iload 9, 2) := dk_21 9 (dk_at dksX2_clerks_20 0 rfl rfl)
theorem dX2_clerks_471 : decode cX2_clerks 471 = .ok (.goto 12, 3) := dk_167 0 12 (dk_at dksX2_clerks_20 2 rfl rfl)
theorem dX2_clerks_474 : decode cX2_clerks 474 = .ok (.aload_n 0, 1) := dk_42 (dk_at dksX2_clerks_20 5 rfl rfl)
theorem dX2_clerks_475 : decode cX2_clerks 475 = .ok (.getfield 93, 3) := dk_180 0 93 (dk_at dksX2_clerks_20 6 rfl rfl)
theorem dX2_clerks_478 : decode cX2_clerks 478 = .ok (.iload 6, 2) := dk_21 6 (dk_at dksX2_clerks_20 9 rfl rfl)
theorem dX2_clerks_480 : decode cX2_clerks 480 = .ok (.iconst 1, 1) := dk_4 (dk_at dksX2_clerks_20 11 rfl rfl)
theorem dX2_clerks_481 : decode cX2_clerks 481 = .ok (.isub, 1) := dk_100 (dk_at dksX2_clerks_20 12 rfl rfl)
theorem dX2_clerks_482 : decode cX2_clerks 482 = .ok (.iaload, 1) := dk_46 (dk_at dksX2_clerks_20 13 rfl rfl)
theorem dX2_clerks_483 : decode cX2_clerks 483 = .ok (.ireturn, 1) := dk_172 (dk_at dksX2_clerks_20 14 rfl rfl)
abbrev cX2_waitedAt : ByteArray := prog_17_method_58_code
def yX2_waitedAt : MethodName := ⟨RX2, "waitedAt", "(IIIII)I"⟩
def dkwX2_waitedAt_11 : List UInt8 := [96, 54, 6, 42, 180, 0, 90, 21, 10, 21, 12, 21, 4, 96, 79, 167, 255, 14, 21, 6, 172]
abbrev dktX2_waitedAt_11 : List UInt8 := dkwX2_waitedAt_11 ++ []
def dkwX2_waitedAt_10 : List UInt8 := [164, 0, 8, 21, 11, 167, 0, 10, 42, 180, 0, 90, 21, 10, 46, 54, 12, 21, 6, 21, 12, 21, 11, 100]
abbrev dktX2_waitedAt_10 : List UInt8 := dkwX2_waitedAt_10 ++ dktX2_waitedAt_11
def dkwX2_waitedAt_9 : List UInt8 := [180, 0, 24, 27, 5, 21, 9, 104, 96, 4, 96, 46, 54, 11, 21, 11, 42, 180, 0, 90, 21, 10, 46]
abbrev dktX2_waitedAt_9 : List UInt8 := dkwX2_waitedAt_9 ++ dktX2_waitedAt_10
def dkwX2_waitedAt_8 : List UInt8 := [21, 10, 46, 162, 0, 8, 21, 11, 167, 0, 5, 21, 10, 54, 10, 132, 11, 1, 167, 255, 220, 42]
abbrev dktX2_waitedAt_8 : List UInt8 := dkwX2_waitedAt_8 ++ dktX2_waitedAt_9
def dkwX2_waitedAt_7 : List UInt8 := [3, 54, 10, 4, 54, 11, 21, 11, 21, 5, 162, 0, 35, 42, 180, 0, 90, 21, 11, 46, 42, 180, 0, 90]
abbrev dktX2_waitedAt_7 : List UInt8 := dkwX2_waitedAt_7 ++ dktX2_waitedAt_8
def dkwX2_waitedAt_6 : List UInt8 := [159, 0, 7, 4, 167, 0, 4, 3, 54, 8, 21, 8, 153, 0, 120, 21, 7, 4, 21, 9, 120, 128, 54, 7]
abbrev dktX2_waitedAt_6 : List UInt8 := dkwX2_waitedAt_6 ++ dktX2_waitedAt_7
def dkwX2_waitedAt_5 : List UInt8 := [46, 162, 0, 8, 21, 10, 167, 0, 5, 21, 9, 54, 9, 132, 10, 1, 167, 255, 165, 21, 9, 18, 129]
abbrev dktX2_waitedAt_5 : List UInt8 := dkwX2_waitedAt_5 ++ dktX2_waitedAt_6
def dkwX2_waitedAt_4 : List UInt8 := [180, 0, 24, 27, 5, 21, 10, 104, 96, 4, 96, 46, 42, 180, 0, 24, 27, 5, 21, 9, 104, 96, 4, 96]
abbrev dktX2_waitedAt_4 : List UInt8 := dkwX2_waitedAt_4 ++ dktX2_waitedAt_5
def dkwX2_waitedAt_3 : List UInt8 := [126, 154, 0, 7, 4, 167, 0, 4, 3, 54, 11, 21, 11, 153, 0, 44, 21, 9, 18, 129, 159, 0, 32, 42]
abbrev dktX2_waitedAt_3 : List UInt8 := dkwX2_waitedAt_3 ++ dktX2_waitedAt_4
def dkwX2_waitedAt_2 : List UInt8 := [162, 0, 91, 42, 180, 0, 24, 27, 5, 21, 10, 104, 96, 46, 29, 160, 0, 17, 21, 7, 21, 10, 122, 4]
abbrev dktX2_waitedAt_2 : List UInt8 := dkwX2_waitedAt_2 ++ dktX2_waitedAt_3
def dkwX2_waitedAt_1 : List UInt8 := [3, 54, 6, 3, 54, 7, 4, 54, 8, 21, 8, 153, 0, 243, 18, 129, 54, 9, 3, 54, 10, 21, 10, 28]
abbrev dktX2_waitedAt_1 : List UInt8 := dkwX2_waitedAt_1 ++ dktX2_waitedAt_2
def dkwX2_waitedAt_0 : List UInt8 := [3, 54, 6, 21, 6, 16, 8, 162, 0, 17, 42, 180, 0, 90, 21, 6, 3, 79, 132, 6, 1, 167, 255, 238]
abbrev dktX2_waitedAt_0 : List UInt8 := dkwX2_waitedAt_0 ++ dktX2_waitedAt_1
theorem dksX2_waitedAt_0 : cX2_waitedAt.data.toList.drop 0 = dktX2_waitedAt_0 := by decide +kernel
theorem dksX2_waitedAt_1 : cX2_waitedAt.data.toList.drop 24 = dktX2_waitedAt_1 := dk_seg dksX2_waitedAt_0 24 rfl rfl
theorem dksX2_waitedAt_2 : cX2_waitedAt.data.toList.drop 48 = dktX2_waitedAt_2 := dk_seg dksX2_waitedAt_1 24 rfl rfl
theorem dksX2_waitedAt_3 : cX2_waitedAt.data.toList.drop 72 = dktX2_waitedAt_3 := dk_seg dksX2_waitedAt_2 24 rfl rfl
theorem dksX2_waitedAt_4 : cX2_waitedAt.data.toList.drop 96 = dktX2_waitedAt_4 := dk_seg dksX2_waitedAt_3 24 rfl rfl
theorem dksX2_waitedAt_5 : cX2_waitedAt.data.toList.drop 120 = dktX2_waitedAt_5 := dk_seg dksX2_waitedAt_4 24 rfl rfl
theorem dksX2_waitedAt_6 : cX2_waitedAt.data.toList.drop 143 = dktX2_waitedAt_6 := dk_seg dksX2_waitedAt_5 23 rfl rfl
theorem dksX2_waitedAt_7 : cX2_waitedAt.data.toList.drop 167 = dktX2_waitedAt_7 := dk_seg dksX2_waitedAt_6 24 rfl rfl
theorem dksX2_waitedAt_8 : cX2_waitedAt.data.toList.drop 191 = dktX2_waitedAt_8 := dk_seg dksX2_waitedAt_7 24 rfl rfl
theorem dksX2_waitedAt_9 : cX2_waitedAt.data.toList.drop 213 = dktX2_waitedAt_9 := dk_seg dksX2_waitedAt_8 22 rfl rfl
theorem dksX2_waitedAt_10 : cX2_waitedAt.data.toList.drop 236 = dktX2_waitedAt_10 := dk_seg dksX2_waitedAt_9 23 rfl rfl
theorem dksX2_waitedAt_11 : cX2_waitedAt.data.toList.drop 260 = dktX2_waitedAt_11 := dk_seg dksX2_waitedAt_10 24 rfl rfl
theorem dX2_waitedAt_0 : decode cX2_waitedAt 0 = .ok (.iconst 0, 1) := dk_3 (dk_at dksX2_waitedAt_0 0 rfl rfl)
theorem dX2_waitedAt_1 : decode cX2_waitedAt 1 = .ok (.istore 6, 2) := dk_54 6 (dk_at dksX2_waitedAt_0 1 rfl rfl)
theorem dX2_waitedAt_3 : decode cX2_waitedAt 3 = .ok (.iload 6, 2) := dk_21 6 (dk_at dksX2_waitedAt_0 3 rfl rfl)
theorem dX2_waitedAt_5 : decode cX2_waitedAt 5 = .ok (.bipush 8, 2) := dk_16 8 (dk_at dksX2_waitedAt_0 5 rfl rfl)
theorem dX2_waitedAt_7 : decode cX2_waitedAt 7 = .ok (.if_icmp .ge 17, 3) := dk_162 0 17 (dk_at dksX2_waitedAt_0 7 rfl rfl)
theorem dX2_waitedAt_10 : decode cX2_waitedAt 10 = .ok (.aload_n 0, 1) := dk_42 (dk_at dksX2_waitedAt_0 10 rfl rfl)
theorem dX2_waitedAt_11 : decode cX2_waitedAt 11 = .ok (.getfield 90, 3) := dk_180 0 90 (dk_at dksX2_waitedAt_0 11 rfl rfl)
theorem dX2_waitedAt_14 : decode cX2_waitedAt 14 = .ok (.iload 6, 2) := dk_21 6 (dk_at dksX2_waitedAt_0 14 rfl rfl)
theorem dX2_waitedAt_16 : decode cX2_waitedAt 16 = .ok (.iconst 0, 1) := dk_3 (dk_at dksX2_waitedAt_0 16 rfl rfl)
theorem dX2_waitedAt_17 : decode cX2_waitedAt 17 = .ok (.iastore, 1) := dk_79 (dk_at dksX2_waitedAt_0 17 rfl rfl)
theorem dX2_waitedAt_18 : decode cX2_waitedAt 18 = .ok (.iinc 6 1, 3) := dk_132 6 1 (dk_at dksX2_waitedAt_0 18 rfl rfl)
theorem dX2_waitedAt_21 : decode cX2_waitedAt 21 = .ok (.goto (-18), 3) := dk_167 255 238 (dk_at dksX2_waitedAt_0 21 rfl rfl)
theorem dX2_waitedAt_24 : decode cX2_waitedAt 24 = .ok (.iconst 0, 1) := dk_3 (dk_at dksX2_waitedAt_1 0 rfl rfl)
theorem dX2_waitedAt_25 : decode cX2_waitedAt 25 = .ok (.istore 6, 2) := dk_54 6 (dk_at dksX2_waitedAt_1 1 rfl rfl)
theorem dX2_waitedAt_27 : decode cX2_waitedAt 27 = .ok (.iconst 0, 1) := dk_3 (dk_at dksX2_waitedAt_1 3 rfl rfl)
theorem dX2_waitedAt_28 : decode cX2_waitedAt 28 = .ok (.istore 7, 2) := dk_54 7 (dk_at dksX2_waitedAt_1 4 rfl rfl)
theorem dX2_waitedAt_30 : decode cX2_waitedAt 30 = .ok (.iconst 1, 1) := dk_4 (dk_at dksX2_waitedAt_1 6 rfl rfl)
theorem dX2_waitedAt_31 : decode cX2_waitedAt 31 = .ok (.istore 8, 2) := dk_54 8 (dk_at dksX2_waitedAt_1 7 rfl rfl)
theorem dX2_waitedAt_33 : decode cX2_waitedAt 33 = .ok (.iload 8, 2) := dk_21 8 (dk_at dksX2_waitedAt_1 9 rfl rfl)
theorem dX2_waitedAt_35 : decode cX2_waitedAt 35 = .ok (.ifCond .eq 243, 3) := dk_153 0 243 (dk_at dksX2_waitedAt_1 11 rfl rfl)
theorem dX2_waitedAt_38 : decode cX2_waitedAt 38 = .ok (.ldc 129, 2) := dk_18 129 (dk_at dksX2_waitedAt_1 14 rfl rfl)
theorem dX2_waitedAt_40 : decode cX2_waitedAt 40 = .ok (.istore 9, 2) := dk_54 9 (dk_at dksX2_waitedAt_1 16 rfl rfl)
theorem dX2_waitedAt_42 : decode cX2_waitedAt 42 = .ok (.iconst 0, 1) := dk_3 (dk_at dksX2_waitedAt_1 18 rfl rfl)
theorem dX2_waitedAt_43 : decode cX2_waitedAt 43 = .ok (.istore 10, 2) := dk_54 10 (dk_at dksX2_waitedAt_1 19 rfl rfl)
theorem dX2_waitedAt_45 : decode cX2_waitedAt 45 = .ok (.iload 10, 2) := dk_21 10 (dk_at dksX2_waitedAt_1 21 rfl rfl)
theorem dX2_waitedAt_47 : decode cX2_waitedAt 47 = .ok (.iload_n 2, 1) := dk_28 (dk_at dksX2_waitedAt_1 23 rfl rfl)
theorem dX2_waitedAt_48 : decode cX2_waitedAt 48 = .ok (.if_icmp .ge 91, 3) := dk_162 0 91 (dk_at dksX2_waitedAt_2 0 rfl rfl)
theorem dX2_waitedAt_51 : decode cX2_waitedAt 51 = .ok (.aload_n 0, 1) := dk_42 (dk_at dksX2_waitedAt_2 3 rfl rfl)
theorem dX2_waitedAt_52 : decode cX2_waitedAt 52 = .ok (.getfield 24, 3) := dk_180 0 24 (dk_at dksX2_waitedAt_2 4 rfl rfl)
theorem dX2_waitedAt_55 : decode cX2_waitedAt 55 = .ok (.iload_n 1, 1) := dk_27 (dk_at dksX2_waitedAt_2 7 rfl rfl)
theorem dX2_waitedAt_56 : decode cX2_waitedAt 56 = .ok (.iconst 2, 1) := dk_5 (dk_at dksX2_waitedAt_2 8 rfl rfl)
theorem dX2_waitedAt_57 : decode cX2_waitedAt 57 = .ok (.iload 10, 2) := dk_21 10 (dk_at dksX2_waitedAt_2 9 rfl rfl)
theorem dX2_waitedAt_59 : decode cX2_waitedAt 59 = .ok (.imul, 1) := dk_104 (dk_at dksX2_waitedAt_2 11 rfl rfl)
theorem dX2_waitedAt_60 : decode cX2_waitedAt 60 = .ok (.iadd, 1) := dk_96 (dk_at dksX2_waitedAt_2 12 rfl rfl)
theorem dX2_waitedAt_61 : decode cX2_waitedAt 61 = .ok (.iaload, 1) := dk_46 (dk_at dksX2_waitedAt_2 13 rfl rfl)
theorem dX2_waitedAt_62 : decode cX2_waitedAt 62 = .ok (.iload_n 3, 1) := dk_29 (dk_at dksX2_waitedAt_2 14 rfl rfl)
theorem dX2_waitedAt_63 : decode cX2_waitedAt 63 = .ok (.if_icmp .ne 17, 3) := dk_160 0 17 (dk_at dksX2_waitedAt_2 15 rfl rfl)
theorem dX2_waitedAt_66 : decode cX2_waitedAt 66 = .ok (.iload 7, 2) := dk_21 7 (dk_at dksX2_waitedAt_2 18 rfl rfl)
theorem dX2_waitedAt_68 : decode cX2_waitedAt 68 = .ok (.iload 10, 2) := dk_21 10 (dk_at dksX2_waitedAt_2 20 rfl rfl)
theorem dX2_waitedAt_70 : decode cX2_waitedAt 70 = .ok (.ishr, 1) := dk_122 (dk_at dksX2_waitedAt_2 22 rfl rfl)
theorem dX2_waitedAt_71 : decode cX2_waitedAt 71 = .ok (.iconst 1, 1) := dk_4 (dk_at dksX2_waitedAt_2 23 rfl rfl)
theorem dX2_waitedAt_72 : decode cX2_waitedAt 72 = .ok (.iand, 1) := dk_126 (dk_at dksX2_waitedAt_3 0 rfl rfl)
theorem dX2_waitedAt_73 : decode cX2_waitedAt 73 = .ok (.ifCond .ne 7, 3) := dk_154 0 7 (dk_at dksX2_waitedAt_3 1 rfl rfl)
theorem dX2_waitedAt_76 : decode cX2_waitedAt 76 = .ok (.iconst 1, 1) := dk_4 (dk_at dksX2_waitedAt_3 4 rfl rfl)
theorem dX2_waitedAt_77 : decode cX2_waitedAt 77 = .ok (.goto 4, 3) := dk_167 0 4 (dk_at dksX2_waitedAt_3 5 rfl rfl)
theorem dX2_waitedAt_80 : decode cX2_waitedAt 80 = .ok (.iconst 0, 1) := dk_3 (dk_at dksX2_waitedAt_3 8 rfl rfl)
theorem dX2_waitedAt_81 : decode cX2_waitedAt 81 = .ok (.istore 11, 2) := dk_54 11 (dk_at dksX2_waitedAt_3 9 rfl rfl)
theorem dX2_waitedAt_83 : decode cX2_waitedAt 83 = .ok (.iload 11, 2) := dk_21 11 (dk_at dksX2_waitedAt_3 11 rfl rfl)
theorem dX2_waitedAt_85 : decode cX2_waitedAt 85 = .ok (.ifCond .eq 44, 3) := dk_153 0 44 (dk_at dksX2_waitedAt_3 13 rfl rfl)
theorem dX2_waitedAt_88 : decode cX2_waitedAt 88 = .ok (.iload 9, 2) := dk_21 9 (dk_at dksX2_waitedAt_3 16 rfl rfl)
theorem dX2_waitedAt_90 : decode cX2_waitedAt 90 = .ok (.ldc 129, 2) := dk_18 129 (dk_at dksX2_waitedAt_3 18 rfl rfl)
theorem dX2_waitedAt_92 : decode cX2_waitedAt 92 = .ok (.if_icmp .eq 32, 3) := dk_159 0 32 (dk_at dksX2_waitedAt_3 20 rfl rfl)
theorem dX2_waitedAt_95 : decode cX2_waitedAt 95 = .ok (.aload_n 0, 1) := dk_42 (dk_at dksX2_waitedAt_3 23 rfl rfl)
theorem dX2_waitedAt_96 : decode cX2_waitedAt 96 = .ok (.getfield 24, 3) := dk_180 0 24 (dk_at dksX2_waitedAt_4 0 rfl rfl)
theorem dX2_waitedAt_99 : decode cX2_waitedAt 99 = .ok (.iload_n 1, 1) := dk_27 (dk_at dksX2_waitedAt_4 3 rfl rfl)
theorem dX2_waitedAt_100 : decode cX2_waitedAt 100 = .ok (.iconst 2, 1) := dk_5 (dk_at dksX2_waitedAt_4 4 rfl rfl)
theorem dX2_waitedAt_101 : decode cX2_waitedAt 101 = .ok (.iload 10, 2) := dk_21 10 (dk_at dksX2_waitedAt_4 5 rfl rfl)
theorem dX2_waitedAt_103 : decode cX2_waitedAt 103 = .ok (.imul, 1) := dk_104 (dk_at dksX2_waitedAt_4 7 rfl rfl)
theorem dX2_waitedAt_104 : decode cX2_waitedAt 104 = .ok (.iadd, 1) := dk_96 (dk_at dksX2_waitedAt_4 8 rfl rfl)
theorem dX2_waitedAt_105 : decode cX2_waitedAt 105 = .ok (.iconst 1, 1) := dk_4 (dk_at dksX2_waitedAt_4 9 rfl rfl)
theorem dX2_waitedAt_106 : decode cX2_waitedAt 106 = .ok (.iadd, 1) := dk_96 (dk_at dksX2_waitedAt_4 10 rfl rfl)
theorem dX2_waitedAt_107 : decode cX2_waitedAt 107 = .ok (.iaload, 1) := dk_46 (dk_at dksX2_waitedAt_4 11 rfl rfl)
theorem dX2_waitedAt_108 : decode cX2_waitedAt 108 = .ok (.aload_n 0, 1) := dk_42 (dk_at dksX2_waitedAt_4 12 rfl rfl)
theorem dX2_waitedAt_109 : decode cX2_waitedAt 109 = .ok (.getfield 24, 3) := dk_180 0 24 (dk_at dksX2_waitedAt_4 13 rfl rfl)
theorem dX2_waitedAt_112 : decode cX2_waitedAt 112 = .ok (.iload_n 1, 1) := dk_27 (dk_at dksX2_waitedAt_4 16 rfl rfl)
theorem dX2_waitedAt_113 : decode cX2_waitedAt 113 = .ok (.iconst 2, 1) := dk_5 (dk_at dksX2_waitedAt_4 17 rfl rfl)
theorem dX2_waitedAt_114 : decode cX2_waitedAt 114 = .ok (.iload 9, 2) := dk_21 9 (dk_at dksX2_waitedAt_4 18 rfl rfl)
theorem dX2_waitedAt_116 : decode cX2_waitedAt 116 = .ok (.imul, 1) := dk_104 (dk_at dksX2_waitedAt_4 20 rfl rfl)
theorem dX2_waitedAt_117 : decode cX2_waitedAt 117 = .ok (.iadd, 1) := dk_96 (dk_at dksX2_waitedAt_4 21 rfl rfl)
theorem dX2_waitedAt_118 : decode cX2_waitedAt 118 = .ok (.iconst 1, 1) := dk_4 (dk_at dksX2_waitedAt_4 22 rfl rfl)
theorem dX2_waitedAt_119 : decode cX2_waitedAt 119 = .ok (.iadd, 1) := dk_96 (dk_at dksX2_waitedAt_4 23 rfl rfl)
theorem dX2_waitedAt_120 : decode cX2_waitedAt 120 = .ok (.iaload, 1) := dk_46 (dk_at dksX2_waitedAt_5 0 rfl rfl)
theorem dX2_waitedAt_121 : decode cX2_waitedAt 121 = .ok (.if_icmp .ge 8, 3) := dk_162 0 8 (dk_at dksX2_waitedAt_5 1 rfl rfl)
theorem dX2_waitedAt_124 : decode cX2_waitedAt 124 = .ok (.iload 10, 2) := dk_21 10 (dk_at dksX2_waitedAt_5 4 rfl rfl)
theorem dX2_waitedAt_126 : decode cX2_waitedAt 126 = .ok (.goto 5, 3) := dk_167 0 5 (dk_at dksX2_waitedAt_5 6 rfl rfl)
theorem dX2_waitedAt_129 : decode cX2_waitedAt 129 = .ok (.iload 9, 2) := dk_21 9 (dk_at dksX2_waitedAt_5 9 rfl rfl)
theorem dX2_waitedAt_131 : decode cX2_waitedAt 131 = .ok (.istore 9, 2) := dk_54 9 (dk_at dksX2_waitedAt_5 11 rfl rfl)
theorem dX2_waitedAt_133 : decode cX2_waitedAt 133 = .ok (.iinc 10 1, 3) := dk_132 10 1 (dk_at dksX2_waitedAt_5 13 rfl rfl)
theorem dX2_waitedAt_136 : decode cX2_waitedAt 136 = .ok (.goto (-91), 3) := dk_167 255 165 (dk_at dksX2_waitedAt_5 16 rfl rfl)
theorem dX2_waitedAt_139 : decode cX2_waitedAt 139 = .ok (.iload 9, 2) := dk_21 9 (dk_at dksX2_waitedAt_5 19 rfl rfl)
theorem dX2_waitedAt_141 : decode cX2_waitedAt 141 = .ok (.ldc 129, 2) := dk_18 129 (dk_at dksX2_waitedAt_5 21 rfl rfl)
theorem dX2_waitedAt_143 : decode cX2_waitedAt 143 = .ok (.if_icmp .eq 7, 3) := dk_159 0 7 (dk_at dksX2_waitedAt_6 0 rfl rfl)
theorem dX2_waitedAt_146 : decode cX2_waitedAt 146 = .ok (.iconst 1, 1) := dk_4 (dk_at dksX2_waitedAt_6 3 rfl rfl)
theorem dX2_waitedAt_147 : decode cX2_waitedAt 147 = .ok (.goto 4, 3) := dk_167 0 4 (dk_at dksX2_waitedAt_6 4 rfl rfl)
theorem dX2_waitedAt_150 : decode cX2_waitedAt 150 = .ok (.iconst 0, 1) := dk_3 (dk_at dksX2_waitedAt_6 7 rfl rfl)
theorem dX2_waitedAt_151 : decode cX2_waitedAt 151 = .ok (.istore 8, 2) := dk_54 8 (dk_at dksX2_waitedAt_6 8 rfl rfl)
theorem dX2_waitedAt_153 : decode cX2_waitedAt 153 = .ok (.iload 8, 2) := dk_21 8 (dk_at dksX2_waitedAt_6 10 rfl rfl)
theorem dX2_waitedAt_155 : decode cX2_waitedAt 155 = .ok (.ifCond .eq 120, 3) := dk_153 0 120 (dk_at dksX2_waitedAt_6 12 rfl rfl)
theorem dX2_waitedAt_158 : decode cX2_waitedAt 158 = .ok (.iload 7, 2) := dk_21 7 (dk_at dksX2_waitedAt_6 15 rfl rfl)
theorem dX2_waitedAt_160 : decode cX2_waitedAt 160 = .ok (.iconst 1, 1) := dk_4 (dk_at dksX2_waitedAt_6 17 rfl rfl)
theorem dX2_waitedAt_161 : decode cX2_waitedAt 161 = .ok (.iload 9, 2) := dk_21 9 (dk_at dksX2_waitedAt_6 18 rfl rfl)
theorem dX2_waitedAt_163 : decode cX2_waitedAt 163 = .ok (.ishl, 1) := dk_120 (dk_at dksX2_waitedAt_6 20 rfl rfl)
theorem dX2_waitedAt_164 : decode cX2_waitedAt 164 = .ok (.ior, 1) := dk_128 (dk_at dksX2_waitedAt_6 21 rfl rfl)
theorem dX2_waitedAt_165 : decode cX2_waitedAt 165 = .ok (.istore 7, 2) := dk_54 7 (dk_at dksX2_waitedAt_6 22 rfl rfl)
theorem dX2_waitedAt_167 : decode cX2_waitedAt 167 = .ok (.iconst 0, 1) := dk_3 (dk_at dksX2_waitedAt_7 0 rfl rfl)
theorem dX2_waitedAt_168 : decode cX2_waitedAt 168 = .ok (.istore 10, 2) := dk_54 10 (dk_at dksX2_waitedAt_7 1 rfl rfl)
theorem dX2_waitedAt_170 : decode cX2_waitedAt 170 = .ok (.iconst 1, 1) := dk_4 (dk_at dksX2_waitedAt_7 3 rfl rfl)
theorem dX2_waitedAt_171 : decode cX2_waitedAt 171 = .ok (.istore 11, 2) := dk_54 11 (dk_at dksX2_waitedAt_7 4 rfl rfl)
theorem dX2_waitedAt_173 : decode cX2_waitedAt 173 = .ok (.iload 11, 2) := dk_21 11 (dk_at dksX2_waitedAt_7 6 rfl rfl)
theorem dX2_waitedAt_175 : decode cX2_waitedAt 175 = .ok (.iload 5, 2) := dk_21 5 (dk_at dksX2_waitedAt_7 8 rfl rfl)
theorem dX2_waitedAt_177 : decode cX2_waitedAt 177 = .ok (.if_icmp .ge 35, 3) := dk_162 0 35 (dk_at dksX2_waitedAt_7 10 rfl rfl)
theorem dX2_waitedAt_180 : decode cX2_waitedAt 180 = .ok (.aload_n 0, 1) := dk_42 (dk_at dksX2_waitedAt_7 13 rfl rfl)
theorem dX2_waitedAt_181 : decode cX2_waitedAt 181 = .ok (.getfield 90, 3) := dk_180 0 90 (dk_at dksX2_waitedAt_7 14 rfl rfl)
theorem dX2_waitedAt_184 : decode cX2_waitedAt 184 = .ok (.iload 11, 2) := dk_21 11 (dk_at dksX2_waitedAt_7 17 rfl rfl)
theorem dX2_waitedAt_186 : decode cX2_waitedAt 186 = .ok (.iaload, 1) := dk_46 (dk_at dksX2_waitedAt_7 19 rfl rfl)
theorem dX2_waitedAt_187 : decode cX2_waitedAt 187 = .ok (.aload_n 0, 1) := dk_42 (dk_at dksX2_waitedAt_7 20 rfl rfl)
theorem dX2_waitedAt_188 : decode cX2_waitedAt 188 = .ok (.getfield 90, 3) := dk_180 0 90 (dk_at dksX2_waitedAt_7 21 rfl rfl)
theorem dX2_waitedAt_191 : decode cX2_waitedAt 191 = .ok (.iload 10, 2) := dk_21 10 (dk_at dksX2_waitedAt_8 0 rfl rfl)
theorem dX2_waitedAt_193 : decode cX2_waitedAt 193 = .ok (.iaload, 1) := dk_46 (dk_at dksX2_waitedAt_8 2 rfl rfl)
theorem dX2_waitedAt_194 : decode cX2_waitedAt 194 = .ok (.if_icmp .ge 8, 3) := dk_162 0 8 (dk_at dksX2_waitedAt_8 3 rfl rfl)
theorem dX2_waitedAt_197 : decode cX2_waitedAt 197 = .ok (.iload 11, 2) := dk_21 11 (dk_at dksX2_waitedAt_8 6 rfl rfl)
theorem dX2_waitedAt_199 : decode cX2_waitedAt 199 = .ok (.goto 5, 3) := dk_167 0 5 (dk_at dksX2_waitedAt_8 8 rfl rfl)
theorem dX2_waitedAt_202 : decode cX2_waitedAt 202 = .ok (.iload 10, 2) := dk_21 10 (dk_at dksX2_waitedAt_8 11 rfl rfl)
theorem dX2_waitedAt_204 : decode cX2_waitedAt 204 = .ok (.istore 10, 2) := dk_54 10 (dk_at dksX2_waitedAt_8 13 rfl rfl)
theorem dX2_waitedAt_206 : decode cX2_waitedAt 206 = .ok (.iinc 11 1, 3) := dk_132 11 1 (dk_at dksX2_waitedAt_8 15 rfl rfl)
theorem dX2_waitedAt_209 : decode cX2_waitedAt 209 = .ok (.goto (-36), 3) := dk_167 255 220 (dk_at dksX2_waitedAt_8 18 rfl rfl)
theorem dX2_waitedAt_212 : decode cX2_waitedAt 212 = .ok (.aload_n 0, 1) := dk_42 (dk_at dksX2_waitedAt_8 21 rfl rfl)
theorem dX2_waitedAt_213 : decode cX2_waitedAt 213 = .ok (.getfield 24, 3) := dk_180 0 24 (dk_at dksX2_waitedAt_9 0 rfl rfl)
theorem dX2_waitedAt_216 : decode cX2_waitedAt 216 = .ok (.iload_n 1, 1) := dk_27 (dk_at dksX2_waitedAt_9 3 rfl rfl)
theorem dX2_waitedAt_217 : decode cX2_waitedAt 217 = .ok (.iconst 2, 1) := dk_5 (dk_at dksX2_waitedAt_9 4 rfl rfl)
theorem dX2_waitedAt_218 : decode cX2_waitedAt 218 = .ok (.iload 9, 2) := dk_21 9 (dk_at dksX2_waitedAt_9 5 rfl rfl)
theorem dX2_waitedAt_220 : decode cX2_waitedAt 220 = .ok (.imul, 1) := dk_104 (dk_at dksX2_waitedAt_9 7 rfl rfl)
theorem dX2_waitedAt_221 : decode cX2_waitedAt 221 = .ok (.iadd, 1) := dk_96 (dk_at dksX2_waitedAt_9 8 rfl rfl)
theorem dX2_waitedAt_222 : decode cX2_waitedAt 222 = .ok (.iconst 1, 1) := dk_4 (dk_at dksX2_waitedAt_9 9 rfl rfl)
theorem dX2_waitedAt_223 : decode cX2_waitedAt 223 = .ok (.iadd, 1) := dk_96 (dk_at dksX2_waitedAt_9 10 rfl rfl)
theorem dX2_waitedAt_224 : decode cX2_waitedAt 224 = .ok (.iaload, 1) := dk_46 (dk_at dksX2_waitedAt_9 11 rfl rfl)
theorem dX2_waitedAt_225 : decode cX2_waitedAt 225 = .ok (.istore 11, 2) := dk_54 11 (dk_at dksX2_waitedAt_9 12 rfl rfl)
theorem dX2_waitedAt_227 : decode cX2_waitedAt 227 = .ok (.iload 11, 2) := dk_21 11 (dk_at dksX2_waitedAt_9 14 rfl rfl)
theorem dX2_waitedAt_229 : decode cX2_waitedAt 229 = .ok (.aload_n 0, 1) := dk_42 (dk_at dksX2_waitedAt_9 16 rfl rfl)
theorem dX2_waitedAt_230 : decode cX2_waitedAt 230 = .ok (.getfield 90, 3) := dk_180 0 90 (dk_at dksX2_waitedAt_9 17 rfl rfl)
theorem dX2_waitedAt_233 : decode cX2_waitedAt 233 = .ok (.iload 10, 2) := dk_21 10 (dk_at dksX2_waitedAt_9 20 rfl rfl)
theorem dX2_waitedAt_235 : decode cX2_waitedAt 235 = .ok (.iaload, 1) := dk_46 (dk_at dksX2_waitedAt_9 22 rfl rfl)
theorem dX2_waitedAt_236 : decode cX2_waitedAt 236 = .ok (.if_icmp .le 8, 3) := dk_164 0 8 (dk_at dksX2_waitedAt_10 0 rfl rfl)
theorem dX2_waitedAt_239 : decode cX2_waitedAt 239 = .ok (.iload 11, 2) := dk_21 11 (dk_at dksX2_waitedAt_10 3 rfl rfl)
theorem dX2_waitedAt_241 : decode cX2_waitedAt 241 = .ok (.goto 10, 3) := dk_167 0 10 (dk_at dksX2_waitedAt_10 5 rfl rfl)
theorem dX2_waitedAt_244 : decode cX2_waitedAt 244 = .ok (.aload_n 0, 1) := dk_42 (dk_at dksX2_waitedAt_10 8 rfl rfl)
theorem dX2_waitedAt_245 : decode cX2_waitedAt 245 = .ok (.getfield 90, 3) := dk_180 0 90 (dk_at dksX2_waitedAt_10 9 rfl rfl)
theorem dX2_waitedAt_248 : decode cX2_waitedAt 248 = .ok (.iload 10, 2) := dk_21 10 (dk_at dksX2_waitedAt_10 12 rfl rfl)
theorem dX2_waitedAt_250 : decode cX2_waitedAt 250 = .ok (.iaload, 1) := dk_46 (dk_at dksX2_waitedAt_10 14 rfl rfl)
theorem dX2_waitedAt_251 : decode cX2_waitedAt 251 = .ok (.istore 12, 2) := dk_54 12 (dk_at dksX2_waitedAt_10 15 rfl rfl)
theorem dX2_waitedAt_253 : decode cX2_waitedAt 253 = .ok (.iload 6, 2) := dk_21 6 (dk_at dksX2_waitedAt_10 17 rfl rfl)
theorem dX2_waitedAt_255 : decode cX2_waitedAt 255 = .ok (.iload 12, 2) := dk_21 12 (dk_at dksX2_waitedAt_10 19 rfl rfl)
theorem dX2_waitedAt_257 : decode cX2_waitedAt 257 = .ok (.iload 11, 2) := dk_21 11 (dk_at dksX2_waitedAt_10 21 rfl rfl)
theorem dX2_waitedAt_259 : decode cX2_waitedAt 259 = .ok (.isub, 1) := dk_100 (dk_at dksX2_waitedAt_10 23 rfl rfl)
theorem dX2_waitedAt_260 : decode cX2_waitedAt 260 = .ok (.iadd, 1) := dk_96 (dk_at dksX2_waitedAt_11 0 rfl rfl)
theorem dX2_waitedAt_261 : decode cX2_waitedAt 261 = .ok (.istore 6, 2) := dk_54 6 (dk_at dksX2_waitedAt_11 1 rfl rfl)
theorem dX2_waitedAt_263 : decode cX2_waitedAt 263 = .ok (.aload_n 0, 1) := dk_42 (dk_at dksX2_waitedAt_11 3 rfl rfl)
theorem dX2_waitedAt_264 : decode cX2_waitedAt 264 = .ok (.getfield 90, 3) := dk_180 0 90 (dk_at dksX2_waitedAt_11 4 rfl rfl)
theorem dX2_waitedAt_267 : decode cX2_waitedAt 267 = .ok (.iload 10, 2) := dk_21 10 (dk_at dksX2_waitedAt_11 7 rfl rfl)
theorem dX2_waitedAt_269 : decode cX2_waitedAt 269 = .ok (.iload 12, 2) := dk_21 12 (dk_at dksX2_waitedAt_11 9 rfl rfl)
theorem dX2_waitedAt_271 : decode cX2_waitedAt 271 = .ok (.iload 4, 2) := dk_21 4 (dk_at dksX2_waitedAt_11 11 rfl rfl)
theorem dX2_waitedAt_273 : decode cX2_waitedAt 273 = .ok (.iadd, 1) := dk_96 (dk_at dksX2_waitedAt_11 13 rfl rfl)
theorem dX2_waitedAt_274 : decode cX2_waitedAt 274 = .ok (.iastore, 1) := dk_79 (dk_at dksX2_waitedAt_11 14 rfl rfl)
theorem dX2_waitedAt_275 : decode cX2_waitedAt 275 = .ok (.goto (-242), 3) := dk_167 255 14 (dk_at dksX2_waitedAt_11 15 rfl rfl)
theorem dX2_waitedAt_278 : decode cX2_waitedAt 278 = .ok (.iload 6, 2) := dk_21 6 (dk_at dksX2_waitedAt_11 18 rfl rfl)
theorem dX2_waitedAt_280 : decode cX2_waitedAt 280 = .ok (.ireturn, 1) := dk_172 (dk_at dksX2_waitedAt_11 20 rfl rfl)
abbrev cX2_guest : ByteArray := prog_17_method_60_code
def yX2_guest : MethodName := ⟨RX2, "guest", "(IIII)I"⟩
def dkwX2_guest_4 : List UInt8 := [180, 1, 107, 21, 4, 79, 42, 89, 180, 1, 107, 4, 96, 181, 1, 107, 42, 180, 1, 107, 172]
abbrev dktX2_guest_4 : List UInt8 := dkwX2_guest_4 ++ []
def dkwX2_guest_3 : List UInt8 := [180, 0, 102, 42, 180, 1, 107, 28, 79, 42, 180, 0, 105, 42, 180, 1, 107, 29, 79, 42, 180, 0, 108, 42]
abbrev dktX2_guest_3 : List UInt8 := dkwX2_guest_3 ++ dktX2_guest_4
def dkwX2_guest_2 : List UInt8 := [42, 180, 1, 107, 16, 40, 160, 0, 6, 18, 170, 172, 42, 180, 0, 99, 42, 180, 1, 107, 27, 79, 42]
abbrev dktX2_guest_2 : List UInt8 := dkwX2_guest_2 ++ dktX2_guest_3
def dkwX2_guest_1 : List UInt8 := [29, 184, 1, 2, 153, 0, 17, 21, 4, 133, 29, 133, 20, 0, 149, 184, 0, 132, 154, 0, 6, 18, 142, 172]
abbrev dktX2_guest_1 : List UInt8 := dkwX2_guest_1 ++ dktX2_guest_2
def dkwX2_guest_0 : List UInt8 := [42, 3, 181, 0, 1, 27, 184, 1, 82, 153, 0, 36, 28, 133, 9, 20, 0, 130, 184, 0, 132, 153, 0, 24]
abbrev dktX2_guest_0 : List UInt8 := dkwX2_guest_0 ++ dktX2_guest_1
theorem dksX2_guest_0 : cX2_guest.data.toList.drop 0 = dktX2_guest_0 := by decide +kernel
theorem dksX2_guest_1 : cX2_guest.data.toList.drop 24 = dktX2_guest_1 := dk_seg dksX2_guest_0 24 rfl rfl
theorem dksX2_guest_2 : cX2_guest.data.toList.drop 48 = dktX2_guest_2 := dk_seg dksX2_guest_1 24 rfl rfl
theorem dksX2_guest_3 : cX2_guest.data.toList.drop 71 = dktX2_guest_3 := dk_seg dksX2_guest_2 23 rfl rfl
theorem dksX2_guest_4 : cX2_guest.data.toList.drop 95 = dktX2_guest_4 := dk_seg dksX2_guest_3 24 rfl rfl
theorem dX2_guest_0 : decode cX2_guest 0 = .ok (.aload_n 0, 1) := dk_42 (dk_at dksX2_guest_0 0 rfl rfl)
theorem dX2_guest_1 : decode cX2_guest 1 = .ok (.iconst 0, 1) := dk_3 (dk_at dksX2_guest_0 1 rfl rfl)
theorem dX2_guest_2 : decode cX2_guest 2 = .ok (.putfield 1, 3) := dk_181 0 1 (dk_at dksX2_guest_0 2 rfl rfl)
theorem dX2_guest_5 : decode cX2_guest 5 = .ok (.iload_n 1, 1) := dk_27 (dk_at dksX2_guest_0 5 rfl rfl)
theorem dX2_guest_6 : decode cX2_guest 6 = .ok (.invokestatic 338, 3) := dk_184 1 82 (dk_at dksX2_guest_0 6 rfl rfl)
theorem dX2_guest_9 : decode cX2_guest 9 = .ok (.ifCond .eq 36, 3) := dk_153 0 36 (dk_at dksX2_guest_0 9 rfl rfl)
theorem dX2_guest_12 : decode cX2_guest 12 = .ok (.iload_n 2, 1) := dk_28 (dk_at dksX2_guest_0 12 rfl rfl)
theorem dX2_guest_13 : decode cX2_guest 13 = .ok (.i2l, 1) := dk_133 (dk_at dksX2_guest_0 13 rfl rfl)
theorem dX2_guest_14 : decode cX2_guest 14 = .ok (.lconst 0, 1) := dk_9 (dk_at dksX2_guest_0 14 rfl rfl)
theorem dX2_guest_15 : decode cX2_guest 15 = .ok (.ldc2_w 130, 3) := dk_20 0 130 (dk_at dksX2_guest_0 15 rfl rfl)
theorem dX2_guest_18 : decode cX2_guest 18 = .ok (.invokestatic 132, 3) := dk_184 0 132 (dk_at dksX2_guest_0 18 rfl rfl)
theorem dX2_guest_21 : decode cX2_guest 21 = .ok (.ifCond .eq 24, 3) := dk_153 0 24 (dk_at dksX2_guest_0 21 rfl rfl)
theorem dX2_guest_24 : decode cX2_guest 24 = .ok (.iload_n 3, 1) := dk_29 (dk_at dksX2_guest_1 0 rfl rfl)
theorem dX2_guest_25 : decode cX2_guest 25 = .ok (.invokestatic 258, 3) := dk_184 1 2 (dk_at dksX2_guest_1 1 rfl rfl)
theorem dX2_guest_28 : decode cX2_guest 28 = .ok (.ifCond .eq 17, 3) := dk_153 0 17 (dk_at dksX2_guest_1 4 rfl rfl)
theorem dX2_guest_31 : decode cX2_guest 31 = .ok (.iload 4, 2) := dk_21 4 (dk_at dksX2_guest_1 7 rfl rfl)
theorem dX2_guest_33 : decode cX2_guest 33 = .ok (.i2l, 1) := dk_133 (dk_at dksX2_guest_1 9 rfl rfl)
theorem dX2_guest_34 : decode cX2_guest 34 = .ok (.iload_n 3, 1) := dk_29 (dk_at dksX2_guest_1 10 rfl rfl)
theorem dX2_guest_35 : decode cX2_guest 35 = .ok (.i2l, 1) := dk_133 (dk_at dksX2_guest_1 11 rfl rfl)
theorem dX2_guest_36 : decode cX2_guest 36 = .ok (.ldc2_w 149, 3) := dk_20 0 149 (dk_at dksX2_guest_1 12 rfl rfl)
theorem dX2_guest_39 : decode cX2_guest 39 = .ok (.invokestatic 132, 3) := dk_184 0 132 (dk_at dksX2_guest_1 15 rfl rfl)
theorem dX2_guest_42 : decode cX2_guest 42 = .ok (.ifCond .ne 6, 3) := dk_154 0 6 (dk_at dksX2_guest_1 18 rfl rfl)
theorem dX2_guest_45 : decode cX2_guest 45 = .ok (.ldc 142, 2) := dk_18 142 (dk_at dksX2_guest_1 21 rfl rfl)
theorem dX2_guest_47 : decode cX2_guest 47 = .ok (.ireturn, 1) := dk_172 (dk_at dksX2_guest_1 23 rfl rfl)
theorem dX2_guest_48 : decode cX2_guest 48 = .ok (.aload_n 0, 1) := dk_42 (dk_at dksX2_guest_2 0 rfl rfl)
theorem dX2_guest_49 : decode cX2_guest 49 = .ok (.getfield 363, 3) := dk_180 1 107 (dk_at dksX2_guest_2 1 rfl rfl)
theorem dX2_guest_52 : decode cX2_guest 52 = .ok (.bipush 40, 2) := dk_16 40 (dk_at dksX2_guest_2 4 rfl rfl)
theorem dX2_guest_54 : decode cX2_guest 54 = .ok (.if_icmp .ne 6, 3) := dk_160 0 6 (dk_at dksX2_guest_2 6 rfl rfl)
theorem dX2_guest_57 : decode cX2_guest 57 = .ok (.ldc 170, 2) := dk_18 170 (dk_at dksX2_guest_2 9 rfl rfl)
theorem dX2_guest_59 : decode cX2_guest 59 = .ok (.ireturn, 1) := dk_172 (dk_at dksX2_guest_2 11 rfl rfl)
theorem dX2_guest_60 : decode cX2_guest 60 = .ok (.aload_n 0, 1) := dk_42 (dk_at dksX2_guest_2 12 rfl rfl)
theorem dX2_guest_61 : decode cX2_guest 61 = .ok (.getfield 99, 3) := dk_180 0 99 (dk_at dksX2_guest_2 13 rfl rfl)
theorem dX2_guest_64 : decode cX2_guest 64 = .ok (.aload_n 0, 1) := dk_42 (dk_at dksX2_guest_2 16 rfl rfl)
theorem dX2_guest_65 : decode cX2_guest 65 = .ok (.getfield 363, 3) := dk_180 1 107 (dk_at dksX2_guest_2 17 rfl rfl)
theorem dX2_guest_68 : decode cX2_guest 68 = .ok (.iload_n 1, 1) := dk_27 (dk_at dksX2_guest_2 20 rfl rfl)
theorem dX2_guest_69 : decode cX2_guest 69 = .ok (.iastore, 1) := dk_79 (dk_at dksX2_guest_2 21 rfl rfl)
theorem dX2_guest_70 : decode cX2_guest 70 = .ok (.aload_n 0, 1) := dk_42 (dk_at dksX2_guest_2 22 rfl rfl)
theorem dX2_guest_71 : decode cX2_guest 71 = .ok (.getfield 102, 3) := dk_180 0 102 (dk_at dksX2_guest_3 0 rfl rfl)
theorem dX2_guest_74 : decode cX2_guest 74 = .ok (.aload_n 0, 1) := dk_42 (dk_at dksX2_guest_3 3 rfl rfl)
theorem dX2_guest_75 : decode cX2_guest 75 = .ok (.getfield 363, 3) := dk_180 1 107 (dk_at dksX2_guest_3 4 rfl rfl)
theorem dX2_guest_78 : decode cX2_guest 78 = .ok (.iload_n 2, 1) := dk_28 (dk_at dksX2_guest_3 7 rfl rfl)
theorem dX2_guest_79 : decode cX2_guest 79 = .ok (.iastore, 1) := dk_79 (dk_at dksX2_guest_3 8 rfl rfl)
theorem dX2_guest_80 : decode cX2_guest 80 = .ok (.aload_n 0, 1) := dk_42 (dk_at dksX2_guest_3 9 rfl rfl)
theorem dX2_guest_81 : decode cX2_guest 81 = .ok (.getfield 105, 3) := dk_180 0 105 (dk_at dksX2_guest_3 10 rfl rfl)
theorem dX2_guest_84 : decode cX2_guest 84 = .ok (.aload_n 0, 1) := dk_42 (dk_at dksX2_guest_3 13 rfl rfl)
theorem dX2_guest_85 : decode cX2_guest 85 = .ok (.getfield 363, 3) := dk_180 1 107 (dk_at dksX2_guest_3 14 rfl rfl)
theorem dX2_guest_88 : decode cX2_guest 88 = .ok (.iload_n 3, 1) := dk_29 (dk_at dksX2_guest_3 17 rfl rfl)
theorem dX2_guest_89 : decode cX2_guest 89 = .ok (.iastore, 1) := dk_79 (dk_at dksX2_guest_3 18 rfl rfl)
theorem dX2_guest_90 : decode cX2_guest 90 = .ok (.aload_n 0, 1) := dk_42 (dk_at dksX2_guest_3 19 rfl rfl)
theorem dX2_guest_91 : decode cX2_guest 91 = .ok (.getfield 108, 3) := dk_180 0 108 (dk_at dksX2_guest_3 20 rfl rfl)
theorem dX2_guest_94 : decode cX2_guest 94 = .ok (.aload_n 0, 1) := dk_42 (dk_at dksX2_guest_3 23 rfl rfl)
theorem dX2_guest_95 : decode cX2_guest 95 = .ok (.getfield 363, 3) := dk_180 1 107 (dk_at dksX2_guest_4 0 rfl rfl)
theorem dX2_guest_98 : decode cX2_guest 98 = .ok (.iload 4, 2) := dk_21 4 (dk_at dksX2_guest_4 3 rfl rfl)
theorem dX2_guest_100 : decode cX2_guest 100 = .ok (.iastore, 1) := dk_79 (dk_at dksX2_guest_4 5 rfl rfl)
theorem dX2_guest_101 : decode cX2_guest 101 = .ok (.aload_n 0, 1) := dk_42 (dk_at dksX2_guest_4 6 rfl rfl)
theorem dX2_guest_102 : decode cX2_guest 102 = .ok (.dup, 1) := dk_89 (dk_at dksX2_guest_4 7 rfl rfl)
theorem dX2_guest_103 : decode cX2_guest 103 = .ok (.getfield 363, 3) := dk_180 1 107 (dk_at dksX2_guest_4 8 rfl rfl)
theorem dX2_guest_106 : decode cX2_guest 106 = .ok (.iconst 1, 1) := dk_4 (dk_at dksX2_guest_4 11 rfl rfl)
theorem dX2_guest_107 : decode cX2_guest 107 = .ok (.iadd, 1) := dk_96 (dk_at dksX2_guest_4 12 rfl rfl)
theorem dX2_guest_108 : decode cX2_guest 108 = .ok (.putfield 363, 3) := dk_181 1 107 (dk_at dksX2_guest_4 13 rfl rfl)
theorem dX2_guest_111 : decode cX2_guest 111 = .ok (.aload_n 0, 1) := dk_42 (dk_at dksX2_guest_4 16 rfl rfl)
theorem dX2_guest_112 : decode cX2_guest 112 = .ok (.getfield 363, 3) := dk_180 1 107 (dk_at dksX2_guest_4 17 rfl rfl)
theorem dX2_guest_115 : decode cX2_guest 115 = .ok (.ireturn, 1) := dk_172 (dk_at dksX2_guest_4 20 rfl rfl)
abbrev cX2_fell : ByteArray := prog_17_method_61_code
def yX2_fell : MethodName := ⟨RX2, "fell", "(II)I"⟩
def dkwX2_fell_2 : List UInt8 := [3, 172, 42, 180, 0, 111, 27, 28, 79, 4, 172]
abbrev dktX2_fell_2 : List UInt8 := dkwX2_fell_2 ++ []
def dkwX2_fell_1 : List UInt8 := [18, 142, 172, 42, 180, 0, 111, 27, 46, 18, 129, 159, 0, 15, 42, 180, 0, 111, 27, 46, 28, 163, 0, 5]
abbrev dktX2_fell_1 : List UInt8 := dkwX2_fell_1 ++ dktX2_fell_2
def dkwX2_fell_0 : List UInt8 := [42, 3, 181, 0, 1, 27, 133, 9, 20, 0, 130, 184, 0, 132, 153, 0, 10, 28, 184, 1, 2, 154, 0, 6]
abbrev dktX2_fell_0 : List UInt8 := dkwX2_fell_0 ++ dktX2_fell_1
theorem dksX2_fell_0 : cX2_fell.data.toList.drop 0 = dktX2_fell_0 := by decide +kernel
theorem dksX2_fell_1 : cX2_fell.data.toList.drop 24 = dktX2_fell_1 := dk_seg dksX2_fell_0 24 rfl rfl
theorem dksX2_fell_2 : cX2_fell.data.toList.drop 48 = dktX2_fell_2 := dk_seg dksX2_fell_1 24 rfl rfl
theorem dX2_fell_0 : decode cX2_fell 0 = .ok (.aload_n 0, 1) := dk_42 (dk_at dksX2_fell_0 0 rfl rfl)
theorem dX2_fell_1 : decode cX2_fell 1 = .ok (.iconst 0, 1) := dk_3 (dk_at dksX2_fell_0 1 rfl rfl)
theorem dX2_fell_2 : decode cX2_fell 2 = .ok (.putfield 1, 3) := dk_181 0 1 (dk_at dksX2_fell_0 2 rfl rfl)
theorem dX2_fell_5 : decode cX2_fell 5 = .ok (.iload_n 1, 1) := dk_27 (dk_at dksX2_fell_0 5 rfl rfl)
theorem dX2_fell_6 : decode cX2_fell 6 = .ok (.i2l, 1) := dk_133 (dk_at dksX2_fell_0 6 rfl rfl)
theorem dX2_fell_7 : decode cX2_fell 7 = .ok (.lconst 0, 1) := dk_9 (dk_at dksX2_fell_0 7 rfl rfl)
theorem dX2_fell_8 : decode cX2_fell 8 = .ok (.ldc2_w 130, 3) := dk_20 0 130 (dk_at dksX2_fell_0 8 rfl rfl)
theorem dX2_fell_11 : decode cX2_fell 11 = .ok (.invokestatic 132, 3) := dk_184 0 132 (dk_at dksX2_fell_0 11 rfl rfl)
theorem dX2_fell_14 : decode cX2_fell 14 = .ok (.ifCond .eq 10, 3) := dk_153 0 10 (dk_at dksX2_fell_0 14 rfl rfl)
theorem dX2_fell_17 : decode cX2_fell 17 = .ok (.iload_n 2, 1) := dk_28 (dk_at dksX2_fell_0 17 rfl rfl)
theorem dX2_fell_18 : decode cX2_fell 18 = .ok (.invokestatic 258, 3) := dk_184 1 2 (dk_at dksX2_fell_0 18 rfl rfl)
theorem dX2_fell_21 : decode cX2_fell 21 = .ok (.ifCond .ne 6, 3) := dk_154 0 6 (dk_at dksX2_fell_0 21 rfl rfl)
theorem dX2_fell_24 : decode cX2_fell 24 = .ok (.ldc 142, 2) := dk_18 142 (dk_at dksX2_fell_1 0 rfl rfl)
theorem dX2_fell_26 : decode cX2_fell 26 = .ok (.ireturn, 1) := dk_172 (dk_at dksX2_fell_1 2 rfl rfl)
theorem dX2_fell_27 : decode cX2_fell 27 = .ok (.aload_n 0, 1) := dk_42 (dk_at dksX2_fell_1 3 rfl rfl)
theorem dX2_fell_28 : decode cX2_fell 28 = .ok (.getfield 111, 3) := dk_180 0 111 (dk_at dksX2_fell_1 4 rfl rfl)
theorem dX2_fell_31 : decode cX2_fell 31 = .ok (.iload_n 1, 1) := dk_27 (dk_at dksX2_fell_1 7 rfl rfl)
theorem dX2_fell_32 : decode cX2_fell 32 = .ok (.iaload, 1) := dk_46 (dk_at dksX2_fell_1 8 rfl rfl)
theorem dX2_fell_33 : decode cX2_fell 33 = .ok (.ldc 129, 2) := dk_18 129 (dk_at dksX2_fell_1 9 rfl rfl)
theorem dX2_fell_35 : decode cX2_fell 35 = .ok (.if_icmp .eq 15, 3) := dk_159 0 15 (dk_at dksX2_fell_1 11 rfl rfl)
theorem dX2_fell_38 : decode cX2_fell 38 = .ok (.aload_n 0, 1) := dk_42 (dk_at dksX2_fell_1 14 rfl rfl)
theorem dX2_fell_39 : decode cX2_fell 39 = .ok (.getfield 111, 3) := dk_180 0 111 (dk_at dksX2_fell_1 15 rfl rfl)
theorem dX2_fell_42 : decode cX2_fell 42 = .ok (.iload_n 1, 1) := dk_27 (dk_at dksX2_fell_1 18 rfl rfl)
theorem dX2_fell_43 : decode cX2_fell 43 = .ok (.iaload, 1) := dk_46 (dk_at dksX2_fell_1 19 rfl rfl)
theorem dX2_fell_44 : decode cX2_fell 44 = .ok (.iload_n 2, 1) := dk_28 (dk_at dksX2_fell_1 20 rfl rfl)
theorem dX2_fell_45 : decode cX2_fell 45 = .ok (.if_icmp .gt 5, 3) := dk_163 0 5 (dk_at dksX2_fell_1 21 rfl rfl)
theorem dX2_fell_48 : decode cX2_fell 48 = .ok (.iconst 0, 1) := dk_3 (dk_at dksX2_fell_2 0 rfl rfl)
theorem dX2_fell_49 : decode cX2_fell 49 = .ok (.ireturn, 1) := dk_172 (dk_at dksX2_fell_2 1 rfl rfl)
theorem dX2_fell_50 : decode cX2_fell 50 = .ok (.aload_n 0, 1) := dk_42 (dk_at dksX2_fell_2 2 rfl rfl)
theorem dX2_fell_51 : decode cX2_fell 51 = .ok (.getfield 111, 3) := dk_180 0 111 (dk_at dksX2_fell_2 3 rfl rfl)
theorem dX2_fell_54 : decode cX2_fell 54 = .ok (.iload_n 1, 1) := dk_27 (dk_at dksX2_fell_2 6 rfl rfl)
theorem dX2_fell_55 : decode cX2_fell 55 = .ok (.iload_n 2, 1) := dk_28 (dk_at dksX2_fell_2 7 rfl rfl)
theorem dX2_fell_56 : decode cX2_fell 56 = .ok (.iastore, 1) := dk_79 (dk_at dksX2_fell_2 8 rfl rfl)
theorem dX2_fell_57 : decode cX2_fell 57 = .ok (.iconst 1, 1) := dk_4 (dk_at dksX2_fell_2 9 rfl rfl)
theorem dX2_fell_58 : decode cX2_fell 58 = .ok (.ireturn, 1) := dk_172 (dk_at dksX2_fell_2 10 rfl rfl)
abbrev cX2_brought : ByteArray := prog_17_method_64_code
def yX2_brought : MethodName := ⟨RX2, "brought", "(I)I"⟩
def dkwX2_brought_9 : List UInt8 := [21, 4, 172]
abbrev dktX2_brought_9 : List UInt8 := dkwX2_brought_9 ++ []
def dkwX2_brought_8 : List UInt8 := [153, 0, 10, 21, 4, 21, 5, 126, 54, 4, 132, 5, 1, 167, 255, 127, 27, 154, 0, 7, 29, 167, 0, 5]
abbrev dktX2_brought_8 : List UInt8 := dkwX2_brought_8 ++ dktX2_brought_9
def dkwX2_brought_7 : List UInt8 := [21, 5, 184, 1, 113, 29, 184, 1, 113, 162, 0, 13, 21, 5, 62, 21, 5, 54, 4, 167, 0, 15, 21, 6]
abbrev dktX2_brought_7 : List UInt8 := dkwX2_brought_7 ++ dktX2_brought_8
def dkwX2_brought_6 : List UInt8 := [4, 167, 0, 4, 3, 54, 6, 132, 7, 1, 167, 255, 210, 21, 6, 153, 0, 31, 29, 18, 129, 159, 0, 15]
abbrev dktX2_brought_6 : List UInt8 := dkwX2_brought_6 ++ dktX2_brought_7
def dkwX2_brought_5 : List UInt8 := [42, 180, 0, 111, 21, 7, 46, 18, 129, 159, 0, 15, 42, 21, 7, 182, 1, 110, 21, 5, 126, 153, 0, 7]
abbrev dktX2_brought_5 : List UInt8 := dkwX2_brought_5 ++ dktX2_brought_6
def dkwX2_brought_4 : List UInt8 := [184, 1, 113, 163, 0, 103, 4, 54, 6, 3, 54, 7, 21, 7, 16, 8, 162, 0, 45, 21, 6, 153, 0, 31]
abbrev dktX2_brought_4 : List UInt8 := dkwX2_brought_4 ++ dktX2_brought_5
def dkwX2_brought_3 : List UInt8 := [3, 54, 5, 21, 5, 17, 16, 0, 162, 0, 127, 29, 18, 129, 159, 0, 15, 21, 5, 184, 1, 113, 29]
abbrev dktX2_brought_3 : List UInt8 := dkwX2_brought_3 ++ dktX2_brought_4
def dkwX2_brought_2 : List UInt8 := [182, 1, 110, 128, 61, 132, 3, 1, 167, 255, 224, 27, 5, 160, 0, 5, 28, 172, 18, 129, 62, 3, 54, 4]
abbrev dktX2_brought_2 : List UInt8 := dkwX2_brought_2 ++ dktX2_brought_3
def dkwX2_brought_1 : List UInt8 := [29, 16, 8, 162, 0, 32, 28, 42, 180, 0, 111, 29, 46, 18, 129, 160, 0, 7, 3, 167, 0, 8, 42, 29]
abbrev dktX2_brought_1 : List UInt8 := dkwX2_brought_1 ++ dktX2_brought_2
def dkwX2_brought_0 : List UInt8 := [42, 3, 181, 0, 1, 27, 133, 9, 20, 0, 140, 184, 0, 132, 154, 0, 6, 18, 142, 172, 3, 61, 3, 62]
abbrev dktX2_brought_0 : List UInt8 := dkwX2_brought_0 ++ dktX2_brought_1
theorem dksX2_brought_0 : cX2_brought.data.toList.drop 0 = dktX2_brought_0 := by decide +kernel
theorem dksX2_brought_1 : cX2_brought.data.toList.drop 24 = dktX2_brought_1 := dk_seg dksX2_brought_0 24 rfl rfl
theorem dksX2_brought_2 : cX2_brought.data.toList.drop 48 = dktX2_brought_2 := dk_seg dksX2_brought_1 24 rfl rfl
theorem dksX2_brought_3 : cX2_brought.data.toList.drop 72 = dktX2_brought_3 := dk_seg dksX2_brought_2 24 rfl rfl
theorem dksX2_brought_4 : cX2_brought.data.toList.drop 95 = dktX2_brought_4 := dk_seg dksX2_brought_3 23 rfl rfl
theorem dksX2_brought_5 : cX2_brought.data.toList.drop 119 = dktX2_brought_5 := dk_seg dksX2_brought_4 24 rfl rfl
theorem dksX2_brought_6 : cX2_brought.data.toList.drop 143 = dktX2_brought_6 := dk_seg dksX2_brought_5 24 rfl rfl
theorem dksX2_brought_7 : cX2_brought.data.toList.drop 167 = dktX2_brought_7 := dk_seg dksX2_brought_6 24 rfl rfl
theorem dksX2_brought_8 : cX2_brought.data.toList.drop 191 = dktX2_brought_8 := dk_seg dksX2_brought_7 24 rfl rfl
theorem dksX2_brought_9 : cX2_brought.data.toList.drop 215 = dktX2_brought_9 := dk_seg dksX2_brought_8 24 rfl rfl
theorem dX2_brought_0 : decode cX2_brought 0 = .ok (.aload_n 0, 1) := dk_42 (dk_at dksX2_brought_0 0 rfl rfl)
theorem dX2_brought_1 : decode cX2_brought 1 = .ok (.iconst 0, 1) := dk_3 (dk_at dksX2_brought_0 1 rfl rfl)
theorem dX2_brought_2 : decode cX2_brought 2 = .ok (.putfield 1, 3) := dk_181 0 1 (dk_at dksX2_brought_0 2 rfl rfl)
theorem dX2_brought_5 : decode cX2_brought 5 = .ok (.iload_n 1, 1) := dk_27 (dk_at dksX2_brought_0 5 rfl rfl)
theorem dX2_brought_6 : decode cX2_brought 6 = .ok (.i2l, 1) := dk_133 (dk_at dksX2_brought_0 6 rfl rfl)
theorem dX2_brought_7 : decode cX2_brought 7 = .ok (.lconst 0, 1) := dk_9 (dk_at dksX2_brought_0 7 rfl rfl)
theorem dX2_brought_8 : decode cX2_brought 8 = .ok (.ldc2_w 140, 3) := dk_20 0 140 (dk_at dksX2_brought_0 8 rfl rfl)
theorem dX2_brought_11 : decode cX2_brought 11 = .ok (.invokestatic 132, 3) := dk_184 0 132 (dk_at dksX2_brought_0 11 rfl rfl)
theorem dX2_brought_14 : decode cX2_brought 14 = .ok (.ifCond .ne 6, 3) := dk_154 0 6 (dk_at dksX2_brought_0 14 rfl rfl)
theorem dX2_brought_17 : decode cX2_brought 17 = .ok (.ldc 142, 2) := dk_18 142 (dk_at dksX2_brought_0 17 rfl rfl)
theorem dX2_brought_19 : decode cX2_brought 19 = .ok (.ireturn, 1) := dk_172 (dk_at dksX2_brought_0 19 rfl rfl)
theorem dX2_brought_20 : decode cX2_brought 20 = .ok (.iconst 0, 1) := dk_3 (dk_at dksX2_brought_0 20 rfl rfl)
theorem dX2_brought_21 : decode cX2_brought 21 = .ok (.istore_n 2, 1) := dk_61 (dk_at dksX2_brought_0 21 rfl rfl)
theorem dX2_brought_22 : decode cX2_brought 22 = .ok (.iconst 0, 1) := dk_3 (dk_at dksX2_brought_0 22 rfl rfl)
theorem dX2_brought_23 : decode cX2_brought 23 = .ok (.istore_n 3, 1) := dk_62 (dk_at dksX2_brought_0 23 rfl rfl)
theorem dX2_brought_24 : decode cX2_brought 24 = .ok (.iload_n 3, 1) := dk_29 (dk_at dksX2_brought_1 0 rfl rfl)
theorem dX2_brought_25 : decode cX2_brought 25 = .ok (.bipush 8, 2) := dk_16 8 (dk_at dksX2_brought_1 1 rfl rfl)
theorem dX2_brought_27 : decode cX2_brought 27 = .ok (.if_icmp .ge 32, 3) := dk_162 0 32 (dk_at dksX2_brought_1 3 rfl rfl)
theorem dX2_brought_30 : decode cX2_brought 30 = .ok (.iload_n 2, 1) := dk_28 (dk_at dksX2_brought_1 6 rfl rfl)
theorem dX2_brought_31 : decode cX2_brought 31 = .ok (.aload_n 0, 1) := dk_42 (dk_at dksX2_brought_1 7 rfl rfl)
theorem dX2_brought_32 : decode cX2_brought 32 = .ok (.getfield 111, 3) := dk_180 0 111 (dk_at dksX2_brought_1 8 rfl rfl)
theorem dX2_brought_35 : decode cX2_brought 35 = .ok (.iload_n 3, 1) := dk_29 (dk_at dksX2_brought_1 11 rfl rfl)
theorem dX2_brought_36 : decode cX2_brought 36 = .ok (.iaload, 1) := dk_46 (dk_at dksX2_brought_1 12 rfl rfl)
theorem dX2_brought_37 : decode cX2_brought 37 = .ok (.ldc 129, 2) := dk_18 129 (dk_at dksX2_brought_1 13 rfl rfl)
theorem dX2_brought_39 : decode cX2_brought 39 = .ok (.if_icmp .ne 7, 3) := dk_160 0 7 (dk_at dksX2_brought_1 15 rfl rfl)
theorem dX2_brought_42 : decode cX2_brought 42 = .ok (.iconst 0, 1) := dk_3 (dk_at dksX2_brought_1 18 rfl rfl)
theorem dX2_brought_43 : decode cX2_brought 43 = .ok (.goto 8, 3) := dk_167 0 8 (dk_at dksX2_brought_1 19 rfl rfl)
theorem dX2_brought_46 : decode cX2_brought 46 = .ok (.aload_n 0, 1) := dk_42 (dk_at dksX2_brought_1 22 rfl rfl)
theorem dX2_brought_47 : decode cX2_brought 47 = .ok (.iload_n 3, 1) := dk_29 (dk_at dksX2_brought_1 23 rfl rfl)
theorem dX2_brought_48 : decode cX2_brought 48 = .ok (.invokevirtual 366, 3) := dk_182 1 110 (dk_at dksX2_brought_2 0 rfl rfl)
theorem dX2_brought_51 : decode cX2_brought 51 = .ok (.ior, 1) := dk_128 (dk_at dksX2_brought_2 3 rfl rfl)
theorem dX2_brought_52 : decode cX2_brought 52 = .ok (.istore_n 2, 1) := dk_61 (dk_at dksX2_brought_2 4 rfl rfl)
theorem dX2_brought_53 : decode cX2_brought 53 = .ok (.iinc 3 1, 3) := dk_132 3 1 (dk_at dksX2_brought_2 5 rfl rfl)
theorem dX2_brought_56 : decode cX2_brought 56 = .ok (.goto (-32), 3) := dk_167 255 224 (dk_at dksX2_brought_2 8 rfl rfl)
theorem dX2_brought_59 : decode cX2_brought 59 = .ok (.iload_n 1, 1) := dk_27 (dk_at dksX2_brought_2 11 rfl rfl)
theorem dX2_brought_60 : decode cX2_brought 60 = .ok (.iconst 2, 1) := dk_5 (dk_at dksX2_brought_2 12 rfl rfl)
theorem dX2_brought_61 : decode cX2_brought 61 = .ok (.if_icmp .ne 5, 3) := dk_160 0 5 (dk_at dksX2_brought_2 13 rfl rfl)
theorem dX2_brought_64 : decode cX2_brought 64 = .ok (.iload_n 2, 1) := dk_28 (dk_at dksX2_brought_2 16 rfl rfl)
theorem dX2_brought_65 : decode cX2_brought 65 = .ok (.ireturn, 1) := dk_172 (dk_at dksX2_brought_2 17 rfl rfl)
theorem dX2_brought_66 : decode cX2_brought 66 = .ok (.ldc 129, 2) := dk_18 129 (dk_at dksX2_brought_2 18 rfl rfl)
theorem dX2_brought_68 : decode cX2_brought 68 = .ok (.istore_n 3, 1) := dk_62 (dk_at dksX2_brought_2 20 rfl rfl)
theorem dX2_brought_69 : decode cX2_brought 69 = .ok (.iconst 0, 1) := dk_3 (dk_at dksX2_brought_2 21 rfl rfl)
theorem dX2_brought_70 : decode cX2_brought 70 = .ok (.istore 4, 2) := dk_54 4 (dk_at dksX2_brought_2 22 rfl rfl)
theorem dX2_brought_72 : decode cX2_brought 72 = .ok (.iconst 0, 1) := dk_3 (dk_at dksX2_brought_3 0 rfl rfl)
theorem dX2_brought_73 : decode cX2_brought 73 = .ok (.istore 5, 2) := dk_54 5 (dk_at dksX2_brought_3 1 rfl rfl)
theorem dX2_brought_75 : decode cX2_brought 75 = .ok (.iload 5, 2) := dk_21 5 (dk_at dksX2_brought_3 3 rfl rfl)
theorem dX2_brought_77 : decode cX2_brought 77 = .ok (.sipush 4096, 3) := dk_17 16 0 (dk_at dksX2_brought_3 5 rfl rfl)
theorem dX2_brought_80 : decode cX2_brought 80 = .ok (.if_icmp .ge 127, 3) := dk_162 0 127 (dk_at dksX2_brought_3 8 rfl rfl)
theorem dX2_brought_83 : decode cX2_brought 83 = .ok (.iload_n 3, 1) := dk_29 (dk_at dksX2_brought_3 11 rfl rfl)
theorem dX2_brought_84 : decode cX2_brought 84 = .ok (.ldc 129, 2) := dk_18 129 (dk_at dksX2_brought_3 12 rfl rfl)
theorem dX2_brought_86 : decode cX2_brought 86 = .ok (.if_icmp .eq 15, 3) := dk_159 0 15 (dk_at dksX2_brought_3 14 rfl rfl)
theorem dX2_brought_89 : decode cX2_brought 89 = .ok (.iload 5, 2) := dk_21 5 (dk_at dksX2_brought_3 17 rfl rfl)
theorem dX2_brought_91 : decode cX2_brought 91 = .ok (.invokestatic 369, 3) := dk_184 1 113 (dk_at dksX2_brought_3 19 rfl rfl)
theorem dX2_brought_94 : decode cX2_brought 94 = .ok (.iload_n 3, 1) := dk_29 (dk_at dksX2_brought_3 22 rfl rfl)
theorem dX2_brought_95 : decode cX2_brought 95 = .ok (.invokestatic 369, 3) := dk_184 1 113 (dk_at dksX2_brought_4 0 rfl rfl)
theorem dX2_brought_98 : decode cX2_brought 98 = .ok (.if_icmp .gt 103, 3) := dk_163 0 103 (dk_at dksX2_brought_4 3 rfl rfl)
theorem dX2_brought_101 : decode cX2_brought 101 = .ok (.iconst 1, 1) := dk_4 (dk_at dksX2_brought_4 6 rfl rfl)
theorem dX2_brought_102 : decode cX2_brought 102 = .ok (.istore 6, 2) := dk_54 6 (dk_at dksX2_brought_4 7 rfl rfl)
theorem dX2_brought_104 : decode cX2_brought 104 = .ok (.iconst 0, 1) := dk_3 (dk_at dksX2_brought_4 9 rfl rfl)
theorem dX2_brought_105 : decode cX2_brought 105 = .ok (.istore 7, 2) := dk_54 7 (dk_at dksX2_brought_4 10 rfl rfl)
theorem dX2_brought_107 : decode cX2_brought 107 = .ok (.iload 7, 2) := dk_21 7 (dk_at dksX2_brought_4 12 rfl rfl)
theorem dX2_brought_109 : decode cX2_brought 109 = .ok (.bipush 8, 2) := dk_16 8 (dk_at dksX2_brought_4 14 rfl rfl)
theorem dX2_brought_111 : decode cX2_brought 111 = .ok (.if_icmp .ge 45, 3) := dk_162 0 45 (dk_at dksX2_brought_4 16 rfl rfl)
theorem dX2_brought_114 : decode cX2_brought 114 = .ok (.iload 6, 2) := dk_21 6 (dk_at dksX2_brought_4 19 rfl rfl)
theorem dX2_brought_116 : decode cX2_brought 116 = .ok (.ifCond .eq 31, 3) := dk_153 0 31 (dk_at dksX2_brought_4 21 rfl rfl)
theorem dX2_brought_119 : decode cX2_brought 119 = .ok (.aload_n 0, 1) := dk_42 (dk_at dksX2_brought_5 0 rfl rfl)
theorem dX2_brought_120 : decode cX2_brought 120 = .ok (.getfield 111, 3) := dk_180 0 111 (dk_at dksX2_brought_5 1 rfl rfl)
theorem dX2_brought_123 : decode cX2_brought 123 = .ok (.iload 7, 2) := dk_21 7 (dk_at dksX2_brought_5 4 rfl rfl)
theorem dX2_brought_125 : decode cX2_brought 125 = .ok (.iaload, 1) := dk_46 (dk_at dksX2_brought_5 6 rfl rfl)
theorem dX2_brought_126 : decode cX2_brought 126 = .ok (.ldc 129, 2) := dk_18 129 (dk_at dksX2_brought_5 7 rfl rfl)
theorem dX2_brought_128 : decode cX2_brought 128 = .ok (.if_icmp .eq 15, 3) := dk_159 0 15 (dk_at dksX2_brought_5 9 rfl rfl)
theorem dX2_brought_131 : decode cX2_brought 131 = .ok (.aload_n 0, 1) := dk_42 (dk_at dksX2_brought_5 12 rfl rfl)
theorem dX2_brought_132 : decode cX2_brought 132 = .ok (.iload 7, 2) := dk_21 7 (dk_at dksX2_brought_5 13 rfl rfl)
theorem dX2_brought_134 : decode cX2_brought 134 = .ok (.invokevirtual 366, 3) := dk_182 1 110 (dk_at dksX2_brought_5 15 rfl rfl)
theorem dX2_brought_137 : decode cX2_brought 137 = .ok (.iload 5, 2) := dk_21 5 (dk_at dksX2_brought_5 18 rfl rfl)
theorem dX2_brought_139 : decode cX2_brought 139 = .ok (.iand, 1) := dk_126 (dk_at dksX2_brought_5 20 rfl rfl)
theorem dX2_brought_140 : decode cX2_brought 140 = .ok (.ifCond .eq 7, 3) := dk_153 0 7 (dk_at dksX2_brought_5 21 rfl rfl)
theorem dX2_brought_143 : decode cX2_brought 143 = .ok (.iconst 1, 1) := dk_4 (dk_at dksX2_brought_6 0 rfl rfl)
theorem dX2_brought_144 : decode cX2_brought 144 = .ok (.goto 4, 3) := dk_167 0 4 (dk_at dksX2_brought_6 1 rfl rfl)
theorem dX2_brought_147 : decode cX2_brought 147 = .ok (.iconst 0, 1) := dk_3 (dk_at dksX2_brought_6 4 rfl rfl)
theorem dX2_brought_148 : decode cX2_brought 148 = .ok (.istore 6, 2) := dk_54 6 (dk_at dksX2_brought_6 5 rfl rfl)
theorem dX2_brought_150 : decode cX2_brought 150 = .ok (.iinc 7 1, 3) := dk_132 7 1 (dk_at dksX2_brought_6 7 rfl rfl)
theorem dX2_brought_153 : decode cX2_brought 153 = .ok (.goto (-46), 3) := dk_167 255 210 (dk_at dksX2_brought_6 10 rfl rfl)
theorem dX2_brought_156 : decode cX2_brought 156 = .ok (.iload 6, 2) := dk_21 6 (dk_at dksX2_brought_6 13 rfl rfl)
theorem dX2_brought_158 : decode cX2_brought 158 = .ok (.ifCond .eq 31, 3) := dk_153 0 31 (dk_at dksX2_brought_6 15 rfl rfl)
theorem dX2_brought_161 : decode cX2_brought 161 = .ok (.iload_n 3, 1) := dk_29 (dk_at dksX2_brought_6 18 rfl rfl)
theorem dX2_brought_162 : decode cX2_brought 162 = .ok (.ldc 129, 2) := dk_18 129 (dk_at dksX2_brought_6 19 rfl rfl)
theorem dX2_brought_164 : decode cX2_brought 164 = .ok (.if_icmp .eq 15, 3) := dk_159 0 15 (dk_at dksX2_brought_6 21 rfl rfl)
theorem dX2_brought_167 : decode cX2_brought 167 = .ok (.iload 5, 2) := dk_21 5 (dk_at dksX2_brought_7 0 rfl rfl)
theorem dX2_brought_169 : decode cX2_brought 169 = .ok (.invokestatic 369, 3) := dk_184 1 113 (dk_at dksX2_brought_7 2 rfl rfl)
theorem dX2_brought_172 : decode cX2_brought 172 = .ok (.iload_n 3, 1) := dk_29 (dk_at dksX2_brought_7 5 rfl rfl)
theorem dX2_brought_173 : decode cX2_brought 173 = .ok (.invokestatic 369, 3) := dk_184 1 113 (dk_at dksX2_brought_7 6 rfl rfl)
theorem dX2_brought_176 : decode cX2_brought 176 = .ok (.if_icmp .ge 13, 3) := dk_162 0 13 (dk_at dksX2_brought_7 9 rfl rfl)
theorem dX2_brought_179 : decode cX2_brought 179 = .ok (.iload 5, 2) := dk_21 5 (dk_at dksX2_brought_7 12 rfl rfl)
theorem dX2_brought_181 : decode cX2_brought 181 = .ok (.istore_n 3, 1) := dk_62 (dk_at dksX2_brought_7 14 rfl rfl)
theorem dX2_brought_182 : decode cX2_brought 182 = .ok (.iload 5, 2) := dk_21 5 (dk_at dksX2_brought_7 15 rfl rfl)
theorem dX2_brought_184 : decode cX2_brought 184 = .ok (.istore 4, 2) := dk_54 4 (dk_at dksX2_brought_7 17 rfl rfl)
theorem dX2_brought_186 : decode cX2_brought 186 = .ok (.goto 15, 3) := dk_167 0 15 (dk_at dksX2_brought_7 19 rfl rfl)
theorem dX2_brought_189 : decode cX2_brought 189 = .ok (.iload 6, 2) := dk_21 6 (dk_at dksX2_brought_7 22 rfl rfl)
theorem dX2_brought_191 : decode cX2_brought 191 = .ok (.ifCond .eq 10, 3) := dk_153 0 10 (dk_at dksX2_brought_8 0 rfl rfl)
theorem dX2_brought_194 : decode cX2_brought 194 = .ok (.iload 4, 2) := dk_21 4 (dk_at dksX2_brought_8 3 rfl rfl)
theorem dX2_brought_196 : decode cX2_brought 196 = .ok (.iload 5, 2) := dk_21 5 (dk_at dksX2_brought_8 5 rfl rfl)
theorem dX2_brought_198 : decode cX2_brought 198 = .ok (.iand, 1) := dk_126 (dk_at dksX2_brought_8 7 rfl rfl)
theorem dX2_brought_199 : decode cX2_brought 199 = .ok (.istore 4, 2) := dk_54 4 (dk_at dksX2_brought_8 8 rfl rfl)
theorem dX2_brought_201 : decode cX2_brought 201 = .ok (.iinc 5 1, 3) := dk_132 5 1 (dk_at dksX2_brought_8 10 rfl rfl)
theorem dX2_brought_204 : decode cX2_brought 204 = .ok (.goto (-129), 3) := dk_167 255 127 (dk_at dksX2_brought_8 13 rfl rfl)
theorem dX2_brought_207 : decode cX2_brought 207 = .ok (.iload_n 1, 1) := dk_27 (dk_at dksX2_brought_8 16 rfl rfl)
theorem dX2_brought_208 : decode cX2_brought 208 = .ok (.ifCond .ne 7, 3) := dk_154 0 7 (dk_at dksX2_brought_8 17 rfl rfl)
theorem dX2_brought_211 : decode cX2_brought 211 = .ok (.iload_n 3, 1) := dk_29 (dk_at dksX2_brought_8 20 rfl rfl)
theorem dX2_brought_212 : decode cX2_brought 212 = .ok (.goto 5, 3) := dk_167 0 5 (dk_at dksX2_brought_8 21 rfl rfl)
theorem dX2_brought_215 : decode cX2_brought 215 = .ok (.iload 4, 2) := dk_21 4 (dk_at dksX2_brought_9 0 rfl rfl)
theorem dX2_brought_217 : decode cX2_brought 217 = .ok (.ireturn, 1) := dk_172 (dk_at dksX2_brought_9 2 rfl rfl)
abbrev cX2_whoMay : ByteArray := prog_17_method_63_code
def yX2_whoMay : MethodName := ⟨RX2, "whoMay", "(I)I"⟩
def dkwX2_whoMay_3 : List UInt8 := [4, 42, 180, 0, 99, 29, 46, 120, 167, 0, 4, 3, 128, 61, 132, 3, 1, 167, 255, 173, 28, 172]
abbrev dktX2_whoMay_3 : List UInt8 := dkwX2_whoMay_3 ++ []
def dkwX2_whoMay_2 : List UInt8 := [180, 0, 111, 27, 46, 16, 10, 100, 161, 0, 7, 4, 167, 0, 4, 3, 54, 4, 28, 21, 4, 153, 0, 14]
abbrev dktX2_whoMay_2 : List UInt8 := dkwX2_whoMay_2 ++ dktX2_whoMay_3
def dkwX2_whoMay_1 : List UInt8 := [180, 0, 105, 29, 46, 42, 180, 0, 111, 27, 46, 5, 100, 163, 0, 25, 42, 180, 0, 108, 29, 46, 42]
abbrev dktX2_whoMay_1 : List UInt8 := dkwX2_whoMay_1 ++ dktX2_whoMay_2
def dkwX2_whoMay_0 : List UInt8 := [3, 61, 3, 62, 29, 42, 180, 1, 107, 162, 0, 81, 42, 180, 0, 102, 29, 46, 27, 160, 0, 42, 42]
abbrev dktX2_whoMay_0 : List UInt8 := dkwX2_whoMay_0 ++ dktX2_whoMay_1
theorem dksX2_whoMay_0 : cX2_whoMay.data.toList.drop 0 = dktX2_whoMay_0 := by decide +kernel
theorem dksX2_whoMay_1 : cX2_whoMay.data.toList.drop 23 = dktX2_whoMay_1 := dk_seg dksX2_whoMay_0 23 rfl rfl
theorem dksX2_whoMay_2 : cX2_whoMay.data.toList.drop 46 = dktX2_whoMay_2 := dk_seg dksX2_whoMay_1 23 rfl rfl
theorem dksX2_whoMay_3 : cX2_whoMay.data.toList.drop 70 = dktX2_whoMay_3 := dk_seg dksX2_whoMay_2 24 rfl rfl
theorem dX2_whoMay_0 : decode cX2_whoMay 0 = .ok (.iconst 0, 1) := dk_3 (dk_at dksX2_whoMay_0 0 rfl rfl)
theorem dX2_whoMay_1 : decode cX2_whoMay 1 = .ok (.istore_n 2, 1) := dk_61 (dk_at dksX2_whoMay_0 1 rfl rfl)
theorem dX2_whoMay_2 : decode cX2_whoMay 2 = .ok (.iconst 0, 1) := dk_3 (dk_at dksX2_whoMay_0 2 rfl rfl)
theorem dX2_whoMay_3 : decode cX2_whoMay 3 = .ok (.istore_n 3, 1) := dk_62 (dk_at dksX2_whoMay_0 3 rfl rfl)
theorem dX2_whoMay_4 : decode cX2_whoMay 4 = .ok (.iload_n 3, 1) := dk_29 (dk_at dksX2_whoMay_0 4 rfl rfl)
theorem dX2_whoMay_5 : decode cX2_whoMay 5 = .ok (.aload_n 0, 1) := dk_42 (dk_at dksX2_whoMay_0 5 rfl rfl)
theorem dX2_whoMay_6 : decode cX2_whoMay 6 = .ok (.getfield 363, 3) := dk_180 1 107 (dk_at dksX2_whoMay_0 6 rfl rfl)
theorem dX2_whoMay_9 : decode cX2_whoMay 9 = .ok (.if_icmp .ge 81, 3) := dk_162 0 81 (dk_at dksX2_whoMay_0 9 rfl rfl)
theorem dX2_whoMay_12 : decode cX2_whoMay 12 = .ok (.aload_n 0, 1) := dk_42 (dk_at dksX2_whoMay_0 12 rfl rfl)
theorem dX2_whoMay_13 : decode cX2_whoMay 13 = .ok (.getfield 102, 3) := dk_180 0 102 (dk_at dksX2_whoMay_0 13 rfl rfl)
theorem dX2_whoMay_16 : decode cX2_whoMay 16 = .ok (.iload_n 3, 1) := dk_29 (dk_at dksX2_whoMay_0 16 rfl rfl)
theorem dX2_whoMay_17 : decode cX2_whoMay 17 = .ok (.iaload, 1) := dk_46 (dk_at dksX2_whoMay_0 17 rfl rfl)
theorem dX2_whoMay_18 : decode cX2_whoMay 18 = .ok (.iload_n 1, 1) := dk_27 (dk_at dksX2_whoMay_0 18 rfl rfl)
theorem dX2_whoMay_19 : decode cX2_whoMay 19 = .ok (.if_icmp .ne 42, 3) := dk_160 0 42 (dk_at dksX2_whoMay_0 19 rfl rfl)
theorem dX2_whoMay_22 : decode cX2_whoMay 22 = .ok (.aload_n 0, 1) := dk_42 (dk_at dksX2_whoMay_0 22 rfl rfl)
theorem dX2_whoMay_23 : decode cX2_whoMay 23 = .ok (.getfield 105, 3) := dk_180 0 105 (dk_at dksX2_whoMay_1 0 rfl rfl)
theorem dX2_whoMay_26 : decode cX2_whoMay 26 = .ok (.iload_n 3, 1) := dk_29 (dk_at dksX2_whoMay_1 3 rfl rfl)
theorem dX2_whoMay_27 : decode cX2_whoMay 27 = .ok (.iaload, 1) := dk_46 (dk_at dksX2_whoMay_1 4 rfl rfl)
theorem dX2_whoMay_28 : decode cX2_whoMay 28 = .ok (.aload_n 0, 1) := dk_42 (dk_at dksX2_whoMay_1 5 rfl rfl)
theorem dX2_whoMay_29 : decode cX2_whoMay 29 = .ok (.getfield 111, 3) := dk_180 0 111 (dk_at dksX2_whoMay_1 6 rfl rfl)
theorem dX2_whoMay_32 : decode cX2_whoMay 32 = .ok (.iload_n 1, 1) := dk_27 (dk_at dksX2_whoMay_1 9 rfl rfl)
theorem dX2_whoMay_33 : decode cX2_whoMay 33 = .ok (.iaload, 1) := dk_46 (dk_at dksX2_whoMay_1 10 rfl rfl)
theorem dX2_whoMay_34 : decode cX2_whoMay 34 = .ok (.iconst 2, 1) := dk_5 (dk_at dksX2_whoMay_1 11 rfl rfl)
theorem dX2_whoMay_35 : decode cX2_whoMay 35 = .ok (.isub, 1) := dk_100 (dk_at dksX2_whoMay_1 12 rfl rfl)
theorem dX2_whoMay_36 : decode cX2_whoMay 36 = .ok (.if_icmp .gt 25, 3) := dk_163 0 25 (dk_at dksX2_whoMay_1 13 rfl rfl)
theorem dX2_whoMay_39 : decode cX2_whoMay 39 = .ok (.aload_n 0, 1) := dk_42 (dk_at dksX2_whoMay_1 16 rfl rfl)
theorem dX2_whoMay_40 : decode cX2_whoMay 40 = .ok (.getfield 108, 3) := dk_180 0 108 (dk_at dksX2_whoMay_1 17 rfl rfl)
theorem dX2_whoMay_43 : decode cX2_whoMay 43 = .ok (.iload_n 3, 1) := dk_29 (dk_at dksX2_whoMay_1 20 rfl rfl)
theorem dX2_whoMay_44 : decode cX2_whoMay 44 = .ok (.iaload, 1) := dk_46 (dk_at dksX2_whoMay_1 21 rfl rfl)
theorem dX2_whoMay_45 : decode cX2_whoMay 45 = .ok (.aload_n 0, 1) := dk_42 (dk_at dksX2_whoMay_1 22 rfl rfl)
theorem dX2_whoMay_46 : decode cX2_whoMay 46 = .ok (.getfield 111, 3) := dk_180 0 111 (dk_at dksX2_whoMay_2 0 rfl rfl)
theorem dX2_whoMay_49 : decode cX2_whoMay 49 = .ok (.iload_n 1, 1) := dk_27 (dk_at dksX2_whoMay_2 3 rfl rfl)
theorem dX2_whoMay_50 : decode cX2_whoMay 50 = .ok (.iaload, 1) := dk_46 (dk_at dksX2_whoMay_2 4 rfl rfl)
theorem dX2_whoMay_51 : decode cX2_whoMay 51 = .ok (.bipush 10, 2) := dk_16 10 (dk_at dksX2_whoMay_2 5 rfl rfl)
theorem dX2_whoMay_53 : decode cX2_whoMay 53 = .ok (.isub, 1) := dk_100 (dk_at dksX2_whoMay_2 7 rfl rfl)
theorem dX2_whoMay_54 : decode cX2_whoMay 54 = .ok (.if_icmp .lt 7, 3) := dk_161 0 7 (dk_at dksX2_whoMay_2 8 rfl rfl)
theorem dX2_whoMay_57 : decode cX2_whoMay 57 = .ok (.iconst 1, 1) := dk_4 (dk_at dksX2_whoMay_2 11 rfl rfl)
theorem dX2_whoMay_58 : decode cX2_whoMay 58 = .ok (.goto 4, 3) := dk_167 0 4 (dk_at dksX2_whoMay_2 12 rfl rfl)
theorem dX2_whoMay_61 : decode cX2_whoMay 61 = .ok (.iconst 0, 1) := dk_3 (dk_at dksX2_whoMay_2 15 rfl rfl)
theorem dX2_whoMay_62 : decode cX2_whoMay 62 = .ok (.istore 4, 2) := dk_54 4 (dk_at dksX2_whoMay_2 16 rfl rfl)
theorem dX2_whoMay_64 : decode cX2_whoMay 64 = .ok (.iload_n 2, 1) := dk_28 (dk_at dksX2_whoMay_2 18 rfl rfl)
theorem dX2_whoMay_65 : decode cX2_whoMay 65 = .ok (.iload 4, 2) := dk_21 4 (dk_at dksX2_whoMay_2 19 rfl rfl)
theorem dX2_whoMay_67 : decode cX2_whoMay 67 = .ok (.ifCond .eq 14, 3) := dk_153 0 14 (dk_at dksX2_whoMay_2 21 rfl rfl)
theorem dX2_whoMay_70 : decode cX2_whoMay 70 = .ok (.iconst 1, 1) := dk_4 (dk_at dksX2_whoMay_3 0 rfl rfl)
theorem dX2_whoMay_71 : decode cX2_whoMay 71 = .ok (.aload_n 0, 1) := dk_42 (dk_at dksX2_whoMay_3 1 rfl rfl)
theorem dX2_whoMay_72 : decode cX2_whoMay 72 = .ok (.getfield 99, 3) := dk_180 0 99 (dk_at dksX2_whoMay_3 2 rfl rfl)
theorem dX2_whoMay_75 : decode cX2_whoMay 75 = .ok (.iload_n 3, 1) := dk_29 (dk_at dksX2_whoMay_3 5 rfl rfl)
theorem dX2_whoMay_76 : decode cX2_whoMay 76 = .ok (.iaload, 1) := dk_46 (dk_at dksX2_whoMay_3 6 rfl rfl)
theorem dX2_whoMay_77 : decode cX2_whoMay 77 = .ok (.ishl, 1) := dk_120 (dk_at dksX2_whoMay_3 7 rfl rfl)
theorem dX2_whoMay_78 : decode cX2_whoMay 78 = .ok (.goto 4, 3) := dk_167 0 4 (dk_at dksX2_whoMay_3 8 rfl rfl)
theorem dX2_whoMay_81 : decode cX2_whoMay 81 = .ok (.iconst 0, 1) := dk_3 (dk_at dksX2_whoMay_3 11 rfl rfl)
theorem dX2_whoMay_82 : decode cX2_whoMay 82 = .ok (.ior, 1) := dk_128 (dk_at dksX2_whoMay_3 12 rfl rfl)
theorem dX2_whoMay_83 : decode cX2_whoMay 83 = .ok (.istore_n 2, 1) := dk_61 (dk_at dksX2_whoMay_3 13 rfl rfl)
theorem dX2_whoMay_84 : decode cX2_whoMay 84 = .ok (.iinc 3 1, 3) := dk_132 3 1 (dk_at dksX2_whoMay_3 14 rfl rfl)
theorem dX2_whoMay_87 : decode cX2_whoMay 87 = .ok (.goto (-83), 3) := dk_167 255 173 (dk_at dksX2_whoMay_3 17 rfl rfl)
theorem dX2_whoMay_90 : decode cX2_whoMay 90 = .ok (.iload_n 2, 1) := dk_28 (dk_at dksX2_whoMay_3 20 rfl rfl)
theorem dX2_whoMay_91 : decode cX2_whoMay 91 = .ok (.ireturn, 1) := dk_172 (dk_at dksX2_whoMay_3 21 rfl rfl)
abbrev cX2_bits : ByteArray := prog_17_method_62_code
def yX2_bits : MethodName := ⟨RX2, "bits", "(I)I"⟩
def dkwX2_bits_1 : List UInt8 := [27, 172]
abbrev dktX2_bits_1 : List UInt8 := dkwX2_bits_1 ++ []
def dkwX2_bits_0 : List UInt8 := [3, 60, 3, 61, 28, 16, 16, 162, 0, 17, 27, 26, 28, 122, 4, 126, 96, 60, 132, 2, 1, 167, 255, 239]
abbrev dktX2_bits_0 : List UInt8 := dkwX2_bits_0 ++ dktX2_bits_1
theorem dksX2_bits_0 : cX2_bits.data.toList.drop 0 = dktX2_bits_0 := by decide +kernel
theorem dksX2_bits_1 : cX2_bits.data.toList.drop 24 = dktX2_bits_1 := dk_seg dksX2_bits_0 24 rfl rfl
theorem dX2_bits_0 : decode cX2_bits 0 = .ok (.iconst 0, 1) := dk_3 (dk_at dksX2_bits_0 0 rfl rfl)
theorem dX2_bits_1 : decode cX2_bits 1 = .ok (.istore_n 1, 1) := dk_60 (dk_at dksX2_bits_0 1 rfl rfl)
theorem dX2_bits_2 : decode cX2_bits 2 = .ok (.iconst 0, 1) := dk_3 (dk_at dksX2_bits_0 2 rfl rfl)
theorem dX2_bits_3 : decode cX2_bits 3 = .ok (.istore_n 2, 1) := dk_61 (dk_at dksX2_bits_0 3 rfl rfl)
theorem dX2_bits_4 : decode cX2_bits 4 = .ok (.iload_n 2, 1) := dk_28 (dk_at dksX2_bits_0 4 rfl rfl)
theorem dX2_bits_5 : decode cX2_bits 5 = .ok (.bipush 16, 2) := dk_16 16 (dk_at dksX2_bits_0 5 rfl rfl)
theorem dX2_bits_7 : decode cX2_bits 7 = .ok (.if_icmp .ge 17, 3) := dk_162 0 17 (dk_at dksX2_bits_0 7 rfl rfl)
theorem dX2_bits_10 : decode cX2_bits 10 = .ok (.iload_n 1, 1) := dk_27 (dk_at dksX2_bits_0 10 rfl rfl)
theorem dX2_bits_11 : decode cX2_bits 11 = .ok (.iload_n 0, 1) := dk_26 (dk_at dksX2_bits_0 11 rfl rfl)
theorem dX2_bits_12 : decode cX2_bits 12 = .ok (.iload_n 2, 1) := dk_28 (dk_at dksX2_bits_0 12 rfl rfl)
theorem dX2_bits_13 : decode cX2_bits 13 = .ok (.ishr, 1) := dk_122 (dk_at dksX2_bits_0 13 rfl rfl)
theorem dX2_bits_14 : decode cX2_bits 14 = .ok (.iconst 1, 1) := dk_4 (dk_at dksX2_bits_0 14 rfl rfl)
theorem dX2_bits_15 : decode cX2_bits 15 = .ok (.iand, 1) := dk_126 (dk_at dksX2_bits_0 15 rfl rfl)
theorem dX2_bits_16 : decode cX2_bits 16 = .ok (.iadd, 1) := dk_96 (dk_at dksX2_bits_0 16 rfl rfl)
theorem dX2_bits_17 : decode cX2_bits 17 = .ok (.istore_n 1, 1) := dk_60 (dk_at dksX2_bits_0 17 rfl rfl)
theorem dX2_bits_18 : decode cX2_bits 18 = .ok (.iinc 2 1, 3) := dk_132 2 1 (dk_at dksX2_bits_0 18 rfl rfl)
theorem dX2_bits_21 : decode cX2_bits 21 = .ok (.goto (-17), 3) := dk_167 255 239 (dk_at dksX2_bits_0 21 rfl rfl)
theorem dX2_bits_24 : decode cX2_bits 24 = .ok (.iload_n 1, 1) := dk_27 (dk_at dksX2_bits_1 0 rfl rfl)
theorem dX2_bits_25 : decode cX2_bits 25 = .ok (.ireturn, 1) := dk_172 (dk_at dksX2_bits_1 1 rfl rfl)
abbrev cX2_high : ByteArray := prog_17_method_66_code
def yX2_high : MethodName := ⟨RX2, "high", "(II)I"⟩
def dkwX2_high_1 : List UInt8 := [18, 142, 172, 42, 180, 0, 114, 27, 46, 62, 42, 180, 0, 114, 27, 28, 79, 29, 172]
abbrev dktX2_high_1 : List UInt8 := dkwX2_high_1 ++ []
def dkwX2_high_0 : List UInt8 := [42, 3, 181, 0, 1, 27, 184, 1, 116, 153, 0, 15, 28, 133, 10, 20, 1, 39, 184, 0, 132, 154, 0, 6]
abbrev dktX2_high_0 : List UInt8 := dkwX2_high_0 ++ dktX2_high_1
theorem dksX2_high_0 : cX2_high.data.toList.drop 0 = dktX2_high_0 := by decide +kernel
theorem dksX2_high_1 : cX2_high.data.toList.drop 24 = dktX2_high_1 := dk_seg dksX2_high_0 24 rfl rfl
theorem dX2_high_0 : decode cX2_high 0 = .ok (.aload_n 0, 1) := dk_42 (dk_at dksX2_high_0 0 rfl rfl)
theorem dX2_high_1 : decode cX2_high 1 = .ok (.iconst 0, 1) := dk_3 (dk_at dksX2_high_0 1 rfl rfl)
theorem dX2_high_2 : decode cX2_high 2 = .ok (.putfield 1, 3) := dk_181 0 1 (dk_at dksX2_high_0 2 rfl rfl)
theorem dX2_high_5 : decode cX2_high 5 = .ok (.iload_n 1, 1) := dk_27 (dk_at dksX2_high_0 5 rfl rfl)
theorem dX2_high_6 : decode cX2_high 6 = .ok (.invokestatic 372, 3) := dk_184 1 116 (dk_at dksX2_high_0 6 rfl rfl)
theorem dX2_high_9 : decode cX2_high 9 = .ok (.ifCond .eq 15, 3) := dk_153 0 15 (dk_at dksX2_high_0 9 rfl rfl)
theorem dX2_high_12 : decode cX2_high 12 = .ok (.iload_n 2, 1) := dk_28 (dk_at dksX2_high_0 12 rfl rfl)
theorem dX2_high_13 : decode cX2_high 13 = .ok (.i2l, 1) := dk_133 (dk_at dksX2_high_0 13 rfl rfl)
theorem dX2_high_14 : decode cX2_high 14 = .ok (.lconst 1, 1) := dk_10 (dk_at dksX2_high_0 14 rfl rfl)
theorem dX2_high_15 : decode cX2_high 15 = .ok (.ldc2_w 295, 3) := dk_20 1 39 (dk_at dksX2_high_0 15 rfl rfl)
theorem dX2_high_18 : decode cX2_high 18 = .ok (.invokestatic 132, 3) := dk_184 0 132 (dk_at dksX2_high_0 18 rfl rfl)
theorem dX2_high_21 : decode cX2_high 21 = .ok (.ifCond .ne 6, 3) := dk_154 0 6 (dk_at dksX2_high_0 21 rfl rfl)
theorem dX2_high_24 : decode cX2_high 24 = .ok (.ldc 142, 2) := dk_18 142 (dk_at dksX2_high_1 0 rfl rfl)
theorem dX2_high_26 : decode cX2_high 26 = .ok (.ireturn, 1) := dk_172 (dk_at dksX2_high_1 2 rfl rfl)
theorem dX2_high_27 : decode cX2_high 27 = .ok (.aload_n 0, 1) := dk_42 (dk_at dksX2_high_1 3 rfl rfl)
theorem dX2_high_28 : decode cX2_high 28 = .ok (.getfield 114, 3) := dk_180 0 114 (dk_at dksX2_high_1 4 rfl rfl)
theorem dX2_high_31 : decode cX2_high 31 = .ok (.iload_n 1, 1) := dk_27 (dk_at dksX2_high_1 7 rfl rfl)
theorem dX2_high_32 : decode cX2_high 32 = .ok (.iaload, 1) := dk_46 (dk_at dksX2_high_1 8 rfl rfl)
theorem dX2_high_33 : decode cX2_high 33 = .ok (.istore_n 3, 1) := dk_62 (dk_at dksX2_high_1 9 rfl rfl)
theorem dX2_high_34 : decode cX2_high 34 = .ok (.aload_n 0, 1) := dk_42 (dk_at dksX2_high_1 10 rfl rfl)
theorem dX2_high_35 : decode cX2_high 35 = .ok (.getfield 114, 3) := dk_180 0 114 (dk_at dksX2_high_1 11 rfl rfl)
theorem dX2_high_38 : decode cX2_high 38 = .ok (.iload_n 1, 1) := dk_27 (dk_at dksX2_high_1 14 rfl rfl)
theorem dX2_high_39 : decode cX2_high 39 = .ok (.iload_n 2, 1) := dk_28 (dk_at dksX2_high_1 15 rfl rfl)
theorem dX2_high_40 : decode cX2_high 40 = .ok (.iastore, 1) := dk_79 (dk_at dksX2_high_1 16 rfl rfl)
theorem dX2_high_41 : decode cX2_high 41 = .ok (.iload_n 3, 1) := dk_29 (dk_at dksX2_high_1 17 rfl rfl)
theorem dX2_high_42 : decode cX2_high 42 = .ok (.ireturn, 1) := dk_172 (dk_at dksX2_high_1 18 rfl rfl)
abbrev cX2_isLength : ByteArray := prog_17_method_65_code
def yX2_isLength : MethodName := ⟨RX2, "isLength", "(I)Z"⟩
def dkwX2_isLength_0 : List UInt8 := [26, 133, 9, 20, 1, 67, 184, 0, 132, 172]
abbrev dktX2_isLength_0 : List UInt8 := dkwX2_isLength_0 ++ []
theorem dksX2_isLength_0 : cX2_isLength.data.toList.drop 0 = dktX2_isLength_0 := by decide +kernel
theorem dX2_isLength_0 : decode cX2_isLength 0 = .ok (.iload_n 0, 1) := dk_26 (dk_at dksX2_isLength_0 0 rfl rfl)
theorem dX2_isLength_1 : decode cX2_isLength 1 = .ok (.i2l, 1) := dk_133 (dk_at dksX2_isLength_0 1 rfl rfl)
theorem dX2_isLength_2 : decode cX2_isLength 2 = .ok (.lconst 0, 1) := dk_9 (dk_at dksX2_isLength_0 2 rfl rfl)
theorem dX2_isLength_3 : decode cX2_isLength 3 = .ok (.ldc2_w 323, 3) := dk_20 1 67 (dk_at dksX2_isLength_0 3 rfl rfl)
theorem dX2_isLength_6 : decode cX2_isLength 6 = .ok (.invokestatic 132, 3) := dk_184 0 132 (dk_at dksX2_isLength_0 6 rfl rfl)
theorem dX2_isLength_9 : decode cX2_isLength 9 = .ok (.ireturn, 1) := dk_172 (dk_at dksX2_isLength_0 9 rfl rfl)
abbrev cX2_lean : ByteArray := prog_17_method_67_code
def yX2_lean : MethodName := ⟨RX2, "lean", "(III)I"⟩
def dkwX2_lean_3 : List UInt8 := [180, 0, 123, 42, 180, 1, 119, 29, 79, 42, 89, 180, 1, 119, 4, 96, 181, 1, 119, 42, 180, 1, 119, 172]
abbrev dktX2_lean_3 : List UInt8 := dkwX2_lean_3 ++ []
def dkwX2_lean_2 : List UInt8 := [18, 170, 172, 42, 180, 0, 117, 42, 180, 1, 119, 27, 79, 42, 180, 0, 120, 42, 180, 1, 119, 28, 79, 42]
abbrev dktX2_lean_2 : List UInt8 := dkwX2_lean_2 ++ dktX2_lean_3
def dkwX2_lean_1 : List UInt8 := [29, 133, 9, 20, 1, 39, 184, 0, 132, 154, 0, 6, 18, 142, 172, 42, 180, 1, 119, 16, 20, 160, 0, 6]
abbrev dktX2_lean_1 : List UInt8 := dkwX2_lean_1 ++ dktX2_lean_2
def dkwX2_lean_0 : List UInt8 := [42, 3, 181, 0, 1, 27, 184, 1, 116, 153, 0, 27, 28, 133, 9, 20, 1, 39, 184, 0, 132, 153, 0, 15]
abbrev dktX2_lean_0 : List UInt8 := dkwX2_lean_0 ++ dktX2_lean_1
theorem dksX2_lean_0 : cX2_lean.data.toList.drop 0 = dktX2_lean_0 := by decide +kernel
theorem dksX2_lean_1 : cX2_lean.data.toList.drop 24 = dktX2_lean_1 := dk_seg dksX2_lean_0 24 rfl rfl
theorem dksX2_lean_2 : cX2_lean.data.toList.drop 48 = dktX2_lean_2 := dk_seg dksX2_lean_1 24 rfl rfl
theorem dksX2_lean_3 : cX2_lean.data.toList.drop 72 = dktX2_lean_3 := dk_seg dksX2_lean_2 24 rfl rfl
theorem dX2_lean_0 : decode cX2_lean 0 = .ok (.aload_n 0, 1) := dk_42 (dk_at dksX2_lean_0 0 rfl rfl)
theorem dX2_lean_1 : decode cX2_lean 1 = .ok (.iconst 0, 1) := dk_3 (dk_at dksX2_lean_0 1 rfl rfl)
theorem dX2_lean_2 : decode cX2_lean 2 = .ok (.putfield 1, 3) := dk_181 0 1 (dk_at dksX2_lean_0 2 rfl rfl)
theorem dX2_lean_5 : decode cX2_lean 5 = .ok (.iload_n 1, 1) := dk_27 (dk_at dksX2_lean_0 5 rfl rfl)
theorem dX2_lean_6 : decode cX2_lean 6 = .ok (.invokestatic 372, 3) := dk_184 1 116 (dk_at dksX2_lean_0 6 rfl rfl)
theorem dX2_lean_9 : decode cX2_lean 9 = .ok (.ifCond .eq 27, 3) := dk_153 0 27 (dk_at dksX2_lean_0 9 rfl rfl)
theorem dX2_lean_12 : decode cX2_lean 12 = .ok (.iload_n 2, 1) := dk_28 (dk_at dksX2_lean_0 12 rfl rfl)
theorem dX2_lean_13 : decode cX2_lean 13 = .ok (.i2l, 1) := dk_133 (dk_at dksX2_lean_0 13 rfl rfl)
theorem dX2_lean_14 : decode cX2_lean 14 = .ok (.lconst 0, 1) := dk_9 (dk_at dksX2_lean_0 14 rfl rfl)
theorem dX2_lean_15 : decode cX2_lean 15 = .ok (.ldc2_w 295, 3) := dk_20 1 39 (dk_at dksX2_lean_0 15 rfl rfl)
theorem dX2_lean_18 : decode cX2_lean 18 = .ok (.invokestatic 132, 3) := dk_184 0 132 (dk_at dksX2_lean_0 18 rfl rfl)
theorem dX2_lean_21 : decode cX2_lean 21 = .ok (.ifCond .eq 15, 3) := dk_153 0 15 (dk_at dksX2_lean_0 21 rfl rfl)
theorem dX2_lean_24 : decode cX2_lean 24 = .ok (.iload_n 3, 1) := dk_29 (dk_at dksX2_lean_1 0 rfl rfl)
theorem dX2_lean_25 : decode cX2_lean 25 = .ok (.i2l, 1) := dk_133 (dk_at dksX2_lean_1 1 rfl rfl)
theorem dX2_lean_26 : decode cX2_lean 26 = .ok (.lconst 0, 1) := dk_9 (dk_at dksX2_lean_1 2 rfl rfl)
theorem dX2_lean_27 : decode cX2_lean 27 = .ok (.ldc2_w 295, 3) := dk_20 1 39 (dk_at dksX2_lean_1 3 rfl rfl)
theorem dX2_lean_30 : decode cX2_lean 30 = .ok (.invokestatic 132, 3) := dk_184 0 132 (dk_at dksX2_lean_1 6 rfl rfl)
theorem dX2_lean_33 : decode cX2_lean 33 = .ok (.ifCond .ne 6, 3) := dk_154 0 6 (dk_at dksX2_lean_1 9 rfl rfl)
theorem dX2_lean_36 : decode cX2_lean 36 = .ok (.ldc 142, 2) := dk_18 142 (dk_at dksX2_lean_1 12 rfl rfl)
theorem dX2_lean_38 : decode cX2_lean 38 = .ok (.ireturn, 1) := dk_172 (dk_at dksX2_lean_1 14 rfl rfl)
theorem dX2_lean_39 : decode cX2_lean 39 = .ok (.aload_n 0, 1) := dk_42 (dk_at dksX2_lean_1 15 rfl rfl)
theorem dX2_lean_40 : decode cX2_lean 40 = .ok (.getfield 375, 3) := dk_180 1 119 (dk_at dksX2_lean_1 16 rfl rfl)
theorem dX2_lean_43 : decode cX2_lean 43 = .ok (.bipush 20, 2) := dk_16 20 (dk_at dksX2_lean_1 19 rfl rfl)
theorem dX2_lean_45 : decode cX2_lean 45 = .ok (.if_icmp .ne 6, 3) := dk_160 0 6 (dk_at dksX2_lean_1 21 rfl rfl)
theorem dX2_lean_48 : decode cX2_lean 48 = .ok (.ldc 170, 2) := dk_18 170 (dk_at dksX2_lean_2 0 rfl rfl)
theorem dX2_lean_50 : decode cX2_lean 50 = .ok (.ireturn, 1) := dk_172 (dk_at dksX2_lean_2 2 rfl rfl)
theorem dX2_lean_51 : decode cX2_lean 51 = .ok (.aload_n 0, 1) := dk_42 (dk_at dksX2_lean_2 3 rfl rfl)
theorem dX2_lean_52 : decode cX2_lean 52 = .ok (.getfield 117, 3) := dk_180 0 117 (dk_at dksX2_lean_2 4 rfl rfl)
theorem dX2_lean_55 : decode cX2_lean 55 = .ok (.aload_n 0, 1) := dk_42 (dk_at dksX2_lean_2 7 rfl rfl)
theorem dX2_lean_56 : decode cX2_lean 56 = .ok (.getfield 375, 3) := dk_180 1 119 (dk_at dksX2_lean_2 8 rfl rfl)
theorem dX2_lean_59 : decode cX2_lean 59 = .ok (.iload_n 1, 1) := dk_27 (dk_at dksX2_lean_2 11 rfl rfl)
theorem dX2_lean_60 : decode cX2_lean 60 = .ok (.iastore, 1) := dk_79 (dk_at dksX2_lean_2 12 rfl rfl)
theorem dX2_lean_61 : decode cX2_lean 61 = .ok (.aload_n 0, 1) := dk_42 (dk_at dksX2_lean_2 13 rfl rfl)
theorem dX2_lean_62 : decode cX2_lean 62 = .ok (.getfield 120, 3) := dk_180 0 120 (dk_at dksX2_lean_2 14 rfl rfl)
theorem dX2_lean_65 : decode cX2_lean 65 = .ok (.aload_n 0, 1) := dk_42 (dk_at dksX2_lean_2 17 rfl rfl)
theorem dX2_lean_66 : decode cX2_lean 66 = .ok (.getfield 375, 3) := dk_180 1 119 (dk_at dksX2_lean_2 18 rfl rfl)
theorem dX2_lean_69 : decode cX2_lean 69 = .ok (.iload_n 2, 1) := dk_28 (dk_at dksX2_lean_2 21 rfl rfl)
theorem dX2_lean_70 : decode cX2_lean 70 = .ok (.iastore, 1) := dk_79 (dk_at dksX2_lean_2 22 rfl rfl)
theorem dX2_lean_71 : decode cX2_lean 71 = .ok (.aload_n 0, 1) := dk_42 (dk_at dksX2_lean_2 23 rfl rfl)
theorem dX2_lean_72 : decode cX2_lean 72 = .ok (.getfield 123, 3) := dk_180 0 123 (dk_at dksX2_lean_3 0 rfl rfl)
theorem dX2_lean_75 : decode cX2_lean 75 = .ok (.aload_n 0, 1) := dk_42 (dk_at dksX2_lean_3 3 rfl rfl)
theorem dX2_lean_76 : decode cX2_lean 76 = .ok (.getfield 375, 3) := dk_180 1 119 (dk_at dksX2_lean_3 4 rfl rfl)
theorem dX2_lean_79 : decode cX2_lean 79 = .ok (.iload_n 3, 1) := dk_29 (dk_at dksX2_lean_3 7 rfl rfl)
theorem dX2_lean_80 : decode cX2_lean 80 = .ok (.iastore, 1) := dk_79 (dk_at dksX2_lean_3 8 rfl rfl)
theorem dX2_lean_81 : decode cX2_lean 81 = .ok (.aload_n 0, 1) := dk_42 (dk_at dksX2_lean_3 9 rfl rfl)
theorem dX2_lean_82 : decode cX2_lean 82 = .ok (.dup, 1) := dk_89 (dk_at dksX2_lean_3 10 rfl rfl)
theorem dX2_lean_83 : decode cX2_lean 83 = .ok (.getfield 375, 3) := dk_180 1 119 (dk_at dksX2_lean_3 11 rfl rfl)
theorem dX2_lean_86 : decode cX2_lean 86 = .ok (.iconst 1, 1) := dk_4 (dk_at dksX2_lean_3 14 rfl rfl)
theorem dX2_lean_87 : decode cX2_lean 87 = .ok (.iadd, 1) := dk_96 (dk_at dksX2_lean_3 15 rfl rfl)
theorem dX2_lean_88 : decode cX2_lean 88 = .ok (.putfield 375, 3) := dk_181 1 119 (dk_at dksX2_lean_3 16 rfl rfl)
theorem dX2_lean_91 : decode cX2_lean 91 = .ok (.aload_n 0, 1) := dk_42 (dk_at dksX2_lean_3 19 rfl rfl)
theorem dX2_lean_92 : decode cX2_lean 92 = .ok (.getfield 375, 3) := dk_180 1 119 (dk_at dksX2_lean_3 20 rfl rfl)
theorem dX2_lean_95 : decode cX2_lean 95 = .ok (.ireturn, 1) := dk_172 (dk_at dksX2_lean_3 23 rfl rfl)
abbrev cX2_breaches : ByteArray := prog_17_method_69_code
def yX2_breaches : MethodName := ⟨RX2, "breaches", "()I"⟩
def dkwX2_breaches_0 : List UInt8 := [42, 3, 181, 0, 1, 42, 182, 1, 122, 172]
abbrev dktX2_breaches_0 : List UInt8 := dkwX2_breaches_0 ++ []
theorem dksX2_breaches_0 : cX2_breaches.data.toList.drop 0 = dktX2_breaches_0 := by decide +kernel
theorem dX2_breaches_0 : decode cX2_breaches 0 = .ok (.aload_n 0, 1) := dk_42 (dk_at dksX2_breaches_0 0 rfl rfl)
theorem dX2_breaches_1 : decode cX2_breaches 1 = .ok (.iconst 0, 1) := dk_3 (dk_at dksX2_breaches_0 1 rfl rfl)
theorem dX2_breaches_2 : decode cX2_breaches 2 = .ok (.putfield 1, 3) := dk_181 0 1 (dk_at dksX2_breaches_0 2 rfl rfl)
theorem dX2_breaches_5 : decode cX2_breaches 5 = .ok (.aload_n 0, 1) := dk_42 (dk_at dksX2_breaches_0 5 rfl rfl)
theorem dX2_breaches_6 : decode cX2_breaches 6 = .ok (.invokevirtual 378, 3) := dk_182 1 122 (dk_at dksX2_breaches_0 6 rfl rfl)
theorem dX2_breaches_9 : decode cX2_breaches 9 = .ok (.ireturn, 1) := dk_172 (dk_at dksX2_breaches_0 9 rfl rfl)
abbrev cX2_breachesNow : ByteArray := prog_17_method_68_code
def yX2_breachesNow : MethodName := ⟨RX2, "breachesNow", "()I"⟩
def dkwX2_breachesNow_6 : List UInt8 := [60, 132, 2, 1, 167, 255, 118, 27, 172]
abbrev dktX2_breachesNow_6 : List UInt8 := dkwX2_breachesNow_6 ++ []
def dkwX2_breachesNow_5 : List UInt8 := [161, 0, 22, 21, 4, 42, 180, 0, 114, 28, 46, 7, 100, 161, 0, 9, 4, 28, 120, 167, 0, 4, 3, 128]
abbrev dktX2_breachesNow_5 : List UInt8 := dkwX2_breachesNow_5 ++ dktX2_breachesNow_6
def dkwX2_breachesNow_4 : List UInt8 := [167, 0, 5, 21, 4, 54, 4, 132, 5, 1, 167, 255, 173, 27, 29, 42, 180, 0, 114, 28, 46, 5, 100]
abbrev dktX2_breachesNow_4 : List UInt8 := dkwX2_breachesNow_4 ++ dktX2_breachesNow_5
def dkwX2_breachesNow_3 : List UInt8 := [160, 0, 25, 42, 180, 0, 123, 21, 5, 46, 21, 4, 164, 0, 13, 42, 180, 0, 123, 21, 5, 46]
abbrev dktX2_breachesNow_3 : List UInt8 := dkwX2_breachesNow_3 ++ dktX2_breachesNow_4
def dkwX2_breachesNow_2 : List UInt8 := [164, 0, 13, 42, 180, 0, 120, 21, 5, 46, 167, 0, 4, 29, 62, 42, 180, 0, 117, 21, 5, 46, 28]
abbrev dktX2_breachesNow_2 : List UInt8 := dkwX2_breachesNow_2 ++ dktX2_breachesNow_3
def dkwX2_breachesNow_1 : List UInt8 := [162, 0, 80, 42, 180, 0, 117, 21, 5, 46, 28, 160, 0, 24, 42, 180, 0, 120, 21, 5, 46, 29]
abbrev dktX2_breachesNow_1 : List UInt8 := dkwX2_breachesNow_1 ++ dktX2_breachesNow_2
def dkwX2_breachesNow_0 : List UInt8 := [3, 60, 3, 61, 28, 16, 12, 162, 0, 138, 3, 62, 3, 54, 4, 3, 54, 5, 21, 5, 42, 180, 1, 119]
abbrev dktX2_breachesNow_0 : List UInt8 := dkwX2_breachesNow_0 ++ dktX2_breachesNow_1
theorem dksX2_breachesNow_0 : cX2_breachesNow.data.toList.drop 0 = dktX2_breachesNow_0 := by decide +kernel
theorem dksX2_breachesNow_1 : cX2_breachesNow.data.toList.drop 24 = dktX2_breachesNow_1 := dk_seg dksX2_breachesNow_0 24 rfl rfl
theorem dksX2_breachesNow_2 : cX2_breachesNow.data.toList.drop 46 = dktX2_breachesNow_2 := dk_seg dksX2_breachesNow_1 22 rfl rfl
theorem dksX2_breachesNow_3 : cX2_breachesNow.data.toList.drop 69 = dktX2_breachesNow_3 := dk_seg dksX2_breachesNow_2 23 rfl rfl
theorem dksX2_breachesNow_4 : cX2_breachesNow.data.toList.drop 91 = dktX2_breachesNow_4 := dk_seg dksX2_breachesNow_3 22 rfl rfl
theorem dksX2_breachesNow_5 : cX2_breachesNow.data.toList.drop 114 = dktX2_breachesNow_5 := dk_seg dksX2_breachesNow_4 23 rfl rfl
theorem dksX2_breachesNow_6 : cX2_breachesNow.data.toList.drop 138 = dktX2_breachesNow_6 := dk_seg dksX2_breachesNow_5 24 rfl rfl
theorem dX2_breachesNow_0 : decode cX2_breachesNow 0 = .ok (.iconst 0, 1) := dk_3 (dk_at dksX2_breachesNow_0 0 rfl rfl)
theorem dX2_breachesNow_1 : decode cX2_breachesNow 1 = .ok (.istore_n 1, 1) := dk_60 (dk_at dksX2_breachesNow_0 1 rfl rfl)
theorem dX2_breachesNow_2 : decode cX2_breachesNow 2 = .ok (.iconst 0, 1) := dk_3 (dk_at dksX2_breachesNow_0 2 rfl rfl)
theorem dX2_breachesNow_3 : decode cX2_breachesNow 3 = .ok (.istore_n 2, 1) := dk_61 (dk_at dksX2_breachesNow_0 3 rfl rfl)
theorem dX2_breachesNow_4 : decode cX2_breachesNow 4 = .ok (.iload_n 2, 1) := dk_28 (dk_at dksX2_breachesNow_0 4 rfl rfl)
theorem dX2_breachesNow_5 : decode cX2_breachesNow 5 = .ok (.bipush 12, 2) := dk_16 12 (dk_at dksX2_breachesNow_0 5 rfl rfl)
theorem dX2_breachesNow_7 : decode cX2_breachesNow 7 = .ok (.if_icmp .ge 138, 3) := dk_162 0 138 (dk_at dksX2_breachesNow_0 7 rfl rfl)
theorem dX2_breachesNow_10 : decode cX2_breachesNow 10 = .ok (.iconst 0, 1) := dk_3 (dk_at dksX2_breachesNow_0 10 rfl rfl)
theorem dX2_breachesNow_11 : decode cX2_breachesNow 11 = .ok (.istore_n 3, 1) := dk_62 (dk_at dksX2_breachesNow_0 11 rfl rfl)
theorem dX2_breachesNow_12 : decode cX2_breachesNow 12 = .ok (.iconst 0, 1) := dk_3 (dk_at dksX2_breachesNow_0 12 rfl rfl)
theorem dX2_breachesNow_13 : decode cX2_breachesNow 13 = .ok (.istore 4, 2) := dk_54 4 (dk_at dksX2_breachesNow_0 13 rfl rfl)
theorem dX2_breachesNow_15 : decode cX2_breachesNow 15 = .ok (.iconst 0, 1) := dk_3 (dk_at dksX2_breachesNow_0 15 rfl rfl)
theorem dX2_breachesNow_16 : decode cX2_breachesNow 16 = .ok (.istore 5, 2) := dk_54 5 (dk_at dksX2_breachesNow_0 16 rfl rfl)
theorem dX2_breachesNow_18 : decode cX2_breachesNow 18 = .ok (.iload 5, 2) := dk_21 5 (dk_at dksX2_breachesNow_0 18 rfl rfl)
theorem dX2_breachesNow_20 : decode cX2_breachesNow 20 = .ok (.aload_n 0, 1) := dk_42 (dk_at dksX2_breachesNow_0 20 rfl rfl)
theorem dX2_breachesNow_21 : decode cX2_breachesNow 21 = .ok (.getfield 375, 3) := dk_180 1 119 (dk_at dksX2_breachesNow_0 21 rfl rfl)
theorem dX2_breachesNow_24 : decode cX2_breachesNow 24 = .ok (.if_icmp .ge 80, 3) := dk_162 0 80 (dk_at dksX2_breachesNow_1 0 rfl rfl)
theorem dX2_breachesNow_27 : decode cX2_breachesNow 27 = .ok (.aload_n 0, 1) := dk_42 (dk_at dksX2_breachesNow_1 3 rfl rfl)
theorem dX2_breachesNow_28 : decode cX2_breachesNow 28 = .ok (.getfield 117, 3) := dk_180 0 117 (dk_at dksX2_breachesNow_1 4 rfl rfl)
theorem dX2_breachesNow_31 : decode cX2_breachesNow 31 = .ok (.iload 5, 2) := dk_21 5 (dk_at dksX2_breachesNow_1 7 rfl rfl)
theorem dX2_breachesNow_33 : decode cX2_breachesNow 33 = .ok (.iaload, 1) := dk_46 (dk_at dksX2_breachesNow_1 9 rfl rfl)
theorem dX2_breachesNow_34 : decode cX2_breachesNow 34 = .ok (.iload_n 2, 1) := dk_28 (dk_at dksX2_breachesNow_1 10 rfl rfl)
theorem dX2_breachesNow_35 : decode cX2_breachesNow 35 = .ok (.if_icmp .ne 24, 3) := dk_160 0 24 (dk_at dksX2_breachesNow_1 11 rfl rfl)
theorem dX2_breachesNow_38 : decode cX2_breachesNow 38 = .ok (.aload_n 0, 1) := dk_42 (dk_at dksX2_breachesNow_1 14 rfl rfl)
theorem dX2_breachesNow_39 : decode cX2_breachesNow 39 = .ok (.getfield 120, 3) := dk_180 0 120 (dk_at dksX2_breachesNow_1 15 rfl rfl)
theorem dX2_breachesNow_42 : decode cX2_breachesNow 42 = .ok (.iload 5, 2) := dk_21 5 (dk_at dksX2_breachesNow_1 18 rfl rfl)
theorem dX2_breachesNow_44 : decode cX2_breachesNow 44 = .ok (.iaload, 1) := dk_46 (dk_at dksX2_breachesNow_1 20 rfl rfl)
theorem dX2_breachesNow_45 : decode cX2_breachesNow 45 = .ok (.iload_n 3, 1) := dk_29 (dk_at dksX2_breachesNow_1 21 rfl rfl)
theorem dX2_breachesNow_46 : decode cX2_breachesNow 46 = .ok (.if_icmp .le 13, 3) := dk_164 0 13 (dk_at dksX2_breachesNow_2 0 rfl rfl)
theorem dX2_breachesNow_49 : decode cX2_breachesNow 49 = .ok (.aload_n 0, 1) := dk_42 (dk_at dksX2_breachesNow_2 3 rfl rfl)
theorem dX2_breachesNow_50 : decode cX2_breachesNow 50 = .ok (.getfield 120, 3) := dk_180 0 120 (dk_at dksX2_breachesNow_2 4 rfl rfl)
theorem dX2_breachesNow_53 : decode cX2_breachesNow 53 = .ok (.iload 5, 2) := dk_21 5 (dk_at dksX2_breachesNow_2 7 rfl rfl)
theorem dX2_breachesNow_55 : decode cX2_breachesNow 55 = .ok (.iaload, 1) := dk_46 (dk_at dksX2_breachesNow_2 9 rfl rfl)
theorem dX2_breachesNow_56 : decode cX2_breachesNow 56 = .ok (.goto 4, 3) := dk_167 0 4 (dk_at dksX2_breachesNow_2 10 rfl rfl)
theorem dX2_breachesNow_59 : decode cX2_breachesNow 59 = .ok (.iload_n 3, 1) := dk_29 (dk_at dksX2_breachesNow_2 13 rfl rfl)
theorem dX2_breachesNow_60 : decode cX2_breachesNow 60 = .ok (.istore_n 3, 1) := dk_62 (dk_at dksX2_breachesNow_2 14 rfl rfl)
theorem dX2_breachesNow_61 : decode cX2_breachesNow 61 = .ok (.aload_n 0, 1) := dk_42 (dk_at dksX2_breachesNow_2 15 rfl rfl)
theorem dX2_breachesNow_62 : decode cX2_breachesNow 62 = .ok (.getfield 117, 3) := dk_180 0 117 (dk_at dksX2_breachesNow_2 16 rfl rfl)
theorem dX2_breachesNow_65 : decode cX2_breachesNow 65 = .ok (.iload 5, 2) := dk_21 5 (dk_at dksX2_breachesNow_2 19 rfl rfl)
theorem dX2_breachesNow_67 : decode cX2_breachesNow 67 = .ok (.iaload, 1) := dk_46 (dk_at dksX2_breachesNow_2 21 rfl rfl)
theorem dX2_breachesNow_68 : decode cX2_breachesNow 68 = .ok (.iload_n 2, 1) := dk_28 (dk_at dksX2_breachesNow_2 22 rfl rfl)
theorem dX2_breachesNow_69 : decode cX2_breachesNow 69 = .ok (.if_icmp .ne 25, 3) := dk_160 0 25 (dk_at dksX2_breachesNow_3 0 rfl rfl)
theorem dX2_breachesNow_72 : decode cX2_breachesNow 72 = .ok (.aload_n 0, 1) := dk_42 (dk_at dksX2_breachesNow_3 3 rfl rfl)
theorem dX2_breachesNow_73 : decode cX2_breachesNow 73 = .ok (.getfield 123, 3) := dk_180 0 123 (dk_at dksX2_breachesNow_3 4 rfl rfl)
theorem dX2_breachesNow_76 : decode cX2_breachesNow 76 = .ok (.iload 5, 2) := dk_21 5 (dk_at dksX2_breachesNow_3 7 rfl rfl)
theorem dX2_breachesNow_78 : decode cX2_breachesNow 78 = .ok (.iaload, 1) := dk_46 (dk_at dksX2_breachesNow_3 9 rfl rfl)
theorem dX2_breachesNow_79 : decode cX2_breachesNow 79 = .ok (.iload 4, 2) := dk_21 4 (dk_at dksX2_breachesNow_3 10 rfl rfl)
theorem dX2_breachesNow_81 : decode cX2_breachesNow 81 = .ok (.if_icmp .le 13, 3) := dk_164 0 13 (dk_at dksX2_breachesNow_3 12 rfl rfl)
theorem dX2_breachesNow_84 : decode cX2_breachesNow 84 = .ok (.aload_n 0, 1) := dk_42 (dk_at dksX2_breachesNow_3 15 rfl rfl)
theorem dX2_breachesNow_85 : decode cX2_breachesNow 85 = .ok (.getfield 123, 3) := dk_180 0 123 (dk_at dksX2_breachesNow_3 16 rfl rfl)
theorem dX2_breachesNow_88 : decode cX2_breachesNow 88 = .ok (.iload 5, 2) := dk_21 5 (dk_at dksX2_breachesNow_3 19 rfl rfl)
theorem dX2_breachesNow_90 : decode cX2_breachesNow 90 = .ok (.iaload, 1) := dk_46 (dk_at dksX2_breachesNow_3 21 rfl rfl)
theorem dX2_breachesNow_91 : decode cX2_breachesNow 91 = .ok (.goto 5, 3) := dk_167 0 5 (dk_at dksX2_breachesNow_4 0 rfl rfl)
theorem dX2_breachesNow_94 : decode cX2_breachesNow 94 = .ok (.iload 4, 2) := dk_21 4 (dk_at dksX2_breachesNow_4 3 rfl rfl)
theorem dX2_breachesNow_96 : decode cX2_breachesNow 96 = .ok (.istore 4, 2) := dk_54 4 (dk_at dksX2_breachesNow_4 5 rfl rfl)
theorem dX2_breachesNow_98 : decode cX2_breachesNow 98 = .ok (.iinc 5 1, 3) := dk_132 5 1 (dk_at dksX2_breachesNow_4 7 rfl rfl)
theorem dX2_breachesNow_101 : decode cX2_breachesNow 101 = .ok (.goto (-83), 3) := dk_167 255 173 (dk_at dksX2_breachesNow_4 10 rfl rfl)
theorem dX2_breachesNow_104 : decode cX2_breachesNow 104 = .ok (.iload_n 1, 1) := dk_27 (dk_at dksX2_breachesNow_4 13 rfl rfl)
theorem dX2_breachesNow_105 : decode cX2_breachesNow 105 = .ok (.iload_n 3, 1) := dk_29 (dk_at dksX2_breachesNow_4 14 rfl rfl)
theorem dX2_breachesNow_106 : decode cX2_breachesNow 106 = .ok (.aload_n 0, 1) := dk_42 (dk_at dksX2_breachesNow_4 15 rfl rfl)
theorem dX2_breachesNow_107 : decode cX2_breachesNow 107 = .ok (.getfield 114, 3) := dk_180 0 114 (dk_at dksX2_breachesNow_4 16 rfl rfl)
theorem dX2_breachesNow_110 : decode cX2_breachesNow 110 = .ok (.iload_n 2, 1) := dk_28 (dk_at dksX2_breachesNow_4 19 rfl rfl)
theorem dX2_breachesNow_111 : decode cX2_breachesNow 111 = .ok (.iaload, 1) := dk_46 (dk_at dksX2_breachesNow_4 20 rfl rfl)
theorem dX2_breachesNow_112 : decode cX2_breachesNow 112 = .ok (.iconst 2, 1) := dk_5 (dk_at dksX2_breachesNow_4 21 rfl rfl)
theorem dX2_breachesNow_113 : decode cX2_breachesNow 113 = .ok (.isub, 1) := dk_100 (dk_at dksX2_breachesNow_4 22 rfl rfl)
theorem dX2_breachesNow_114 : decode cX2_breachesNow 114 = .ok (.if_icmp .lt 22, 3) := dk_161 0 22 (dk_at dksX2_breachesNow_5 0 rfl rfl)
theorem dX2_breachesNow_117 : decode cX2_breachesNow 117 = .ok (.iload 4, 2) := dk_21 4 (dk_at dksX2_breachesNow_5 3 rfl rfl)
theorem dX2_breachesNow_119 : decode cX2_breachesNow 119 = .ok (.aload_n 0, 1) := dk_42 (dk_at dksX2_breachesNow_5 5 rfl rfl)
theorem dX2_breachesNow_120 : decode cX2_breachesNow 120 = .ok (.getfield 114, 3) := dk_180 0 114 (dk_at dksX2_breachesNow_5 6 rfl rfl)
theorem dX2_breachesNow_123 : decode cX2_breachesNow 123 = .ok (.iload_n 2, 1) := dk_28 (dk_at dksX2_breachesNow_5 9 rfl rfl)
theorem dX2_breachesNow_124 : decode cX2_breachesNow 124 = .ok (.iaload, 1) := dk_46 (dk_at dksX2_breachesNow_5 10 rfl rfl)
theorem dX2_breachesNow_125 : decode cX2_breachesNow 125 = .ok (.iconst 4, 1) := dk_7 (dk_at dksX2_breachesNow_5 11 rfl rfl)
theorem dX2_breachesNow_126 : decode cX2_breachesNow 126 = .ok (.isub, 1) := dk_100 (dk_at dksX2_breachesNow_5 12 rfl rfl)
theorem dX2_breachesNow_127 : decode cX2_breachesNow 127 = .ok (.if_icmp .lt 9, 3) := dk_161 0 9 (dk_at dksX2_breachesNow_5 13 rfl rfl)
theorem dX2_breachesNow_130 : decode cX2_breachesNow 130 = .ok (.iconst 1, 1) := dk_4 (dk_at dksX2_breachesNow_5 16 rfl rfl)
theorem dX2_breachesNow_131 : decode cX2_breachesNow 131 = .ok (.iload_n 2, 1) := dk_28 (dk_at dksX2_breachesNow_5 17 rfl rfl)
theorem dX2_breachesNow_132 : decode cX2_breachesNow 132 = .ok (.ishl, 1) := dk_120 (dk_at dksX2_breachesNow_5 18 rfl rfl)
theorem dX2_breachesNow_133 : decode cX2_breachesNow 133 = .ok (.goto 4, 3) := dk_167 0 4 (dk_at dksX2_breachesNow_5 19 rfl rfl)
theorem dX2_breachesNow_136 : decode cX2_breachesNow 136 = .ok (.iconst 0, 1) := dk_3 (dk_at dksX2_breachesNow_5 22 rfl rfl)
theorem dX2_breachesNow_137 : decode cX2_breachesNow 137 = .ok (.ior, 1) := dk_128 (dk_at dksX2_breachesNow_5 23 rfl rfl)
theorem dX2_breachesNow_138 : decode cX2_breachesNow 138 = .ok (.istore_n 1, 1) := dk_60 (dk_at dksX2_breachesNow_6 0 rfl rfl)
theorem dX2_breachesNow_139 : decode cX2_breachesNow 139 = .ok (.iinc 2 1, 3) := dk_132 2 1 (dk_at dksX2_breachesNow_6 1 rfl rfl)
theorem dX2_breachesNow_142 : decode cX2_breachesNow 142 = .ok (.goto (-138), 3) := dk_167 255 118 (dk_at dksX2_breachesNow_6 4 rfl rfl)
theorem dX2_breachesNow_145 : decode cX2_breachesNow 145 = .ok (.iload_n 1, 1) := dk_27 (dk_at dksX2_breachesNow_6 7 rfl rfl)
theorem dX2_breachesNow_146 : decode cX2_breachesNow 146 = .ok (.ireturn, 1) := dk_172 (dk_at dksX2_breachesNow_6 8 rfl rfl)
abbrev cX2_watch : ByteArray := prog_17_method_70_code
def yX2_watch : MethodName := ⟨RX2, "watch", "(III)I"⟩
def dkwX2_watch_8 : List UInt8 := [184, 1, 113, 162, 0, 8, 21, 8, 167, 0, 5, 21, 7, 54, 7, 132, 8, 1, 167, 255, 158, 21, 7, 172]
abbrev dktX2_watch_8 : List UInt8 := dkwX2_watch_8 ++ []
def dkwX2_watch_7 : List UInt8 := [21, 9, 2, 130, 126, 154, 0, 28, 21, 7, 18, 129, 159, 0, 16, 21, 8, 184, 1, 113, 21, 7]
abbrev dktX2_watch_7 : List UInt8 := dkwX2_watch_7 ++ dktX2_watch_8
def dkwX2_watch_6 : List UInt8 := [180, 0, 24, 21, 5, 21, 10, 96, 46, 167, 0, 4, 3, 128, 54, 9, 132, 10, 1, 167, 255, 217, 21, 6]
abbrev dktX2_watch_6 : List UInt8 := dkwX2_watch_6 ++ dktX2_watch_7
def dkwX2_watch_5 : List UInt8 := [3, 54, 10, 21, 10, 29, 162, 0, 39, 21, 9, 21, 8, 21, 10, 122, 4, 126, 4, 160, 0, 16, 42]
abbrev dktX2_watch_5 : List UInt8 := dkwX2_watch_5 ++ dktX2_watch_6
def dkwX2_watch_4 : List UInt8 := [42, 182, 1, 122, 54, 6, 18, 129, 54, 7, 3, 54, 8, 21, 8, 4, 29, 120, 162, 0, 96, 3, 54, 9]
abbrev dktX2_watch_4 : List UInt8 := dkwX2_watch_4 ++ dktX2_watch_5
def dkwX2_watch_3 : List UInt8 := [9, 20, 1, 127, 184, 0, 132, 154, 0, 6, 18, 142, 172, 132, 6, 1, 167, 255, 223, 42, 3, 181, 0, 7]
abbrev dktX2_watch_3 : List UInt8 := dkwX2_watch_3 ++ dktX2_watch_4
def dkwX2_watch_2 : List UInt8 := [28, 96, 54, 5, 3, 54, 6, 21, 6, 29, 162, 0, 33, 42, 180, 0, 24, 21, 5, 21, 6, 96, 46, 133]
abbrev dktX2_watch_2 : List UInt8 := dkwX2_watch_2 ++ dktX2_watch_3
def dkwX2_watch_1 : List UInt8 := [18, 142, 172, 42, 27, 28, 29, 182, 1, 34, 54, 4, 21, 4, 156, 0, 6, 21, 4, 172, 16, 64, 27, 104]
abbrev dktX2_watch_1 : List UInt8 := dkwX2_watch_1 ++ dktX2_watch_2
def dkwX2_watch_0 : List UInt8 := [42, 3, 181, 0, 1, 27, 184, 0, 136, 153, 0, 15, 29, 133, 10, 20, 1, 125, 184, 0, 132, 154, 0, 6]
abbrev dktX2_watch_0 : List UInt8 := dkwX2_watch_0 ++ dktX2_watch_1
theorem dksX2_watch_0 : cX2_watch.data.toList.drop 0 = dktX2_watch_0 := by decide +kernel
theorem dksX2_watch_1 : cX2_watch.data.toList.drop 24 = dktX2_watch_1 := dk_seg dksX2_watch_0 24 rfl rfl
theorem dksX2_watch_2 : cX2_watch.data.toList.drop 48 = dktX2_watch_2 := dk_seg dksX2_watch_1 24 rfl rfl
theorem dksX2_watch_3 : cX2_watch.data.toList.drop 72 = dktX2_watch_3 := dk_seg dksX2_watch_2 24 rfl rfl
theorem dksX2_watch_4 : cX2_watch.data.toList.drop 96 = dktX2_watch_4 := dk_seg dksX2_watch_3 24 rfl rfl
theorem dksX2_watch_5 : cX2_watch.data.toList.drop 120 = dktX2_watch_5 := dk_seg dksX2_watch_4 24 rfl rfl
theorem dksX2_watch_6 : cX2_watch.data.toList.drop 143 = dktX2_watch_6 := dk_seg dksX2_watch_5 23 rfl rfl
theorem dksX2_watch_7 : cX2_watch.data.toList.drop 167 = dktX2_watch_7 := dk_seg dksX2_watch_6 24 rfl rfl
theorem dksX2_watch_8 : cX2_watch.data.toList.drop 189 = dktX2_watch_8 := dk_seg dksX2_watch_7 22 rfl rfl
theorem dX2_watch_0 : decode cX2_watch 0 = .ok (.aload_n 0, 1) := dk_42 (dk_at dksX2_watch_0 0 rfl rfl)
theorem dX2_watch_1 : decode cX2_watch 1 = .ok (.iconst 0, 1) := dk_3 (dk_at dksX2_watch_0 1 rfl rfl)
theorem dX2_watch_2 : decode cX2_watch 2 = .ok (.putfield 1, 3) := dk_181 0 1 (dk_at dksX2_watch_0 2 rfl rfl)
theorem dX2_watch_5 : decode cX2_watch 5 = .ok (.iload_n 1, 1) := dk_27 (dk_at dksX2_watch_0 5 rfl rfl)
theorem dX2_watch_6 : decode cX2_watch 6 = .ok (.invokestatic 136, 3) := dk_184 0 136 (dk_at dksX2_watch_0 6 rfl rfl)
theorem dX2_watch_9 : decode cX2_watch 9 = .ok (.ifCond .eq 15, 3) := dk_153 0 15 (dk_at dksX2_watch_0 9 rfl rfl)
theorem dX2_watch_12 : decode cX2_watch 12 = .ok (.iload_n 3, 1) := dk_29 (dk_at dksX2_watch_0 12 rfl rfl)
theorem dX2_watch_13 : decode cX2_watch 13 = .ok (.i2l, 1) := dk_133 (dk_at dksX2_watch_0 13 rfl rfl)
theorem dX2_watch_14 : decode cX2_watch 14 = .ok (.lconst 1, 1) := dk_10 (dk_at dksX2_watch_0 14 rfl rfl)
theorem dX2_watch_15 : decode cX2_watch 15 = .ok (.ldc2_w 381, 3) := dk_20 1 125 (dk_at dksX2_watch_0 15 rfl rfl)
theorem dX2_watch_18 : decode cX2_watch 18 = .ok (.invokestatic 132, 3) := dk_184 0 132 (dk_at dksX2_watch_0 18 rfl rfl)
theorem dX2_watch_21 : decode cX2_watch 21 = .ok (.ifCond .ne 6, 3) := dk_154 0 6 (dk_at dksX2_watch_0 21 rfl rfl)
theorem dX2_watch_24 : decode cX2_watch 24 = .ok (.ldc 142, 2) := dk_18 142 (dk_at dksX2_watch_1 0 rfl rfl)
theorem dX2_watch_26 : decode cX2_watch 26 = .ok (.ireturn, 1) := dk_172 (dk_at dksX2_watch_1 2 rfl rfl)
theorem dX2_watch_27 : decode cX2_watch 27 = .ok (.aload_n 0, 1) := dk_42 (dk_at dksX2_watch_1 3 rfl rfl)
theorem dX2_watch_28 : decode cX2_watch 28 = .ok (.iload_n 1, 1) := dk_27 (dk_at dksX2_watch_1 4 rfl rfl)
theorem dX2_watch_29 : decode cX2_watch 29 = .ok (.iload_n 2, 1) := dk_28 (dk_at dksX2_watch_1 5 rfl rfl)
theorem dX2_watch_30 : decode cX2_watch 30 = .ok (.iload_n 3, 1) := dk_29 (dk_at dksX2_watch_1 6 rfl rfl)
theorem dX2_watch_31 : decode cX2_watch 31 = .ok (.invokevirtual 290, 3) := dk_182 1 34 (dk_at dksX2_watch_1 7 rfl rfl)
theorem dX2_watch_34 : decode cX2_watch 34 = .ok (.istore 4, 2) := dk_54 4 (dk_at dksX2_watch_1 10 rfl rfl)
theorem dX2_watch_36 : decode cX2_watch 36 = .ok (.iload 4, 2) := dk_21 4 (dk_at dksX2_watch_1 12 rfl rfl)
theorem dX2_watch_38 : decode cX2_watch 38 = .ok (.ifCond .ge 6, 3) := dk_156 0 6 (dk_at dksX2_watch_1 14 rfl rfl)
theorem dX2_watch_41 : decode cX2_watch 41 = .ok (.iload 4, 2) := dk_21 4 (dk_at dksX2_watch_1 17 rfl rfl)
theorem dX2_watch_43 : decode cX2_watch 43 = .ok (.ireturn, 1) := dk_172 (dk_at dksX2_watch_1 19 rfl rfl)
theorem dX2_watch_44 : decode cX2_watch 44 = .ok (.bipush 64, 2) := dk_16 64 (dk_at dksX2_watch_1 20 rfl rfl)
theorem dX2_watch_46 : decode cX2_watch 46 = .ok (.iload_n 1, 1) := dk_27 (dk_at dksX2_watch_1 22 rfl rfl)
theorem dX2_watch_47 : decode cX2_watch 47 = .ok (.imul, 1) := dk_104 (dk_at dksX2_watch_1 23 rfl rfl)
theorem dX2_watch_48 : decode cX2_watch 48 = .ok (.iload_n 2, 1) := dk_28 (dk_at dksX2_watch_2 0 rfl rfl)
theorem dX2_watch_49 : decode cX2_watch 49 = .ok (.iadd, 1) := dk_96 (dk_at dksX2_watch_2 1 rfl rfl)
theorem dX2_watch_50 : decode cX2_watch 50 = .ok (.istore 5, 2) := dk_54 5 (dk_at dksX2_watch_2 2 rfl rfl)
theorem dX2_watch_52 : decode cX2_watch 52 = .ok (.iconst 0, 1) := dk_3 (dk_at dksX2_watch_2 4 rfl rfl)
theorem dX2_watch_53 : decode cX2_watch 53 = .ok (.istore 6, 2) := dk_54 6 (dk_at dksX2_watch_2 5 rfl rfl)
theorem dX2_watch_55 : decode cX2_watch 55 = .ok (.iload 6, 2) := dk_21 6 (dk_at dksX2_watch_2 7 rfl rfl)
theorem dX2_watch_57 : decode cX2_watch 57 = .ok (.iload_n 3, 1) := dk_29 (dk_at dksX2_watch_2 9 rfl rfl)
theorem dX2_watch_58 : decode cX2_watch 58 = .ok (.if_icmp .ge 33, 3) := dk_162 0 33 (dk_at dksX2_watch_2 10 rfl rfl)
theorem dX2_watch_61 : decode cX2_watch 61 = .ok (.aload_n 0, 1) := dk_42 (dk_at dksX2_watch_2 13 rfl rfl)
theorem dX2_watch_62 : decode cX2_watch 62 = .ok (.getfield 24, 3) := dk_180 0 24 (dk_at dksX2_watch_2 14 rfl rfl)
theorem dX2_watch_65 : decode cX2_watch 65 = .ok (.iload 5, 2) := dk_21 5 (dk_at dksX2_watch_2 17 rfl rfl)
theorem dX2_watch_67 : decode cX2_watch 67 = .ok (.iload 6, 2) := dk_21 6 (dk_at dksX2_watch_2 19 rfl rfl)
theorem dX2_watch_69 : decode cX2_watch 69 = .ok (.iadd, 1) := dk_96 (dk_at dksX2_watch_2 21 rfl rfl)
theorem dX2_watch_70 : decode cX2_watch 70 = .ok (.iaload, 1) := dk_46 (dk_at dksX2_watch_2 22 rfl rfl)
theorem dX2_watch_71 : decode cX2_watch 71 = .ok (.i2l, 1) := dk_133 (dk_at dksX2_watch_2 23 rfl rfl)
theorem dX2_watch_72 : decode cX2_watch 72 = .ok (.lconst 0, 1) := dk_9 (dk_at dksX2_watch_3 0 rfl rfl)
theorem dX2_watch_73 : decode cX2_watch 73 = .ok (.ldc2_w 383, 3) := dk_20 1 127 (dk_at dksX2_watch_3 1 rfl rfl)
theorem dX2_watch_76 : decode cX2_watch 76 = .ok (.invokestatic 132, 3) := dk_184 0 132 (dk_at dksX2_watch_3 4 rfl rfl)
theorem dX2_watch_79 : decode cX2_watch 79 = .ok (.ifCond .ne 6, 3) := dk_154 0 6 (dk_at dksX2_watch_3 7 rfl rfl)
theorem dX2_watch_82 : decode cX2_watch 82 = .ok (.ldc 142, 2) := dk_18 142 (dk_at dksX2_watch_3 10 rfl rfl)
theorem dX2_watch_84 : decode cX2_watch 84 = .ok (.ireturn, 1) := dk_172 (dk_at dksX2_watch_3 12 rfl rfl)
theorem dX2_watch_85 : decode cX2_watch 85 = .ok (.iinc 6 1, 3) := dk_132 6 1 (dk_at dksX2_watch_3 13 rfl rfl)
theorem dX2_watch_88 : decode cX2_watch 88 = .ok (.goto (-33), 3) := dk_167 255 223 (dk_at dksX2_watch_3 16 rfl rfl)
theorem dX2_watch_91 : decode cX2_watch 91 = .ok (.aload_n 0, 1) := dk_42 (dk_at dksX2_watch_3 19 rfl rfl)
theorem dX2_watch_92 : decode cX2_watch 92 = .ok (.iconst 0, 1) := dk_3 (dk_at dksX2_watch_3 20 rfl rfl)
theorem dX2_watch_93 : decode cX2_watch 93 = .ok (.putfield 7, 3) := dk_181 0 7 (dk_at dksX2_watch_3 21 rfl rfl)
theorem dX2_watch_96 : decode cX2_watch 96 = .ok (.aload_n 0, 1) := dk_42 (dk_at dksX2_watch_4 0 rfl rfl)
theorem dX2_watch_97 : decode cX2_watch 97 = .ok (.invokevirtual 378, 3) := dk_182 1 122 (dk_at dksX2_watch_4 1 rfl rfl)
theorem dX2_watch_100 : decode cX2_watch 100 = .ok (.istore 6, 2) := dk_54 6 (dk_at dksX2_watch_4 4 rfl rfl)
theorem dX2_watch_102 : decode cX2_watch 102 = .ok (.ldc 129, 2) := dk_18 129 (dk_at dksX2_watch_4 6 rfl rfl)
theorem dX2_watch_104 : decode cX2_watch 104 = .ok (.istore 7, 2) := dk_54 7 (dk_at dksX2_watch_4 8 rfl rfl)
theorem dX2_watch_106 : decode cX2_watch 106 = .ok (.iconst 0, 1) := dk_3 (dk_at dksX2_watch_4 10 rfl rfl)
theorem dX2_watch_107 : decode cX2_watch 107 = .ok (.istore 8, 2) := dk_54 8 (dk_at dksX2_watch_4 11 rfl rfl)
theorem dX2_watch_109 : decode cX2_watch 109 = .ok (.iload 8, 2) := dk_21 8 (dk_at dksX2_watch_4 13 rfl rfl)
theorem dX2_watch_111 : decode cX2_watch 111 = .ok (.iconst 1, 1) := dk_4 (dk_at dksX2_watch_4 15 rfl rfl)
theorem dX2_watch_112 : decode cX2_watch 112 = .ok (.iload_n 3, 1) := dk_29 (dk_at dksX2_watch_4 16 rfl rfl)
theorem dX2_watch_113 : decode cX2_watch 113 = .ok (.ishl, 1) := dk_120 (dk_at dksX2_watch_4 17 rfl rfl)
theorem dX2_watch_114 : decode cX2_watch 114 = .ok (.if_icmp .ge 96, 3) := dk_162 0 96 (dk_at dksX2_watch_4 18 rfl rfl)
theorem dX2_watch_117 : decode cX2_watch 117 = .ok (.iconst 0, 1) := dk_3 (dk_at dksX2_watch_4 21 rfl rfl)
theorem dX2_watch_118 : decode cX2_watch 118 = .ok (.istore 9, 2) := dk_54 9 (dk_at dksX2_watch_4 22 rfl rfl)
theorem dX2_watch_120 : decode cX2_watch 120 = .ok (.iconst 0, 1) := dk_3 (dk_at dksX2_watch_5 0 rfl rfl)
theorem dX2_watch_121 : decode cX2_watch 121 = .ok (.istore 10, 2) := dk_54 10 (dk_at dksX2_watch_5 1 rfl rfl)
theorem dX2_watch_123 : decode cX2_watch 123 = .ok (.iload 10, 2) := dk_21 10 (dk_at dksX2_watch_5 3 rfl rfl)
theorem dX2_watch_125 : decode cX2_watch 125 = .ok (.iload_n 3, 1) := dk_29 (dk_at dksX2_watch_5 5 rfl rfl)
theorem dX2_watch_126 : decode cX2_watch 126 = .ok (.if_icmp .ge 39, 3) := dk_162 0 39 (dk_at dksX2_watch_5 6 rfl rfl)
theorem dX2_watch_129 : decode cX2_watch 129 = .ok (.iload 9, 2) := dk_21 9 (dk_at dksX2_watch_5 9 rfl rfl)
theorem dX2_watch_131 : decode cX2_watch 131 = .ok (.iload 8, 2) := dk_21 8 (dk_at dksX2_watch_5 11 rfl rfl)
theorem dX2_watch_133 : decode cX2_watch 133 = .ok (.iload 10, 2) := dk_21 10 (dk_at dksX2_watch_5 13 rfl rfl)
theorem dX2_watch_135 : decode cX2_watch 135 = .ok (.ishr, 1) := dk_122 (dk_at dksX2_watch_5 15 rfl rfl)
theorem dX2_watch_136 : decode cX2_watch 136 = .ok (.iconst 1, 1) := dk_4 (dk_at dksX2_watch_5 16 rfl rfl)
theorem dX2_watch_137 : decode cX2_watch 137 = .ok (.iand, 1) := dk_126 (dk_at dksX2_watch_5 17 rfl rfl)
theorem dX2_watch_138 : decode cX2_watch 138 = .ok (.iconst 1, 1) := dk_4 (dk_at dksX2_watch_5 18 rfl rfl)
theorem dX2_watch_139 : decode cX2_watch 139 = .ok (.if_icmp .ne 16, 3) := dk_160 0 16 (dk_at dksX2_watch_5 19 rfl rfl)
theorem dX2_watch_142 : decode cX2_watch 142 = .ok (.aload_n 0, 1) := dk_42 (dk_at dksX2_watch_5 22 rfl rfl)
theorem dX2_watch_143 : decode cX2_watch 143 = .ok (.getfield 24, 3) := dk_180 0 24 (dk_at dksX2_watch_6 0 rfl rfl)
theorem dX2_watch_146 : decode cX2_watch 146 = .ok (.iload 5, 2) := dk_21 5 (dk_at dksX2_watch_6 3 rfl rfl)
theorem dX2_watch_148 : decode cX2_watch 148 = .ok (.iload 10, 2) := dk_21 10 (dk_at dksX2_watch_6 5 rfl rfl)
theorem dX2_watch_150 : decode cX2_watch 150 = .ok (.iadd, 1) := dk_96 (dk_at dksX2_watch_6 7 rfl rfl)
theorem dX2_watch_151 : decode cX2_watch 151 = .ok (.iaload, 1) := dk_46 (dk_at dksX2_watch_6 8 rfl rfl)
theorem dX2_watch_152 : decode cX2_watch 152 = .ok (.goto 4, 3) := dk_167 0 4 (dk_at dksX2_watch_6 9 rfl rfl)
theorem dX2_watch_155 : decode cX2_watch 155 = .ok (.iconst 0, 1) := dk_3 (dk_at dksX2_watch_6 12 rfl rfl)
theorem dX2_watch_156 : decode cX2_watch 156 = .ok (.ior, 1) := dk_128 (dk_at dksX2_watch_6 13 rfl rfl)
theorem dX2_watch_157 : decode cX2_watch 157 = .ok (.istore 9, 2) := dk_54 9 (dk_at dksX2_watch_6 14 rfl rfl)
theorem dX2_watch_159 : decode cX2_watch 159 = .ok (.iinc 10 1, 3) := dk_132 10 1 (dk_at dksX2_watch_6 16 rfl rfl)
theorem dX2_watch_162 : decode cX2_watch 162 = .ok (.goto (-39), 3) := dk_167 255 217 (dk_at dksX2_watch_6 19 rfl rfl)
theorem dX2_watch_165 : decode cX2_watch 165 = .ok (.iload 6, 2) := dk_21 6 (dk_at dksX2_watch_6 22 rfl rfl)
theorem dX2_watch_167 : decode cX2_watch 167 = .ok (.iload 9, 2) := dk_21 9 (dk_at dksX2_watch_7 0 rfl rfl)
theorem dX2_watch_169 : decode cX2_watch 169 = .ok (.iconst (-1), 1) := dk_2 (dk_at dksX2_watch_7 2 rfl rfl)
theorem dX2_watch_170 : decode cX2_watch 170 = .ok (.ixor, 1) := dk_130 (dk_at dksX2_watch_7 3 rfl rfl)
theorem dX2_watch_171 : decode cX2_watch 171 = .ok (.iand, 1) := dk_126 (dk_at dksX2_watch_7 4 rfl rfl)
theorem dX2_watch_172 : decode cX2_watch 172 = .ok (.ifCond .ne 28, 3) := dk_154 0 28 (dk_at dksX2_watch_7 5 rfl rfl)
theorem dX2_watch_175 : decode cX2_watch 175 = .ok (.iload 7, 2) := dk_21 7 (dk_at dksX2_watch_7 8 rfl rfl)
theorem dX2_watch_177 : decode cX2_watch 177 = .ok (.ldc 129, 2) := dk_18 129 (dk_at dksX2_watch_7 10 rfl rfl)
theorem dX2_watch_179 : decode cX2_watch 179 = .ok (.if_icmp .eq 16, 3) := dk_159 0 16 (dk_at dksX2_watch_7 12 rfl rfl)
theorem dX2_watch_182 : decode cX2_watch 182 = .ok (.iload 8, 2) := dk_21 8 (dk_at dksX2_watch_7 15 rfl rfl)
theorem dX2_watch_184 : decode cX2_watch 184 = .ok (.invokestatic 369, 3) := dk_184 1 113 (dk_at dksX2_watch_7 17 rfl rfl)
theorem dX2_watch_187 : decode cX2_watch 187 = .ok (.iload 7, 2) := dk_21 7 (dk_at dksX2_watch_7 20 rfl rfl)
theorem dX2_watch_189 : decode cX2_watch 189 = .ok (.invokestatic 369, 3) := dk_184 1 113 (dk_at dksX2_watch_8 0 rfl rfl)
theorem dX2_watch_192 : decode cX2_watch 192 = .ok (.if_icmp .ge 8, 3) := dk_162 0 8 (dk_at dksX2_watch_8 3 rfl rfl)
theorem dX2_watch_195 : decode cX2_watch 195 = .ok (.iload 8, 2) := dk_21 8 (dk_at dksX2_watch_8 6 rfl rfl)
theorem dX2_watch_197 : decode cX2_watch 197 = .ok (.goto 5, 3) := dk_167 0 5 (dk_at dksX2_watch_8 8 rfl rfl)
theorem dX2_watch_200 : decode cX2_watch 200 = .ok (.iload 7, 2) := dk_21 7 (dk_at dksX2_watch_8 11 rfl rfl)
theorem dX2_watch_202 : decode cX2_watch 202 = .ok (.istore 7, 2) := dk_54 7 (dk_at dksX2_watch_8 13 rfl rfl)
theorem dX2_watch_204 : decode cX2_watch 204 = .ok (.iinc 8 1, 3) := dk_132 8 1 (dk_at dksX2_watch_8 15 rfl rfl)
theorem dX2_watch_207 : decode cX2_watch 207 = .ok (.goto (-98), 3) := dk_167 255 158 (dk_at dksX2_watch_8 18 rfl rfl)
theorem dX2_watch_210 : decode cX2_watch 210 = .ok (.iload 7, 2) := dk_21 7 (dk_at dksX2_watch_8 21 rfl rfl)
theorem dX2_watch_212 : decode cX2_watch 212 = .ok (.ireturn, 1) := dk_172 (dk_at dksX2_watch_8 23 rfl rfl)
abbrev cX2_day : ByteArray := prog_17_method_71_code
def yX2_day : MethodName := ⟨RX2, "day", "(I)I"⟩
def dkwX2_day_1 : List UInt8 := [181, 1, 91, 28, 172]
abbrev dktX2_day_1 : List UInt8 := dkwX2_day_1 ++ []
def dkwX2_day_0 : List UInt8 := [42, 3, 181, 0, 1, 27, 184, 1, 2, 154, 0, 6, 18, 142, 172, 42, 180, 1, 91, 61, 42, 27]
abbrev dktX2_day_0 : List UInt8 := dkwX2_day_0 ++ dktX2_day_1
theorem dksX2_day_0 : cX2_day.data.toList.drop 0 = dktX2_day_0 := by decide +kernel
theorem dksX2_day_1 : cX2_day.data.toList.drop 22 = dktX2_day_1 := dk_seg dksX2_day_0 22 rfl rfl
theorem dX2_day_0 : decode cX2_day 0 = .ok (.aload_n 0, 1) := dk_42 (dk_at dksX2_day_0 0 rfl rfl)
theorem dX2_day_1 : decode cX2_day 1 = .ok (.iconst 0, 1) := dk_3 (dk_at dksX2_day_0 1 rfl rfl)
theorem dX2_day_2 : decode cX2_day 2 = .ok (.putfield 1, 3) := dk_181 0 1 (dk_at dksX2_day_0 2 rfl rfl)
theorem dX2_day_5 : decode cX2_day 5 = .ok (.iload_n 1, 1) := dk_27 (dk_at dksX2_day_0 5 rfl rfl)
theorem dX2_day_6 : decode cX2_day 6 = .ok (.invokestatic 258, 3) := dk_184 1 2 (dk_at dksX2_day_0 6 rfl rfl)
theorem dX2_day_9 : decode cX2_day 9 = .ok (.ifCond .ne 6, 3) := dk_154 0 6 (dk_at dksX2_day_0 9 rfl rfl)
theorem dX2_day_12 : decode cX2_day 12 = .ok (.ldc 142, 2) := dk_18 142 (dk_at dksX2_day_0 12 rfl rfl)
theorem dX2_day_14 : decode cX2_day 14 = .ok (.ireturn, 1) := dk_172 (dk_at dksX2_day_0 14 rfl rfl)
theorem dX2_day_15 : decode cX2_day 15 = .ok (.aload_n 0, 1) := dk_42 (dk_at dksX2_day_0 15 rfl rfl)
theorem dX2_day_16 : decode cX2_day 16 = .ok (.getfield 347, 3) := dk_180 1 91 (dk_at dksX2_day_0 16 rfl rfl)
theorem dX2_day_19 : decode cX2_day 19 = .ok (.istore_n 2, 1) := dk_61 (dk_at dksX2_day_0 19 rfl rfl)
theorem dX2_day_20 : decode cX2_day 20 = .ok (.aload_n 0, 1) := dk_42 (dk_at dksX2_day_0 20 rfl rfl)
theorem dX2_day_21 : decode cX2_day 21 = .ok (.iload_n 1, 1) := dk_27 (dk_at dksX2_day_0 21 rfl rfl)
theorem dX2_day_22 : decode cX2_day 22 = .ok (.putfield 347, 3) := dk_181 1 91 (dk_at dksX2_day_1 0 rfl rfl)
theorem dX2_day_25 : decode cX2_day 25 = .ok (.iload_n 2, 1) := dk_28 (dk_at dksX2_day_1 3 rfl rfl)
theorem dX2_day_26 : decode cX2_day 26 = .ok (.ireturn, 1) := dk_172 (dk_at dksX2_day_1 4 rfl rfl)
abbrev cX2_kind : ByteArray := prog_17_method_73_code
def yX2_kind : MethodName := ⟨RX2, "kind", "(I)I"⟩
def dkwX2_kind_0 : List UInt8 := [42, 3, 181, 0, 1, 42, 27, 182, 1, 97, 153, 0, 11, 42, 27, 182, 1, 129, 167, 0, 5, 18, 142, 172]
abbrev dktX2_kind_0 : List UInt8 := dkwX2_kind_0 ++ []
theorem dksX2_kind_0 : cX2_kind.data.toList.drop 0 = dktX2_kind_0 := by decide +kernel
theorem dX2_kind_0 : decode cX2_kind 0 = .ok (.aload_n 0, 1) := dk_42 (dk_at dksX2_kind_0 0 rfl rfl)
theorem dX2_kind_1 : decode cX2_kind 1 = .ok (.iconst 0, 1) := dk_3 (dk_at dksX2_kind_0 1 rfl rfl)
theorem dX2_kind_2 : decode cX2_kind 2 = .ok (.putfield 1, 3) := dk_181 0 1 (dk_at dksX2_kind_0 2 rfl rfl)
theorem dX2_kind_5 : decode cX2_kind 5 = .ok (.aload_n 0, 1) := dk_42 (dk_at dksX2_kind_0 5 rfl rfl)
theorem dX2_kind_6 : decode cX2_kind 6 = .ok (.iload_n 1, 1) := dk_27 (dk_at dksX2_kind_0 6 rfl rfl)
theorem dX2_kind_7 : decode cX2_kind 7 = .ok (.invokevirtual 353, 3) := dk_182 1 97 (dk_at dksX2_kind_0 7 rfl rfl)
theorem dX2_kind_10 : decode cX2_kind 10 = .ok (.ifCond .eq 11, 3) := dk_153 0 11 (dk_at dksX2_kind_0 10 rfl rfl)
theorem dX2_kind_13 : decode cX2_kind 13 = .ok (.aload_n 0, 1) := dk_42 (dk_at dksX2_kind_0 13 rfl rfl)
theorem dX2_kind_14 : decode cX2_kind 14 = .ok (.iload_n 1, 1) := dk_27 (dk_at dksX2_kind_0 14 rfl rfl)
theorem dX2_kind_15 : decode cX2_kind 15 = .ok (.invokevirtual 385, 3) := dk_182 1 129 (dk_at dksX2_kind_0 15 rfl rfl)
theorem dX2_kind_18 : decode cX2_kind 18 = .ok (.goto 5, 3) := dk_167 0 5 (dk_at dksX2_kind_0 18 rfl rfl)
theorem dX2_kind_21 : decode cX2_kind 21 = .ok (.ldc 142, 2) := dk_18 142 (dk_at dksX2_kind_0 21 rfl rfl)
theorem dX2_kind_23 : decode cX2_kind 23 = .ok (.ireturn, 1) := dk_172 (dk_at dksX2_kind_0 23 rfl rfl)
abbrev cX2_kindOf : ByteArray := prog_17_method_53_code
def yX2_kindOf : MethodName := ⟨RX2, "kindOf", "(I)I"⟩
def dkwX2_kindOf_2 : List UInt8 := [167, 0, 4, 3, 172]
abbrev dktX2_kindOf_2 : List UInt8 := dkwX2_kindOf_2 ++ []
def dkwX2_kindOf_1 : List UInt8 := [5, 160, 0, 7, 5, 167, 0, 22, 28, 4, 160, 0, 7, 4, 167, 0, 13, 28, 6, 160, 0, 7, 7]
abbrev dktX2_kindOf_1 : List UInt8 := dkwX2_kindOf_1 ++ dktX2_kindOf_2
def dkwX2_kindOf_0 : List UInt8 := [42, 27, 3, 182, 1, 87, 61, 42, 27, 42, 180, 1, 91, 182, 1, 94, 153, 0, 7, 6, 167, 0, 31, 28]
abbrev dktX2_kindOf_0 : List UInt8 := dkwX2_kindOf_0 ++ dktX2_kindOf_1
theorem dksX2_kindOf_0 : cX2_kindOf.data.toList.drop 0 = dktX2_kindOf_0 := by decide +kernel
theorem dksX2_kindOf_1 : cX2_kindOf.data.toList.drop 24 = dktX2_kindOf_1 := dk_seg dksX2_kindOf_0 24 rfl rfl
theorem dksX2_kindOf_2 : cX2_kindOf.data.toList.drop 47 = dktX2_kindOf_2 := dk_seg dksX2_kindOf_1 23 rfl rfl
theorem dX2_kindOf_0 : decode cX2_kindOf 0 = .ok (.aload_n 0, 1) := dk_42 (dk_at dksX2_kindOf_0 0 rfl rfl)
theorem dX2_kindOf_1 : decode cX2_kindOf 1 = .ok (.iload_n 1, 1) := dk_27 (dk_at dksX2_kindOf_0 1 rfl rfl)
theorem dX2_kindOf_2 : decode cX2_kindOf 2 = .ok (.iconst 0, 1) := dk_3 (dk_at dksX2_kindOf_0 2 rfl rfl)
theorem dX2_kindOf_3 : decode cX2_kindOf 3 = .ok (.invokevirtual 343, 3) := dk_182 1 87 (dk_at dksX2_kindOf_0 3 rfl rfl)
theorem dX2_kindOf_6 : decode cX2_kindOf 6 = .ok (.istore_n 2, 1) := dk_61 (dk_at dksX2_kindOf_0 6 rfl rfl)
theorem dX2_kindOf_7 : decode cX2_kindOf 7 = .ok (.aload_n 0, 1) := dk_42 (dk_at dksX2_kindOf_0 7 rfl rfl)
theorem dX2_kindOf_8 : decode cX2_kindOf 8 = .ok (.iload_n 1, 1) := dk_27 (dk_at dksX2_kindOf_0 8 rfl rfl)
theorem dX2_kindOf_9 : decode cX2_kindOf 9 = .ok (.aload_n 0, 1) := dk_42 (dk_at dksX2_kindOf_0 9 rfl rfl)
theorem dX2_kindOf_10 : decode cX2_kindOf 10 = .ok (.getfield 347, 3) := dk_180 1 91 (dk_at dksX2_kindOf_0 10 rfl rfl)
theorem dX2_kindOf_13 : decode cX2_kindOf 13 = .ok (.invokevirtual 350, 3) := dk_182 1 94 (dk_at dksX2_kindOf_0 13 rfl rfl)
theorem dX2_kindOf_16 : decode cX2_kindOf 16 = .ok (.ifCond .eq 7, 3) := dk_153 0 7 (dk_at dksX2_kindOf_0 16 rfl rfl)
theorem dX2_kindOf_19 : decode cX2_kindOf 19 = .ok (.iconst 3, 1) := dk_6 (dk_at dksX2_kindOf_0 19 rfl rfl)
theorem dX2_kindOf_20 : decode cX2_kindOf 20 = .ok (.goto 31, 3) := dk_167 0 31 (dk_at dksX2_kindOf_0 20 rfl rfl)
theorem dX2_kindOf_23 : decode cX2_kindOf 23 = .ok (.iload_n 2, 1) := dk_28 (dk_at dksX2_kindOf_0 23 rfl rfl)
theorem dX2_kindOf_24 : decode cX2_kindOf 24 = .ok (.iconst 2, 1) := dk_5 (dk_at dksX2_kindOf_1 0 rfl rfl)
theorem dX2_kindOf_25 : decode cX2_kindOf 25 = .ok (.if_icmp .ne 7, 3) := dk_160 0 7 (dk_at dksX2_kindOf_1 1 rfl rfl)
theorem dX2_kindOf_28 : decode cX2_kindOf 28 = .ok (.iconst 2, 1) := dk_5 (dk_at dksX2_kindOf_1 4 rfl rfl)
theorem dX2_kindOf_29 : decode cX2_kindOf 29 = .ok (.goto 22, 3) := dk_167 0 22 (dk_at dksX2_kindOf_1 5 rfl rfl)
theorem dX2_kindOf_32 : decode cX2_kindOf 32 = .ok (.iload_n 2, 1) := dk_28 (dk_at dksX2_kindOf_1 8 rfl rfl)
theorem dX2_kindOf_33 : decode cX2_kindOf 33 = .ok (.iconst 1, 1) := dk_4 (dk_at dksX2_kindOf_1 9 rfl rfl)
theorem dX2_kindOf_34 : decode cX2_kindOf 34 = .ok (.if_icmp .ne 7, 3) := dk_160 0 7 (dk_at dksX2_kindOf_1 10 rfl rfl)
theorem dX2_kindOf_37 : decode cX2_kindOf 37 = .ok (.iconst 1, 1) := dk_4 (dk_at dksX2_kindOf_1 13 rfl rfl)
theorem dX2_kindOf_38 : decode cX2_kindOf 38 = .ok (.goto 13, 3) := dk_167 0 13 (dk_at dksX2_kindOf_1 14 rfl rfl)
theorem dX2_kindOf_41 : decode cX2_kindOf 41 = .ok (.iload_n 2, 1) := dk_28 (dk_at dksX2_kindOf_1 17 rfl rfl)
theorem dX2_kindOf_42 : decode cX2_kindOf 42 = .ok (.iconst 3, 1) := dk_6 (dk_at dksX2_kindOf_1 18 rfl rfl)
theorem dX2_kindOf_43 : decode cX2_kindOf 43 = .ok (.if_icmp .ne 7, 3) := dk_160 0 7 (dk_at dksX2_kindOf_1 19 rfl rfl)
theorem dX2_kindOf_46 : decode cX2_kindOf 46 = .ok (.iconst 4, 1) := dk_7 (dk_at dksX2_kindOf_1 22 rfl rfl)
theorem dX2_kindOf_47 : decode cX2_kindOf 47 = .ok (.goto 4, 3) := dk_167 0 4 (dk_at dksX2_kindOf_2 0 rfl rfl)
theorem dX2_kindOf_50 : decode cX2_kindOf 50 = .ok (.iconst 0, 1) := dk_3 (dk_at dksX2_kindOf_2 3 rfl rfl)
theorem dX2_kindOf_51 : decode cX2_kindOf 51 = .ok (.ireturn, 1) := dk_172 (dk_at dksX2_kindOf_2 4 rfl rfl)
abbrev cX2_as : ByteArray := prog_17_method_74_code
def yX2_as : MethodName := ⟨RX2, "as", "(II)I"⟩
def dkwX2_as_2 : List UInt8 := [27, 5, 182, 1, 87, 167, 0, 8, 42, 6, 182, 0, 143, 172]
abbrev dktX2_as_2 : List UInt8 := dkwX2_as_2 ++ []
def dkwX2_as_1 : List UInt8 := [154, 0, 6, 18, 142, 172, 42, 3, 181, 0, 7, 42, 27, 182, 1, 129, 28, 184, 1, 132, 153, 0, 12, 42]
abbrev dktX2_as_1 : List UInt8 := dkwX2_as_1 ++ dktX2_as_2
def dkwX2_as_0 : List UInt8 := [42, 3, 181, 0, 1, 42, 27, 182, 1, 97, 153, 0, 15, 28, 133, 9, 20, 1, 37, 184, 0, 132]
abbrev dktX2_as_0 : List UInt8 := dkwX2_as_0 ++ dktX2_as_1
theorem dksX2_as_0 : cX2_as.data.toList.drop 0 = dktX2_as_0 := by decide +kernel
theorem dksX2_as_1 : cX2_as.data.toList.drop 22 = dktX2_as_1 := dk_seg dksX2_as_0 22 rfl rfl
theorem dksX2_as_2 : cX2_as.data.toList.drop 46 = dktX2_as_2 := dk_seg dksX2_as_1 24 rfl rfl
theorem dX2_as_0 : decode cX2_as 0 = .ok (.aload_n 0, 1) := dk_42 (dk_at dksX2_as_0 0 rfl rfl)
theorem dX2_as_1 : decode cX2_as 1 = .ok (.iconst 0, 1) := dk_3 (dk_at dksX2_as_0 1 rfl rfl)
theorem dX2_as_2 : decode cX2_as 2 = .ok (.putfield 1, 3) := dk_181 0 1 (dk_at dksX2_as_0 2 rfl rfl)
theorem dX2_as_5 : decode cX2_as 5 = .ok (.aload_n 0, 1) := dk_42 (dk_at dksX2_as_0 5 rfl rfl)
theorem dX2_as_6 : decode cX2_as 6 = .ok (.iload_n 1, 1) := dk_27 (dk_at dksX2_as_0 6 rfl rfl)
theorem dX2_as_7 : decode cX2_as 7 = .ok (.invokevirtual 353, 3) := dk_182 1 97 (dk_at dksX2_as_0 7 rfl rfl)
theorem dX2_as_10 : decode cX2_as 10 = .ok (.ifCond .eq 15, 3) := dk_153 0 15 (dk_at dksX2_as_0 10 rfl rfl)
theorem dX2_as_13 : decode cX2_as 13 = .ok (.iload_n 2, 1) := dk_28 (dk_at dksX2_as_0 13 rfl rfl)
theorem dX2_as_14 : decode cX2_as 14 = .ok (.i2l, 1) := dk_133 (dk_at dksX2_as_0 14 rfl rfl)
theorem dX2_as_15 : decode cX2_as 15 = .ok (.lconst 0, 1) := dk_9 (dk_at dksX2_as_0 15 rfl rfl)
theorem dX2_as_16 : decode cX2_as 16 = .ok (.ldc2_w 293, 3) := dk_20 1 37 (dk_at dksX2_as_0 16 rfl rfl)
theorem dX2_as_19 : decode cX2_as 19 = .ok (.invokestatic 132, 3) := dk_184 0 132 (dk_at dksX2_as_0 19 rfl rfl)
theorem dX2_as_22 : decode cX2_as 22 = .ok (.ifCond .ne 6, 3) := dk_154 0 6 (dk_at dksX2_as_1 0 rfl rfl)
theorem dX2_as_25 : decode cX2_as 25 = .ok (.ldc 142, 2) := dk_18 142 (dk_at dksX2_as_1 3 rfl rfl)
theorem dX2_as_27 : decode cX2_as 27 = .ok (.ireturn, 1) := dk_172 (dk_at dksX2_as_1 5 rfl rfl)
theorem dX2_as_28 : decode cX2_as 28 = .ok (.aload_n 0, 1) := dk_42 (dk_at dksX2_as_1 6 rfl rfl)
theorem dX2_as_29 : decode cX2_as 29 = .ok (.iconst 0, 1) := dk_3 (dk_at dksX2_as_1 7 rfl rfl)
theorem dX2_as_30 : decode cX2_as 30 = .ok (.putfield 7, 3) := dk_181 0 7 (dk_at dksX2_as_1 8 rfl rfl)
theorem dX2_as_33 : decode cX2_as 33 = .ok (.aload_n 0, 1) := dk_42 (dk_at dksX2_as_1 11 rfl rfl)
theorem dX2_as_34 : decode cX2_as 34 = .ok (.iload_n 1, 1) := dk_27 (dk_at dksX2_as_1 12 rfl rfl)
theorem dX2_as_35 : decode cX2_as 35 = .ok (.invokevirtual 385, 3) := dk_182 1 129 (dk_at dksX2_as_1 13 rfl rfl)
theorem dX2_as_38 : decode cX2_as 38 = .ok (.iload_n 2, 1) := dk_28 (dk_at dksX2_as_1 16 rfl rfl)
theorem dX2_as_39 : decode cX2_as 39 = .ok (.invokestatic 388, 3) := dk_184 1 132 (dk_at dksX2_as_1 17 rfl rfl)
theorem dX2_as_42 : decode cX2_as 42 = .ok (.ifCond .eq 12, 3) := dk_153 0 12 (dk_at dksX2_as_1 20 rfl rfl)
theorem dX2_as_45 : decode cX2_as 45 = .ok (.aload_n 0, 1) := dk_42 (dk_at dksX2_as_1 23 rfl rfl)
theorem dX2_as_46 : decode cX2_as 46 = .ok (.iload_n 1, 1) := dk_27 (dk_at dksX2_as_2 0 rfl rfl)
theorem dX2_as_47 : decode cX2_as 47 = .ok (.iconst 2, 1) := dk_5 (dk_at dksX2_as_2 1 rfl rfl)
theorem dX2_as_48 : decode cX2_as 48 = .ok (.invokevirtual 343, 3) := dk_182 1 87 (dk_at dksX2_as_2 2 rfl rfl)
theorem dX2_as_51 : decode cX2_as 51 = .ok (.goto 8, 3) := dk_167 0 8 (dk_at dksX2_as_2 5 rfl rfl)
theorem dX2_as_54 : decode cX2_as 54 = .ok (.aload_n 0, 1) := dk_42 (dk_at dksX2_as_2 8 rfl rfl)
theorem dX2_as_55 : decode cX2_as 55 = .ok (.iconst 3, 1) := dk_6 (dk_at dksX2_as_2 9 rfl rfl)
theorem dX2_as_56 : decode cX2_as 56 = .ok (.invokevirtual 143, 3) := dk_182 0 143 (dk_at dksX2_as_2 10 rfl rfl)
theorem dX2_as_59 : decode cX2_as 59 = .ok (.ireturn, 1) := dk_172 (dk_at dksX2_as_2 13 rfl rfl)
abbrev cX2_isOf : ByteArray := prog_17_method_72_code
def yX2_isOf : MethodName := ⟨RX2, "isOf", "(II)Z"⟩
def dkwX2_isOf_1 : List UInt8 := [172]
abbrev dktX2_isOf_1 : List UInt8 := dkwX2_isOf_1 ++ []
def dkwX2_isOf_0 : List UInt8 := [27, 153, 0, 18, 26, 27, 159, 0, 13, 27, 5, 160, 0, 12, 26, 6, 160, 0, 7, 4, 167, 0, 4, 3]
abbrev dktX2_isOf_0 : List UInt8 := dkwX2_isOf_0 ++ dktX2_isOf_1
theorem dksX2_isOf_0 : cX2_isOf.data.toList.drop 0 = dktX2_isOf_0 := by decide +kernel
theorem dksX2_isOf_1 : cX2_isOf.data.toList.drop 24 = dktX2_isOf_1 := dk_seg dksX2_isOf_0 24 rfl rfl
theorem dX2_isOf_0 : decode cX2_isOf 0 = .ok (.iload_n 1, 1) := dk_27 (dk_at dksX2_isOf_0 0 rfl rfl)
theorem dX2_isOf_1 : decode cX2_isOf 1 = .ok (.ifCond .eq 18, 3) := dk_153 0 18 (dk_at dksX2_isOf_0 1 rfl rfl)
theorem dX2_isOf_4 : decode cX2_isOf 4 = .ok (.iload_n 0, 1) := dk_26 (dk_at dksX2_isOf_0 4 rfl rfl)
theorem dX2_isOf_5 : decode cX2_isOf 5 = .ok (.iload_n 1, 1) := dk_27 (dk_at dksX2_isOf_0 5 rfl rfl)
theorem dX2_isOf_6 : decode cX2_isOf 6 = .ok (.if_icmp .eq 13, 3) := dk_159 0 13 (dk_at dksX2_isOf_0 6 rfl rfl)
theorem dX2_isOf_9 : decode cX2_isOf 9 = .ok (.iload_n 1, 1) := dk_27 (dk_at dksX2_isOf_0 9 rfl rfl)
theorem dX2_isOf_10 : decode cX2_isOf 10 = .ok (.iconst 2, 1) := dk_5 (dk_at dksX2_isOf_0 10 rfl rfl)
theorem dX2_isOf_11 : decode cX2_isOf 11 = .ok (.if_icmp .ne 12, 3) := dk_160 0 12 (dk_at dksX2_isOf_0 11 rfl rfl)
theorem dX2_isOf_14 : decode cX2_isOf 14 = .ok (.iload_n 0, 1) := dk_26 (dk_at dksX2_isOf_0 14 rfl rfl)
theorem dX2_isOf_15 : decode cX2_isOf 15 = .ok (.iconst 3, 1) := dk_6 (dk_at dksX2_isOf_0 15 rfl rfl)
theorem dX2_isOf_16 : decode cX2_isOf 16 = .ok (.if_icmp .ne 7, 3) := dk_160 0 7 (dk_at dksX2_isOf_0 16 rfl rfl)
theorem dX2_isOf_19 : decode cX2_isOf 19 = .ok (.iconst 1, 1) := dk_4 (dk_at dksX2_isOf_0 19 rfl rfl)
theorem dX2_isOf_20 : decode cX2_isOf 20 = .ok (.goto 4, 3) := dk_167 0 4 (dk_at dksX2_isOf_0 20 rfl rfl)
theorem dX2_isOf_23 : decode cX2_isOf 23 = .ok (.iconst 0, 1) := dk_3 (dk_at dksX2_isOf_0 23 rfl rfl)
theorem dX2_isOf_24 : decode cX2_isOf 24 = .ok (.ireturn, 1) := dk_172 (dk_at dksX2_isOf_1 0 rfl rfl)
abbrev cX2_ask : ByteArray := prog_17_method_79_code
def yX2_ask : MethodName := ⟨RX2, "ask", "(II)I"⟩
def dkwX2_ask_2 : List UInt8 := [167, 0, 9, 42, 27, 29, 182, 1, 144, 172]
abbrev dktX2_ask_2 : List UInt8 := dkwX2_ask_2 ++ []
def dkwX2_ask_1 : List UInt8 := [18, 142, 172, 42, 3, 181, 1, 135, 42, 27, 182, 1, 129, 62, 28, 154, 0, 12, 42, 27, 29, 182, 1, 147]
abbrev dktX2_ask_1 : List UInt8 := dkwX2_ask_1 ++ dktX2_ask_2
def dkwX2_ask_0 : List UInt8 := [42, 3, 181, 0, 1, 42, 27, 182, 1, 97, 153, 0, 13, 28, 133, 9, 10, 184, 0, 132, 154, 0, 6]
abbrev dktX2_ask_0 : List UInt8 := dkwX2_ask_0 ++ dktX2_ask_1
theorem dksX2_ask_0 : cX2_ask.data.toList.drop 0 = dktX2_ask_0 := by decide +kernel
theorem dksX2_ask_1 : cX2_ask.data.toList.drop 23 = dktX2_ask_1 := dk_seg dksX2_ask_0 23 rfl rfl
theorem dksX2_ask_2 : cX2_ask.data.toList.drop 47 = dktX2_ask_2 := dk_seg dksX2_ask_1 24 rfl rfl
theorem dX2_ask_0 : decode cX2_ask 0 = .ok (.aload_n 0, 1) := dk_42 (dk_at dksX2_ask_0 0 rfl rfl)
theorem dX2_ask_1 : decode cX2_ask 1 = .ok (.iconst 0, 1) := dk_3 (dk_at dksX2_ask_0 1 rfl rfl)
theorem dX2_ask_2 : decode cX2_ask 2 = .ok (.putfield 1, 3) := dk_181 0 1 (dk_at dksX2_ask_0 2 rfl rfl)
theorem dX2_ask_5 : decode cX2_ask 5 = .ok (.aload_n 0, 1) := dk_42 (dk_at dksX2_ask_0 5 rfl rfl)
theorem dX2_ask_6 : decode cX2_ask 6 = .ok (.iload_n 1, 1) := dk_27 (dk_at dksX2_ask_0 6 rfl rfl)
theorem dX2_ask_7 : decode cX2_ask 7 = .ok (.invokevirtual 353, 3) := dk_182 1 97 (dk_at dksX2_ask_0 7 rfl rfl)
theorem dX2_ask_10 : decode cX2_ask 10 = .ok (.ifCond .eq 13, 3) := dk_153 0 13 (dk_at dksX2_ask_0 10 rfl rfl)
theorem dX2_ask_13 : decode cX2_ask 13 = .ok (.iload_n 2, 1) := dk_28 (dk_at dksX2_ask_0 13 rfl rfl)
theorem dX2_ask_14 : decode cX2_ask 14 = .ok (.i2l, 1) := dk_133 (dk_at dksX2_ask_0 14 rfl rfl)
theorem dX2_ask_15 : decode cX2_ask 15 = .ok (.lconst 0, 1) := dk_9 (dk_at dksX2_ask_0 15 rfl rfl)
theorem dX2_ask_16 : decode cX2_ask 16 = .ok (.lconst 1, 1) := dk_10 (dk_at dksX2_ask_0 16 rfl rfl)
theorem dX2_ask_17 : decode cX2_ask 17 = .ok (.invokestatic 132, 3) := dk_184 0 132 (dk_at dksX2_ask_0 17 rfl rfl)
theorem dX2_ask_20 : decode cX2_ask 20 = .ok (.ifCond .ne 6, 3) := dk_154 0 6 (dk_at dksX2_ask_0 20 rfl rfl)
theorem dX2_ask_23 : decode cX2_ask 23 = .ok (.ldc 142, 2) := dk_18 142 (dk_at dksX2_ask_1 0 rfl rfl)
theorem dX2_ask_25 : decode cX2_ask 25 = .ok (.ireturn, 1) := dk_172 (dk_at dksX2_ask_1 2 rfl rfl)
theorem dX2_ask_26 : decode cX2_ask 26 = .ok (.aload_n 0, 1) := dk_42 (dk_at dksX2_ask_1 3 rfl rfl)
theorem dX2_ask_27 : decode cX2_ask 27 = .ok (.iconst 0, 1) := dk_3 (dk_at dksX2_ask_1 4 rfl rfl)
theorem dX2_ask_28 : decode cX2_ask 28 = .ok (.putfield 391, 3) := dk_181 1 135 (dk_at dksX2_ask_1 5 rfl rfl)
theorem dX2_ask_31 : decode cX2_ask 31 = .ok (.aload_n 0, 1) := dk_42 (dk_at dksX2_ask_1 8 rfl rfl)
theorem dX2_ask_32 : decode cX2_ask 32 = .ok (.iload_n 1, 1) := dk_27 (dk_at dksX2_ask_1 9 rfl rfl)
theorem dX2_ask_33 : decode cX2_ask 33 = .ok (.invokevirtual 385, 3) := dk_182 1 129 (dk_at dksX2_ask_1 10 rfl rfl)
theorem dX2_ask_36 : decode cX2_ask 36 = .ok (.istore_n 3, 1) := dk_62 (dk_at dksX2_ask_1 13 rfl rfl)
theorem dX2_ask_37 : decode cX2_ask 37 = .ok (.iload_n 2, 1) := dk_28 (dk_at dksX2_ask_1 14 rfl rfl)
theorem dX2_ask_38 : decode cX2_ask 38 = .ok (.ifCond .ne 12, 3) := dk_154 0 12 (dk_at dksX2_ask_1 15 rfl rfl)
theorem dX2_ask_41 : decode cX2_ask 41 = .ok (.aload_n 0, 1) := dk_42 (dk_at dksX2_ask_1 18 rfl rfl)
theorem dX2_ask_42 : decode cX2_ask 42 = .ok (.iload_n 1, 1) := dk_27 (dk_at dksX2_ask_1 19 rfl rfl)
theorem dX2_ask_43 : decode cX2_ask 43 = .ok (.iload_n 3, 1) := dk_29 (dk_at dksX2_ask_1 20 rfl rfl)
theorem dX2_ask_44 : decode cX2_ask 44 = .ok (.invokevirtual 403, 3) := dk_182 1 147 (dk_at dksX2_ask_1 21 rfl rfl)
theorem dX2_ask_47 : decode cX2_ask 47 = .ok (.goto 9, 3) := dk_167 0 9 (dk_at dksX2_ask_2 0 rfl rfl)
theorem dX2_ask_50 : decode cX2_ask 50 = .ok (.aload_n 0, 1) := dk_42 (dk_at dksX2_ask_2 3 rfl rfl)
theorem dX2_ask_51 : decode cX2_ask 51 = .ok (.iload_n 1, 1) := dk_27 (dk_at dksX2_ask_2 4 rfl rfl)
theorem dX2_ask_52 : decode cX2_ask 52 = .ok (.iload_n 3, 1) := dk_29 (dk_at dksX2_ask_2 5 rfl rfl)
theorem dX2_ask_53 : decode cX2_ask 53 = .ok (.invokevirtual 400, 3) := dk_182 1 144 (dk_at dksX2_ask_2 6 rfl rfl)
theorem dX2_ask_56 : decode cX2_ask 56 = .ok (.ireturn, 1) := dk_172 (dk_at dksX2_ask_2 9 rfl rfl)
abbrev cX2_sizeOf : ByteArray := prog_17_method_78_code
def yX2_sizeOf : MethodName := ⟨RX2, "sizeOf", "(II)I"⟩
def dkwX2_sizeOf_4 : List UInt8 := [96, 167, 0, 4, 29, 62, 28, 6, 160, 0, 8, 29, 116, 167, 0, 4, 29, 172]
abbrev dktX2_sizeOf_4 : List UInt8 := dkwX2_sizeOf_4 ++ []
def dkwX2_sizeOf_3 : List UInt8 := [160, 0, 9, 5, 29, 104, 167, 0, 23, 28, 5, 184, 1, 132, 153, 0, 14, 29, 42, 27, 28, 182, 1, 144]
abbrev dktX2_sizeOf_3 : List UInt8 := dkwX2_sizeOf_3 ++ dktX2_sizeOf_4
def dkwX2_sizeOf_2 : List UInt8 := [16, 10, 182, 1, 138, 42, 27, 16, 6, 182, 1, 87, 42, 27, 8, 182, 1, 87, 100, 62, 28, 4]
abbrev dktX2_sizeOf_2 : List UInt8 := dkwX2_sizeOf_2 ++ dktX2_sizeOf_3
def dkwX2_sizeOf_1 : List UInt8 := [184, 1, 132, 153, 0, 9, 42, 16, 12, 182, 1, 138, 28, 4, 160, 0, 9, 42, 16, 11, 182, 1, 138, 42]
abbrev dktX2_sizeOf_1 : List UInt8 := dkwX2_sizeOf_1 ++ dktX2_sizeOf_2
def dkwX2_sizeOf_0 : List UInt8 := [28, 7, 160, 0, 9, 42, 27, 182, 1, 141, 172, 28, 6, 160, 0, 9, 42, 16, 13, 182, 1, 138, 28, 5]
abbrev dktX2_sizeOf_0 : List UInt8 := dkwX2_sizeOf_0 ++ dktX2_sizeOf_1
theorem dksX2_sizeOf_0 : cX2_sizeOf.data.toList.drop 0 = dktX2_sizeOf_0 := by decide +kernel
theorem dksX2_sizeOf_1 : cX2_sizeOf.data.toList.drop 24 = dktX2_sizeOf_1 := dk_seg dksX2_sizeOf_0 24 rfl rfl
theorem dksX2_sizeOf_2 : cX2_sizeOf.data.toList.drop 48 = dktX2_sizeOf_2 := dk_seg dksX2_sizeOf_1 24 rfl rfl
theorem dksX2_sizeOf_3 : cX2_sizeOf.data.toList.drop 70 = dktX2_sizeOf_3 := dk_seg dksX2_sizeOf_2 22 rfl rfl
theorem dksX2_sizeOf_4 : cX2_sizeOf.data.toList.drop 94 = dktX2_sizeOf_4 := dk_seg dksX2_sizeOf_3 24 rfl rfl
theorem dX2_sizeOf_0 : decode cX2_sizeOf 0 = .ok (.iload_n 2, 1) := dk_28 (dk_at dksX2_sizeOf_0 0 rfl rfl)
theorem dX2_sizeOf_1 : decode cX2_sizeOf 1 = .ok (.iconst 4, 1) := dk_7 (dk_at dksX2_sizeOf_0 1 rfl rfl)
theorem dX2_sizeOf_2 : decode cX2_sizeOf 2 = .ok (.if_icmp .ne 9, 3) := dk_160 0 9 (dk_at dksX2_sizeOf_0 2 rfl rfl)
theorem dX2_sizeOf_5 : decode cX2_sizeOf 5 = .ok (.aload_n 0, 1) := dk_42 (dk_at dksX2_sizeOf_0 5 rfl rfl)
theorem dX2_sizeOf_6 : decode cX2_sizeOf 6 = .ok (.iload_n 1, 1) := dk_27 (dk_at dksX2_sizeOf_0 6 rfl rfl)
theorem dX2_sizeOf_7 : decode cX2_sizeOf 7 = .ok (.invokevirtual 397, 3) := dk_182 1 141 (dk_at dksX2_sizeOf_0 7 rfl rfl)
theorem dX2_sizeOf_10 : decode cX2_sizeOf 10 = .ok (.ireturn, 1) := dk_172 (dk_at dksX2_sizeOf_0 10 rfl rfl)
theorem dX2_sizeOf_11 : decode cX2_sizeOf 11 = .ok (.iload_n 2, 1) := dk_28 (dk_at dksX2_sizeOf_0 11 rfl rfl)
theorem dX2_sizeOf_12 : decode cX2_sizeOf 12 = .ok (.iconst 3, 1) := dk_6 (dk_at dksX2_sizeOf_0 12 rfl rfl)
theorem dX2_sizeOf_13 : decode cX2_sizeOf 13 = .ok (.if_icmp .ne 9, 3) := dk_160 0 9 (dk_at dksX2_sizeOf_0 13 rfl rfl)
theorem dX2_sizeOf_16 : decode cX2_sizeOf 16 = .ok (.aload_n 0, 1) := dk_42 (dk_at dksX2_sizeOf_0 16 rfl rfl)
theorem dX2_sizeOf_17 : decode cX2_sizeOf 17 = .ok (.bipush 13, 2) := dk_16 13 (dk_at dksX2_sizeOf_0 17 rfl rfl)
theorem dX2_sizeOf_19 : decode cX2_sizeOf 19 = .ok (.invokevirtual 394, 3) := dk_182 1 138 (dk_at dksX2_sizeOf_0 19 rfl rfl)
theorem dX2_sizeOf_22 : decode cX2_sizeOf 22 = .ok (.iload_n 2, 1) := dk_28 (dk_at dksX2_sizeOf_0 22 rfl rfl)
theorem dX2_sizeOf_23 : decode cX2_sizeOf 23 = .ok (.iconst 2, 1) := dk_5 (dk_at dksX2_sizeOf_0 23 rfl rfl)
theorem dX2_sizeOf_24 : decode cX2_sizeOf 24 = .ok (.invokestatic 388, 3) := dk_184 1 132 (dk_at dksX2_sizeOf_1 0 rfl rfl)
theorem dX2_sizeOf_27 : decode cX2_sizeOf 27 = .ok (.ifCond .eq 9, 3) := dk_153 0 9 (dk_at dksX2_sizeOf_1 3 rfl rfl)
theorem dX2_sizeOf_30 : decode cX2_sizeOf 30 = .ok (.aload_n 0, 1) := dk_42 (dk_at dksX2_sizeOf_1 6 rfl rfl)
theorem dX2_sizeOf_31 : decode cX2_sizeOf 31 = .ok (.bipush 12, 2) := dk_16 12 (dk_at dksX2_sizeOf_1 7 rfl rfl)
theorem dX2_sizeOf_33 : decode cX2_sizeOf 33 = .ok (.invokevirtual 394, 3) := dk_182 1 138 (dk_at dksX2_sizeOf_1 9 rfl rfl)
theorem dX2_sizeOf_36 : decode cX2_sizeOf 36 = .ok (.iload_n 2, 1) := dk_28 (dk_at dksX2_sizeOf_1 12 rfl rfl)
theorem dX2_sizeOf_37 : decode cX2_sizeOf 37 = .ok (.iconst 1, 1) := dk_4 (dk_at dksX2_sizeOf_1 13 rfl rfl)
theorem dX2_sizeOf_38 : decode cX2_sizeOf 38 = .ok (.if_icmp .ne 9, 3) := dk_160 0 9 (dk_at dksX2_sizeOf_1 14 rfl rfl)
theorem dX2_sizeOf_41 : decode cX2_sizeOf 41 = .ok (.aload_n 0, 1) := dk_42 (dk_at dksX2_sizeOf_1 17 rfl rfl)
theorem dX2_sizeOf_42 : decode cX2_sizeOf 42 = .ok (.bipush 11, 2) := dk_16 11 (dk_at dksX2_sizeOf_1 18 rfl rfl)
theorem dX2_sizeOf_44 : decode cX2_sizeOf 44 = .ok (.invokevirtual 394, 3) := dk_182 1 138 (dk_at dksX2_sizeOf_1 20 rfl rfl)
theorem dX2_sizeOf_47 : decode cX2_sizeOf 47 = .ok (.aload_n 0, 1) := dk_42 (dk_at dksX2_sizeOf_1 23 rfl rfl)
theorem dX2_sizeOf_48 : decode cX2_sizeOf 48 = .ok (.bipush 10, 2) := dk_16 10 (dk_at dksX2_sizeOf_2 0 rfl rfl)
theorem dX2_sizeOf_50 : decode cX2_sizeOf 50 = .ok (.invokevirtual 394, 3) := dk_182 1 138 (dk_at dksX2_sizeOf_2 2 rfl rfl)
theorem dX2_sizeOf_53 : decode cX2_sizeOf 53 = .ok (.aload_n 0, 1) := dk_42 (dk_at dksX2_sizeOf_2 5 rfl rfl)
theorem dX2_sizeOf_54 : decode cX2_sizeOf 54 = .ok (.iload_n 1, 1) := dk_27 (dk_at dksX2_sizeOf_2 6 rfl rfl)
theorem dX2_sizeOf_55 : decode cX2_sizeOf 55 = .ok (.bipush 6, 2) := dk_16 6 (dk_at dksX2_sizeOf_2 7 rfl rfl)
theorem dX2_sizeOf_57 : decode cX2_sizeOf 57 = .ok (.invokevirtual 343, 3) := dk_182 1 87 (dk_at dksX2_sizeOf_2 9 rfl rfl)
theorem dX2_sizeOf_60 : decode cX2_sizeOf 60 = .ok (.aload_n 0, 1) := dk_42 (dk_at dksX2_sizeOf_2 12 rfl rfl)
theorem dX2_sizeOf_61 : decode cX2_sizeOf 61 = .ok (.iload_n 1, 1) := dk_27 (dk_at dksX2_sizeOf_2 13 rfl rfl)
theorem dX2_sizeOf_62 : decode cX2_sizeOf 62 = .ok (.iconst 5, 1) := dk_8 (dk_at dksX2_sizeOf_2 14 rfl rfl)
theorem dX2_sizeOf_63 : decode cX2_sizeOf 63 = .ok (.invokevirtual 343, 3) := dk_182 1 87 (dk_at dksX2_sizeOf_2 15 rfl rfl)
theorem dX2_sizeOf_66 : decode cX2_sizeOf 66 = .ok (.isub, 1) := dk_100 (dk_at dksX2_sizeOf_2 18 rfl rfl)
theorem dX2_sizeOf_67 : decode cX2_sizeOf 67 = .ok (.istore_n 3, 1) := dk_62 (dk_at dksX2_sizeOf_2 19 rfl rfl)
theorem dX2_sizeOf_68 : decode cX2_sizeOf 68 = .ok (.iload_n 2, 1) := dk_28 (dk_at dksX2_sizeOf_2 20 rfl rfl)
theorem dX2_sizeOf_69 : decode cX2_sizeOf 69 = .ok (.iconst 1, 1) := dk_4 (dk_at dksX2_sizeOf_2 21 rfl rfl)
theorem dX2_sizeOf_70 : decode cX2_sizeOf 70 = .ok (.if_icmp .ne 9, 3) := dk_160 0 9 (dk_at dksX2_sizeOf_3 0 rfl rfl)
theorem dX2_sizeOf_73 : decode cX2_sizeOf 73 = .ok (.iconst 2, 1) := dk_5 (dk_at dksX2_sizeOf_3 3 rfl rfl)
theorem dX2_sizeOf_74 : decode cX2_sizeOf 74 = .ok (.iload_n 3, 1) := dk_29 (dk_at dksX2_sizeOf_3 4 rfl rfl)
theorem dX2_sizeOf_75 : decode cX2_sizeOf 75 = .ok (.imul, 1) := dk_104 (dk_at dksX2_sizeOf_3 5 rfl rfl)
theorem dX2_sizeOf_76 : decode cX2_sizeOf 76 = .ok (.goto 23, 3) := dk_167 0 23 (dk_at dksX2_sizeOf_3 6 rfl rfl)
theorem dX2_sizeOf_79 : decode cX2_sizeOf 79 = .ok (.iload_n 2, 1) := dk_28 (dk_at dksX2_sizeOf_3 9 rfl rfl)
theorem dX2_sizeOf_80 : decode cX2_sizeOf 80 = .ok (.iconst 2, 1) := dk_5 (dk_at dksX2_sizeOf_3 10 rfl rfl)
theorem dX2_sizeOf_81 : decode cX2_sizeOf 81 = .ok (.invokestatic 388, 3) := dk_184 1 132 (dk_at dksX2_sizeOf_3 11 rfl rfl)
theorem dX2_sizeOf_84 : decode cX2_sizeOf 84 = .ok (.ifCond .eq 14, 3) := dk_153 0 14 (dk_at dksX2_sizeOf_3 14 rfl rfl)
theorem dX2_sizeOf_87 : decode cX2_sizeOf 87 = .ok (.iload_n 3, 1) := dk_29 (dk_at dksX2_sizeOf_3 17 rfl rfl)
theorem dX2_sizeOf_88 : decode cX2_sizeOf 88 = .ok (.aload_n 0, 1) := dk_42 (dk_at dksX2_sizeOf_3 18 rfl rfl)
theorem dX2_sizeOf_89 : decode cX2_sizeOf 89 = .ok (.iload_n 1, 1) := dk_27 (dk_at dksX2_sizeOf_3 19 rfl rfl)
theorem dX2_sizeOf_90 : decode cX2_sizeOf 90 = .ok (.iload_n 2, 1) := dk_28 (dk_at dksX2_sizeOf_3 20 rfl rfl)
theorem dX2_sizeOf_91 : decode cX2_sizeOf 91 = .ok (.invokevirtual 400, 3) := dk_182 1 144 (dk_at dksX2_sizeOf_3 21 rfl rfl)
theorem dX2_sizeOf_94 : decode cX2_sizeOf 94 = .ok (.iadd, 1) := dk_96 (dk_at dksX2_sizeOf_4 0 rfl rfl)
theorem dX2_sizeOf_95 : decode cX2_sizeOf 95 = .ok (.goto 4, 3) := dk_167 0 4 (dk_at dksX2_sizeOf_4 1 rfl rfl)
theorem dX2_sizeOf_98 : decode cX2_sizeOf 98 = .ok (.iload_n 3, 1) := dk_29 (dk_at dksX2_sizeOf_4 4 rfl rfl)
theorem dX2_sizeOf_99 : decode cX2_sizeOf 99 = .ok (.istore_n 3, 1) := dk_62 (dk_at dksX2_sizeOf_4 5 rfl rfl)
theorem dX2_sizeOf_100 : decode cX2_sizeOf 100 = .ok (.iload_n 2, 1) := dk_28 (dk_at dksX2_sizeOf_4 6 rfl rfl)
theorem dX2_sizeOf_101 : decode cX2_sizeOf 101 = .ok (.iconst 3, 1) := dk_6 (dk_at dksX2_sizeOf_4 7 rfl rfl)
theorem dX2_sizeOf_102 : decode cX2_sizeOf 102 = .ok (.if_icmp .ne 8, 3) := dk_160 0 8 (dk_at dksX2_sizeOf_4 8 rfl rfl)
theorem dX2_sizeOf_105 : decode cX2_sizeOf 105 = .ok (.iload_n 3, 1) := dk_29 (dk_at dksX2_sizeOf_4 11 rfl rfl)
theorem dX2_sizeOf_106 : decode cX2_sizeOf 106 = .ok (.ineg, 1) := dk_116 (dk_at dksX2_sizeOf_4 12 rfl rfl)
theorem dX2_sizeOf_107 : decode cX2_sizeOf 107 = .ok (.goto 4, 3) := dk_167 0 4 (dk_at dksX2_sizeOf_4 13 rfl rfl)
theorem dX2_sizeOf_110 : decode cX2_sizeOf 110 = .ok (.iload_n 3, 1) := dk_29 (dk_at dksX2_sizeOf_4 16 rfl rfl)
theorem dX2_sizeOf_111 : decode cX2_sizeOf 111 = .ok (.ireturn, 1) := dk_172 (dk_at dksX2_sizeOf_4 17 rfl rfl)
abbrev cX2_nightSize : ByteArray := prog_17_method_76_code
def yX2_nightSize : MethodName := ⟨RX2, "nightSize", "(I)I"⟩
def dkwX2_nightSize_1 : List UInt8 := [182, 1, 87, 100, 42, 27, 4, 182, 1, 87, 96, 172]
abbrev dktX2_nightSize_1 : List UInt8 := dkwX2_nightSize_1 ++ []
def dkwX2_nightSize_0 : List UInt8 := [42, 16, 14, 182, 1, 138, 42, 16, 10, 182, 1, 138, 42, 27, 16, 6, 182, 1, 87, 42, 27, 8]
abbrev dktX2_nightSize_0 : List UInt8 := dkwX2_nightSize_0 ++ dktX2_nightSize_1
theorem dksX2_nightSize_0 : cX2_nightSize.data.toList.drop 0 = dktX2_nightSize_0 := by decide +kernel
theorem dksX2_nightSize_1 : cX2_nightSize.data.toList.drop 22 = dktX2_nightSize_1 := dk_seg dksX2_nightSize_0 22 rfl rfl
theorem dX2_nightSize_0 : decode cX2_nightSize 0 = .ok (.aload_n 0, 1) := dk_42 (dk_at dksX2_nightSize_0 0 rfl rfl)
theorem dX2_nightSize_1 : decode cX2_nightSize 1 = .ok (.bipush 14, 2) := dk_16 14 (dk_at dksX2_nightSize_0 1 rfl rfl)
theorem dX2_nightSize_3 : decode cX2_nightSize 3 = .ok (.invokevirtual 394, 3) := dk_182 1 138 (dk_at dksX2_nightSize_0 3 rfl rfl)
theorem dX2_nightSize_6 : decode cX2_nightSize 6 = .ok (.aload_n 0, 1) := dk_42 (dk_at dksX2_nightSize_0 6 rfl rfl)
theorem dX2_nightSize_7 : decode cX2_nightSize 7 = .ok (.bipush 10, 2) := dk_16 10 (dk_at dksX2_nightSize_0 7 rfl rfl)
theorem dX2_nightSize_9 : decode cX2_nightSize 9 = .ok (.invokevirtual 394, 3) := dk_182 1 138 (dk_at dksX2_nightSize_0 9 rfl rfl)
theorem dX2_nightSize_12 : decode cX2_nightSize 12 = .ok (.aload_n 0, 1) := dk_42 (dk_at dksX2_nightSize_0 12 rfl rfl)
theorem dX2_nightSize_13 : decode cX2_nightSize 13 = .ok (.iload_n 1, 1) := dk_27 (dk_at dksX2_nightSize_0 13 rfl rfl)
theorem dX2_nightSize_14 : decode cX2_nightSize 14 = .ok (.bipush 6, 2) := dk_16 6 (dk_at dksX2_nightSize_0 14 rfl rfl)
theorem dX2_nightSize_16 : decode cX2_nightSize 16 = .ok (.invokevirtual 343, 3) := dk_182 1 87 (dk_at dksX2_nightSize_0 16 rfl rfl)
theorem dX2_nightSize_19 : decode cX2_nightSize 19 = .ok (.aload_n 0, 1) := dk_42 (dk_at dksX2_nightSize_0 19 rfl rfl)
theorem dX2_nightSize_20 : decode cX2_nightSize 20 = .ok (.iload_n 1, 1) := dk_27 (dk_at dksX2_nightSize_0 20 rfl rfl)
theorem dX2_nightSize_21 : decode cX2_nightSize 21 = .ok (.iconst 5, 1) := dk_8 (dk_at dksX2_nightSize_0 21 rfl rfl)
theorem dX2_nightSize_22 : decode cX2_nightSize 22 = .ok (.invokevirtual 343, 3) := dk_182 1 87 (dk_at dksX2_nightSize_1 0 rfl rfl)
theorem dX2_nightSize_25 : decode cX2_nightSize 25 = .ok (.isub, 1) := dk_100 (dk_at dksX2_nightSize_1 3 rfl rfl)
theorem dX2_nightSize_26 : decode cX2_nightSize 26 = .ok (.aload_n 0, 1) := dk_42 (dk_at dksX2_nightSize_1 4 rfl rfl)
theorem dX2_nightSize_27 : decode cX2_nightSize 27 = .ok (.iload_n 1, 1) := dk_27 (dk_at dksX2_nightSize_1 5 rfl rfl)
theorem dX2_nightSize_28 : decode cX2_nightSize 28 = .ok (.iconst 1, 1) := dk_4 (dk_at dksX2_nightSize_1 6 rfl rfl)
theorem dX2_nightSize_29 : decode cX2_nightSize 29 = .ok (.invokevirtual 343, 3) := dk_182 1 87 (dk_at dksX2_nightSize_1 7 rfl rfl)
theorem dX2_nightSize_32 : decode cX2_nightSize 32 = .ok (.iadd, 1) := dk_96 (dk_at dksX2_nightSize_1 10 rfl rfl)
theorem dX2_nightSize_33 : decode cX2_nightSize 33 = .ok (.ireturn, 1) := dk_172 (dk_at dksX2_nightSize_1 11 rfl rfl)
abbrev cX2_began : ByteArray := prog_17_method_75_code
def yX2_began : MethodName := ⟨RX2, "began", "(I)V"⟩
def dkwX2_began_1 : List UInt8 := [4, 96, 181, 1, 135, 177]
abbrev dktX2_began_1 : List UInt8 := dkwX2_began_1 ++ []
def dkwX2_began_0 : List UInt8 := [42, 180, 1, 135, 16, 16, 162, 0, 23, 42, 180, 0, 126, 42, 180, 1, 135, 27, 79, 42, 89, 180, 1, 135]
abbrev dktX2_began_0 : List UInt8 := dkwX2_began_0 ++ dktX2_began_1
theorem dksX2_began_0 : cX2_began.data.toList.drop 0 = dktX2_began_0 := by decide +kernel
theorem dksX2_began_1 : cX2_began.data.toList.drop 24 = dktX2_began_1 := dk_seg dksX2_began_0 24 rfl rfl
theorem dX2_began_0 : decode cX2_began 0 = .ok (.aload_n 0, 1) := dk_42 (dk_at dksX2_began_0 0 rfl rfl)
theorem dX2_began_1 : decode cX2_began 1 = .ok (.getfield 391, 3) := dk_180 1 135 (dk_at dksX2_began_0 1 rfl rfl)
theorem dX2_began_4 : decode cX2_began 4 = .ok (.bipush 16, 2) := dk_16 16 (dk_at dksX2_began_0 4 rfl rfl)
theorem dX2_began_6 : decode cX2_began 6 = .ok (.if_icmp .ge 23, 3) := dk_162 0 23 (dk_at dksX2_began_0 6 rfl rfl)
theorem dX2_began_9 : decode cX2_began 9 = .ok (.aload_n 0, 1) := dk_42 (dk_at dksX2_began_0 9 rfl rfl)
theorem dX2_began_10 : decode cX2_began 10 = .ok (.getfield 126, 3) := dk_180 0 126 (dk_at dksX2_began_0 10 rfl rfl)
theorem dX2_began_13 : decode cX2_began 13 = .ok (.aload_n 0, 1) := dk_42 (dk_at dksX2_began_0 13 rfl rfl)
theorem dX2_began_14 : decode cX2_began 14 = .ok (.getfield 391, 3) := dk_180 1 135 (dk_at dksX2_began_0 14 rfl rfl)
theorem dX2_began_17 : decode cX2_began 17 = .ok (.iload_n 1, 1) := dk_27 (dk_at dksX2_began_0 17 rfl rfl)
theorem dX2_began_18 : decode cX2_began 18 = .ok (.iastore, 1) := dk_79 (dk_at dksX2_began_0 18 rfl rfl)
theorem dX2_began_19 : decode cX2_began 19 = .ok (.aload_n 0, 1) := dk_42 (dk_at dksX2_began_0 19 rfl rfl)
theorem dX2_began_20 : decode cX2_began 20 = .ok (.dup, 1) := dk_89 (dk_at dksX2_began_0 20 rfl rfl)
theorem dX2_began_21 : decode cX2_began 21 = .ok (.getfield 391, 3) := dk_180 1 135 (dk_at dksX2_began_0 21 rfl rfl)
theorem dX2_began_24 : decode cX2_began 24 = .ok (.iconst 1, 1) := dk_4 (dk_at dksX2_began_1 0 rfl rfl)
theorem dX2_began_25 : decode cX2_began 25 = .ok (.iadd, 1) := dk_96 (dk_at dksX2_began_1 1 rfl rfl)
theorem dX2_began_26 : decode cX2_began 26 = .ok (.putfield 391, 3) := dk_181 1 135 (dk_at dksX2_began_1 2 rfl rfl)
theorem dX2_began_29 : decode cX2_began 29 = .ok (.return_, 1) := dk_177 (dk_at dksX2_began_1 5 rfl rfl)
abbrev cX2_markOf : ByteArray := prog_17_method_77_code
def yX2_markOf : MethodName := ⟨RX2, "markOf", "(II)I"⟩
def dkwX2_markOf_4 : List UInt8 := [42, 27, 182, 1, 141, 96, 167, 0, 4, 29, 172]
abbrev dktX2_markOf_4 : List UInt8 := dkwX2_markOf_4 ++ []
def dkwX2_markOf_3 : List UInt8 := [96, 62, 28, 6, 160, 0, 14, 29, 42, 27, 6, 182, 1, 87, 96, 167, 0, 19, 28, 7, 160, 0, 13, 29]
abbrev dktX2_markOf_3 : List UInt8 := dkwX2_markOf_3 ++ dktX2_markOf_4
def dkwX2_markOf_2 : List UInt8 := [182, 1, 87, 28, 5, 184, 1, 132, 153, 0, 15, 16, 100, 42, 27, 7, 182, 1, 87, 104, 167, 0, 4, 3]
abbrev dktX2_markOf_2 : List UInt8 := dkwX2_markOf_2 ++ dktX2_markOf_3
def dkwX2_markOf_1 : List UInt8 := [182, 1, 138, 28, 7, 160, 0, 9, 42, 16, 23, 182, 1, 138, 42, 16, 20, 182, 1, 138, 42, 27, 5]
abbrev dktX2_markOf_1 : List UInt8 := dkwX2_markOf_1 ++ dktX2_markOf_2
def dkwX2_markOf_0 : List UInt8 := [28, 6, 160, 0, 9, 42, 16, 22, 182, 1, 138, 28, 5, 184, 1, 132, 153, 0, 9, 42, 16, 21]
abbrev dktX2_markOf_0 : List UInt8 := dkwX2_markOf_0 ++ dktX2_markOf_1
theorem dksX2_markOf_0 : cX2_markOf.data.toList.drop 0 = dktX2_markOf_0 := by decide +kernel
theorem dksX2_markOf_1 : cX2_markOf.data.toList.drop 22 = dktX2_markOf_1 := dk_seg dksX2_markOf_0 22 rfl rfl
theorem dksX2_markOf_2 : cX2_markOf.data.toList.drop 45 = dktX2_markOf_2 := dk_seg dksX2_markOf_1 23 rfl rfl
theorem dksX2_markOf_3 : cX2_markOf.data.toList.drop 69 = dktX2_markOf_3 := dk_seg dksX2_markOf_2 24 rfl rfl
theorem dksX2_markOf_4 : cX2_markOf.data.toList.drop 93 = dktX2_markOf_4 := dk_seg dksX2_markOf_3 24 rfl rfl
theorem dX2_markOf_0 : decode cX2_markOf 0 = .ok (.iload_n 2, 1) := dk_28 (dk_at dksX2_markOf_0 0 rfl rfl)
theorem dX2_markOf_1 : decode cX2_markOf 1 = .ok (.iconst 3, 1) := dk_6 (dk_at dksX2_markOf_0 1 rfl rfl)
theorem dX2_markOf_2 : decode cX2_markOf 2 = .ok (.if_icmp .ne 9, 3) := dk_160 0 9 (dk_at dksX2_markOf_0 2 rfl rfl)
theorem dX2_markOf_5 : decode cX2_markOf 5 = .ok (.aload_n 0, 1) := dk_42 (dk_at dksX2_markOf_0 5 rfl rfl)
theorem dX2_markOf_6 : decode cX2_markOf 6 = .ok (.bipush 22, 2) := dk_16 22 (dk_at dksX2_markOf_0 6 rfl rfl)
theorem dX2_markOf_8 : decode cX2_markOf 8 = .ok (.invokevirtual 394, 3) := dk_182 1 138 (dk_at dksX2_markOf_0 8 rfl rfl)
theorem dX2_markOf_11 : decode cX2_markOf 11 = .ok (.iload_n 2, 1) := dk_28 (dk_at dksX2_markOf_0 11 rfl rfl)
theorem dX2_markOf_12 : decode cX2_markOf 12 = .ok (.iconst 2, 1) := dk_5 (dk_at dksX2_markOf_0 12 rfl rfl)
theorem dX2_markOf_13 : decode cX2_markOf 13 = .ok (.invokestatic 388, 3) := dk_184 1 132 (dk_at dksX2_markOf_0 13 rfl rfl)
theorem dX2_markOf_16 : decode cX2_markOf 16 = .ok (.ifCond .eq 9, 3) := dk_153 0 9 (dk_at dksX2_markOf_0 16 rfl rfl)
theorem dX2_markOf_19 : decode cX2_markOf 19 = .ok (.aload_n 0, 1) := dk_42 (dk_at dksX2_markOf_0 19 rfl rfl)
theorem dX2_markOf_20 : decode cX2_markOf 20 = .ok (.bipush 21, 2) := dk_16 21 (dk_at dksX2_markOf_0 20 rfl rfl)
theorem dX2_markOf_22 : decode cX2_markOf 22 = .ok (.invokevirtual 394, 3) := dk_182 1 138 (dk_at dksX2_markOf_1 0 rfl rfl)
theorem dX2_markOf_25 : decode cX2_markOf 25 = .ok (.iload_n 2, 1) := dk_28 (dk_at dksX2_markOf_1 3 rfl rfl)
theorem dX2_markOf_26 : decode cX2_markOf 26 = .ok (.iconst 4, 1) := dk_7 (dk_at dksX2_markOf_1 4 rfl rfl)
theorem dX2_markOf_27 : decode cX2_markOf 27 = .ok (.if_icmp .ne 9, 3) := dk_160 0 9 (dk_at dksX2_markOf_1 5 rfl rfl)
theorem dX2_markOf_30 : decode cX2_markOf 30 = .ok (.aload_n 0, 1) := dk_42 (dk_at dksX2_markOf_1 8 rfl rfl)
theorem dX2_markOf_31 : decode cX2_markOf 31 = .ok (.bipush 23, 2) := dk_16 23 (dk_at dksX2_markOf_1 9 rfl rfl)
theorem dX2_markOf_33 : decode cX2_markOf 33 = .ok (.invokevirtual 394, 3) := dk_182 1 138 (dk_at dksX2_markOf_1 11 rfl rfl)
theorem dX2_markOf_36 : decode cX2_markOf 36 = .ok (.aload_n 0, 1) := dk_42 (dk_at dksX2_markOf_1 14 rfl rfl)
theorem dX2_markOf_37 : decode cX2_markOf 37 = .ok (.bipush 20, 2) := dk_16 20 (dk_at dksX2_markOf_1 15 rfl rfl)
theorem dX2_markOf_39 : decode cX2_markOf 39 = .ok (.invokevirtual 394, 3) := dk_182 1 138 (dk_at dksX2_markOf_1 17 rfl rfl)
theorem dX2_markOf_42 : decode cX2_markOf 42 = .ok (.aload_n 0, 1) := dk_42 (dk_at dksX2_markOf_1 20 rfl rfl)
theorem dX2_markOf_43 : decode cX2_markOf 43 = .ok (.iload_n 1, 1) := dk_27 (dk_at dksX2_markOf_1 21 rfl rfl)
theorem dX2_markOf_44 : decode cX2_markOf 44 = .ok (.iconst 2, 1) := dk_5 (dk_at dksX2_markOf_1 22 rfl rfl)
theorem dX2_markOf_45 : decode cX2_markOf 45 = .ok (.invokevirtual 343, 3) := dk_182 1 87 (dk_at dksX2_markOf_2 0 rfl rfl)
theorem dX2_markOf_48 : decode cX2_markOf 48 = .ok (.iload_n 2, 1) := dk_28 (dk_at dksX2_markOf_2 3 rfl rfl)
theorem dX2_markOf_49 : decode cX2_markOf 49 = .ok (.iconst 2, 1) := dk_5 (dk_at dksX2_markOf_2 4 rfl rfl)
theorem dX2_markOf_50 : decode cX2_markOf 50 = .ok (.invokestatic 388, 3) := dk_184 1 132 (dk_at dksX2_markOf_2 5 rfl rfl)
theorem dX2_markOf_53 : decode cX2_markOf 53 = .ok (.ifCond .eq 15, 3) := dk_153 0 15 (dk_at dksX2_markOf_2 8 rfl rfl)
theorem dX2_markOf_56 : decode cX2_markOf 56 = .ok (.bipush 100, 2) := dk_16 100 (dk_at dksX2_markOf_2 11 rfl rfl)
theorem dX2_markOf_58 : decode cX2_markOf 58 = .ok (.aload_n 0, 1) := dk_42 (dk_at dksX2_markOf_2 13 rfl rfl)
theorem dX2_markOf_59 : decode cX2_markOf 59 = .ok (.iload_n 1, 1) := dk_27 (dk_at dksX2_markOf_2 14 rfl rfl)
theorem dX2_markOf_60 : decode cX2_markOf 60 = .ok (.iconst 4, 1) := dk_7 (dk_at dksX2_markOf_2 15 rfl rfl)
theorem dX2_markOf_61 : decode cX2_markOf 61 = .ok (.invokevirtual 343, 3) := dk_182 1 87 (dk_at dksX2_markOf_2 16 rfl rfl)
theorem dX2_markOf_64 : decode cX2_markOf 64 = .ok (.imul, 1) := dk_104 (dk_at dksX2_markOf_2 19 rfl rfl)
theorem dX2_markOf_65 : decode cX2_markOf 65 = .ok (.goto 4, 3) := dk_167 0 4 (dk_at dksX2_markOf_2 20 rfl rfl)
theorem dX2_markOf_68 : decode cX2_markOf 68 = .ok (.iconst 0, 1) := dk_3 (dk_at dksX2_markOf_2 23 rfl rfl)
theorem dX2_markOf_69 : decode cX2_markOf 69 = .ok (.iadd, 1) := dk_96 (dk_at dksX2_markOf_3 0 rfl rfl)
theorem dX2_markOf_70 : decode cX2_markOf 70 = .ok (.istore_n 3, 1) := dk_62 (dk_at dksX2_markOf_3 1 rfl rfl)
theorem dX2_markOf_71 : decode cX2_markOf 71 = .ok (.iload_n 2, 1) := dk_28 (dk_at dksX2_markOf_3 2 rfl rfl)
theorem dX2_markOf_72 : decode cX2_markOf 72 = .ok (.iconst 3, 1) := dk_6 (dk_at dksX2_markOf_3 3 rfl rfl)
theorem dX2_markOf_73 : decode cX2_markOf 73 = .ok (.if_icmp .ne 14, 3) := dk_160 0 14 (dk_at dksX2_markOf_3 4 rfl rfl)
theorem dX2_markOf_76 : decode cX2_markOf 76 = .ok (.iload_n 3, 1) := dk_29 (dk_at dksX2_markOf_3 7 rfl rfl)
theorem dX2_markOf_77 : decode cX2_markOf 77 = .ok (.aload_n 0, 1) := dk_42 (dk_at dksX2_markOf_3 8 rfl rfl)
theorem dX2_markOf_78 : decode cX2_markOf 78 = .ok (.iload_n 1, 1) := dk_27 (dk_at dksX2_markOf_3 9 rfl rfl)
theorem dX2_markOf_79 : decode cX2_markOf 79 = .ok (.iconst 3, 1) := dk_6 (dk_at dksX2_markOf_3 10 rfl rfl)
theorem dX2_markOf_80 : decode cX2_markOf 80 = .ok (.invokevirtual 343, 3) := dk_182 1 87 (dk_at dksX2_markOf_3 11 rfl rfl)
theorem dX2_markOf_83 : decode cX2_markOf 83 = .ok (.iadd, 1) := dk_96 (dk_at dksX2_markOf_3 14 rfl rfl)
theorem dX2_markOf_84 : decode cX2_markOf 84 = .ok (.goto 19, 3) := dk_167 0 19 (dk_at dksX2_markOf_3 15 rfl rfl)
theorem dX2_markOf_87 : decode cX2_markOf 87 = .ok (.iload_n 2, 1) := dk_28 (dk_at dksX2_markOf_3 18 rfl rfl)
theorem dX2_markOf_88 : decode cX2_markOf 88 = .ok (.iconst 4, 1) := dk_7 (dk_at dksX2_markOf_3 19 rfl rfl)
theorem dX2_markOf_89 : decode cX2_markOf 89 = .ok (.if_icmp .ne 13, 3) := dk_160 0 13 (dk_at dksX2_markOf_3 20 rfl rfl)
theorem dX2_markOf_92 : decode cX2_markOf 92 = .ok (.iload_n 3, 1) := dk_29 (dk_at dksX2_markOf_3 23 rfl rfl)
theorem dX2_markOf_93 : decode cX2_markOf 93 = .ok (.aload_n 0, 1) := dk_42 (dk_at dksX2_markOf_4 0 rfl rfl)
theorem dX2_markOf_94 : decode cX2_markOf 94 = .ok (.iload_n 1, 1) := dk_27 (dk_at dksX2_markOf_4 1 rfl rfl)
theorem dX2_markOf_95 : decode cX2_markOf 95 = .ok (.invokevirtual 397, 3) := dk_182 1 141 (dk_at dksX2_markOf_4 2 rfl rfl)
theorem dX2_markOf_98 : decode cX2_markOf 98 = .ok (.iadd, 1) := dk_96 (dk_at dksX2_markOf_4 5 rfl rfl)
theorem dX2_markOf_99 : decode cX2_markOf 99 = .ok (.goto 4, 3) := dk_167 0 4 (dk_at dksX2_markOf_4 6 rfl rfl)
theorem dX2_markOf_102 : decode cX2_markOf 102 = .ok (.iload_n 3, 1) := dk_29 (dk_at dksX2_markOf_4 9 rfl rfl)
theorem dX2_markOf_103 : decode cX2_markOf 103 = .ok (.ireturn, 1) := dk_172 (dk_at dksX2_markOf_4 10 rfl rfl)
abbrev cX2_trace : ByteArray := prog_17_method_80_code
def yX2_trace : MethodName := ⟨RX2, "trace", "(I)I"⟩
def dkwX2_trace_1 : List UInt8 := [180, 0, 126, 27, 46, 167, 0, 5, 18, 129, 172]
abbrev dktX2_trace_1 : List UInt8 := dkwX2_trace_1 ++ []
def dkwX2_trace_0 : List UInt8 := [42, 3, 181, 0, 1, 27, 133, 9, 42, 180, 1, 135, 4, 100, 133, 184, 0, 132, 153, 0, 12, 42]
abbrev dktX2_trace_0 : List UInt8 := dkwX2_trace_0 ++ dktX2_trace_1
theorem dksX2_trace_0 : cX2_trace.data.toList.drop 0 = dktX2_trace_0 := by decide +kernel
theorem dksX2_trace_1 : cX2_trace.data.toList.drop 22 = dktX2_trace_1 := dk_seg dksX2_trace_0 22 rfl rfl
theorem dX2_trace_0 : decode cX2_trace 0 = .ok (.aload_n 0, 1) := dk_42 (dk_at dksX2_trace_0 0 rfl rfl)
theorem dX2_trace_1 : decode cX2_trace 1 = .ok (.iconst 0, 1) := dk_3 (dk_at dksX2_trace_0 1 rfl rfl)
theorem dX2_trace_2 : decode cX2_trace 2 = .ok (.putfield 1, 3) := dk_181 0 1 (dk_at dksX2_trace_0 2 rfl rfl)
theorem dX2_trace_5 : decode cX2_trace 5 = .ok (.iload_n 1, 1) := dk_27 (dk_at dksX2_trace_0 5 rfl rfl)
theorem dX2_trace_6 : decode cX2_trace 6 = .ok (.i2l, 1) := dk_133 (dk_at dksX2_trace_0 6 rfl rfl)
theorem dX2_trace_7 : decode cX2_trace 7 = .ok (.lconst 0, 1) := dk_9 (dk_at dksX2_trace_0 7 rfl rfl)
theorem dX2_trace_8 : decode cX2_trace 8 = .ok (.aload_n 0, 1) := dk_42 (dk_at dksX2_trace_0 8 rfl rfl)
theorem dX2_trace_9 : decode cX2_trace 9 = .ok (.getfield 391, 3) := dk_180 1 135 (dk_at dksX2_trace_0 9 rfl rfl)
theorem dX2_trace_12 : decode cX2_trace 12 = .ok (.iconst 1, 1) := dk_4 (dk_at dksX2_trace_0 12 rfl rfl)
theorem dX2_trace_13 : decode cX2_trace 13 = .ok (.isub, 1) := dk_100 (dk_at dksX2_trace_0 13 rfl rfl)
theorem dX2_trace_14 : decode cX2_trace 14 = .ok (.i2l, 1) := dk_133 (dk_at dksX2_trace_0 14 rfl rfl)
theorem dX2_trace_15 : decode cX2_trace 15 = .ok (.invokestatic 132, 3) := dk_184 0 132 (dk_at dksX2_trace_0 15 rfl rfl)
theorem dX2_trace_18 : decode cX2_trace 18 = .ok (.ifCond .eq 12, 3) := dk_153 0 12 (dk_at dksX2_trace_0 18 rfl rfl)
theorem dX2_trace_21 : decode cX2_trace 21 = .ok (.aload_n 0, 1) := dk_42 (dk_at dksX2_trace_0 21 rfl rfl)
theorem dX2_trace_22 : decode cX2_trace 22 = .ok (.getfield 126, 3) := dk_180 0 126 (dk_at dksX2_trace_1 0 rfl rfl)
theorem dX2_trace_25 : decode cX2_trace 25 = .ok (.iload_n 1, 1) := dk_27 (dk_at dksX2_trace_1 3 rfl rfl)
theorem dX2_trace_26 : decode cX2_trace 26 = .ok (.iaload, 1) := dk_46 (dk_at dksX2_trace_1 4 rfl rfl)
theorem dX2_trace_27 : decode cX2_trace 27 = .ok (.goto 5, 3) := dk_167 0 5 (dk_at dksX2_trace_1 5 rfl rfl)
theorem dX2_trace_30 : decode cX2_trace 30 = .ok (.ldc 129, 2) := dk_18 129 (dk_at dksX2_trace_1 8 rfl rfl)
theorem dX2_trace_32 : decode cX2_trace 32 = .ok (.ireturn, 1) := dk_172 (dk_at dksX2_trace_1 10 rfl rfl)
abbrev cX2_count : ByteArray := prog_17_method_81_code
def yX2_count : MethodName := ⟨RX2, "count", "(I)I"⟩
def dkwX2_count_8 : List UInt8 := [18, 142, 172]
abbrev dktX2_count_8 : List UInt8 := dkwX2_count_8 ++ []
def dkwX2_count_7 : List UInt8 := [159, 0, 7, 4, 167, 0, 4, 3, 96, 61, 132, 3, 1, 167, 255, 228, 28, 172, 42, 180, 0, 167, 172]
abbrev dktX2_count_7 : List UInt8 := dkwX2_count_7 ++ dktX2_count_8
def dkwX2_count_6 : List UInt8 := [167, 255, 216, 28, 172, 3, 62, 29, 16, 8, 162, 0, 28, 28, 42, 180, 0, 111, 29, 46, 18, 129]
abbrev dktX2_count_6 : List UInt8 := dkwX2_count_6 ++ dktX2_count_7
def dkwX2_count_5 : List UInt8 := [160, 0, 7, 5, 167, 0, 4, 6, 184, 1, 132, 153, 0, 7, 4, 167, 0, 4, 3, 96, 61, 132, 3, 1]
abbrev dktX2_count_5 : List UInt8 := dkwX2_count_5 ++ dktX2_count_6
def dkwX2_count_4 : List UInt8 := [42, 180, 1, 77, 172, 3, 62, 29, 42, 180, 1, 77, 162, 0, 38, 28, 42, 29, 182, 1, 129, 27, 8]
abbrev dktX2_count_4 : List UInt8 := dkwX2_count_4 ++ dktX2_count_5
def dkwX2_count_3 : List UInt8 := [61, 132, 3, 1, 167, 255, 230, 28, 172, 42, 180, 0, 242, 172, 42, 180, 1, 31, 172, 42, 180, 1, 49, 172]
abbrev dktX2_count_3 : List UInt8 := dkwX2_count_3 ++ dktX2_count_4
def dkwX2_count_2 : List UInt8 := [3, 62, 29, 16, 8, 162, 0, 26, 28, 42, 180, 0, 17, 29, 46, 155, 0, 7, 4, 167, 0, 4, 3, 96]
abbrev dktX2_count_2 : List UInt8 := dkwX2_count_2 ++ dktX2_count_3
def dkwX2_count_1 : List UInt8 := [170, 0, 0, 0, 0, 0, 0, 192, 0, 0, 0, 0, 0, 0, 0, 8, 0, 0, 0, 52, 0, 0, 0, 85, 0, 0, 0, 90, 0, 0, 0, 95, 0, 0, 0, 100, 0, 0, 0, 105, 0, 0, 0, 105, 0, 0, 0, 152, 0, 0, 0, 187]
abbrev dktX2_count_1 : List UInt8 := dkwX2_count_1 ++ dktX2_count_2
def dkwX2_count_0 : List UInt8 := [42, 3, 181, 0, 1, 3, 61, 27]
abbrev dktX2_count_0 : List UInt8 := dkwX2_count_0 ++ dktX2_count_1
theorem dksX2_count_0 : cX2_count.data.toList.drop 0 = dktX2_count_0 := by decide +kernel
theorem dksX2_count_1 : cX2_count.data.toList.drop 8 = dktX2_count_1 := dk_seg dksX2_count_0 8 rfl rfl
theorem dksX2_count_2 : cX2_count.data.toList.drop 60 = dktX2_count_2 := dk_seg dksX2_count_1 52 rfl rfl
theorem dksX2_count_3 : cX2_count.data.toList.drop 84 = dktX2_count_3 := dk_seg dksX2_count_2 24 rfl rfl
theorem dksX2_count_4 : cX2_count.data.toList.drop 108 = dktX2_count_4 := dk_seg dksX2_count_3 24 rfl rfl
theorem dksX2_count_5 : cX2_count.data.toList.drop 131 = dktX2_count_5 := dk_seg dksX2_count_4 23 rfl rfl
theorem dksX2_count_6 : cX2_count.data.toList.drop 155 = dktX2_count_6 := dk_seg dksX2_count_5 24 rfl rfl
theorem dksX2_count_7 : cX2_count.data.toList.drop 177 = dktX2_count_7 := dk_seg dksX2_count_6 22 rfl rfl
theorem dksX2_count_8 : cX2_count.data.toList.drop 200 = dktX2_count_8 := dk_seg dksX2_count_7 23 rfl rfl
theorem dX2_count_0 : decode cX2_count 0 = .ok (.aload_n 0, 1) := dk_42 (dk_at dksX2_count_0 0 rfl rfl)
theorem dX2_count_1 : decode cX2_count 1 = .ok (.iconst 0, 1) := dk_3 (dk_at dksX2_count_0 1 rfl rfl)
theorem dX2_count_2 : decode cX2_count 2 = .ok (.putfield 1, 3) := dk_181 0 1 (dk_at dksX2_count_0 2 rfl rfl)
theorem dX2_count_5 : decode cX2_count 5 = .ok (.iconst 0, 1) := dk_3 (dk_at dksX2_count_0 5 rfl rfl)
theorem dX2_count_6 : decode cX2_count 6 = .ok (.istore_n 2, 1) := dk_61 (dk_at dksX2_count_0 6 rfl rfl)
theorem dX2_count_7 : decode cX2_count 7 = .ok (.iload_n 1, 1) := dk_27 (dk_at dksX2_count_0 7 rfl rfl)
theorem dX2_count_8 : decode cX2_count 8 = .ok (.tableswitch 192 0 8 #[52, 85, 90, 95, 100, 105, 105, 152, 187], 52) := by decide +kernel
theorem dX2_count_60 : decode cX2_count 60 = .ok (.iconst 0, 1) := dk_3 (dk_at dksX2_count_2 0 rfl rfl)
theorem dX2_count_61 : decode cX2_count 61 = .ok (.istore_n 3, 1) := dk_62 (dk_at dksX2_count_2 1 rfl rfl)
theorem dX2_count_62 : decode cX2_count 62 = .ok (.iload_n 3, 1) := dk_29 (dk_at dksX2_count_2 2 rfl rfl)
theorem dX2_count_63 : decode cX2_count 63 = .ok (.bipush 8, 2) := dk_16 8 (dk_at dksX2_count_2 3 rfl rfl)
theorem dX2_count_65 : decode cX2_count 65 = .ok (.if_icmp .ge 26, 3) := dk_162 0 26 (dk_at dksX2_count_2 5 rfl rfl)
theorem dX2_count_68 : decode cX2_count 68 = .ok (.iload_n 2, 1) := dk_28 (dk_at dksX2_count_2 8 rfl rfl)
theorem dX2_count_69 : decode cX2_count 69 = .ok (.aload_n 0, 1) := dk_42 (dk_at dksX2_count_2 9 rfl rfl)
theorem dX2_count_70 : decode cX2_count 70 = .ok (.getfield 17, 3) := dk_180 0 17 (dk_at dksX2_count_2 10 rfl rfl)
theorem dX2_count_73 : decode cX2_count 73 = .ok (.iload_n 3, 1) := dk_29 (dk_at dksX2_count_2 13 rfl rfl)
theorem dX2_count_74 : decode cX2_count 74 = .ok (.iaload, 1) := dk_46 (dk_at dksX2_count_2 14 rfl rfl)
theorem dX2_count_75 : decode cX2_count 75 = .ok (.ifCond .lt 7, 3) := dk_155 0 7 (dk_at dksX2_count_2 15 rfl rfl)
theorem dX2_count_78 : decode cX2_count 78 = .ok (.iconst 1, 1) := dk_4 (dk_at dksX2_count_2 18 rfl rfl)
theorem dX2_count_79 : decode cX2_count 79 = .ok (.goto 4, 3) := dk_167 0 4 (dk_at dksX2_count_2 19 rfl rfl)
theorem dX2_count_82 : decode cX2_count 82 = .ok (.iconst 0, 1) := dk_3 (dk_at dksX2_count_2 22 rfl rfl)
theorem dX2_count_83 : decode cX2_count 83 = .ok (.iadd, 1) := dk_96 (dk_at dksX2_count_2 23 rfl rfl)
theorem dX2_count_84 : decode cX2_count 84 = .ok (.istore_n 2, 1) := dk_61 (dk_at dksX2_count_3 0 rfl rfl)
theorem dX2_count_85 : decode cX2_count 85 = .ok (.iinc 3 1, 3) := dk_132 3 1 (dk_at dksX2_count_3 1 rfl rfl)
theorem dX2_count_88 : decode cX2_count 88 = .ok (.goto (-26), 3) := dk_167 255 230 (dk_at dksX2_count_3 4 rfl rfl)
theorem dX2_count_91 : decode cX2_count 91 = .ok (.iload_n 2, 1) := dk_28 (dk_at dksX2_count_3 7 rfl rfl)
theorem dX2_count_92 : decode cX2_count 92 = .ok (.ireturn, 1) := dk_172 (dk_at dksX2_count_3 8 rfl rfl)
theorem dX2_count_93 : decode cX2_count 93 = .ok (.aload_n 0, 1) := dk_42 (dk_at dksX2_count_3 9 rfl rfl)
theorem dX2_count_94 : decode cX2_count 94 = .ok (.getfield 242, 3) := dk_180 0 242 (dk_at dksX2_count_3 10 rfl rfl)
theorem dX2_count_97 : decode cX2_count 97 = .ok (.ireturn, 1) := dk_172 (dk_at dksX2_count_3 13 rfl rfl)
theorem dX2_count_98 : decode cX2_count 98 = .ok (.aload_n 0, 1) := dk_42 (dk_at dksX2_count_3 14 rfl rfl)
theorem dX2_count_99 : decode cX2_count 99 = .ok (.getfield 287, 3) := dk_180 1 31 (dk_at dksX2_count_3 15 rfl rfl)
theorem dX2_count_102 : decode cX2_count 102 = .ok (.ireturn, 1) := dk_172 (dk_at dksX2_count_3 18 rfl rfl)
theorem dX2_count_103 : decode cX2_count 103 = .ok (.aload_n 0, 1) := dk_42 (dk_at dksX2_count_3 19 rfl rfl)
theorem dX2_count_104 : decode cX2_count 104 = .ok (.getfield 305, 3) := dk_180 1 49 (dk_at dksX2_count_3 20 rfl rfl)
theorem dX2_count_107 : decode cX2_count 107 = .ok (.ireturn, 1) := dk_172 (dk_at dksX2_count_3 23 rfl rfl)
theorem dX2_count_108 : decode cX2_count 108 = .ok (.aload_n 0, 1) := dk_42 (dk_at dksX2_count_4 0 rfl rfl)
theorem dX2_count_109 : decode cX2_count 109 = .ok (.getfield 333, 3) := dk_180 1 77 (dk_at dksX2_count_4 1 rfl rfl)
theorem dX2_count_112 : decode cX2_count 112 = .ok (.ireturn, 1) := dk_172 (dk_at dksX2_count_4 4 rfl rfl)
theorem dX2_count_113 : decode cX2_count 113 = .ok (.iconst 0, 1) := dk_3 (dk_at dksX2_count_4 5 rfl rfl)
theorem dX2_count_114 : decode cX2_count 114 = .ok (.istore_n 3, 1) := dk_62 (dk_at dksX2_count_4 6 rfl rfl)
theorem dX2_count_115 : decode cX2_count 115 = .ok (.iload_n 3, 1) := dk_29 (dk_at dksX2_count_4 7 rfl rfl)
theorem dX2_count_116 : decode cX2_count 116 = .ok (.aload_n 0, 1) := dk_42 (dk_at dksX2_count_4 8 rfl rfl)
theorem dX2_count_117 : decode cX2_count 117 = .ok (.getfield 333, 3) := dk_180 1 77 (dk_at dksX2_count_4 9 rfl rfl)
theorem dX2_count_120 : decode cX2_count 120 = .ok (.if_icmp .ge 38, 3) := dk_162 0 38 (dk_at dksX2_count_4 12 rfl rfl)
theorem dX2_count_123 : decode cX2_count 123 = .ok (.iload_n 2, 1) := dk_28 (dk_at dksX2_count_4 15 rfl rfl)
theorem dX2_count_124 : decode cX2_count 124 = .ok (.aload_n 0, 1) := dk_42 (dk_at dksX2_count_4 16 rfl rfl)
theorem dX2_count_125 : decode cX2_count 125 = .ok (.iload_n 3, 1) := dk_29 (dk_at dksX2_count_4 17 rfl rfl)
theorem dX2_count_126 : decode cX2_count 126 = .ok (.invokevirtual 385, 3) := dk_182 1 129 (dk_at dksX2_count_4 18 rfl rfl)
theorem dX2_count_129 : decode cX2_count 129 = .ok (.iload_n 1, 1) := dk_27 (dk_at dksX2_count_4 21 rfl rfl)
theorem dX2_count_130 : decode cX2_count 130 = .ok (.iconst 5, 1) := dk_8 (dk_at dksX2_count_4 22 rfl rfl)
theorem dX2_count_131 : decode cX2_count 131 = .ok (.if_icmp .ne 7, 3) := dk_160 0 7 (dk_at dksX2_count_5 0 rfl rfl)
theorem dX2_count_134 : decode cX2_count 134 = .ok (.iconst 2, 1) := dk_5 (dk_at dksX2_count_5 3 rfl rfl)
theorem dX2_count_135 : decode cX2_count 135 = .ok (.goto 4, 3) := dk_167 0 4 (dk_at dksX2_count_5 4 rfl rfl)
theorem dX2_count_138 : decode cX2_count 138 = .ok (.iconst 3, 1) := dk_6 (dk_at dksX2_count_5 7 rfl rfl)
theorem dX2_count_139 : decode cX2_count 139 = .ok (.invokestatic 388, 3) := dk_184 1 132 (dk_at dksX2_count_5 8 rfl rfl)
theorem dX2_count_142 : decode cX2_count 142 = .ok (.ifCond .eq 7, 3) := dk_153 0 7 (dk_at dksX2_count_5 11 rfl rfl)
theorem dX2_count_145 : decode cX2_count 145 = .ok (.iconst 1, 1) := dk_4 (dk_at dksX2_count_5 14 rfl rfl)
theorem dX2_count_146 : decode cX2_count 146 = .ok (.goto 4, 3) := dk_167 0 4 (dk_at dksX2_count_5 15 rfl rfl)
theorem dX2_count_149 : decode cX2_count 149 = .ok (.iconst 0, 1) := dk_3 (dk_at dksX2_count_5 18 rfl rfl)
theorem dX2_count_150 : decode cX2_count 150 = .ok (.iadd, 1) := dk_96 (dk_at dksX2_count_5 19 rfl rfl)
theorem dX2_count_151 : decode cX2_count 151 = .ok (.istore_n 2, 1) := dk_61 (dk_at dksX2_count_5 20 rfl rfl)
theorem dX2_count_152 : decode cX2_count 152 = .ok (.iinc 3 1, 3) := dk_132 3 1 (dk_at dksX2_count_5 21 rfl rfl)
theorem dX2_count_155 : decode cX2_count 155 = .ok (.goto (-40), 3) := dk_167 255 216 (dk_at dksX2_count_6 0 rfl rfl)
theorem dX2_count_158 : decode cX2_count 158 = .ok (.iload_n 2, 1) := dk_28 (dk_at dksX2_count_6 3 rfl rfl)
theorem dX2_count_159 : decode cX2_count 159 = .ok (.ireturn, 1) := dk_172 (dk_at dksX2_count_6 4 rfl rfl)
theorem dX2_count_160 : decode cX2_count 160 = .ok (.iconst 0, 1) := dk_3 (dk_at dksX2_count_6 5 rfl rfl)
theorem dX2_count_161 : decode cX2_count 161 = .ok (.istore_n 3, 1) := dk_62 (dk_at dksX2_count_6 6 rfl rfl)
theorem dX2_count_162 : decode cX2_count 162 = .ok (.iload_n 3, 1) := dk_29 (dk_at dksX2_count_6 7 rfl rfl)
theorem dX2_count_163 : decode cX2_count 163 = .ok (.bipush 8, 2) := dk_16 8 (dk_at dksX2_count_6 8 rfl rfl)
theorem dX2_count_165 : decode cX2_count 165 = .ok (.if_icmp .ge 28, 3) := dk_162 0 28 (dk_at dksX2_count_6 10 rfl rfl)
theorem dX2_count_168 : decode cX2_count 168 = .ok (.iload_n 2, 1) := dk_28 (dk_at dksX2_count_6 13 rfl rfl)
theorem dX2_count_169 : decode cX2_count 169 = .ok (.aload_n 0, 1) := dk_42 (dk_at dksX2_count_6 14 rfl rfl)
theorem dX2_count_170 : decode cX2_count 170 = .ok (.getfield 111, 3) := dk_180 0 111 (dk_at dksX2_count_6 15 rfl rfl)
theorem dX2_count_173 : decode cX2_count 173 = .ok (.iload_n 3, 1) := dk_29 (dk_at dksX2_count_6 18 rfl rfl)
theorem dX2_count_174 : decode cX2_count 174 = .ok (.iaload, 1) := dk_46 (dk_at dksX2_count_6 19 rfl rfl)
theorem dX2_count_175 : decode cX2_count 175 = .ok (.ldc 129, 2) := dk_18 129 (dk_at dksX2_count_6 20 rfl rfl)
theorem dX2_count_177 : decode cX2_count 177 = .ok (.if_icmp .eq 7, 3) := dk_159 0 7 (dk_at dksX2_count_7 0 rfl rfl)
theorem dX2_count_180 : decode cX2_count 180 = .ok (.iconst 1, 1) := dk_4 (dk_at dksX2_count_7 3 rfl rfl)
theorem dX2_count_181 : decode cX2_count 181 = .ok (.goto 4, 3) := dk_167 0 4 (dk_at dksX2_count_7 4 rfl rfl)
theorem dX2_count_184 : decode cX2_count 184 = .ok (.iconst 0, 1) := dk_3 (dk_at dksX2_count_7 7 rfl rfl)
theorem dX2_count_185 : decode cX2_count 185 = .ok (.iadd, 1) := dk_96 (dk_at dksX2_count_7 8 rfl rfl)
theorem dX2_count_186 : decode cX2_count 186 = .ok (.istore_n 2, 1) := dk_61 (dk_at dksX2_count_7 9 rfl rfl)
theorem dX2_count_187 : decode cX2_count 187 = .ok (.iinc 3 1, 3) := dk_132 3 1 (dk_at dksX2_count_7 10 rfl rfl)
theorem dX2_count_190 : decode cX2_count 190 = .ok (.goto (-28), 3) := dk_167 255 228 (dk_at dksX2_count_7 13 rfl rfl)
theorem dX2_count_193 : decode cX2_count 193 = .ok (.iload_n 2, 1) := dk_28 (dk_at dksX2_count_7 16 rfl rfl)
theorem dX2_count_194 : decode cX2_count 194 = .ok (.ireturn, 1) := dk_172 (dk_at dksX2_count_7 17 rfl rfl)
theorem dX2_count_195 : decode cX2_count 195 = .ok (.aload_n 0, 1) := dk_42 (dk_at dksX2_count_7 18 rfl rfl)
theorem dX2_count_196 : decode cX2_count 196 = .ok (.getfield 167, 3) := dk_180 0 167 (dk_at dksX2_count_7 19 rfl rfl)
theorem dX2_count_199 : decode cX2_count 199 = .ok (.ireturn, 1) := dk_172 (dk_at dksX2_count_7 22 rfl rfl)
theorem dX2_count_200 : decode cX2_count 200 = .ok (.ldc 142, 2) := dk_18 142 (dk_at dksX2_count_8 0 rfl rfl)
theorem dX2_count_202 : decode cX2_count 202 = .ok (.ireturn, 1) := dk_172 (dk_at dksX2_count_8 2 rfl rfl)
abbrev cX2_status : ByteArray := prog_17_method_82_code
def yX2_status : MethodName := ⟨RX2, "status", "()I"⟩
def dkwX2_status_0 : List UInt8 := [42, 3, 181, 0, 1, 42, 180, 0, 7, 172]
abbrev dktX2_status_0 : List UInt8 := dkwX2_status_0 ++ []
theorem dksX2_status_0 : cX2_status.data.toList.drop 0 = dktX2_status_0 := by decide +kernel
theorem dX2_status_0 : decode cX2_status 0 = .ok (.aload_n 0, 1) := dk_42 (dk_at dksX2_status_0 0 rfl rfl)
theorem dX2_status_1 : decode cX2_status 1 = .ok (.iconst 0, 1) := dk_3 (dk_at dksX2_status_0 1 rfl rfl)
theorem dX2_status_2 : decode cX2_status 2 = .ok (.putfield 1, 3) := dk_181 0 1 (dk_at dksX2_status_0 2 rfl rfl)
theorem dX2_status_5 : decode cX2_status 5 = .ok (.aload_n 0, 1) := dk_42 (dk_at dksX2_status_0 5 rfl rfl)
theorem dX2_status_6 : decode cX2_status 6 = .ok (.getfield 7, 3) := dk_180 0 7 (dk_at dksX2_status_0 6 rfl rfl)
theorem dX2_status_9 : decode cX2_status 9 = .ok (.ireturn, 1) := dk_172 (dk_at dksX2_status_0 9 rfl rfl)
theorem q62 : (Jvm.Cond.initialized "DuskGatesModel") ∈ lw_all := lw_g (lw_at lw_m1 6 rfl) rfl
theorem q779 : (Jvm.Cond.selects "DuskGatesModel" ({ cls := "java/lang/Object", name := "getClass", desc := "()Ljava/lang/Class;" } : Jvm.MethodName) ({ cls := "java/lang/Object", name := "getClass", desc := "()Ljava/lang/Class;" } : Jvm.MethodName)) ∈ lw_all := lw_g (lw_at lw_m4 3 rfl) rfl
theorem q1425 : (Jvm.Cond.instantiable "DuskGatesModel" (61 : Nat)) ∈ lw_all := lw_g (lw_at lw_m6 169 rfl) rfl
theorem q1427 : (Jvm.Cond.instanceMethod ({ cls := "DuskGatesModel", name := "<init>", desc := "()V" } : Jvm.MethodName)) ∈ lw_all := lw_g (lw_at lw_m6 171 rfl) rfl
theorem q1428 : (Jvm.Cond.code ({ cls := "DuskGatesModel", name := "<init>", desc := "()V" } : Jvm.MethodName) prog_17_method_4_code (2 : Nat) (Option.none : Option Jvm.ClassFile.FieldType)) ∈ lw_all := lw_g (lw_at lw_m6 172 rfl) rfl
theorem q1429 : (Jvm.Cond.methodLink "DuskGatesModel" (11 : Nat) ({ cls := "java/lang/Object", name := "<init>", desc := "()V" } : Jvm.MethodName)) ∈ lw_all := lw_g (lw_at lw_m6 173 rfl) rfl
theorem q1430 : (Jvm.Cond.constant "DuskGatesModel" (129 : Nat) (-1000000 : Int32)) ∈ lw_all := lw_g (lw_at lw_m6 174 rfl) rfl
theorem q1431 : (Jvm.Cond.fieldLink "DuskGatesModel" (1 : Nat) "DuskGatesModel" "thrown" "I") ∈ lw_all := lw_g (lw_at lw_m6 175 rfl) rfl
theorem q1432 : (Jvm.Cond.fieldLink "DuskGatesModel" (7 : Nat) "DuskGatesModel" "status" "I") ∈ lw_all := lw_g (lw_at lw_m6 176 rfl) rfl
theorem q1433 : (Jvm.Cond.fieldLink "DuskGatesModel" (17 : Nat) "DuskGatesModel" "lane" "[I") ∈ lw_all := lw_g (lw_at lw_m6 177 rfl) rfl
theorem q1434 : (Jvm.Cond.fieldLink "DuskGatesModel" (21 : Nat) "DuskGatesModel" "many" "[I") ∈ lw_all := lw_g (lw_at lw_m6 178 rfl) rfl
theorem q1435 : (Jvm.Cond.fieldLink "DuskGatesModel" (24 : Nat) "DuskGatesModel" "item" "[I") ∈ lw_all := lw_g (lw_at lw_m6 179 rfl) rfl
theorem q1436 : (Jvm.Cond.fieldLink "DuskGatesModel" (27 : Nat) "DuskGatesModel" "opens" "[I") ∈ lw_all := lw_g (lw_at lw_m6 180 rfl) rfl
theorem q1437 : (Jvm.Cond.fieldLink "DuskGatesModel" (30 : Nat) "DuskGatesModel" "shuts" "[I") ∈ lw_all := lw_g (lw_at lw_m6 181 rfl) rfl
theorem q1438 : (Jvm.Cond.fieldLink "DuskGatesModel" (33 : Nat) "DuskGatesModel" "share" "[I") ∈ lw_all := lw_g (lw_at lw_m6 182 rfl) rfl
theorem q1439 : (Jvm.Cond.fieldLink "DuskGatesModel" (36 : Nat) "DuskGatesModel" "gateX" "[I") ∈ lw_all := lw_g (lw_at lw_m6 183 rfl) rfl
theorem q1440 : (Jvm.Cond.fieldLink "DuskGatesModel" (39 : Nat) "DuskGatesModel" "gateY" "[I") ∈ lw_all := lw_g (lw_at lw_m6 184 rfl) rfl
theorem q1441 : (Jvm.Cond.fieldLink "DuskGatesModel" (242 : Nat) "DuskGatesModel" "laws" "I") ∈ lw_all := lw_g (lw_at lw_m6 185 rfl) rfl
theorem q1442 : (Jvm.Cond.fieldLink "DuskGatesModel" (42 : Nat) "DuskGatesModel" "lawDay" "[I") ∈ lw_all := lw_g (lw_at lw_m6 186 rfl) rfl
theorem q1443 : (Jvm.Cond.fieldLink "DuskGatesModel" (45 : Nat) "DuskGatesModel" "lawWhat" "[I") ∈ lw_all := lw_g (lw_at lw_m6 187 rfl) rfl
theorem q1444 : (Jvm.Cond.fieldLink "DuskGatesModel" (48 : Nat) "DuskGatesModel" "lawOf" "[I") ∈ lw_all := lw_g (lw_at lw_m6 188 rfl) rfl
theorem q1445 : (Jvm.Cond.fieldLink "DuskGatesModel" (51 : Nat) "DuskGatesModel" "lawNumber" "[I") ∈ lw_all := lw_g (lw_at lw_m6 189 rfl) rfl
theorem q1446 : (Jvm.Cond.fieldLink "DuskGatesModel" (236 : Nat) "DuskGatesModel" "newLaws" "I") ∈ lw_all := lw_g (lw_at lw_m6 190 rfl) rfl
theorem q1447 : (Jvm.Cond.fieldLink "DuskGatesModel" (54 : Nat) "DuskGatesModel" "tape" "[I") ∈ lw_all := lw_g (lw_at lw_m6 191 rfl) rfl
theorem q1448 : (Jvm.Cond.fieldLink "DuskGatesModel" (167 : Nat) "DuskGatesModel" "taped" "I") ∈ lw_all := lw_g (lw_at lw_m6 192 rfl) rfl
theorem q1449 : (Jvm.Cond.fieldLink "DuskGatesModel" (250 : Nat) "DuskGatesModel" "latest" "I") ∈ lw_all := lw_g (lw_at lw_m6 193 rfl) rfl
theorem q1450 : (Jvm.Cond.fieldLink "DuskGatesModel" (173 : Nat) "DuskGatesModel" "size" "I") ∈ lw_all := lw_g (lw_at lw_m6 194 rfl) rfl
theorem q1451 : (Jvm.Cond.fieldLink "DuskGatesModel" (176 : Nat) "DuskGatesModel" "cursor" "I") ∈ lw_all := lw_g (lw_at lw_m6 195 rfl) rfl
theorem q1452 : (Jvm.Cond.fieldLink "DuskGatesModel" (185 : Nat) "DuskGatesModel" "token" "I") ∈ lw_all := lw_g (lw_at lw_m6 196 rfl) rfl
theorem q1453 : (Jvm.Cond.fieldLink "DuskGatesModel" (182 : Nat) "DuskGatesModel" "from" "I") ∈ lw_all := lw_g (lw_at lw_m6 197 rfl) rfl
theorem q1454 : (Jvm.Cond.fieldLink "DuskGatesModel" (194 : Nat) "DuskGatesModel" "till" "I") ∈ lw_all := lw_g (lw_at lw_m6 198 rfl) rfl
theorem q1455 : (Jvm.Cond.fieldLink "DuskGatesModel" (197 : Nat) "DuskGatesModel" "fault" "I") ∈ lw_all := lw_g (lw_at lw_m6 199 rfl) rfl
theorem q1456 : (Jvm.Cond.fieldLink "DuskGatesModel" (200 : Nat) "DuskGatesModel" "faultAt" "I") ∈ lw_all := lw_g (lw_at lw_m6 200 rfl) rfl
theorem q1457 : (Jvm.Cond.fieldLink "DuskGatesModel" (287 : Nat) "DuskGatesModel" "carts" "I") ∈ lw_all := lw_g (lw_at lw_m6 201 rfl) rfl
theorem q1458 : (Jvm.Cond.fieldLink "DuskGatesModel" (57 : Nat) "DuskGatesModel" "load" "[I") ∈ lw_all := lw_g (lw_at lw_m6 202 rfl) rfl
theorem q1459 : (Jvm.Cond.fieldLink "DuskGatesModel" (305 : Nat) "DuskGatesModel" "passings" "I") ∈ lw_all := lw_g (lw_at lw_m6 203 rfl) rfl
theorem q1460 : (Jvm.Cond.fieldLink "DuskGatesModel" (60 : Nat) "DuskGatesModel" "passCart" "[I") ∈ lw_all := lw_g (lw_at lw_m6 204 rfl) rfl
theorem q1461 : (Jvm.Cond.fieldLink "DuskGatesModel" (63 : Nat) "DuskGatesModel" "passIn" "[I") ∈ lw_all := lw_g (lw_at lw_m6 205 rfl) rfl
theorem q1462 : (Jvm.Cond.fieldLink "DuskGatesModel" (66 : Nat) "DuskGatesModel" "passGate" "[I") ∈ lw_all := lw_g (lw_at lw_m6 206 rfl) rfl
theorem q1463 : (Jvm.Cond.fieldLink "DuskGatesModel" (69 : Nat) "DuskGatesModel" "passAt" "[I") ∈ lw_all := lw_g (lw_at lw_m6 207 rfl) rfl
theorem q1464 : (Jvm.Cond.fieldLink "DuskGatesModel" (72 : Nat) "DuskGatesModel" "passPaid" "[I") ∈ lw_all := lw_g (lw_at lw_m6 208 rfl) rfl
theorem q1465 : (Jvm.Cond.fieldLink "DuskGatesModel" (308 : Nat) "DuskGatesModel" "wrong" "I") ∈ lw_all := lw_g (lw_at lw_m6 209 rfl) rfl
theorem q1466 : (Jvm.Cond.fieldLink "DuskGatesModel" (311 : Nat) "DuskGatesModel" "inside" "I") ∈ lw_all := lw_g (lw_at lw_m6 210 rfl) rfl
theorem q1467 : (Jvm.Cond.fieldLink "DuskGatesModel" (314 : Nat) "DuskGatesModel" "lost" "I") ∈ lw_all := lw_g (lw_at lw_m6 211 rfl) rfl
theorem q1468 : (Jvm.Cond.fieldLink "DuskGatesModel" (75 : Nat) "DuskGatesModel" "roads" "[I") ∈ lw_all := lw_g (lw_at lw_m6 212 rfl) rfl
theorem q1469 : (Jvm.Cond.fieldLink "DuskGatesModel" (330 : Nat) "DuskGatesModel" "sicks" "I") ∈ lw_all := lw_g (lw_at lw_m6 213 rfl) rfl
theorem q1470 : (Jvm.Cond.fieldLink "DuskGatesModel" (78 : Nat) "DuskGatesModel" "sickTown" "[I") ∈ lw_all := lw_g (lw_at lw_m6 214 rfl) rfl
theorem q1471 : (Jvm.Cond.fieldLink "DuskGatesModel" (81 : Nat) "DuskGatesModel" "sickFrom" "[I") ∈ lw_all := lw_g (lw_at lw_m6 215 rfl) rfl
theorem q1472 : (Jvm.Cond.fieldLink "DuskGatesModel" (84 : Nat) "DuskGatesModel" "sickTo" "[I") ∈ lw_all := lw_g (lw_at lw_m6 216 rfl) rfl
theorem q1473 : (Jvm.Cond.fieldLink "DuskGatesModel" (333 : Nat) "DuskGatesModel" "passes" "I") ∈ lw_all := lw_g (lw_at lw_m6 217 rfl) rfl
theorem q1474 : (Jvm.Cond.fieldLink "DuskGatesModel" (87 : Nat) "DuskGatesModel" "paper" "[I") ∈ lw_all := lw_g (lw_at lw_m6 218 rfl) rfl
theorem q1475 : (Jvm.Cond.fieldLink "DuskGatesModel" (347 : Nat) "DuskGatesModel" "theDay" "I") ∈ lw_all := lw_g (lw_at lw_m6 219 rfl) rfl
theorem q1476 : (Jvm.Cond.fieldLink "DuskGatesModel" (90 : Nat) "DuskGatesModel" "free" "[I") ∈ lw_all := lw_g (lw_at lw_m6 220 rfl) rfl
theorem q1477 : (Jvm.Cond.fieldLink "DuskGatesModel" (93 : Nat) "DuskGatesModel" "bestClerks" "[I") ∈ lw_all := lw_g (lw_at lw_m6 221 rfl) rfl
theorem q1478 : (Jvm.Cond.fieldLink "DuskGatesModel" (96 : Nat) "DuskGatesModel" "waits" "[I") ∈ lw_all := lw_g (lw_at lw_m6 222 rfl) rfl
theorem q1479 : (Jvm.Cond.fieldLink "DuskGatesModel" (363 : Nat) "DuskGatesModel" "guests" "I") ∈ lw_all := lw_g (lw_at lw_m6 223 rfl) rfl
theorem q1480 : (Jvm.Cond.fieldLink "DuskGatesModel" (99 : Nat) "DuskGatesModel" "guestPerson" "[I") ∈ lw_all := lw_g (lw_at lw_m6 224 rfl) rfl
theorem q1481 : (Jvm.Cond.fieldLink "DuskGatesModel" (102 : Nat) "DuskGatesModel" "guestHouse" "[I") ∈ lw_all := lw_g (lw_at lw_m6 225 rfl) rfl
theorem q1482 : (Jvm.Cond.fieldLink "DuskGatesModel" (105 : Nat) "DuskGatesModel" "guestFrom" "[I") ∈ lw_all := lw_g (lw_at lw_m6 226 rfl) rfl
theorem q1483 : (Jvm.Cond.fieldLink "DuskGatesModel" (108 : Nat) "DuskGatesModel" "guestTo" "[I") ∈ lw_all := lw_g (lw_at lw_m6 227 rfl) rfl
theorem q1484 : (Jvm.Cond.fieldLink "DuskGatesModel" (111 : Nat) "DuskGatesModel" "fellOn" "[I") ∈ lw_all := lw_g (lw_at lw_m6 228 rfl) rfl
theorem q1485 : (Jvm.Cond.fieldLink "DuskGatesModel" (114 : Nat) "DuskGatesModel" "high" "[I") ∈ lw_all := lw_g (lw_at lw_m6 229 rfl) rfl
theorem q1486 : (Jvm.Cond.fieldLink "DuskGatesModel" (375 : Nat) "DuskGatesModel" "leans" "I") ∈ lw_all := lw_g (lw_at lw_m6 230 rfl) rfl
theorem q1487 : (Jvm.Cond.fieldLink "DuskGatesModel" (117 : Nat) "DuskGatesModel" "leanLength" "[I") ∈ lw_all := lw_g (lw_at lw_m6 231 rfl) rfl
theorem q1488 : (Jvm.Cond.fieldLink "DuskGatesModel" (120 : Nat) "DuskGatesModel" "leanInside" "[I") ∈ lw_all := lw_g (lw_at lw_m6 232 rfl) rfl
theorem q1489 : (Jvm.Cond.fieldLink "DuskGatesModel" (123 : Nat) "DuskGatesModel" "leanOutside" "[I") ∈ lw_all := lw_g (lw_at lw_m6 233 rfl) rfl
theorem q1490 : (Jvm.Cond.fieldLink "DuskGatesModel" (126 : Nat) "DuskGatesModel" "trace" "[I") ∈ lw_all := lw_g (lw_at lw_m6 234 rfl) rfl
theorem q1491 : (Jvm.Cond.fieldLink "DuskGatesModel" (391 : Nat) "DuskGatesModel" "traced" "I") ∈ lw_all := lw_g (lw_at lw_m6 235 rfl) rfl
theorem q1492 : (Jvm.Cond.lays "DuskGatesModel" "DuskGatesModel" "thrown" "I") ∈ lw_all := lw_g (lw_at lw_m6 236 rfl) rfl
theorem q1493 : (Jvm.Cond.soleField "DuskGatesModel" "thrown") ∈ lw_all := lw_g (lw_at lw_m6 237 rfl) rfl
theorem q1494 : (Jvm.Cond.lays "DuskGatesModel" "DuskGatesModel" "status" "I") ∈ lw_all := lw_g (lw_at lw_m6 238 rfl) rfl
theorem q1495 : (Jvm.Cond.soleField "DuskGatesModel" "status") ∈ lw_all := lw_g (lw_at lw_m6 239 rfl) rfl
theorem q1496 : (Jvm.Cond.laysFinal "DuskGatesModel" "DuskGatesModel" "lane" "[I") ∈ lw_all := lw_g (lw_at lw_m7 0 rfl) rfl
theorem q1497 : (Jvm.Cond.soleField "DuskGatesModel" "lane") ∈ lw_all := lw_g (lw_at lw_m7 1 rfl) rfl
theorem q1498 : (Jvm.Cond.laysFinal "DuskGatesModel" "DuskGatesModel" "many" "[I") ∈ lw_all := lw_g (lw_at lw_m7 2 rfl) rfl
theorem q1499 : (Jvm.Cond.soleField "DuskGatesModel" "many") ∈ lw_all := lw_g (lw_at lw_m7 3 rfl) rfl
theorem q1500 : (Jvm.Cond.laysFinal "DuskGatesModel" "DuskGatesModel" "item" "[I") ∈ lw_all := lw_g (lw_at lw_m7 4 rfl) rfl
theorem q1501 : (Jvm.Cond.soleField "DuskGatesModel" "item") ∈ lw_all := lw_g (lw_at lw_m7 5 rfl) rfl
theorem q1502 : (Jvm.Cond.laysFinal "DuskGatesModel" "DuskGatesModel" "opens" "[I") ∈ lw_all := lw_g (lw_at lw_m7 6 rfl) rfl
theorem q1503 : (Jvm.Cond.soleField "DuskGatesModel" "opens") ∈ lw_all := lw_g (lw_at lw_m7 7 rfl) rfl
theorem q1504 : (Jvm.Cond.laysFinal "DuskGatesModel" "DuskGatesModel" "shuts" "[I") ∈ lw_all := lw_g (lw_at lw_m7 8 rfl) rfl
theorem q1505 : (Jvm.Cond.soleField "DuskGatesModel" "shuts") ∈ lw_all := lw_g (lw_at lw_m7 9 rfl) rfl
theorem q1506 : (Jvm.Cond.laysFinal "DuskGatesModel" "DuskGatesModel" "share" "[I") ∈ lw_all := lw_g (lw_at lw_m7 10 rfl) rfl
theorem q1507 : (Jvm.Cond.soleField "DuskGatesModel" "share") ∈ lw_all := lw_g (lw_at lw_m7 11 rfl) rfl
theorem q1508 : (Jvm.Cond.laysFinal "DuskGatesModel" "DuskGatesModel" "gateX" "[I") ∈ lw_all := lw_g (lw_at lw_m7 12 rfl) rfl
theorem q1509 : (Jvm.Cond.soleField "DuskGatesModel" "gateX") ∈ lw_all := lw_g (lw_at lw_m7 13 rfl) rfl
theorem q1510 : (Jvm.Cond.laysFinal "DuskGatesModel" "DuskGatesModel" "gateY" "[I") ∈ lw_all := lw_g (lw_at lw_m7 14 rfl) rfl
theorem q1511 : (Jvm.Cond.soleField "DuskGatesModel" "gateY") ∈ lw_all := lw_g (lw_at lw_m7 15 rfl) rfl
theorem q1512 : (Jvm.Cond.lays "DuskGatesModel" "DuskGatesModel" "laws" "I") ∈ lw_all := lw_g (lw_at lw_m7 16 rfl) rfl
theorem q1513 : (Jvm.Cond.soleField "DuskGatesModel" "laws") ∈ lw_all := lw_g (lw_at lw_m7 17 rfl) rfl
theorem q1514 : (Jvm.Cond.laysFinal "DuskGatesModel" "DuskGatesModel" "lawDay" "[I") ∈ lw_all := lw_g (lw_at lw_m7 18 rfl) rfl
theorem q1515 : (Jvm.Cond.soleField "DuskGatesModel" "lawDay") ∈ lw_all := lw_g (lw_at lw_m7 19 rfl) rfl
theorem q1516 : (Jvm.Cond.laysFinal "DuskGatesModel" "DuskGatesModel" "lawWhat" "[I") ∈ lw_all := lw_g (lw_at lw_m7 20 rfl) rfl
theorem q1517 : (Jvm.Cond.soleField "DuskGatesModel" "lawWhat") ∈ lw_all := lw_g (lw_at lw_m7 21 rfl) rfl
theorem q1518 : (Jvm.Cond.laysFinal "DuskGatesModel" "DuskGatesModel" "lawOf" "[I") ∈ lw_all := lw_g (lw_at lw_m7 22 rfl) rfl
theorem q1519 : (Jvm.Cond.soleField "DuskGatesModel" "lawOf") ∈ lw_all := lw_g (lw_at lw_m7 23 rfl) rfl
theorem q1520 : (Jvm.Cond.laysFinal "DuskGatesModel" "DuskGatesModel" "lawNumber" "[I") ∈ lw_all := lw_g (lw_at lw_m7 24 rfl) rfl
theorem q1521 : (Jvm.Cond.soleField "DuskGatesModel" "lawNumber") ∈ lw_all := lw_g (lw_at lw_m7 25 rfl) rfl
theorem q1522 : (Jvm.Cond.lays "DuskGatesModel" "DuskGatesModel" "newLaws" "I") ∈ lw_all := lw_g (lw_at lw_m7 26 rfl) rfl
theorem q1523 : (Jvm.Cond.soleField "DuskGatesModel" "newLaws") ∈ lw_all := lw_g (lw_at lw_m7 27 rfl) rfl
theorem q1524 : (Jvm.Cond.laysFinal "DuskGatesModel" "DuskGatesModel" "tape" "[I") ∈ lw_all := lw_g (lw_at lw_m7 28 rfl) rfl
theorem q1525 : (Jvm.Cond.soleField "DuskGatesModel" "tape") ∈ lw_all := lw_g (lw_at lw_m7 29 rfl) rfl
theorem q1526 : (Jvm.Cond.lays "DuskGatesModel" "DuskGatesModel" "taped" "I") ∈ lw_all := lw_g (lw_at lw_m7 30 rfl) rfl
theorem q1527 : (Jvm.Cond.soleField "DuskGatesModel" "taped") ∈ lw_all := lw_g (lw_at lw_m7 31 rfl) rfl
theorem q1528 : (Jvm.Cond.lays "DuskGatesModel" "DuskGatesModel" "latest" "I") ∈ lw_all := lw_g (lw_at lw_m7 32 rfl) rfl
theorem q1529 : (Jvm.Cond.soleField "DuskGatesModel" "latest") ∈ lw_all := lw_g (lw_at lw_m7 33 rfl) rfl
theorem q1530 : (Jvm.Cond.lays "DuskGatesModel" "DuskGatesModel" "size" "I") ∈ lw_all := lw_g (lw_at lw_m7 34 rfl) rfl
theorem q1531 : (Jvm.Cond.soleField "DuskGatesModel" "size") ∈ lw_all := lw_g (lw_at lw_m7 35 rfl) rfl
theorem q1532 : (Jvm.Cond.lays "DuskGatesModel" "DuskGatesModel" "cursor" "I") ∈ lw_all := lw_g (lw_at lw_m7 36 rfl) rfl
theorem q1533 : (Jvm.Cond.soleField "DuskGatesModel" "cursor") ∈ lw_all := lw_g (lw_at lw_m7 37 rfl) rfl
theorem q1534 : (Jvm.Cond.lays "DuskGatesModel" "DuskGatesModel" "token" "I") ∈ lw_all := lw_g (lw_at lw_m7 38 rfl) rfl
theorem q1535 : (Jvm.Cond.soleField "DuskGatesModel" "token") ∈ lw_all := lw_g (lw_at lw_m7 39 rfl) rfl
theorem q1536 : (Jvm.Cond.lays "DuskGatesModel" "DuskGatesModel" "from" "I") ∈ lw_all := lw_g (lw_at lw_m7 40 rfl) rfl
theorem q1537 : (Jvm.Cond.soleField "DuskGatesModel" "from") ∈ lw_all := lw_g (lw_at lw_m7 41 rfl) rfl
theorem q1538 : (Jvm.Cond.lays "DuskGatesModel" "DuskGatesModel" "till" "I") ∈ lw_all := lw_g (lw_at lw_m7 42 rfl) rfl
theorem q1539 : (Jvm.Cond.soleField "DuskGatesModel" "till") ∈ lw_all := lw_g (lw_at lw_m7 43 rfl) rfl
theorem q1540 : (Jvm.Cond.lays "DuskGatesModel" "DuskGatesModel" "fault" "I") ∈ lw_all := lw_g (lw_at lw_m7 44 rfl) rfl
theorem q1541 : (Jvm.Cond.soleField "DuskGatesModel" "fault") ∈ lw_all := lw_g (lw_at lw_m7 45 rfl) rfl
theorem q1542 : (Jvm.Cond.lays "DuskGatesModel" "DuskGatesModel" "faultAt" "I") ∈ lw_all := lw_g (lw_at lw_m7 46 rfl) rfl
theorem q1543 : (Jvm.Cond.soleField "DuskGatesModel" "faultAt") ∈ lw_all := lw_g (lw_at lw_m7 47 rfl) rfl
theorem q1544 : (Jvm.Cond.lays "DuskGatesModel" "DuskGatesModel" "carts" "I") ∈ lw_all := lw_g (lw_at lw_m7 48 rfl) rfl
theorem q1545 : (Jvm.Cond.soleField "DuskGatesModel" "carts") ∈ lw_all := lw_g (lw_at lw_m7 49 rfl) rfl
theorem q1546 : (Jvm.Cond.laysFinal "DuskGatesModel" "DuskGatesModel" "load" "[I") ∈ lw_all := lw_g (lw_at lw_m7 50 rfl) rfl
theorem q1547 : (Jvm.Cond.soleField "DuskGatesModel" "load") ∈ lw_all := lw_g (lw_at lw_m7 51 rfl) rfl
theorem q1548 : (Jvm.Cond.lays "DuskGatesModel" "DuskGatesModel" "passings" "I") ∈ lw_all := lw_g (lw_at lw_m7 52 rfl) rfl
theorem q1549 : (Jvm.Cond.soleField "DuskGatesModel" "passings") ∈ lw_all := lw_g (lw_at lw_m7 53 rfl) rfl
theorem q1550 : (Jvm.Cond.laysFinal "DuskGatesModel" "DuskGatesModel" "passCart" "[I") ∈ lw_all := lw_g (lw_at lw_m7 54 rfl) rfl
theorem q1551 : (Jvm.Cond.soleField "DuskGatesModel" "passCart") ∈ lw_all := lw_g (lw_at lw_m7 55 rfl) rfl
theorem q1552 : (Jvm.Cond.laysFinal "DuskGatesModel" "DuskGatesModel" "passIn" "[I") ∈ lw_all := lw_g (lw_at lw_m7 56 rfl) rfl
theorem q1553 : (Jvm.Cond.soleField "DuskGatesModel" "passIn") ∈ lw_all := lw_g (lw_at lw_m7 57 rfl) rfl
theorem q1554 : (Jvm.Cond.laysFinal "DuskGatesModel" "DuskGatesModel" "passGate" "[I") ∈ lw_all := lw_g (lw_at lw_m7 58 rfl) rfl
theorem q1555 : (Jvm.Cond.soleField "DuskGatesModel" "passGate") ∈ lw_all := lw_g (lw_at lw_m7 59 rfl) rfl
theorem q1556 : (Jvm.Cond.laysFinal "DuskGatesModel" "DuskGatesModel" "passAt" "[I") ∈ lw_all := lw_g (lw_at lw_m7 60 rfl) rfl
theorem q1557 : (Jvm.Cond.soleField "DuskGatesModel" "passAt") ∈ lw_all := lw_g (lw_at lw_m7 61 rfl) rfl
theorem q1558 : (Jvm.Cond.laysFinal "DuskGatesModel" "DuskGatesModel" "passPaid" "[I") ∈ lw_all := lw_g (lw_at lw_m7 62 rfl) rfl
theorem q1559 : (Jvm.Cond.soleField "DuskGatesModel" "passPaid") ∈ lw_all := lw_g (lw_at lw_m7 63 rfl) rfl
theorem q1560 : (Jvm.Cond.lays "DuskGatesModel" "DuskGatesModel" "wrong" "I") ∈ lw_all := lw_g (lw_at lw_m7 64 rfl) rfl
theorem q1561 : (Jvm.Cond.soleField "DuskGatesModel" "wrong") ∈ lw_all := lw_g (lw_at lw_m7 65 rfl) rfl
theorem q1562 : (Jvm.Cond.lays "DuskGatesModel" "DuskGatesModel" "inside" "I") ∈ lw_all := lw_g (lw_at lw_m7 66 rfl) rfl
theorem q1563 : (Jvm.Cond.soleField "DuskGatesModel" "inside") ∈ lw_all := lw_g (lw_at lw_m7 67 rfl) rfl
theorem q1564 : (Jvm.Cond.lays "DuskGatesModel" "DuskGatesModel" "lost" "I") ∈ lw_all := lw_g (lw_at lw_m7 68 rfl) rfl
theorem q1565 : (Jvm.Cond.soleField "DuskGatesModel" "lost") ∈ lw_all := lw_g (lw_at lw_m7 69 rfl) rfl
theorem q1566 : (Jvm.Cond.laysFinal "DuskGatesModel" "DuskGatesModel" "roads" "[I") ∈ lw_all := lw_g (lw_at lw_m7 70 rfl) rfl
theorem q1567 : (Jvm.Cond.soleField "DuskGatesModel" "roads") ∈ lw_all := lw_g (lw_at lw_m7 71 rfl) rfl
theorem q1568 : (Jvm.Cond.lays "DuskGatesModel" "DuskGatesModel" "sicks" "I") ∈ lw_all := lw_g (lw_at lw_m7 72 rfl) rfl
theorem q1569 : (Jvm.Cond.soleField "DuskGatesModel" "sicks") ∈ lw_all := lw_g (lw_at lw_m7 73 rfl) rfl
theorem q1570 : (Jvm.Cond.laysFinal "DuskGatesModel" "DuskGatesModel" "sickTown" "[I") ∈ lw_all := lw_g (lw_at lw_m7 74 rfl) rfl
theorem q1571 : (Jvm.Cond.soleField "DuskGatesModel" "sickTown") ∈ lw_all := lw_g (lw_at lw_m7 75 rfl) rfl
theorem q1572 : (Jvm.Cond.laysFinal "DuskGatesModel" "DuskGatesModel" "sickFrom" "[I") ∈ lw_all := lw_g (lw_at lw_m7 76 rfl) rfl
theorem q1573 : (Jvm.Cond.soleField "DuskGatesModel" "sickFrom") ∈ lw_all := lw_g (lw_at lw_m7 77 rfl) rfl
theorem q1574 : (Jvm.Cond.laysFinal "DuskGatesModel" "DuskGatesModel" "sickTo" "[I") ∈ lw_all := lw_g (lw_at lw_m7 78 rfl) rfl
theorem q1575 : (Jvm.Cond.soleField "DuskGatesModel" "sickTo") ∈ lw_all := lw_g (lw_at lw_m7 79 rfl) rfl
theorem q1576 : (Jvm.Cond.lays "DuskGatesModel" "DuskGatesModel" "passes" "I") ∈ lw_all := lw_g (lw_at lw_m7 80 rfl) rfl
theorem q1577 : (Jvm.Cond.soleField "DuskGatesModel" "passes") ∈ lw_all := lw_g (lw_at lw_m7 81 rfl) rfl
theorem q1578 : (Jvm.Cond.laysFinal "DuskGatesModel" "DuskGatesModel" "paper" "[I") ∈ lw_all := lw_g (lw_at lw_m7 82 rfl) rfl
theorem q1579 : (Jvm.Cond.soleField "DuskGatesModel" "paper") ∈ lw_all := lw_g (lw_at lw_m7 83 rfl) rfl
theorem q1580 : (Jvm.Cond.lays "DuskGatesModel" "DuskGatesModel" "theDay" "I") ∈ lw_all := lw_g (lw_at lw_m7 84 rfl) rfl
theorem q1581 : (Jvm.Cond.soleField "DuskGatesModel" "theDay") ∈ lw_all := lw_g (lw_at lw_m7 85 rfl) rfl
theorem q1582 : (Jvm.Cond.laysFinal "DuskGatesModel" "DuskGatesModel" "free" "[I") ∈ lw_all := lw_g (lw_at lw_m7 86 rfl) rfl
theorem q1583 : (Jvm.Cond.soleField "DuskGatesModel" "free") ∈ lw_all := lw_g (lw_at lw_m7 87 rfl) rfl
theorem q1584 : (Jvm.Cond.laysFinal "DuskGatesModel" "DuskGatesModel" "bestClerks" "[I") ∈ lw_all := lw_g (lw_at lw_m7 88 rfl) rfl
theorem q1585 : (Jvm.Cond.soleField "DuskGatesModel" "bestClerks") ∈ lw_all := lw_g (lw_at lw_m7 89 rfl) rfl
theorem q1586 : (Jvm.Cond.laysFinal "DuskGatesModel" "DuskGatesModel" "waits" "[I") ∈ lw_all := lw_g (lw_at lw_m7 90 rfl) rfl
theorem q1587 : (Jvm.Cond.soleField "DuskGatesModel" "waits") ∈ lw_all := lw_g (lw_at lw_m7 91 rfl) rfl
theorem q1588 : (Jvm.Cond.lays "DuskGatesModel" "DuskGatesModel" "guests" "I") ∈ lw_all := lw_g (lw_at lw_m7 92 rfl) rfl
theorem q1589 : (Jvm.Cond.soleField "DuskGatesModel" "guests") ∈ lw_all := lw_g (lw_at lw_m7 93 rfl) rfl
theorem q1590 : (Jvm.Cond.laysFinal "DuskGatesModel" "DuskGatesModel" "guestPerson" "[I") ∈ lw_all := lw_g (lw_at lw_m7 94 rfl) rfl
theorem q1591 : (Jvm.Cond.soleField "DuskGatesModel" "guestPerson") ∈ lw_all := lw_g (lw_at lw_m7 95 rfl) rfl
theorem q1592 : (Jvm.Cond.laysFinal "DuskGatesModel" "DuskGatesModel" "guestHouse" "[I") ∈ lw_all := lw_g (lw_at lw_m7 96 rfl) rfl
theorem q1593 : (Jvm.Cond.soleField "DuskGatesModel" "guestHouse") ∈ lw_all := lw_g (lw_at lw_m7 97 rfl) rfl
theorem q1594 : (Jvm.Cond.laysFinal "DuskGatesModel" "DuskGatesModel" "guestFrom" "[I") ∈ lw_all := lw_g (lw_at lw_m7 98 rfl) rfl
theorem q1595 : (Jvm.Cond.soleField "DuskGatesModel" "guestFrom") ∈ lw_all := lw_g (lw_at lw_m7 99 rfl) rfl
theorem q1596 : (Jvm.Cond.laysFinal "DuskGatesModel" "DuskGatesModel" "guestTo" "[I") ∈ lw_all := lw_g (lw_at lw_m7 100 rfl) rfl
theorem q1597 : (Jvm.Cond.soleField "DuskGatesModel" "guestTo") ∈ lw_all := lw_g (lw_at lw_m7 101 rfl) rfl
theorem q1598 : (Jvm.Cond.laysFinal "DuskGatesModel" "DuskGatesModel" "fellOn" "[I") ∈ lw_all := lw_g (lw_at lw_m7 102 rfl) rfl
theorem q1599 : (Jvm.Cond.soleField "DuskGatesModel" "fellOn") ∈ lw_all := lw_g (lw_at lw_m7 103 rfl) rfl
theorem q1600 : (Jvm.Cond.laysFinal "DuskGatesModel" "DuskGatesModel" "high" "[I") ∈ lw_all := lw_g (lw_at lw_m7 104 rfl) rfl
theorem q1601 : (Jvm.Cond.soleField "DuskGatesModel" "high") ∈ lw_all := lw_g (lw_at lw_m7 105 rfl) rfl
theorem q1602 : (Jvm.Cond.lays "DuskGatesModel" "DuskGatesModel" "leans" "I") ∈ lw_all := lw_g (lw_at lw_m7 106 rfl) rfl
theorem q1603 : (Jvm.Cond.soleField "DuskGatesModel" "leans") ∈ lw_all := lw_g (lw_at lw_m7 107 rfl) rfl
theorem q1604 : (Jvm.Cond.laysFinal "DuskGatesModel" "DuskGatesModel" "leanLength" "[I") ∈ lw_all := lw_g (lw_at lw_m7 108 rfl) rfl
theorem q1605 : (Jvm.Cond.soleField "DuskGatesModel" "leanLength") ∈ lw_all := lw_g (lw_at lw_m7 109 rfl) rfl
theorem q1606 : (Jvm.Cond.laysFinal "DuskGatesModel" "DuskGatesModel" "leanInside" "[I") ∈ lw_all := lw_g (lw_at lw_m7 110 rfl) rfl
theorem q1607 : (Jvm.Cond.soleField "DuskGatesModel" "leanInside") ∈ lw_all := lw_g (lw_at lw_m7 111 rfl) rfl
theorem q1608 : (Jvm.Cond.laysFinal "DuskGatesModel" "DuskGatesModel" "leanOutside" "[I") ∈ lw_all := lw_g (lw_at lw_m7 112 rfl) rfl
theorem q1609 : (Jvm.Cond.soleField "DuskGatesModel" "leanOutside") ∈ lw_all := lw_g (lw_at lw_m7 113 rfl) rfl
theorem q1610 : (Jvm.Cond.laysFinal "DuskGatesModel" "DuskGatesModel" "trace" "[I") ∈ lw_all := lw_g (lw_at lw_m7 114 rfl) rfl
theorem q1611 : (Jvm.Cond.soleField "DuskGatesModel" "trace") ∈ lw_all := lw_g (lw_at lw_m7 115 rfl) rfl
theorem q1612 : (Jvm.Cond.lays "DuskGatesModel" "DuskGatesModel" "traced" "I") ∈ lw_all := lw_g (lw_at lw_m7 116 rfl) rfl
theorem q1613 : (Jvm.Cond.soleField "DuskGatesModel" "traced") ∈ lw_all := lw_g (lw_at lw_m7 117 rfl) rfl
theorem q1614 : (Jvm.Cond.superclass "DuskGatesModel" "java/lang/Object") ∈ lw_all := lw_g (lw_at lw_m7 118 rfl) rfl
theorem q1616 : (Jvm.Cond.instanceMethod ({ cls := "DuskGatesModel", name := "sheet", desc := "(III)I" } : Jvm.MethodName)) ∈ lw_all := lw_g (lw_at lw_m7 120 rfl) rfl
theorem q1617 : (Jvm.Cond.selects "DuskGatesModel" ({ cls := "DuskGatesModel", name := "sheet", desc := "(III)I" } : Jvm.MethodName) ({ cls := "DuskGatesModel", name := "sheet", desc := "(III)I" } : Jvm.MethodName)) ∈ lw_all := lw_g (lw_at lw_m7 121 rfl) rfl
theorem q1618 : (Jvm.Cond.code ({ cls := "DuskGatesModel", name := "sheet", desc := "(III)I" } : Jvm.MethodName) prog_17_method_6_code (5 : Nat) (Option.some Jvm.ClassFile.FieldType.int)) ∈ lw_all := lw_g (lw_at lw_m7 122 rfl) rfl
theorem q1619 : (Jvm.Cond.methodLink "DuskGatesModel" (136 : Nat) ({ cls := "DuskGatesModel", name := "isSheet", desc := "(I)Z" } : Jvm.MethodName)) ∈ lw_all := lw_g (lw_at lw_m7 123 rfl) rfl
theorem q1620 : (Jvm.Cond.static ({ cls := "DuskGatesModel", name := "isSheet", desc := "(I)Z" } : Jvm.MethodName)) ∈ lw_all := lw_g (lw_at lw_m7 124 rfl) rfl
theorem q1621 : (Jvm.Cond.code ({ cls := "DuskGatesModel", name := "isSheet", desc := "(I)Z" } : Jvm.MethodName) prog_17_method_5_code (1 : Nat) (Option.some Jvm.ClassFile.FieldType.boolean)) ∈ lw_all := lw_g (lw_at lw_m7 125 rfl) rfl
theorem q1622 : (Jvm.Cond.constantLong "DuskGatesModel" (130 : Nat) (7 : Int64)) ∈ lw_all := lw_g (lw_at lw_m7 126 rfl) rfl
theorem q1623 : (Jvm.Cond.methodLink "DuskGatesModel" (132 : Nat) ({ cls := "DuskGatesModel", name := "in", desc := "(JJJ)Z" } : Jvm.MethodName)) ∈ lw_all := lw_g (lw_at lw_m7 127 rfl) rfl
theorem q1624 : (Jvm.Cond.static ({ cls := "DuskGatesModel", name := "in", desc := "(JJJ)Z" } : Jvm.MethodName)) ∈ lw_all := lw_g (lw_at lw_m7 128 rfl) rfl
theorem q1625 : (Jvm.Cond.code ({ cls := "DuskGatesModel", name := "in", desc := "(JJJ)Z" } : Jvm.MethodName) prog_17_method_2_code (6 : Nat) (Option.some Jvm.ClassFile.FieldType.boolean)) ∈ lw_all := lw_g (lw_at lw_m7 129 rfl) rfl
theorem q1626 : (Jvm.Cond.constantLong "DuskGatesModel" (140 : Nat) (2 : Int64)) ∈ lw_all := lw_g (lw_at lw_m7 130 rfl) rfl
theorem q1627 : (Jvm.Cond.constant "DuskGatesModel" (142 : Nat) (-1000001 : Int32)) ∈ lw_all := lw_g (lw_at lw_m7 131 rfl) rfl
theorem q1628 : (Jvm.Cond.methodLink "DuskGatesModel" (143 : Nat) ({ cls := "DuskGatesModel", name := "finding", desc := "(I)I" } : Jvm.MethodName)) ∈ lw_all := lw_g (lw_at lw_m7 132 rfl) rfl
theorem q1629 : (Jvm.Cond.privateMethod ({ cls := "DuskGatesModel", name := "finding", desc := "(I)I" } : Jvm.MethodName)) ∈ lw_tbl := lw_at lw_m7 133 rfl
theorem q1630 : (Jvm.Cond.instanceMethod ({ cls := "DuskGatesModel", name := "finding", desc := "(I)I" } : Jvm.MethodName)) ∈ lw_all := lw_g (lw_at lw_m7 134 rfl) rfl
theorem q1631 : (Jvm.Cond.code ({ cls := "DuskGatesModel", name := "finding", desc := "(I)I" } : Jvm.MethodName) prog_17_method_3_code (2 : Nat) (Option.some Jvm.ClassFile.FieldType.int)) ∈ lw_all := lw_g (lw_at lw_m7 135 rfl) rfl
theorem q1632 : (Jvm.Cond.constant "DuskGatesModel" (10 : Nat) (-1000010 : Int32)) ∈ lw_all := lw_g (lw_at lw_m7 136 rfl) rfl
theorem q1634 : (Jvm.Cond.instanceMethod ({ cls := "DuskGatesModel", name := "set", desc := "(III)I" } : Jvm.MethodName)) ∈ lw_all := lw_g (lw_at lw_m7 138 rfl) rfl
theorem q1635 : (Jvm.Cond.selects "DuskGatesModel" ({ cls := "DuskGatesModel", name := "set", desc := "(III)I" } : Jvm.MethodName) ({ cls := "DuskGatesModel", name := "set", desc := "(III)I" } : Jvm.MethodName)) ∈ lw_all := lw_g (lw_at lw_m7 139 rfl) rfl
theorem q1636 : (Jvm.Cond.code ({ cls := "DuskGatesModel", name := "set", desc := "(III)I" } : Jvm.MethodName) prog_17_method_7_code (4 : Nat) (Option.some Jvm.ClassFile.FieldType.int)) ∈ lw_all := lw_g (lw_at lw_m7 140 rfl) rfl
theorem q1638 : (Jvm.Cond.instanceMethod ({ cls := "DuskGatesModel", name := "copy", desc := "(IIIII)I" } : Jvm.MethodName)) ∈ lw_all := lw_g (lw_at lw_m7 142 rfl) rfl
theorem q1639 : (Jvm.Cond.selects "DuskGatesModel" ({ cls := "DuskGatesModel", name := "copy", desc := "(IIIII)I" } : Jvm.MethodName) ({ cls := "DuskGatesModel", name := "copy", desc := "(IIIII)I" } : Jvm.MethodName)) ∈ lw_all := lw_g (lw_at lw_m7 143 rfl) rfl
theorem q1640 : (Jvm.Cond.code ({ cls := "DuskGatesModel", name := "copy", desc := "(IIIII)I" } : Jvm.MethodName) prog_17_method_8_code (9 : Nat) (Option.some Jvm.ClassFile.FieldType.int)) ∈ lw_all := lw_g (lw_at lw_m7 144 rfl) rfl
theorem q1642 : (Jvm.Cond.instanceMethod ({ cls := "DuskGatesModel", name := "drop", desc := "(I)I" } : Jvm.MethodName)) ∈ lw_all := lw_g (lw_at lw_m7 146 rfl) rfl
theorem q1643 : (Jvm.Cond.selects "DuskGatesModel" ({ cls := "DuskGatesModel", name := "drop", desc := "(I)I" } : Jvm.MethodName) ({ cls := "DuskGatesModel", name := "drop", desc := "(I)I" } : Jvm.MethodName)) ∈ lw_all := lw_g (lw_at lw_m7 147 rfl) rfl
theorem q1644 : (Jvm.Cond.code ({ cls := "DuskGatesModel", name := "drop", desc := "(I)I" } : Jvm.MethodName) prog_17_method_9_code (2 : Nat) (Option.some Jvm.ClassFile.FieldType.int)) ∈ lw_all := lw_g (lw_at lw_m7 148 rfl) rfl
theorem q1646 : (Jvm.Cond.instanceMethod ({ cls := "DuskGatesModel", name := "bell", desc := "(III)I" } : Jvm.MethodName)) ∈ lw_all := lw_g (lw_at lw_m7 150 rfl) rfl
theorem q1647 : (Jvm.Cond.selects "DuskGatesModel" ({ cls := "DuskGatesModel", name := "bell", desc := "(III)I" } : Jvm.MethodName) ({ cls := "DuskGatesModel", name := "bell", desc := "(III)I" } : Jvm.MethodName)) ∈ lw_all := lw_g (lw_at lw_m7 151 rfl) rfl
theorem q1648 : (Jvm.Cond.code ({ cls := "DuskGatesModel", name := "bell", desc := "(III)I" } : Jvm.MethodName) prog_17_method_15_code (4 : Nat) (Option.some Jvm.ClassFile.FieldType.int)) ∈ lw_all := lw_g (lw_at lw_m7 152 rfl) rfl
theorem q1649 : (Jvm.Cond.methodLink "DuskGatesModel" (153 : Nat) ({ cls := "DuskGatesModel", name := "isGate", desc := "(I)Z" } : Jvm.MethodName)) ∈ lw_all := lw_g (lw_at lw_m7 153 rfl) rfl
theorem q1650 : (Jvm.Cond.static ({ cls := "DuskGatesModel", name := "isGate", desc := "(I)Z" } : Jvm.MethodName)) ∈ lw_all := lw_g (lw_at lw_m7 154 rfl) rfl
theorem q1651 : (Jvm.Cond.code ({ cls := "DuskGatesModel", name := "isGate", desc := "(I)Z" } : Jvm.MethodName) prog_17_method_11_code (1 : Nat) (Option.some Jvm.ClassFile.FieldType.boolean)) ∈ lw_all := lw_g (lw_at lw_m7 155 rfl) rfl
theorem q1652 : (Jvm.Cond.constantLong "DuskGatesModel" (147 : Nat) (8 : Int64)) ∈ lw_all := lw_g (lw_at lw_m7 156 rfl) rfl
theorem q1653 : (Jvm.Cond.methodLink "DuskGatesModel" (156 : Nat) ({ cls := "DuskGatesModel", name := "isMinute", desc := "(I)Z" } : Jvm.MethodName)) ∈ lw_all := lw_g (lw_at lw_m7 157 rfl) rfl
theorem q1654 : (Jvm.Cond.static ({ cls := "DuskGatesModel", name := "isMinute", desc := "(I)Z" } : Jvm.MethodName)) ∈ lw_all := lw_g (lw_at lw_m7 158 rfl) rfl
theorem q1655 : (Jvm.Cond.code ({ cls := "DuskGatesModel", name := "isMinute", desc := "(I)Z" } : Jvm.MethodName) prog_17_method_13_code (1 : Nat) (Option.some Jvm.ClassFile.FieldType.boolean)) ∈ lw_all := lw_g (lw_at lw_m7 159 rfl) rfl
theorem q1656 : (Jvm.Cond.constantLong "DuskGatesModel" (151 : Nat) (1439 : Int64)) ∈ lw_all := lw_g (lw_at lw_m7 160 rfl) rfl
theorem q1657 : (Jvm.Cond.constantLong "DuskGatesModel" (159 : Nat) (1440 : Int64)) ∈ lw_all := lw_g (lw_at lw_m7 161 rfl) rfl
theorem q1659 : (Jvm.Cond.instanceMethod ({ cls := "DuskGatesModel", name := "part", desc := "(II)I" } : Jvm.MethodName)) ∈ lw_all := lw_g (lw_at lw_m7 163 rfl) rfl
theorem q1660 : (Jvm.Cond.selects "DuskGatesModel" ({ cls := "DuskGatesModel", name := "part", desc := "(II)I" } : Jvm.MethodName) ({ cls := "DuskGatesModel", name := "part", desc := "(II)I" } : Jvm.MethodName)) ∈ lw_all := lw_g (lw_at lw_m7 164 rfl) rfl
theorem q1661 : (Jvm.Cond.code ({ cls := "DuskGatesModel", name := "part", desc := "(II)I" } : Jvm.MethodName) prog_17_method_16_code (4 : Nat) (Option.some Jvm.ClassFile.FieldType.int)) ∈ lw_all := lw_g (lw_at lw_m7 165 rfl) rfl
theorem q1662 : (Jvm.Cond.constantLong "DuskGatesModel" (161 : Nat) (300 : Int64)) ∈ lw_all := lw_g (lw_at lw_m7 166 rfl) rfl
theorem q1664 : (Jvm.Cond.instanceMethod ({ cls := "DuskGatesModel", name := "stands", desc := "(III)I" } : Jvm.MethodName)) ∈ lw_all := lw_g (lw_at lw_m7 168 rfl) rfl
theorem q1665 : (Jvm.Cond.selects "DuskGatesModel" ({ cls := "DuskGatesModel", name := "stands", desc := "(III)I" } : Jvm.MethodName) ({ cls := "DuskGatesModel", name := "stands", desc := "(III)I" } : Jvm.MethodName)) ∈ lw_all := lw_g (lw_at lw_m7 169 rfl) rfl
theorem q1666 : (Jvm.Cond.code ({ cls := "DuskGatesModel", name := "stands", desc := "(III)I" } : Jvm.MethodName) prog_17_method_17_code (4 : Nat) (Option.some Jvm.ClassFile.FieldType.int)) ∈ lw_all := lw_g (lw_at lw_m7 170 rfl) rfl
theorem q1667 : (Jvm.Cond.methodLink "DuskGatesModel" (163 : Nat) ({ cls := "DuskGatesModel", name := "isSpot", desc := "(II)Z" } : Jvm.MethodName)) ∈ lw_all := lw_g (lw_at lw_m7 171 rfl) rfl
theorem q1668 : (Jvm.Cond.static ({ cls := "DuskGatesModel", name := "isSpot", desc := "(II)Z" } : Jvm.MethodName)) ∈ lw_all := lw_g (lw_at lw_m7 172 rfl) rfl
theorem q1669 : (Jvm.Cond.code ({ cls := "DuskGatesModel", name := "isSpot", desc := "(II)Z" } : Jvm.MethodName) prog_17_method_14_code (2 : Nat) (Option.some Jvm.ClassFile.FieldType.boolean)) ∈ lw_all := lw_g (lw_at lw_m7 173 rfl) rfl
theorem q1670 : (Jvm.Cond.constantLong "DuskGatesModel" (149 : Nat) (999 : Int64)) ∈ lw_all := lw_g (lw_at lw_m7 174 rfl) rfl
theorem q1672 : (Jvm.Cond.instanceMethod ({ cls := "DuskGatesModel", name := "feed", desc := "(JI)I" } : Jvm.MethodName)) ∈ lw_all := lw_g (lw_at lw_m7 176 rfl) rfl
theorem q1673 : (Jvm.Cond.selects "DuskGatesModel" ({ cls := "DuskGatesModel", name := "feed", desc := "(JI)I" } : Jvm.MethodName) ({ cls := "DuskGatesModel", name := "feed", desc := "(JI)I" } : Jvm.MethodName)) ∈ lw_all := lw_g (lw_at lw_m7 177 rfl) rfl
theorem q1674 : (Jvm.Cond.code ({ cls := "DuskGatesModel", name := "feed", desc := "(JI)I" } : Jvm.MethodName) prog_17_method_19_code (5 : Nat) (Option.some Jvm.ClassFile.FieldType.int)) ∈ lw_all := lw_g (lw_at lw_m7 178 rfl) rfl
theorem q1675 : (Jvm.Cond.constant "DuskGatesModel" (170 : Nat) (-1000003 : Int32)) ∈ lw_all := lw_g (lw_at lw_m7 179 rfl) rfl
theorem q1676 : (Jvm.Cond.constantLong "DuskGatesModel" (171 : Nat) (255 : Int64)) ∈ lw_all := lw_g (lw_at lw_m7 180 rfl) rfl
theorem q1678 : (Jvm.Cond.instanceMethod ({ cls := "DuskGatesModel", name := "laws", desc := "()I" } : Jvm.MethodName)) ∈ lw_all := lw_g (lw_at lw_m7 182 rfl) rfl
theorem q1679 : (Jvm.Cond.selects "DuskGatesModel" ({ cls := "DuskGatesModel", name := "laws", desc := "()I" } : Jvm.MethodName) ({ cls := "DuskGatesModel", name := "laws", desc := "()I" } : Jvm.MethodName)) ∈ lw_all := lw_g (lw_at lw_m7 183 rfl) rfl
theorem q1680 : (Jvm.Cond.code ({ cls := "DuskGatesModel", name := "laws", desc := "()I" } : Jvm.MethodName) prog_17_method_30_code (3 : Nat) (Option.some Jvm.ClassFile.FieldType.int)) ∈ lw_all := lw_g (lw_at lw_m7 184 rfl) rfl
theorem q1681 : (Jvm.Cond.methodLink "DuskGatesModel" (207 : Nat) ({ cls := "DuskGatesModel", name := "step", desc := "()V" } : Jvm.MethodName)) ∈ lw_all := lw_g (lw_at lw_m7 185 rfl) rfl
theorem q1682 : (Jvm.Cond.privateMethod ({ cls := "DuskGatesModel", name := "step", desc := "()V" } : Jvm.MethodName)) ∈ lw_tbl := lw_at lw_m7 186 rfl
theorem q1683 : (Jvm.Cond.instanceMethod ({ cls := "DuskGatesModel", name := "step", desc := "()V" } : Jvm.MethodName)) ∈ lw_all := lw_g (lw_at lw_m7 187 rfl) rfl
theorem q1684 : (Jvm.Cond.code ({ cls := "DuskGatesModel", name := "step", desc := "()V" } : Jvm.MethodName) prog_17_method_23_code (2 : Nat) (Option.none : Option Jvm.ClassFile.FieldType)) ∈ lw_all := lw_g (lw_at lw_m7 188 rfl) rfl
theorem q1685 : (Jvm.Cond.methodLink "DuskGatesModel" (179 : Nat) ({ cls := "DuskGatesModel", name := "byteAt", desc := "(I)I" } : Jvm.MethodName)) ∈ lw_all := lw_g (lw_at lw_m7 189 rfl) rfl
theorem q1686 : (Jvm.Cond.privateMethod ({ cls := "DuskGatesModel", name := "byteAt", desc := "(I)I" } : Jvm.MethodName)) ∈ lw_tbl := lw_at lw_m7 190 rfl
theorem q1687 : (Jvm.Cond.instanceMethod ({ cls := "DuskGatesModel", name := "byteAt", desc := "(I)I" } : Jvm.MethodName)) ∈ lw_all := lw_g (lw_at lw_m7 191 rfl) rfl
theorem q1688 : (Jvm.Cond.code ({ cls := "DuskGatesModel", name := "byteAt", desc := "(I)I" } : Jvm.MethodName) prog_17_method_20_code (2 : Nat) (Option.some Jvm.ClassFile.FieldType.int)) ∈ lw_all := lw_g (lw_at lw_m7 192 rfl) rfl
theorem q1689 : (Jvm.Cond.methodLink "DuskGatesModel" (188 : Nat) ({ cls := "DuskGatesModel", name := "isLetter", desc := "(I)Z" } : Jvm.MethodName)) ∈ lw_all := lw_g (lw_at lw_m7 193 rfl) rfl
theorem q1690 : (Jvm.Cond.static ({ cls := "DuskGatesModel", name := "isLetter", desc := "(I)Z" } : Jvm.MethodName)) ∈ lw_all := lw_g (lw_at lw_m7 194 rfl) rfl
theorem q1691 : (Jvm.Cond.code ({ cls := "DuskGatesModel", name := "isLetter", desc := "(I)Z" } : Jvm.MethodName) prog_17_method_21_code (1 : Nat) (Option.some Jvm.ClassFile.FieldType.boolean)) ∈ lw_all := lw_g (lw_at lw_m7 195 rfl) rfl
theorem q1692 : (Jvm.Cond.methodLink "DuskGatesModel" (191 : Nat) ({ cls := "DuskGatesModel", name := "isFigure", desc := "(I)Z" } : Jvm.MethodName)) ∈ lw_all := lw_g (lw_at lw_m7 196 rfl) rfl
theorem q1693 : (Jvm.Cond.static ({ cls := "DuskGatesModel", name := "isFigure", desc := "(I)Z" } : Jvm.MethodName)) ∈ lw_all := lw_g (lw_at lw_m7 197 rfl) rfl
theorem q1694 : (Jvm.Cond.code ({ cls := "DuskGatesModel", name := "isFigure", desc := "(I)Z" } : Jvm.MethodName) prog_17_method_22_code (1 : Nat) (Option.some Jvm.ClassFile.FieldType.boolean)) ∈ lw_all := lw_g (lw_at lw_m7 198 rfl) rfl
theorem q1695 : (Jvm.Cond.methodLink "DuskGatesModel" (214 : Nat) ({ cls := "DuskGatesModel", name := "word", desc := "()J" } : Jvm.MethodName)) ∈ lw_all := lw_g (lw_at lw_m7 199 rfl) rfl
theorem q1696 : (Jvm.Cond.privateMethod ({ cls := "DuskGatesModel", name := "word", desc := "()J" } : Jvm.MethodName)) ∈ lw_tbl := lw_at lw_m7 200 rfl
theorem q1697 : (Jvm.Cond.instanceMethod ({ cls := "DuskGatesModel", name := "word", desc := "()J" } : Jvm.MethodName)) ∈ lw_all := lw_g (lw_at lw_m7 201 rfl) rfl
theorem q1698 : (Jvm.Cond.code ({ cls := "DuskGatesModel", name := "word", desc := "()J" } : Jvm.MethodName) prog_17_method_26_code (4 : Nat) (Option.some Jvm.ClassFile.FieldType.long)) ∈ lw_all := lw_g (lw_at lw_m7 202 rfl) rfl
theorem q1699 : (Jvm.Cond.constantLong "DuskGatesModel" (245 : Nat) (1718775661 : Int64)) ∈ lw_all := lw_g (lw_at lw_m7 203 rfl) rfl
theorem q1700 : (Jvm.Cond.methodLink "DuskGatesModel" (210 : Nat) ({ cls := "DuskGatesModel", name := "need", desc := "(Z)V" } : Jvm.MethodName)) ∈ lw_all := lw_g (lw_at lw_m7 204 rfl) rfl
theorem q1701 : (Jvm.Cond.privateMethod ({ cls := "DuskGatesModel", name := "need", desc := "(Z)V" } : Jvm.MethodName)) ∈ lw_tbl := lw_at lw_m7 205 rfl
theorem q1702 : (Jvm.Cond.instanceMethod ({ cls := "DuskGatesModel", name := "need", desc := "(Z)V" } : Jvm.MethodName)) ∈ lw_all := lw_g (lw_at lw_m7 206 rfl) rfl
theorem q1703 : (Jvm.Cond.code ({ cls := "DuskGatesModel", name := "need", desc := "(Z)V" } : Jvm.MethodName) prog_17_method_25_code (2 : Nat) (Option.none : Option Jvm.ClassFile.FieldType)) ∈ lw_all := lw_g (lw_at lw_m7 207 rfl) rfl
theorem q1704 : (Jvm.Cond.methodLink "DuskGatesModel" (203 : Nat) ({ cls := "DuskGatesModel", name := "bad", desc := "(I)V" } : Jvm.MethodName)) ∈ lw_all := lw_g (lw_at lw_m7 208 rfl) rfl
theorem q1705 : (Jvm.Cond.privateMethod ({ cls := "DuskGatesModel", name := "bad", desc := "(I)V" } : Jvm.MethodName)) ∈ lw_tbl := lw_at lw_m7 209 rfl
theorem q1706 : (Jvm.Cond.instanceMethod ({ cls := "DuskGatesModel", name := "bad", desc := "(I)V" } : Jvm.MethodName)) ∈ lw_all := lw_g (lw_at lw_m7 210 rfl) rfl
theorem q1707 : (Jvm.Cond.code ({ cls := "DuskGatesModel", name := "bad", desc := "(I)V" } : Jvm.MethodName) prog_17_method_24_code (2 : Nat) (Option.none : Option Jvm.ClassFile.FieldType)) ∈ lw_all := lw_g (lw_at lw_m7 211 rfl) rfl
theorem q1708 : (Jvm.Cond.methodLink "DuskGatesModel" (239 : Nat) ({ cls := "DuskGatesModel", name := "numberTo", desc := "(I)I" } : Jvm.MethodName)) ∈ lw_all := lw_g (lw_at lw_m7 212 rfl) rfl
theorem q1709 : (Jvm.Cond.privateMethod ({ cls := "DuskGatesModel", name := "numberTo", desc := "(I)I" } : Jvm.MethodName)) ∈ lw_tbl := lw_at lw_m7 213 rfl
theorem q1710 : (Jvm.Cond.instanceMethod ({ cls := "DuskGatesModel", name := "numberTo", desc := "(I)I" } : Jvm.MethodName)) ∈ lw_all := lw_g (lw_at lw_m7 214 rfl) rfl
theorem q1711 : (Jvm.Cond.code ({ cls := "DuskGatesModel", name := "numberTo", desc := "(I)I" } : Jvm.MethodName) prog_17_method_27_code (4 : Nat) (Option.some Jvm.ClassFile.FieldType.int)) ∈ lw_all := lw_g (lw_at lw_m7 215 rfl) rfl
theorem q1712 : (Jvm.Cond.methodLink "DuskGatesModel" (247 : Nat) ({ cls := "DuskGatesModel", name := "readLaw", desc := "(I)V" } : Jvm.MethodName)) ∈ lw_all := lw_g (lw_at lw_m7 216 rfl) rfl
theorem q1713 : (Jvm.Cond.privateMethod ({ cls := "DuskGatesModel", name := "readLaw", desc := "(I)V" } : Jvm.MethodName)) ∈ lw_tbl := lw_at lw_m7 217 rfl
theorem q1714 : (Jvm.Cond.instanceMethod ({ cls := "DuskGatesModel", name := "readLaw", desc := "(I)V" } : Jvm.MethodName)) ∈ lw_all := lw_g (lw_at lw_m7 218 rfl) rfl
theorem q1715 : (Jvm.Cond.code ({ cls := "DuskGatesModel", name := "readLaw", desc := "(I)V" } : Jvm.MethodName) prog_17_method_29_code (3 : Nat) (Option.none : Option Jvm.ClassFile.FieldType)) ∈ lw_all := lw_g (lw_at lw_m7 219 rfl) rfl
theorem q1716 : (Jvm.Cond.methodLink "DuskGatesModel" (232 : Nat) ({ cls := "DuskGatesModel", name := "lawOfWord", desc := "()I" } : Jvm.MethodName)) ∈ lw_all := lw_g (lw_at lw_m7 220 rfl) rfl
theorem q1717 : (Jvm.Cond.privateMethod ({ cls := "DuskGatesModel", name := "lawOfWord", desc := "()I" } : Jvm.MethodName)) ∈ lw_tbl := lw_at lw_m7 221 rfl
theorem q1718 : (Jvm.Cond.instanceMethod ({ cls := "DuskGatesModel", name := "lawOfWord", desc := "()I" } : Jvm.MethodName)) ∈ lw_all := lw_g (lw_at lw_m7 222 rfl) rfl
theorem q1719 : (Jvm.Cond.code ({ cls := "DuskGatesModel", name := "lawOfWord", desc := "()I" } : Jvm.MethodName) prog_17_method_28_code (3 : Nat) (Option.some Jvm.ClassFile.FieldType.int)) ∈ lw_all := lw_g (lw_at lw_m7 223 rfl) rfl
theorem q1720 : (Jvm.Cond.constantLong "DuskGatesModel" (218 : Nat) (512852583788 : Int64)) ∈ lw_all := lw_g (lw_at lw_m7 224 rfl) rfl
theorem q1721 : (Jvm.Cond.constantLong "DuskGatesModel" (220 : Nat) (1953459308 : Int64)) ∈ lw_all := lw_g (lw_at lw_m7 225 rfl) rfl
theorem q1722 : (Jvm.Cond.constantLong "DuskGatesModel" (222 : Nat) (1718773093 : Int64)) ∈ lw_all := lw_g (lw_at lw_m7 226 rfl) rfl
theorem q1723 : (Jvm.Cond.constantLong "DuskGatesModel" (224 : Nat) (1735356260 : Int64)) ∈ lw_all := lw_g (lw_at lw_m7 227 rfl) rfl
theorem q1724 : (Jvm.Cond.constantLong "DuskGatesModel" (226 : Nat) (6447460 : Int64)) ∈ lw_all := lw_g (lw_at lw_m7 228 rfl) rfl
theorem q1725 : (Jvm.Cond.constantLong "DuskGatesModel" (228 : Nat) (6447470 : Int64)) ∈ lw_all := lw_g (lw_at lw_m7 229 rfl) rfl
theorem q1726 : (Jvm.Cond.constantLong "DuskGatesModel" (230 : Nat) (1818846836 : Int64)) ∈ lw_all := lw_g (lw_at lw_m7 230 rfl) rfl
theorem q1727 : (Jvm.Cond.constant "DuskGatesModel" (253 : Nat) (-1000100 : Int32)) ∈ lw_all := lw_g (lw_at lw_m7 231 rfl) rfl
theorem q1729 : (Jvm.Cond.instanceMethod ({ cls := "DuskGatesModel", name := "fault", desc := "()I" } : Jvm.MethodName)) ∈ lw_all := lw_g (lw_at lw_m7 233 rfl) rfl
theorem q1730 : (Jvm.Cond.selects "DuskGatesModel" ({ cls := "DuskGatesModel", name := "fault", desc := "()I" } : Jvm.MethodName) ({ cls := "DuskGatesModel", name := "fault", desc := "()I" } : Jvm.MethodName)) ∈ lw_all := lw_g (lw_at lw_m7 234 rfl) rfl
theorem q1731 : (Jvm.Cond.code ({ cls := "DuskGatesModel", name := "fault", desc := "()I" } : Jvm.MethodName) prog_17_method_31_code (1 : Nat) (Option.some Jvm.ClassFile.FieldType.int)) ∈ lw_all := lw_g (lw_at lw_m7 235 rfl) rfl
theorem q1733 : (Jvm.Cond.instanceMethod ({ cls := "DuskGatesModel", name := "holds", desc := "(II)I" } : Jvm.MethodName)) ∈ lw_all := lw_g (lw_at lw_m7 237 rfl) rfl
theorem q1734 : (Jvm.Cond.selects "DuskGatesModel" ({ cls := "DuskGatesModel", name := "holds", desc := "(II)I" } : Jvm.MethodName) ({ cls := "DuskGatesModel", name := "holds", desc := "(II)I" } : Jvm.MethodName)) ∈ lw_all := lw_g (lw_at lw_m7 238 rfl) rfl
theorem q1735 : (Jvm.Cond.code ({ cls := "DuskGatesModel", name := "holds", desc := "(II)I" } : Jvm.MethodName) prog_17_method_36_code (3 : Nat) (Option.some Jvm.ClassFile.FieldType.int)) ∈ lw_all := lw_g (lw_at lw_m7 239 rfl) rfl
theorem q1736 : (Jvm.Cond.methodLink "DuskGatesModel" (258 : Nat) ({ cls := "DuskGatesModel", name := "isDay", desc := "(I)Z" } : Jvm.MethodName)) ∈ lw_all := lw_g (lw_at lw_m8 0 rfl) rfl
theorem q1737 : (Jvm.Cond.static ({ cls := "DuskGatesModel", name := "isDay", desc := "(I)Z" } : Jvm.MethodName)) ∈ lw_all := lw_g (lw_at lw_m8 1 rfl) rfl
theorem q1738 : (Jvm.Cond.code ({ cls := "DuskGatesModel", name := "isDay", desc := "(I)Z" } : Jvm.MethodName) prog_17_method_12_code (1 : Nat) (Option.some Jvm.ClassFile.FieldType.boolean)) ∈ lw_all := lw_g (lw_at lw_m8 2 rfl) rfl
theorem q1739 : (Jvm.Cond.methodLink "DuskGatesModel" (261 : Nat) ({ cls := "DuskGatesModel", name := "numberFor", desc := "(III)I" } : Jvm.MethodName)) ∈ lw_all := lw_g (lw_at lw_m8 3 rfl) rfl
theorem q1740 : (Jvm.Cond.privateMethod ({ cls := "DuskGatesModel", name := "numberFor", desc := "(III)I" } : Jvm.MethodName)) ∈ lw_tbl := lw_at lw_m8 4 rfl
theorem q1741 : (Jvm.Cond.instanceMethod ({ cls := "DuskGatesModel", name := "numberFor", desc := "(III)I" } : Jvm.MethodName)) ∈ lw_all := lw_g (lw_at lw_m8 5 rfl) rfl
theorem q1742 : (Jvm.Cond.code ({ cls := "DuskGatesModel", name := "numberFor", desc := "(III)I" } : Jvm.MethodName) prog_17_method_33_code (5 : Nat) (Option.some Jvm.ClassFile.FieldType.int)) ∈ lw_all := lw_g (lw_at lw_m8 6 rfl) rfl
theorem q1743 : (Jvm.Cond.methodLink "DuskGatesModel" (254 : Nat) ({ cls := "DuskGatesModel", name := "lawFor", desc := "(IIII)I" } : Jvm.MethodName)) ∈ lw_all := lw_g (lw_at lw_m8 7 rfl) rfl
theorem q1744 : (Jvm.Cond.privateMethod ({ cls := "DuskGatesModel", name := "lawFor", desc := "(IIII)I" } : Jvm.MethodName)) ∈ lw_tbl := lw_at lw_m8 8 rfl
theorem q1745 : (Jvm.Cond.instanceMethod ({ cls := "DuskGatesModel", name := "lawFor", desc := "(IIII)I" } : Jvm.MethodName)) ∈ lw_all := lw_g (lw_at lw_m8 9 rfl) rfl
theorem q1746 : (Jvm.Cond.code ({ cls := "DuskGatesModel", name := "lawFor", desc := "(IIII)I" } : Jvm.MethodName) prog_17_method_32_code (8 : Nat) (Option.some Jvm.ClassFile.FieldType.int)) ∈ lw_all := lw_g (lw_at lw_m8 10 rfl) rfl
theorem q1747 : (Jvm.Cond.constantLong "DuskGatesModel" (265 : Nat) (10 : Int64)) ∈ lw_all := lw_g (lw_at lw_m8 11 rfl) rfl
theorem q1748 : (Jvm.Cond.constantLong "DuskGatesModel" (267 : Nat) (17 : Int64)) ∈ lw_all := lw_g (lw_at lw_m8 12 rfl) rfl
theorem q1749 : (Jvm.Cond.constantLong "DuskGatesModel" (269 : Nat) (20 : Int64)) ∈ lw_all := lw_g (lw_at lw_m8 13 rfl) rfl
theorem q1750 : (Jvm.Cond.constantLong "DuskGatesModel" (271 : Nat) (27 : Int64)) ∈ lw_all := lw_g (lw_at lw_m8 14 rfl) rfl
theorem q1751 : (Jvm.Cond.constantLong "DuskGatesModel" (273 : Nat) (30 : Int64)) ∈ lw_all := lw_g (lw_at lw_m8 15 rfl) rfl
theorem q1752 : (Jvm.Cond.constantLong "DuskGatesModel" (275 : Nat) (37 : Int64)) ∈ lw_all := lw_g (lw_at lw_m8 16 rfl) rfl
theorem q1753 : (Jvm.Cond.methodLink "DuskGatesModel" (277 : Nat) ({ cls := "DuskGatesModel", name := "isGood", desc := "(II)Z" } : Jvm.MethodName)) ∈ lw_all := lw_g (lw_at lw_m8 17 rfl) rfl
theorem q1754 : (Jvm.Cond.privateMethod ({ cls := "DuskGatesModel", name := "isGood", desc := "(II)Z" } : Jvm.MethodName)) ∈ lw_tbl := lw_at lw_m8 18 rfl
theorem q1755 : (Jvm.Cond.instanceMethod ({ cls := "DuskGatesModel", name := "isGood", desc := "(II)Z" } : Jvm.MethodName)) ∈ lw_all := lw_g (lw_at lw_m8 19 rfl) rfl
theorem q1756 : (Jvm.Cond.code ({ cls := "DuskGatesModel", name := "isGood", desc := "(II)Z" } : Jvm.MethodName) prog_17_method_34_code (4 : Nat) (Option.some Jvm.ClassFile.FieldType.boolean)) ∈ lw_all := lw_g (lw_at lw_m8 20 rfl) rfl
theorem q1757 : (Jvm.Cond.constantLong "DuskGatesModel" (280 : Nat) (40 : Int64)) ∈ lw_all := lw_g (lw_at lw_m8 21 rfl) rfl
theorem q1758 : (Jvm.Cond.constantLong "DuskGatesModel" (282 : Nat) (51 : Int64)) ∈ lw_all := lw_g (lw_at lw_m8 22 rfl) rfl
theorem q1759 : (Jvm.Cond.methodLink "DuskGatesModel" (284 : Nat) ({ cls := "DuskGatesModel", name := "isBanned", desc := "(II)Z" } : Jvm.MethodName)) ∈ lw_all := lw_g (lw_at lw_m8 23 rfl) rfl
theorem q1760 : (Jvm.Cond.privateMethod ({ cls := "DuskGatesModel", name := "isBanned", desc := "(II)Z" } : Jvm.MethodName)) ∈ lw_tbl := lw_at lw_m8 24 rfl
theorem q1761 : (Jvm.Cond.instanceMethod ({ cls := "DuskGatesModel", name := "isBanned", desc := "(II)Z" } : Jvm.MethodName)) ∈ lw_all := lw_g (lw_at lw_m8 25 rfl) rfl
theorem q1762 : (Jvm.Cond.code ({ cls := "DuskGatesModel", name := "isBanned", desc := "(II)Z" } : Jvm.MethodName) prog_17_method_35_code (4 : Nat) (Option.some Jvm.ClassFile.FieldType.boolean)) ∈ lw_all := lw_g (lw_at lw_m8 26 rfl) rfl
theorem q1764 : (Jvm.Cond.instanceMethod ({ cls := "DuskGatesModel", name := "cart", desc := "(II)I" } : Jvm.MethodName)) ∈ lw_all := lw_g (lw_at lw_m8 28 rfl) rfl
theorem q1765 : (Jvm.Cond.selects "DuskGatesModel" ({ cls := "DuskGatesModel", name := "cart", desc := "(II)I" } : Jvm.MethodName) ({ cls := "DuskGatesModel", name := "cart", desc := "(II)I" } : Jvm.MethodName)) ∈ lw_all := lw_g (lw_at lw_m8 29 rfl) rfl
theorem q1766 : (Jvm.Cond.code ({ cls := "DuskGatesModel", name := "cart", desc := "(II)I" } : Jvm.MethodName) prog_17_method_37_code (6 : Nat) (Option.some Jvm.ClassFile.FieldType.int)) ∈ lw_all := lw_g (lw_at lw_m8 30 rfl) rfl
theorem q1767 : (Jvm.Cond.methodLink "DuskGatesModel" (290 : Nat) ({ cls := "DuskGatesModel", name := "lookItems", desc := "(III)I" } : Jvm.MethodName)) ∈ lw_all := lw_g (lw_at lw_m8 31 rfl) rfl
theorem q1768 : (Jvm.Cond.privateMethod ({ cls := "DuskGatesModel", name := "lookItems", desc := "(III)I" } : Jvm.MethodName)) ∈ lw_tbl := lw_at lw_m8 32 rfl
theorem q1769 : (Jvm.Cond.instanceMethod ({ cls := "DuskGatesModel", name := "lookItems", desc := "(III)I" } : Jvm.MethodName)) ∈ lw_all := lw_g (lw_at lw_m8 33 rfl) rfl
theorem q1770 : (Jvm.Cond.code ({ cls := "DuskGatesModel", name := "lookItems", desc := "(III)I" } : Jvm.MethodName) prog_17_method_10_code (4 : Nat) (Option.some Jvm.ClassFile.FieldType.int)) ∈ lw_all := lw_g (lw_at lw_m8 34 rfl) rfl
theorem q1771 : (Jvm.Cond.constantLong "DuskGatesModel" (293 : Nat) (4 : Int64)) ∈ lw_all := lw_g (lw_at lw_m8 35 rfl) rfl
theorem q1772 : (Jvm.Cond.constantLong "DuskGatesModel" (295 : Nat) (99 : Int64)) ∈ lw_all := lw_g (lw_at lw_m8 36 rfl) rfl
theorem q1774 : (Jvm.Cond.instanceMethod ({ cls := "DuskGatesModel", name := "owed", desc := "(III)I" } : Jvm.MethodName)) ∈ lw_all := lw_g (lw_at lw_m8 38 rfl) rfl
theorem q1775 : (Jvm.Cond.selects "DuskGatesModel" ({ cls := "DuskGatesModel", name := "owed", desc := "(III)I" } : Jvm.MethodName) ({ cls := "DuskGatesModel", name := "owed", desc := "(III)I" } : Jvm.MethodName)) ∈ lw_all := lw_g (lw_at lw_m8 39 rfl) rfl
theorem q1776 : (Jvm.Cond.code ({ cls := "DuskGatesModel", name := "owed", desc := "(III)I" } : Jvm.MethodName) prog_17_method_40_code (6 : Nat) (Option.some Jvm.ClassFile.FieldType.int)) ∈ lw_all := lw_g (lw_at lw_m8 40 rfl) rfl
theorem q1777 : (Jvm.Cond.methodLink "DuskGatesModel" (297 : Nat) ({ cls := "DuskGatesModel", name := "isCart", desc := "(I)Z" } : Jvm.MethodName)) ∈ lw_all := lw_g (lw_at lw_m8 41 rfl) rfl
theorem q1778 : (Jvm.Cond.privateMethod ({ cls := "DuskGatesModel", name := "isCart", desc := "(I)Z" } : Jvm.MethodName)) ∈ lw_tbl := lw_at lw_m8 42 rfl
theorem q1779 : (Jvm.Cond.instanceMethod ({ cls := "DuskGatesModel", name := "isCart", desc := "(I)Z" } : Jvm.MethodName)) ∈ lw_all := lw_g (lw_at lw_m8 43 rfl) rfl
theorem q1780 : (Jvm.Cond.code ({ cls := "DuskGatesModel", name := "isCart", desc := "(I)Z" } : Jvm.MethodName) prog_17_method_38_code (2 : Nat) (Option.some Jvm.ClassFile.FieldType.boolean)) ∈ lw_all := lw_g (lw_at lw_m8 44 rfl) rfl
theorem q1781 : (Jvm.Cond.methodLink "DuskGatesModel" (300 : Nat) ({ cls := "DuskGatesModel", name := "owedBy", desc := "(III)I" } : Jvm.MethodName)) ∈ lw_all := lw_g (lw_at lw_m8 45 rfl) rfl
theorem q1782 : (Jvm.Cond.privateMethod ({ cls := "DuskGatesModel", name := "owedBy", desc := "(III)I" } : Jvm.MethodName)) ∈ lw_tbl := lw_at lw_m8 46 rfl
theorem q1783 : (Jvm.Cond.instanceMethod ({ cls := "DuskGatesModel", name := "owedBy", desc := "(III)I" } : Jvm.MethodName)) ∈ lw_all := lw_g (lw_at lw_m8 47 rfl) rfl
theorem q1784 : (Jvm.Cond.code ({ cls := "DuskGatesModel", name := "owedBy", desc := "(III)I" } : Jvm.MethodName) prog_17_method_39_code (7 : Nat) (Option.some Jvm.ClassFile.FieldType.int)) ∈ lw_all := lw_g (lw_at lw_m8 48 rfl) rfl
theorem q1786 : (Jvm.Cond.instanceMethod ({ cls := "DuskGatesModel", name := "pass", desc := "(IIIIII)I" } : Jvm.MethodName)) ∈ lw_all := lw_g (lw_at lw_m8 50 rfl) rfl
theorem q1787 : (Jvm.Cond.selects "DuskGatesModel" ({ cls := "DuskGatesModel", name := "pass", desc := "(IIIIII)I" } : Jvm.MethodName) ({ cls := "DuskGatesModel", name := "pass", desc := "(IIIIII)I" } : Jvm.MethodName)) ∈ lw_all := lw_g (lw_at lw_m8 51 rfl) rfl
theorem q1788 : (Jvm.Cond.code ({ cls := "DuskGatesModel", name := "pass", desc := "(IIIIII)I" } : Jvm.MethodName) prog_17_method_41_code (7 : Nat) (Option.some Jvm.ClassFile.FieldType.int)) ∈ lw_all := lw_g (lw_at lw_m8 52 rfl) rfl
theorem q1789 : (Jvm.Cond.constantLong "DuskGatesModel" (303 : Nat) (100000 : Int64)) ∈ lw_all := lw_g (lw_at lw_m8 53 rfl) rfl
theorem q1791 : (Jvm.Cond.instanceMethod ({ cls := "DuskGatesModel", name := "agree", desc := "(I)I" } : Jvm.MethodName)) ∈ lw_all := lw_g (lw_at lw_m8 55 rfl) rfl
theorem q1792 : (Jvm.Cond.selects "DuskGatesModel" ({ cls := "DuskGatesModel", name := "agree", desc := "(I)I" } : Jvm.MethodName) ({ cls := "DuskGatesModel", name := "agree", desc := "(I)I" } : Jvm.MethodName)) ∈ lw_all := lw_g (lw_at lw_m8 56 rfl) rfl
theorem q1793 : (Jvm.Cond.code ({ cls := "DuskGatesModel", name := "agree", desc := "(I)I" } : Jvm.MethodName) prog_17_method_43_code (2 : Nat) (Option.some Jvm.ClassFile.FieldType.int)) ∈ lw_all := lw_g (lw_at lw_m8 57 rfl) rfl
theorem q1794 : (Jvm.Cond.methodLink "DuskGatesModel" (320 : Nat) ({ cls := "DuskGatesModel", name := "goThrough", desc := "()V" } : Jvm.MethodName)) ∈ lw_all := lw_g (lw_at lw_m8 58 rfl) rfl
theorem q1795 : (Jvm.Cond.privateMethod ({ cls := "DuskGatesModel", name := "goThrough", desc := "()V" } : Jvm.MethodName)) ∈ lw_tbl := lw_at lw_m8 59 rfl
theorem q1796 : (Jvm.Cond.instanceMethod ({ cls := "DuskGatesModel", name := "goThrough", desc := "()V" } : Jvm.MethodName)) ∈ lw_all := lw_g (lw_at lw_m8 60 rfl) rfl
theorem q1797 : (Jvm.Cond.code ({ cls := "DuskGatesModel", name := "goThrough", desc := "()V" } : Jvm.MethodName) prog_17_method_42_code (10 : Nat) (Option.none : Option Jvm.ClassFile.FieldType)) ∈ lw_all := lw_g (lw_at lw_m8 61 rfl) rfl
theorem q1798 : (Jvm.Cond.methodLink "DuskGatesModel" (317 : Nat) ({ cls := "DuskGatesModel", name := "isOpen", desc := "(II)Z" } : Jvm.MethodName)) ∈ lw_all := lw_g (lw_at lw_m8 62 rfl) rfl
theorem q1799 : (Jvm.Cond.privateMethod ({ cls := "DuskGatesModel", name := "isOpen", desc := "(II)Z" } : Jvm.MethodName)) ∈ lw_tbl := lw_at lw_m8 63 rfl
theorem q1800 : (Jvm.Cond.instanceMethod ({ cls := "DuskGatesModel", name := "isOpen", desc := "(II)Z" } : Jvm.MethodName)) ∈ lw_all := lw_g (lw_at lw_m8 64 rfl) rfl
theorem q1801 : (Jvm.Cond.code ({ cls := "DuskGatesModel", name := "isOpen", desc := "(II)Z" } : Jvm.MethodName) prog_17_method_18_code (3 : Nat) (Option.some Jvm.ClassFile.FieldType.boolean)) ∈ lw_all := lw_g (lw_at lw_m8 65 rfl) rfl
theorem q1803 : (Jvm.Cond.instanceMethod ({ cls := "DuskGatesModel", name := "amiss", desc := "(III)I" } : Jvm.MethodName)) ∈ lw_all := lw_g (lw_at lw_m8 67 rfl) rfl
theorem q1804 : (Jvm.Cond.selects "DuskGatesModel" ({ cls := "DuskGatesModel", name := "amiss", desc := "(III)I" } : Jvm.MethodName) ({ cls := "DuskGatesModel", name := "amiss", desc := "(III)I" } : Jvm.MethodName)) ∈ lw_all := lw_g (lw_at lw_m8 68 rfl) rfl
theorem q1805 : (Jvm.Cond.code ({ cls := "DuskGatesModel", name := "amiss", desc := "(III)I" } : Jvm.MethodName) prog_17_method_44_code (7 : Nat) (Option.some Jvm.ClassFile.FieldType.int)) ∈ lw_all := lw_g (lw_at lw_m8 69 rfl) rfl
theorem q1807 : (Jvm.Cond.instanceMethod ({ cls := "DuskGatesModel", name := "road", desc := "(III)I" } : Jvm.MethodName)) ∈ lw_all := lw_g (lw_at lw_m8 71 rfl) rfl
theorem q1808 : (Jvm.Cond.selects "DuskGatesModel" ({ cls := "DuskGatesModel", name := "road", desc := "(III)I" } : Jvm.MethodName) ({ cls := "DuskGatesModel", name := "road", desc := "(III)I" } : Jvm.MethodName)) ∈ lw_all := lw_g (lw_at lw_m8 72 rfl) rfl
theorem q1809 : (Jvm.Cond.code ({ cls := "DuskGatesModel", name := "road", desc := "(III)I" } : Jvm.MethodName) prog_17_method_47_code (6 : Nat) (Option.some Jvm.ClassFile.FieldType.int)) ∈ lw_all := lw_g (lw_at lw_m8 73 rfl) rfl
theorem q1810 : (Jvm.Cond.methodLink "DuskGatesModel" (325 : Nat) ({ cls := "DuskGatesModel", name := "isTown", desc := "(I)Z" } : Jvm.MethodName)) ∈ lw_all := lw_g (lw_at lw_m8 74 rfl) rfl
theorem q1811 : (Jvm.Cond.static ({ cls := "DuskGatesModel", name := "isTown", desc := "(I)Z" } : Jvm.MethodName)) ∈ lw_all := lw_g (lw_at lw_m8 75 rfl) rfl
theorem q1812 : (Jvm.Cond.code ({ cls := "DuskGatesModel", name := "isTown", desc := "(I)Z" } : Jvm.MethodName) prog_17_method_45_code (1 : Nat) (Option.some Jvm.ClassFile.FieldType.boolean)) ∈ lw_all := lw_g (lw_at lw_m8 76 rfl) rfl
theorem q1813 : (Jvm.Cond.constantLong "DuskGatesModel" (328 : Nat) (60 : Int64)) ∈ lw_all := lw_g (lw_at lw_m8 77 rfl) rfl
theorem q1815 : (Jvm.Cond.instanceMethod ({ cls := "DuskGatesModel", name := "sick", desc := "(III)I" } : Jvm.MethodName)) ∈ lw_all := lw_g (lw_at lw_m8 79 rfl) rfl
theorem q1816 : (Jvm.Cond.selects "DuskGatesModel" ({ cls := "DuskGatesModel", name := "sick", desc := "(III)I" } : Jvm.MethodName) ({ cls := "DuskGatesModel", name := "sick", desc := "(III)I" } : Jvm.MethodName)) ∈ lw_all := lw_g (lw_at lw_m8 80 rfl) rfl
theorem q1817 : (Jvm.Cond.code ({ cls := "DuskGatesModel", name := "sick", desc := "(III)I" } : Jvm.MethodName) prog_17_method_48_code (4 : Nat) (Option.some Jvm.ClassFile.FieldType.int)) ∈ lw_all := lw_g (lw_at lw_m8 81 rfl) rfl
theorem q1819 : (Jvm.Cond.instanceMethod ({ cls := "DuskGatesModel", name := "seal", desc := "(II)I" } : Jvm.MethodName)) ∈ lw_all := lw_g (lw_at lw_m8 83 rfl) rfl
theorem q1820 : (Jvm.Cond.selects "DuskGatesModel" ({ cls := "DuskGatesModel", name := "seal", desc := "(II)I" } : Jvm.MethodName) ({ cls := "DuskGatesModel", name := "seal", desc := "(II)I" } : Jvm.MethodName)) ∈ lw_all := lw_g (lw_at lw_m8 84 rfl) rfl
theorem q1821 : (Jvm.Cond.code ({ cls := "DuskGatesModel", name := "seal", desc := "(II)I" } : Jvm.MethodName) prog_17_method_49_code (6 : Nat) (Option.some Jvm.ClassFile.FieldType.int)) ∈ lw_all := lw_g (lw_at lw_m8 85 rfl) rfl
theorem q1822 : (Jvm.Cond.constantLong "DuskGatesModel" (336 : Nat) (3 : Int64)) ∈ lw_all := lw_g (lw_at lw_m8 86 rfl) rfl
theorem q1823 : (Jvm.Cond.methodLink "DuskGatesModel" (338 : Nat) ({ cls := "DuskGatesModel", name := "isPerson", desc := "(I)Z" } : Jvm.MethodName)) ∈ lw_all := lw_g (lw_at lw_m8 87 rfl) rfl
theorem q1824 : (Jvm.Cond.static ({ cls := "DuskGatesModel", name := "isPerson", desc := "(I)Z" } : Jvm.MethodName)) ∈ lw_all := lw_g (lw_at lw_m8 88 rfl) rfl
theorem q1825 : (Jvm.Cond.code ({ cls := "DuskGatesModel", name := "isPerson", desc := "(I)Z" } : Jvm.MethodName) prog_17_method_46_code (1 : Nat) (Option.some Jvm.ClassFile.FieldType.boolean)) ∈ lw_all := lw_g (lw_at lw_m8 89 rfl) rfl
theorem q1826 : (Jvm.Cond.constantLong "DuskGatesModel" (323 : Nat) (11 : Int64)) ∈ lw_all := lw_g (lw_at lw_m8 90 rfl) rfl
theorem q1827 : (Jvm.Cond.constantLong "DuskGatesModel" (341 : Nat) (9 : Int64)) ∈ lw_all := lw_g (lw_at lw_m8 91 rfl) rfl
theorem q1829 : (Jvm.Cond.instanceMethod ({ cls := "DuskGatesModel", name := "canbe", desc := "(I)I" } : Jvm.MethodName)) ∈ lw_all := lw_g (lw_at lw_m8 93 rfl) rfl
theorem q1830 : (Jvm.Cond.selects "DuskGatesModel" ({ cls := "DuskGatesModel", name := "canbe", desc := "(I)I" } : Jvm.MethodName) ({ cls := "DuskGatesModel", name := "canbe", desc := "(I)I" } : Jvm.MethodName)) ∈ lw_all := lw_g (lw_at lw_m8 94 rfl) rfl
theorem q1831 : (Jvm.Cond.code ({ cls := "DuskGatesModel", name := "canbe", desc := "(I)I" } : Jvm.MethodName) prog_17_method_54_code (7 : Nat) (Option.some Jvm.ClassFile.FieldType.int)) ∈ lw_all := lw_g (lw_at lw_m8 95 rfl) rfl
theorem q1832 : (Jvm.Cond.methodLink "DuskGatesModel" (343 : Nat) ({ cls := "DuskGatesModel", name := "on", desc := "(II)I" } : Jvm.MethodName)) ∈ lw_all := lw_g (lw_at lw_m8 96 rfl) rfl
theorem q1833 : (Jvm.Cond.privateMethod ({ cls := "DuskGatesModel", name := "on", desc := "(II)I" } : Jvm.MethodName)) ∈ lw_tbl := lw_at lw_m8 97 rfl
theorem q1834 : (Jvm.Cond.instanceMethod ({ cls := "DuskGatesModel", name := "on", desc := "(II)I" } : Jvm.MethodName)) ∈ lw_all := lw_g (lw_at lw_m8 98 rfl) rfl
theorem q1835 : (Jvm.Cond.code ({ cls := "DuskGatesModel", name := "on", desc := "(II)I" } : Jvm.MethodName) prog_17_method_51_code (3 : Nat) (Option.some Jvm.ClassFile.FieldType.int)) ∈ lw_all := lw_g (lw_at lw_m8 99 rfl) rfl
theorem q1837 : (Jvm.Cond.instanceMethod ({ cls := "DuskGatesModel", name := "lets", desc := "(IIII)I" } : Jvm.MethodName)) ∈ lw_all := lw_g (lw_at lw_m8 101 rfl) rfl
theorem q1838 : (Jvm.Cond.selects "DuskGatesModel" ({ cls := "DuskGatesModel", name := "lets", desc := "(IIII)I" } : Jvm.MethodName) ({ cls := "DuskGatesModel", name := "lets", desc := "(IIII)I" } : Jvm.MethodName)) ∈ lw_all := lw_g (lw_at lw_m8 102 rfl) rfl
theorem q1839 : (Jvm.Cond.code ({ cls := "DuskGatesModel", name := "lets", desc := "(IIII)I" } : Jvm.MethodName) prog_17_method_55_code (6 : Nat) (Option.some Jvm.ClassFile.FieldType.int)) ∈ lw_all := lw_g (lw_at lw_m8 103 rfl) rfl
theorem q1840 : (Jvm.Cond.methodLink "DuskGatesModel" (353 : Nat) ({ cls := "DuskGatesModel", name := "isPass", desc := "(I)Z" } : Jvm.MethodName)) ∈ lw_all := lw_g (lw_at lw_m8 104 rfl) rfl
theorem q1841 : (Jvm.Cond.privateMethod ({ cls := "DuskGatesModel", name := "isPass", desc := "(I)Z" } : Jvm.MethodName)) ∈ lw_tbl := lw_at lw_m8 105 rfl
theorem q1842 : (Jvm.Cond.instanceMethod ({ cls := "DuskGatesModel", name := "isPass", desc := "(I)Z" } : Jvm.MethodName)) ∈ lw_all := lw_g (lw_at lw_m8 106 rfl) rfl
theorem q1843 : (Jvm.Cond.code ({ cls := "DuskGatesModel", name := "isPass", desc := "(I)Z" } : Jvm.MethodName) prog_17_method_50_code (2 : Nat) (Option.some Jvm.ClassFile.FieldType.boolean)) ∈ lw_all := lw_g (lw_at lw_m8 107 rfl) rfl
theorem q1844 : (Jvm.Cond.methodLink "DuskGatesModel" (350 : Nat) ({ cls := "DuskGatesModel", name := "isForged", desc := "(II)Z" } : Jvm.MethodName)) ∈ lw_all := lw_g (lw_at lw_m8 108 rfl) rfl
theorem q1845 : (Jvm.Cond.privateMethod ({ cls := "DuskGatesModel", name := "isForged", desc := "(II)Z" } : Jvm.MethodName)) ∈ lw_tbl := lw_at lw_m8 109 rfl
theorem q1846 : (Jvm.Cond.instanceMethod ({ cls := "DuskGatesModel", name := "isForged", desc := "(II)Z" } : Jvm.MethodName)) ∈ lw_all := lw_g (lw_at lw_m8 110 rfl) rfl
theorem q1847 : (Jvm.Cond.code ({ cls := "DuskGatesModel", name := "isForged", desc := "(II)Z" } : Jvm.MethodName) prog_17_method_52_code (5 : Nat) (Option.some Jvm.ClassFile.FieldType.boolean)) ∈ lw_all := lw_g (lw_at lw_m8 111 rfl) rfl
theorem q1849 : (Jvm.Cond.instanceMethod ({ cls := "DuskGatesModel", name := "dusk", desc := "(IIII)I" } : Jvm.MethodName)) ∈ lw_all := lw_g (lw_at lw_m8 113 rfl) rfl
theorem q1850 : (Jvm.Cond.selects "DuskGatesModel" ({ cls := "DuskGatesModel", name := "dusk", desc := "(IIII)I" } : Jvm.MethodName) ({ cls := "DuskGatesModel", name := "dusk", desc := "(IIII)I" } : Jvm.MethodName)) ∈ lw_all := lw_g (lw_at lw_m8 114 rfl) rfl
theorem q1851 : (Jvm.Cond.code ({ cls := "DuskGatesModel", name := "dusk", desc := "(IIII)I" } : Jvm.MethodName) prog_17_method_57_code (9 : Nat) (Option.some Jvm.ClassFile.FieldType.int)) ∈ lw_all := lw_g (lw_at lw_m8 115 rfl) rfl
theorem q1852 : (Jvm.Cond.methodLink "DuskGatesModel" (356 : Nat) ({ cls := "DuskGatesModel", name := "far", desc := "(II)I" } : Jvm.MethodName)) ∈ lw_all := lw_g (lw_at lw_m8 116 rfl) rfl
theorem q1853 : (Jvm.Cond.static ({ cls := "DuskGatesModel", name := "far", desc := "(II)I" } : Jvm.MethodName)) ∈ lw_all := lw_g (lw_at lw_m8 117 rfl) rfl
theorem q1854 : (Jvm.Cond.code ({ cls := "DuskGatesModel", name := "far", desc := "(II)I" } : Jvm.MethodName) prog_17_method_56_code (2 : Nat) (Option.some Jvm.ClassFile.FieldType.int)) ∈ lw_all := lw_g (lw_at lw_m8 118 rfl) rfl
theorem q1856 : (Jvm.Cond.instanceMethod ({ cls := "DuskGatesModel", name := "clerks", desc := "(IIIIII)I" } : Jvm.MethodName)) ∈ lw_all := lw_g (lw_at lw_m8 120 rfl) rfl
theorem q1857 : (Jvm.Cond.selects "DuskGatesModel" ({ cls := "DuskGatesModel", name := "clerks", desc := "(IIIIII)I" } : Jvm.MethodName) ({ cls := "DuskGatesModel", name := "clerks", desc := "(IIIIII)I" } : Jvm.MethodName)) ∈ lw_all := lw_g (lw_at lw_m8 121 rfl) rfl
theorem q1858 : (Jvm.Cond.code ({ cls := "DuskGatesModel", name := "clerks", desc := "(IIIIII)I" } : Jvm.MethodName) prog_17_method_59_code (15 : Nat) (Option.some Jvm.ClassFile.FieldType.int)) ∈ lw_all := lw_g (lw_at lw_m8 122 rfl) rfl
theorem q1859 : (Jvm.Cond.methodLink "DuskGatesModel" (359 : Nat) ({ cls := "DuskGatesModel", name := "waitedAt", desc := "(IIIII)I" } : Jvm.MethodName)) ∈ lw_all := lw_g (lw_at lw_m8 123 rfl) rfl
theorem q1860 : (Jvm.Cond.privateMethod ({ cls := "DuskGatesModel", name := "waitedAt", desc := "(IIIII)I" } : Jvm.MethodName)) ∈ lw_tbl := lw_at lw_m8 124 rfl
theorem q1861 : (Jvm.Cond.instanceMethod ({ cls := "DuskGatesModel", name := "waitedAt", desc := "(IIIII)I" } : Jvm.MethodName)) ∈ lw_all := lw_g (lw_at lw_m8 125 rfl) rfl
theorem q1862 : (Jvm.Cond.code ({ cls := "DuskGatesModel", name := "waitedAt", desc := "(IIIII)I" } : Jvm.MethodName) prog_17_method_58_code (13 : Nat) (Option.some Jvm.ClassFile.FieldType.int)) ∈ lw_all := lw_g (lw_at lw_m8 126 rfl) rfl
theorem q1864 : (Jvm.Cond.instanceMethod ({ cls := "DuskGatesModel", name := "guest", desc := "(IIII)I" } : Jvm.MethodName)) ∈ lw_all := lw_g (lw_at lw_m8 128 rfl) rfl
theorem q1865 : (Jvm.Cond.selects "DuskGatesModel" ({ cls := "DuskGatesModel", name := "guest", desc := "(IIII)I" } : Jvm.MethodName) ({ cls := "DuskGatesModel", name := "guest", desc := "(IIII)I" } : Jvm.MethodName)) ∈ lw_all := lw_g (lw_at lw_m8 129 rfl) rfl
theorem q1866 : (Jvm.Cond.code ({ cls := "DuskGatesModel", name := "guest", desc := "(IIII)I" } : Jvm.MethodName) prog_17_method_60_code (5 : Nat) (Option.some Jvm.ClassFile.FieldType.int)) ∈ lw_all := lw_g (lw_at lw_m8 130 rfl) rfl
theorem q1868 : (Jvm.Cond.instanceMethod ({ cls := "DuskGatesModel", name := "fell", desc := "(II)I" } : Jvm.MethodName)) ∈ lw_all := lw_g (lw_at lw_m8 132 rfl) rfl
theorem q1869 : (Jvm.Cond.selects "DuskGatesModel" ({ cls := "DuskGatesModel", name := "fell", desc := "(II)I" } : Jvm.MethodName) ({ cls := "DuskGatesModel", name := "fell", desc := "(II)I" } : Jvm.MethodName)) ∈ lw_all := lw_g (lw_at lw_m8 133 rfl) rfl
theorem q1870 : (Jvm.Cond.code ({ cls := "DuskGatesModel", name := "fell", desc := "(II)I" } : Jvm.MethodName) prog_17_method_61_code (3 : Nat) (Option.some Jvm.ClassFile.FieldType.int)) ∈ lw_all := lw_g (lw_at lw_m8 134 rfl) rfl
theorem q1872 : (Jvm.Cond.instanceMethod ({ cls := "DuskGatesModel", name := "brought", desc := "(I)I" } : Jvm.MethodName)) ∈ lw_all := lw_g (lw_at lw_m8 136 rfl) rfl
theorem q1873 : (Jvm.Cond.selects "DuskGatesModel" ({ cls := "DuskGatesModel", name := "brought", desc := "(I)I" } : Jvm.MethodName) ({ cls := "DuskGatesModel", name := "brought", desc := "(I)I" } : Jvm.MethodName)) ∈ lw_all := lw_g (lw_at lw_m8 137 rfl) rfl
theorem q1874 : (Jvm.Cond.code ({ cls := "DuskGatesModel", name := "brought", desc := "(I)I" } : Jvm.MethodName) prog_17_method_64_code (8 : Nat) (Option.some Jvm.ClassFile.FieldType.int)) ∈ lw_all := lw_g (lw_at lw_m8 138 rfl) rfl
theorem q1875 : (Jvm.Cond.methodLink "DuskGatesModel" (366 : Nat) ({ cls := "DuskGatesModel", name := "whoMay", desc := "(I)I" } : Jvm.MethodName)) ∈ lw_all := lw_g (lw_at lw_m8 139 rfl) rfl
theorem q1876 : (Jvm.Cond.privateMethod ({ cls := "DuskGatesModel", name := "whoMay", desc := "(I)I" } : Jvm.MethodName)) ∈ lw_tbl := lw_at lw_m8 140 rfl
theorem q1877 : (Jvm.Cond.instanceMethod ({ cls := "DuskGatesModel", name := "whoMay", desc := "(I)I" } : Jvm.MethodName)) ∈ lw_all := lw_g (lw_at lw_m8 141 rfl) rfl
theorem q1878 : (Jvm.Cond.code ({ cls := "DuskGatesModel", name := "whoMay", desc := "(I)I" } : Jvm.MethodName) prog_17_method_63_code (5 : Nat) (Option.some Jvm.ClassFile.FieldType.int)) ∈ lw_all := lw_g (lw_at lw_m8 142 rfl) rfl
theorem q1879 : (Jvm.Cond.methodLink "DuskGatesModel" (369 : Nat) ({ cls := "DuskGatesModel", name := "bits", desc := "(I)I" } : Jvm.MethodName)) ∈ lw_all := lw_g (lw_at lw_m8 143 rfl) rfl
theorem q1880 : (Jvm.Cond.static ({ cls := "DuskGatesModel", name := "bits", desc := "(I)I" } : Jvm.MethodName)) ∈ lw_all := lw_g (lw_at lw_m8 144 rfl) rfl
theorem q1881 : (Jvm.Cond.code ({ cls := "DuskGatesModel", name := "bits", desc := "(I)I" } : Jvm.MethodName) prog_17_method_62_code (3 : Nat) (Option.some Jvm.ClassFile.FieldType.int)) ∈ lw_all := lw_g (lw_at lw_m8 145 rfl) rfl
theorem q1883 : (Jvm.Cond.instanceMethod ({ cls := "DuskGatesModel", name := "high", desc := "(II)I" } : Jvm.MethodName)) ∈ lw_all := lw_g (lw_at lw_m8 147 rfl) rfl
theorem q1884 : (Jvm.Cond.selects "DuskGatesModel" ({ cls := "DuskGatesModel", name := "high", desc := "(II)I" } : Jvm.MethodName) ({ cls := "DuskGatesModel", name := "high", desc := "(II)I" } : Jvm.MethodName)) ∈ lw_all := lw_g (lw_at lw_m8 148 rfl) rfl
theorem q1885 : (Jvm.Cond.code ({ cls := "DuskGatesModel", name := "high", desc := "(II)I" } : Jvm.MethodName) prog_17_method_66_code (4 : Nat) (Option.some Jvm.ClassFile.FieldType.int)) ∈ lw_all := lw_g (lw_at lw_m8 149 rfl) rfl
theorem q1886 : (Jvm.Cond.methodLink "DuskGatesModel" (372 : Nat) ({ cls := "DuskGatesModel", name := "isLength", desc := "(I)Z" } : Jvm.MethodName)) ∈ lw_all := lw_g (lw_at lw_m8 150 rfl) rfl
theorem q1887 : (Jvm.Cond.static ({ cls := "DuskGatesModel", name := "isLength", desc := "(I)Z" } : Jvm.MethodName)) ∈ lw_all := lw_g (lw_at lw_m8 151 rfl) rfl
theorem q1888 : (Jvm.Cond.code ({ cls := "DuskGatesModel", name := "isLength", desc := "(I)Z" } : Jvm.MethodName) prog_17_method_65_code (1 : Nat) (Option.some Jvm.ClassFile.FieldType.boolean)) ∈ lw_all := lw_g (lw_at lw_m8 152 rfl) rfl
theorem q1890 : (Jvm.Cond.instanceMethod ({ cls := "DuskGatesModel", name := "lean", desc := "(III)I" } : Jvm.MethodName)) ∈ lw_all := lw_g (lw_at lw_m8 154 rfl) rfl
theorem q1891 : (Jvm.Cond.selects "DuskGatesModel" ({ cls := "DuskGatesModel", name := "lean", desc := "(III)I" } : Jvm.MethodName) ({ cls := "DuskGatesModel", name := "lean", desc := "(III)I" } : Jvm.MethodName)) ∈ lw_all := lw_g (lw_at lw_m8 155 rfl) rfl
theorem q1892 : (Jvm.Cond.code ({ cls := "DuskGatesModel", name := "lean", desc := "(III)I" } : Jvm.MethodName) prog_17_method_67_code (4 : Nat) (Option.some Jvm.ClassFile.FieldType.int)) ∈ lw_all := lw_g (lw_at lw_m8 156 rfl) rfl
theorem q1894 : (Jvm.Cond.instanceMethod ({ cls := "DuskGatesModel", name := "breaches", desc := "()I" } : Jvm.MethodName)) ∈ lw_all := lw_g (lw_at lw_m8 158 rfl) rfl
theorem q1895 : (Jvm.Cond.selects "DuskGatesModel" ({ cls := "DuskGatesModel", name := "breaches", desc := "()I" } : Jvm.MethodName) ({ cls := "DuskGatesModel", name := "breaches", desc := "()I" } : Jvm.MethodName)) ∈ lw_all := lw_g (lw_at lw_m8 159 rfl) rfl
theorem q1896 : (Jvm.Cond.code ({ cls := "DuskGatesModel", name := "breaches", desc := "()I" } : Jvm.MethodName) prog_17_method_69_code (1 : Nat) (Option.some Jvm.ClassFile.FieldType.int)) ∈ lw_all := lw_g (lw_at lw_m8 160 rfl) rfl
theorem q1897 : (Jvm.Cond.methodLink "DuskGatesModel" (378 : Nat) ({ cls := "DuskGatesModel", name := "breachesNow", desc := "()I" } : Jvm.MethodName)) ∈ lw_all := lw_g (lw_at lw_m8 161 rfl) rfl
theorem q1898 : (Jvm.Cond.privateMethod ({ cls := "DuskGatesModel", name := "breachesNow", desc := "()I" } : Jvm.MethodName)) ∈ lw_tbl := lw_at lw_m8 162 rfl
theorem q1899 : (Jvm.Cond.instanceMethod ({ cls := "DuskGatesModel", name := "breachesNow", desc := "()I" } : Jvm.MethodName)) ∈ lw_all := lw_g (lw_at lw_m8 163 rfl) rfl
theorem q1900 : (Jvm.Cond.code ({ cls := "DuskGatesModel", name := "breachesNow", desc := "()I" } : Jvm.MethodName) prog_17_method_68_code (6 : Nat) (Option.some Jvm.ClassFile.FieldType.int)) ∈ lw_all := lw_g (lw_at lw_m8 164 rfl) rfl
theorem q1902 : (Jvm.Cond.instanceMethod ({ cls := "DuskGatesModel", name := "watch", desc := "(III)I" } : Jvm.MethodName)) ∈ lw_all := lw_g (lw_at lw_m8 166 rfl) rfl
theorem q1903 : (Jvm.Cond.selects "DuskGatesModel" ({ cls := "DuskGatesModel", name := "watch", desc := "(III)I" } : Jvm.MethodName) ({ cls := "DuskGatesModel", name := "watch", desc := "(III)I" } : Jvm.MethodName)) ∈ lw_all := lw_g (lw_at lw_m8 167 rfl) rfl
theorem q1904 : (Jvm.Cond.code ({ cls := "DuskGatesModel", name := "watch", desc := "(III)I" } : Jvm.MethodName) prog_17_method_70_code (11 : Nat) (Option.some Jvm.ClassFile.FieldType.int)) ∈ lw_all := lw_g (lw_at lw_m8 168 rfl) rfl
theorem q1905 : (Jvm.Cond.constantLong "DuskGatesModel" (381 : Nat) (12 : Int64)) ∈ lw_all := lw_g (lw_at lw_m8 169 rfl) rfl
theorem q1906 : (Jvm.Cond.constantLong "DuskGatesModel" (383 : Nat) (4095 : Int64)) ∈ lw_all := lw_g (lw_at lw_m8 170 rfl) rfl
theorem q1908 : (Jvm.Cond.instanceMethod ({ cls := "DuskGatesModel", name := "day", desc := "(I)I" } : Jvm.MethodName)) ∈ lw_all := lw_g (lw_at lw_m8 172 rfl) rfl
theorem q1909 : (Jvm.Cond.selects "DuskGatesModel" ({ cls := "DuskGatesModel", name := "day", desc := "(I)I" } : Jvm.MethodName) ({ cls := "DuskGatesModel", name := "day", desc := "(I)I" } : Jvm.MethodName)) ∈ lw_all := lw_g (lw_at lw_m8 173 rfl) rfl
theorem q1910 : (Jvm.Cond.code ({ cls := "DuskGatesModel", name := "day", desc := "(I)I" } : Jvm.MethodName) prog_17_method_71_code (3 : Nat) (Option.some Jvm.ClassFile.FieldType.int)) ∈ lw_all := lw_g (lw_at lw_m8 174 rfl) rfl
theorem q1912 : (Jvm.Cond.instanceMethod ({ cls := "DuskGatesModel", name := "kind", desc := "(I)I" } : Jvm.MethodName)) ∈ lw_all := lw_g (lw_at lw_m8 176 rfl) rfl
theorem q1913 : (Jvm.Cond.selects "DuskGatesModel" ({ cls := "DuskGatesModel", name := "kind", desc := "(I)I" } : Jvm.MethodName) ({ cls := "DuskGatesModel", name := "kind", desc := "(I)I" } : Jvm.MethodName)) ∈ lw_all := lw_g (lw_at lw_m8 177 rfl) rfl
theorem q1914 : (Jvm.Cond.code ({ cls := "DuskGatesModel", name := "kind", desc := "(I)I" } : Jvm.MethodName) prog_17_method_73_code (2 : Nat) (Option.some Jvm.ClassFile.FieldType.int)) ∈ lw_all := lw_g (lw_at lw_m8 178 rfl) rfl
theorem q1915 : (Jvm.Cond.methodLink "DuskGatesModel" (385 : Nat) ({ cls := "DuskGatesModel", name := "kindOf", desc := "(I)I" } : Jvm.MethodName)) ∈ lw_all := lw_g (lw_at lw_m8 179 rfl) rfl
theorem q1916 : (Jvm.Cond.privateMethod ({ cls := "DuskGatesModel", name := "kindOf", desc := "(I)I" } : Jvm.MethodName)) ∈ lw_tbl := lw_at lw_m8 180 rfl
theorem q1917 : (Jvm.Cond.instanceMethod ({ cls := "DuskGatesModel", name := "kindOf", desc := "(I)I" } : Jvm.MethodName)) ∈ lw_all := lw_g (lw_at lw_m8 181 rfl) rfl
theorem q1918 : (Jvm.Cond.code ({ cls := "DuskGatesModel", name := "kindOf", desc := "(I)I" } : Jvm.MethodName) prog_17_method_53_code (3 : Nat) (Option.some Jvm.ClassFile.FieldType.int)) ∈ lw_all := lw_g (lw_at lw_m8 182 rfl) rfl
theorem q1920 : (Jvm.Cond.instanceMethod ({ cls := "DuskGatesModel", name := "as", desc := "(II)I" } : Jvm.MethodName)) ∈ lw_all := lw_g (lw_at lw_m8 184 rfl) rfl
theorem q1921 : (Jvm.Cond.selects "DuskGatesModel" ({ cls := "DuskGatesModel", name := "as", desc := "(II)I" } : Jvm.MethodName) ({ cls := "DuskGatesModel", name := "as", desc := "(II)I" } : Jvm.MethodName)) ∈ lw_all := lw_g (lw_at lw_m8 185 rfl) rfl
theorem q1922 : (Jvm.Cond.code ({ cls := "DuskGatesModel", name := "as", desc := "(II)I" } : Jvm.MethodName) prog_17_method_74_code (3 : Nat) (Option.some Jvm.ClassFile.FieldType.int)) ∈ lw_all := lw_g (lw_at lw_m8 186 rfl) rfl
theorem q1923 : (Jvm.Cond.methodLink "DuskGatesModel" (388 : Nat) ({ cls := "DuskGatesModel", name := "isOf", desc := "(II)Z" } : Jvm.MethodName)) ∈ lw_all := lw_g (lw_at lw_m8 187 rfl) rfl
theorem q1924 : (Jvm.Cond.static ({ cls := "DuskGatesModel", name := "isOf", desc := "(II)Z" } : Jvm.MethodName)) ∈ lw_all := lw_g (lw_at lw_m8 188 rfl) rfl
theorem q1925 : (Jvm.Cond.code ({ cls := "DuskGatesModel", name := "isOf", desc := "(II)Z" } : Jvm.MethodName) prog_17_method_72_code (2 : Nat) (Option.some Jvm.ClassFile.FieldType.boolean)) ∈ lw_all := lw_g (lw_at lw_m8 189 rfl) rfl
theorem q1927 : (Jvm.Cond.instanceMethod ({ cls := "DuskGatesModel", name := "ask", desc := "(II)I" } : Jvm.MethodName)) ∈ lw_all := lw_g (lw_at lw_m8 191 rfl) rfl
theorem q1928 : (Jvm.Cond.selects "DuskGatesModel" ({ cls := "DuskGatesModel", name := "ask", desc := "(II)I" } : Jvm.MethodName) ({ cls := "DuskGatesModel", name := "ask", desc := "(II)I" } : Jvm.MethodName)) ∈ lw_all := lw_g (lw_at lw_m8 192 rfl) rfl
theorem q1929 : (Jvm.Cond.code ({ cls := "DuskGatesModel", name := "ask", desc := "(II)I" } : Jvm.MethodName) prog_17_method_79_code (4 : Nat) (Option.some Jvm.ClassFile.FieldType.int)) ∈ lw_all := lw_g (lw_at lw_m8 193 rfl) rfl
theorem q1930 : (Jvm.Cond.methodLink "DuskGatesModel" (403 : Nat) ({ cls := "DuskGatesModel", name := "sizeOf", desc := "(II)I" } : Jvm.MethodName)) ∈ lw_all := lw_g (lw_at lw_m8 194 rfl) rfl
theorem q1931 : (Jvm.Cond.privateMethod ({ cls := "DuskGatesModel", name := "sizeOf", desc := "(II)I" } : Jvm.MethodName)) ∈ lw_tbl := lw_at lw_m8 195 rfl
theorem q1932 : (Jvm.Cond.instanceMethod ({ cls := "DuskGatesModel", name := "sizeOf", desc := "(II)I" } : Jvm.MethodName)) ∈ lw_all := lw_g (lw_at lw_m8 196 rfl) rfl
theorem q1933 : (Jvm.Cond.code ({ cls := "DuskGatesModel", name := "sizeOf", desc := "(II)I" } : Jvm.MethodName) prog_17_method_78_code (4 : Nat) (Option.some Jvm.ClassFile.FieldType.int)) ∈ lw_all := lw_g (lw_at lw_m8 197 rfl) rfl
theorem q1934 : (Jvm.Cond.methodLink "DuskGatesModel" (397 : Nat) ({ cls := "DuskGatesModel", name := "nightSize", desc := "(I)I" } : Jvm.MethodName)) ∈ lw_all := lw_g (lw_at lw_m8 198 rfl) rfl
theorem q1935 : (Jvm.Cond.privateMethod ({ cls := "DuskGatesModel", name := "nightSize", desc := "(I)I" } : Jvm.MethodName)) ∈ lw_tbl := lw_at lw_m8 199 rfl
theorem q1936 : (Jvm.Cond.instanceMethod ({ cls := "DuskGatesModel", name := "nightSize", desc := "(I)I" } : Jvm.MethodName)) ∈ lw_all := lw_g (lw_at lw_m8 200 rfl) rfl
theorem q1937 : (Jvm.Cond.code ({ cls := "DuskGatesModel", name := "nightSize", desc := "(I)I" } : Jvm.MethodName) prog_17_method_76_code (2 : Nat) (Option.some Jvm.ClassFile.FieldType.int)) ∈ lw_all := lw_g (lw_at lw_m8 201 rfl) rfl
theorem q1938 : (Jvm.Cond.methodLink "DuskGatesModel" (394 : Nat) ({ cls := "DuskGatesModel", name := "began", desc := "(I)V" } : Jvm.MethodName)) ∈ lw_all := lw_g (lw_at lw_m8 202 rfl) rfl
theorem q1939 : (Jvm.Cond.privateMethod ({ cls := "DuskGatesModel", name := "began", desc := "(I)V" } : Jvm.MethodName)) ∈ lw_tbl := lw_at lw_m8 203 rfl
theorem q1940 : (Jvm.Cond.instanceMethod ({ cls := "DuskGatesModel", name := "began", desc := "(I)V" } : Jvm.MethodName)) ∈ lw_all := lw_g (lw_at lw_m8 204 rfl) rfl
theorem q1941 : (Jvm.Cond.code ({ cls := "DuskGatesModel", name := "began", desc := "(I)V" } : Jvm.MethodName) prog_17_method_75_code (2 : Nat) (Option.none : Option Jvm.ClassFile.FieldType)) ∈ lw_all := lw_g (lw_at lw_m8 205 rfl) rfl
theorem q1942 : (Jvm.Cond.methodLink "DuskGatesModel" (400 : Nat) ({ cls := "DuskGatesModel", name := "markOf", desc := "(II)I" } : Jvm.MethodName)) ∈ lw_all := lw_g (lw_at lw_m8 206 rfl) rfl
theorem q1943 : (Jvm.Cond.privateMethod ({ cls := "DuskGatesModel", name := "markOf", desc := "(II)I" } : Jvm.MethodName)) ∈ lw_tbl := lw_at lw_m8 207 rfl
theorem q1944 : (Jvm.Cond.instanceMethod ({ cls := "DuskGatesModel", name := "markOf", desc := "(II)I" } : Jvm.MethodName)) ∈ lw_all := lw_g (lw_at lw_m8 208 rfl) rfl
theorem q1945 : (Jvm.Cond.code ({ cls := "DuskGatesModel", name := "markOf", desc := "(II)I" } : Jvm.MethodName) prog_17_method_77_code (4 : Nat) (Option.some Jvm.ClassFile.FieldType.int)) ∈ lw_all := lw_g (lw_at lw_m8 209 rfl) rfl
theorem q1947 : (Jvm.Cond.instanceMethod ({ cls := "DuskGatesModel", name := "trace", desc := "(I)I" } : Jvm.MethodName)) ∈ lw_all := lw_g (lw_at lw_m8 211 rfl) rfl
theorem q1948 : (Jvm.Cond.selects "DuskGatesModel" ({ cls := "DuskGatesModel", name := "trace", desc := "(I)I" } : Jvm.MethodName) ({ cls := "DuskGatesModel", name := "trace", desc := "(I)I" } : Jvm.MethodName)) ∈ lw_all := lw_g (lw_at lw_m8 212 rfl) rfl
theorem q1949 : (Jvm.Cond.code ({ cls := "DuskGatesModel", name := "trace", desc := "(I)I" } : Jvm.MethodName) prog_17_method_80_code (2 : Nat) (Option.some Jvm.ClassFile.FieldType.int)) ∈ lw_all := lw_g (lw_at lw_m8 213 rfl) rfl
theorem q1951 : (Jvm.Cond.instanceMethod ({ cls := "DuskGatesModel", name := "count", desc := "(I)I" } : Jvm.MethodName)) ∈ lw_all := lw_g (lw_at lw_m8 215 rfl) rfl
theorem q1952 : (Jvm.Cond.selects "DuskGatesModel" ({ cls := "DuskGatesModel", name := "count", desc := "(I)I" } : Jvm.MethodName) ({ cls := "DuskGatesModel", name := "count", desc := "(I)I" } : Jvm.MethodName)) ∈ lw_all := lw_g (lw_at lw_m8 216 rfl) rfl
theorem q1953 : (Jvm.Cond.code ({ cls := "DuskGatesModel", name := "count", desc := "(I)I" } : Jvm.MethodName) prog_17_method_81_code (4 : Nat) (Option.some Jvm.ClassFile.FieldType.int)) ∈ lw_all := lw_g (lw_at lw_m8 217 rfl) rfl
theorem q1955 : (Jvm.Cond.instanceMethod ({ cls := "DuskGatesModel", name := "status", desc := "()I" } : Jvm.MethodName)) ∈ lw_all := lw_g (lw_at lw_m8 219 rfl) rfl
theorem q1956 : (Jvm.Cond.selects "DuskGatesModel" ({ cls := "DuskGatesModel", name := "status", desc := "()I" } : Jvm.MethodName) ({ cls := "DuskGatesModel", name := "status", desc := "()I" } : Jvm.MethodName)) ∈ lw_all := lw_g (lw_at lw_m8 220 rfl) rfl
theorem q1957 : (Jvm.Cond.code ({ cls := "DuskGatesModel", name := "status", desc := "()I" } : Jvm.MethodName) prog_17_method_82_code (1 : Nat) (Option.some Jvm.ClassFile.FieldType.int)) ∈ lw_all := lw_g (lw_at lw_m8 221 rfl) rfl
theorem q1984 : (Jvm.Cond.castable "DuskGatesModel" "java/lang/Object") ∈ lw_tbl := lw_at lw_m9 8 rfl
theorem in_X2 : ∀ w ∈ wsX20, w ∈ lw_all := lw_in wsX20 [1492, 1494, 1496, 1498, 1500, 1502, 1504, 1506, 1508, 1510, 1512, 1514, 1516, 1518, 1520, 1522, 1524, 1526, 1528, 1530, 1532, 1534, 1536, 1538, 1540, 1542, 1544, 1546, 1548, 1550, 1552, 1554, 1556, 1558, 1560, 1562, 1564, 1566, 1568, 1570, 1572, 1574, 1576, 1578, 1580, 1582, 1584, 1586, 1588, 1590, 1592, 1594, 1596, 1598, 1600, 1602, 1604, 1606, 1608, 1610, 1612] (by decide +kernel) (by decide +kernel)
