/-! SendHallModel -/
set_option maxRecDepth 100000
def RX4 : String := "SendHallModel"
def TX4 : u_T := fun k => match k with
  | 0 => ("SendHallModel", "kinds", "[Ljava/lang/String;", true)
  | 1 => ("SendHallModel", "values", "[Ljava/lang/String;", true)
  | 2 => ("SendHallModel", "code", "I", false)
  | 3 => ("SendHallModel", "hands", "I", false)
  | 4 => ("SendHallModel", "room", "I", false)
  | 5 => ("SendHallModel", "near", "I", false)
  | 6 => ("SendHallModel", "wide", "I", false)
  | 7 => ("SendHallModel", "version", "I", false)
  | 8 => ("SendHallModel", "textVersion", "I", false)
  | 9 => ("SendHallModel", "tape", "[I", true)
  | 10 => ("SendHallModel", "taped", "I", false)
  | 11 => ("SendHallModel", "at", "I", false)
  | 12 => ("SendHallModel", "size", "I", false)
  | 13 => ("SendHallModel", "token", "I", false)
  | 14 => ("SendHallModel", "sign", "I", false)
  | 15 => ("SendHallModel", "number", "I", false)
  | 16 => ("SendHallModel", "begins", "I", false)
  | 17 => ("SendHallModel", "ends", "I", false)
  | 18 => ("SendHallModel", "bad", "I", false)
  | 19 => ("SendHallModel", "badPlace", "I", false)
  | 20 => ("SendHallModel", "faultPlace", "I", false)
  | 21 => ("SendHallModel", "codes", "I", false)
  | 22 => ("SendHallModel", "stepMany", "[I", true)
  | 23 => ("SendHallModel", "codeRow", "[I", true)
  | 24 => ("SendHallModel", "kind", "[I", true)
  | 25 => ("SendHallModel", "exprFrom", "[I", true)
  | 26 => ("SendHallModel", "exprTo", "[I", true)
  | 27 => ("SendHallModel", "into", "[I", true)
  | 28 => ("SendHallModel", "most", "[I", true)
  | 29 => ("SendHallModel", "behind", "[I", true)
  | 30 => ("SendHallModel", "then", "[I", true)
  | 31 => ("SendHallModel", "other", "[I", true)
  | 32 => ("SendHallModel", "isOut", "[Z", true)
  | 33 => ("SendHallModel", "now", "[I", true)
  | 34 => ("SendHallModel", "stack", "[I", true)
  | 35 => ("SendHallModel", "choice", "I", false)
  | 36 => ("SendHallModel", "clocks", "[I", true)
  | 37 => ("SendHallModel", "waited", "[I", true)
  | 38 => ("SendHallModel", "taken", "[I", true)
  | 39 => ("SendHallModel", "theres", "[I", true)
  | 40 => ("SendHallModel", "anyHand", "I", false)
  | 41 => ("SendHallModel", "anyFrom", "I", false)
  | 42 => ("SendHallModel", "anyStep", "I", false)
  | 43 => ("SendHallModel", "states", "[I", true)
  | 44 => ("SendHallModel", "marks", "[I", true)
  | 45 => ("SendHallModel", "isEnding", "[Z", true)
  | 46 => ("SendHallModel", "stateMany", "I", false)
  | 47 => ("SendHallModel", "stateVersion", "I", false)
  | 48 => ("SendHallModel", "isSpent", "Z", false)
  | 49 => ("SendHallModel", "could", "[I", true)
  | 50 => ("SendHallModel", "endings", "[I", true)
  | 51 => ("SendHallModel", "endingMany", "I", false)
  | 52 => ("SendHallModel", "spentThen", "Z", false)
  | 53 => ("SendHallModel", "manyThen", "I", false)
  | 54 => ("SendHallModel", "couldThen", "[I", true)
  | 55 => ("SendHallModel", "isLeft", "[Z", true)
  | 56 => ("SendHallModel", "leftVersion", "I", false)
  | 57 => ("SendHallModel", "playHands", "I", false)
  | 58 => ("SendHallModel", "playVersion", "I", false)
  | 59 => ("SendHallModel", "madeMany", "I", false)
  | 60 => ("SendHallModel", "ringMany", "I", false)
  | 61 => ("SendHallModel", "played", "[I", true)
  | 62 => ("SendHallModel", "made", "[I", true)
  | 63 => ("SendHallModel", "ring", "[I", true)
  | 64 => ("SendHallModel", "waits", "[I", true)
  | 65 => ("SendHallModel", "seenAt", "[I", true)
  | 66 => ("SendHallModel", "clocksThen", "[I", true)
  | 67 => ("SendHallModel", "waitedThen", "[I", true)
  | 68 => ("SendHallModel", "madeThen", "I", false)
  | _ => ("SendHallModel", "madeRow", "[I", true)
def tyX4 : Nat → FieldType := fun k => match k with
  | 0 => .array (.object "java/lang/String")
  | 1 => .array (.object "java/lang/String")
  | 2 => .int
  | 3 => .int
  | 4 => .int
  | 5 => .int
  | 6 => .int
  | 7 => .int
  | 8 => .int
  | 9 => .array .int
  | 10 => .int
  | 11 => .int
  | 12 => .int
  | 13 => .int
  | 14 => .int
  | 15 => .int
  | 16 => .int
  | 17 => .int
  | 18 => .int
  | 19 => .int
  | 20 => .int
  | 21 => .int
  | 22 => .array .int
  | 23 => .array .int
  | 24 => .array .int
  | 25 => .array .int
  | 26 => .array .int
  | 27 => .array .int
  | 28 => .array .int
  | 29 => .array .int
  | 30 => .array .int
  | 31 => .array .int
  | 32 => .array .boolean
  | 33 => .array .int
  | 34 => .array .int
  | 35 => .int
  | 36 => .array .int
  | 37 => .array .int
  | 38 => .array .int
  | 39 => .array .int
  | 40 => .int
  | 41 => .int
  | 42 => .int
  | 43 => .array .int
  | 44 => .array .int
  | 45 => .array .boolean
  | 46 => .int
  | 47 => .int
  | 48 => .boolean
  | 49 => .array .int
  | 50 => .array .int
  | 51 => .int
  | 52 => .boolean
  | 53 => .int
  | 54 => .array .int
  | 55 => .array .boolean
  | 56 => .int
  | 57 => .int
  | 58 => .int
  | 59 => .int
  | 60 => .int
  | 61 => .array .int
  | 62 => .array .int
  | 63 => .array .int
  | 64 => .array .int
  | 65 => .array .int
  | 66 => .array .int
  | 67 => .array .int
  | 68 => .int
  | _ => .array .int
abbrev wsX40 : List Cond := u_ws RX4 TX4 70
set_option maxRecDepth 100000 in
theorem nmX4 : ∀ a, a < 70 → ∀ b, b < 70 → a ≠ b → (TX4 a).2.1 ≠ (TX4 b).2.1 := by decide +kernel
set_option maxRecDepth 100000 in
theorem tyX4_ok : ∀ k, k < 70 → parseFieldDescriptor (TX4 k).2.2.1 = some (tyX4 k) := by decide +kernel
abbrev cX4_init : ByteArray := prog_21_method_1_code
def yX4_init : MethodName := ⟨RX4, "<init>", "()V"⟩
def dkwX4_init_18 : List UInt8 := [188, 10, 181, 0, 172, 177]
abbrev dktX4_init_18 : List UInt8 := dkwX4_init_18 ++ []
def dkwX4_init_17 : List UInt8 := [181, 0, 163, 42, 16, 8, 188, 10, 181, 0, 166, 42, 16, 8, 188, 10, 181, 0, 169, 42, 17, 1, 64]
abbrev dktX4_init_17 : List UInt8 := dkwX4_init_17 ++ dktX4_init_18
def dkwX4_init_16 : List UInt8 := [181, 0, 154, 42, 16, 8, 188, 10, 181, 0, 157, 42, 16, 8, 188, 10, 181, 0, 160, 42, 16, 8, 188, 10]
abbrev dktX4_init_16 : List UInt8 := dkwX4_init_16 ++ dktX4_init_17
def dkwX4_init_15 : List UInt8 := [181, 0, 145, 42, 2, 181, 0, 148, 42, 17, 7, 193, 188, 10, 181, 0, 151, 42, 17, 1, 64, 188, 10]
abbrev dktX4_init_15 : List UInt8 := dkwX4_init_15 ++ dktX4_init_16
def dkwX4_init_14 : List UInt8 := [181, 0, 136, 42, 17, 1, 64, 188, 10, 181, 0, 139, 42, 16, 40, 188, 4, 181, 0, 142, 42, 2]
abbrev dktX4_init_14 : List UInt8 := dkwX4_init_14 ++ dktX4_init_15
def dkwX4_init_13 : List UInt8 := [181, 0, 127, 42, 2, 181, 0, 130, 42, 17, 1, 64, 188, 10, 181, 0, 133, 42, 17, 8, 163, 188, 10]
abbrev dktX4_init_13 : List UInt8 := dkwX4_init_13 ++ dktX4_init_14
def dkwX4_init_12 : List UInt8 := [42, 18, 120, 188, 10, 181, 0, 121, 42, 17, 0, 201, 188, 10, 181, 0, 124, 42, 17, 0, 201, 188, 4]
abbrev dktX4_init_12 : List UInt8 := dkwX4_init_12 ++ dktX4_init_13
def dkwX4_init_11 : List UInt8 := [16, 8, 188, 10, 181, 0, 111, 42, 16, 8, 188, 10, 181, 0, 114, 42, 17, 1, 65, 188, 10, 181, 0, 117]
abbrev dktX4_init_11 : List UInt8 := dkwX4_init_11 ++ dktX4_init_12
def dkwX4_init_10 : List UInt8 := [42, 17, 1, 104, 188, 10, 181, 0, 102, 42, 2, 181, 0, 105, 42, 16, 8, 188, 10, 181, 0, 108, 42]
abbrev dktX4_init_10 : List UInt8 := dkwX4_init_10 ++ dktX4_init_11
def dkwX4_init_9 : List UInt8 := [16, 80, 188, 10, 181, 0, 92, 42, 16, 40, 188, 4, 181, 0, 95, 42, 17, 7, 193, 188, 10, 181, 0, 99]
abbrev dktX4_init_9 : List UInt8 := dkwX4_init_9 ++ dktX4_init_10
def dkwX4_init_8 : List UInt8 := [16, 80, 188, 10, 181, 0, 83, 42, 16, 80, 188, 10, 181, 0, 86, 42, 16, 80, 188, 10, 181, 0, 89, 42]
abbrev dktX4_init_8 : List UInt8 := dkwX4_init_8 ++ dktX4_init_9
def dkwX4_init_7 : List UInt8 := [188, 10, 181, 0, 74, 42, 17, 0, 240, 188, 10, 181, 0, 77, 42, 16, 80, 188, 10, 181, 0, 80, 42]
abbrev dktX4_init_7 : List UInt8 := dkwX4_init_7 ++ dktX4_init_8
def dkwX4_init_6 : List UInt8 := [181, 0, 65, 42, 17, 8, 112, 188, 10, 181, 0, 68, 42, 16, 80, 188, 10, 181, 0, 71, 42, 17, 0, 240]
abbrev dktX4_init_6 : List UInt8 := dkwX4_init_6 ++ dktX4_init_7
def dkwX4_init_5 : List UInt8 := [42, 5, 181, 0, 54, 42, 17, 2, 188, 188, 10, 181, 0, 58, 42, 2, 181, 0, 62, 42, 5, 188, 10]
abbrev dktX4_init_5 : List UInt8 := dkwX4_init_5 ++ dktX4_init_6
def dkwX4_init_4 : List UInt8 := [89, 6, 18, 43, 83, 89, 7, 18, 45, 83, 89, 8, 18, 47, 83, 89, 16, 6, 18, 49, 83, 181, 0, 51]
abbrev dktX4_init_4 : List UInt8 := dkwX4_init_4 ++ dktX4_init_5
def dkwX4_init_3 : List UInt8 := [181, 0, 33, 42, 16, 7, 189, 0, 9, 89, 3, 18, 37, 83, 89, 4, 18, 39, 83, 89, 5, 18, 41, 83]
abbrev dktX4_init_3 : List UInt8 := dkwX4_init_3 ++ dktX4_init_4
def dkwX4_init_2 : List UInt8 := [16, 7, 18, 25, 83, 89, 16, 8, 18, 27, 83, 89, 16, 9, 18, 29, 83, 89, 16, 10, 18, 31, 83]
abbrev dktX4_init_2 : List UInt8 := dkwX4_init_2 ++ dktX4_init_3
def dkwX4_init_1 : List UInt8 := [83, 89, 6, 18, 17, 83, 89, 7, 18, 19, 83, 89, 8, 18, 21, 83, 89, 16, 6, 18, 23, 83, 89]
abbrev dktX4_init_1 : List UInt8 := dkwX4_init_1 ++ dktX4_init_2
def dkwX4_init_0 : List UInt8 := [42, 183, 0, 3, 42, 16, 11, 189, 0, 9, 89, 3, 18, 11, 83, 89, 4, 18, 13, 83, 89, 5, 18, 15]
abbrev dktX4_init_0 : List UInt8 := dkwX4_init_0 ++ dktX4_init_1
theorem dksX4_init_0 : cX4_init.data.toList.drop 0 = dktX4_init_0 := by decide +kernel
theorem dksX4_init_1 : cX4_init.data.toList.drop 24 = dktX4_init_1 := dk_seg dksX4_init_0 24 rfl rfl
theorem dksX4_init_2 : cX4_init.data.toList.drop 47 = dktX4_init_2 := dk_seg dksX4_init_1 23 rfl rfl
theorem dksX4_init_3 : cX4_init.data.toList.drop 70 = dktX4_init_3 := dk_seg dksX4_init_2 23 rfl rfl
theorem dksX4_init_4 : cX4_init.data.toList.drop 94 = dktX4_init_4 := dk_seg dksX4_init_3 24 rfl rfl
theorem dksX4_init_5 : cX4_init.data.toList.drop 118 = dktX4_init_5 := dk_seg dksX4_init_4 24 rfl rfl
theorem dksX4_init_6 : cX4_init.data.toList.drop 141 = dktX4_init_6 := dk_seg dksX4_init_5 23 rfl rfl
theorem dksX4_init_7 : cX4_init.data.toList.drop 165 = dktX4_init_7 := dk_seg dksX4_init_6 24 rfl rfl
theorem dksX4_init_8 : cX4_init.data.toList.drop 188 = dktX4_init_8 := dk_seg dksX4_init_7 23 rfl rfl
theorem dksX4_init_9 : cX4_init.data.toList.drop 212 = dktX4_init_9 := dk_seg dksX4_init_8 24 rfl rfl
theorem dksX4_init_10 : cX4_init.data.toList.drop 236 = dktX4_init_10 := dk_seg dksX4_init_9 24 rfl rfl
theorem dksX4_init_11 : cX4_init.data.toList.drop 259 = dktX4_init_11 := dk_seg dksX4_init_10 23 rfl rfl
theorem dksX4_init_12 : cX4_init.data.toList.drop 283 = dktX4_init_12 := dk_seg dksX4_init_11 24 rfl rfl
theorem dksX4_init_13 : cX4_init.data.toList.drop 306 = dktX4_init_13 := dk_seg dksX4_init_12 23 rfl rfl
theorem dksX4_init_14 : cX4_init.data.toList.drop 329 = dktX4_init_14 := dk_seg dksX4_init_13 23 rfl rfl
theorem dksX4_init_15 : cX4_init.data.toList.drop 351 = dktX4_init_15 := dk_seg dksX4_init_14 22 rfl rfl
theorem dksX4_init_16 : cX4_init.data.toList.drop 374 = dktX4_init_16 := dk_seg dksX4_init_15 23 rfl rfl
theorem dksX4_init_17 : cX4_init.data.toList.drop 398 = dktX4_init_17 := dk_seg dksX4_init_16 24 rfl rfl
theorem dksX4_init_18 : cX4_init.data.toList.drop 421 = dktX4_init_18 := dk_seg dksX4_init_17 23 rfl rfl
theorem dX4_init_0 : decode cX4_init 0 = .ok (.aload_n 0, 1) := dk_42 (dk_at dksX4_init_0 0 rfl rfl)
theorem dX4_init_1 : decode cX4_init 1 = .ok (.invokespecial 3, 3) := dk_183 0 3 (dk_at dksX4_init_0 1 rfl rfl)
theorem dX4_init_4 : decode cX4_init 4 = .ok (.aload_n 0, 1) := dk_42 (dk_at dksX4_init_0 4 rfl rfl)
theorem dX4_init_5 : decode cX4_init 5 = .ok (.bipush 11, 2) := dk_16 11 (dk_at dksX4_init_0 5 rfl rfl)
theorem dX4_init_7 : decode cX4_init 7 = .ok (.anewarray 9, 3) := dk_189 0 9 (dk_at dksX4_init_0 7 rfl rfl)
theorem dX4_init_10 : decode cX4_init 10 = .ok (.dup, 1) := dk_89 (dk_at dksX4_init_0 10 rfl rfl)
theorem dX4_init_11 : decode cX4_init 11 = .ok (.iconst 0, 1) := dk_3 (dk_at dksX4_init_0 11 rfl rfl)
theorem dX4_init_12 : decode cX4_init 12 = .ok (.ldc 11, 2) := dk_18 11 (dk_at dksX4_init_0 12 rfl rfl)
theorem dX4_init_14 : decode cX4_init 14 = .ok (.aastore, 1) := dk_83 (dk_at dksX4_init_0 14 rfl rfl)
theorem dX4_init_15 : decode cX4_init 15 = .ok (.dup, 1) := dk_89 (dk_at dksX4_init_0 15 rfl rfl)
theorem dX4_init_16 : decode cX4_init 16 = .ok (.iconst 1, 1) := dk_4 (dk_at dksX4_init_0 16 rfl rfl)
theorem dX4_init_17 : decode cX4_init 17 = .ok (.ldc 13, 2) := dk_18 13 (dk_at dksX4_init_0 17 rfl rfl)
theorem dX4_init_19 : decode cX4_init 19 = .ok (.aastore, 1) := dk_83 (dk_at dksX4_init_0 19 rfl rfl)
theorem dX4_init_20 : decode cX4_init 20 = .ok (.dup, 1) := dk_89 (dk_at dksX4_init_0 20 rfl rfl)
theorem dX4_init_21 : decode cX4_init 21 = .ok (.iconst 2, 1) := dk_5 (dk_at dksX4_init_0 21 rfl rfl)
theorem dX4_init_22 : decode cX4_init 22 = .ok (.ldc 15, 2) := dk_18 15 (dk_at dksX4_init_0 22 rfl rfl)
theorem dX4_init_24 : decode cX4_init 24 = .ok (.aastore, 1) := dk_83 (dk_at dksX4_init_1 0 rfl rfl)
theorem dX4_init_25 : decode cX4_init 25 = .ok (.dup, 1) := dk_89 (dk_at dksX4_init_1 1 rfl rfl)
theorem dX4_init_26 : decode cX4_init 26 = .ok (.iconst 3, 1) := dk_6 (dk_at dksX4_init_1 2 rfl rfl)
theorem dX4_init_27 : decode cX4_init 27 = .ok (.ldc 17, 2) := dk_18 17 (dk_at dksX4_init_1 3 rfl rfl)
theorem dX4_init_29 : decode cX4_init 29 = .ok (.aastore, 1) := dk_83 (dk_at dksX4_init_1 5 rfl rfl)
theorem dX4_init_30 : decode cX4_init 30 = .ok (.dup, 1) := dk_89 (dk_at dksX4_init_1 6 rfl rfl)
theorem dX4_init_31 : decode cX4_init 31 = .ok (.iconst 4, 1) := dk_7 (dk_at dksX4_init_1 7 rfl rfl)
theorem dX4_init_32 : decode cX4_init 32 = .ok (.ldc 19, 2) := dk_18 19 (dk_at dksX4_init_1 8 rfl rfl)
theorem dX4_init_34 : decode cX4_init 34 = .ok (.aastore, 1) := dk_83 (dk_at dksX4_init_1 10 rfl rfl)
theorem dX4_init_35 : decode cX4_init 35 = .ok (.dup, 1) := dk_89 (dk_at dksX4_init_1 11 rfl rfl)
theorem dX4_init_36 : decode cX4_init 36 = .ok (.iconst 5, 1) := dk_8 (dk_at dksX4_init_1 12 rfl rfl)
theorem dX4_init_37 : decode cX4_init 37 = .ok (.ldc 21, 2) := dk_18 21 (dk_at dksX4_init_1 13 rfl rfl)
theorem dX4_init_39 : decode cX4_init 39 = .ok (.aastore, 1) := dk_83 (dk_at dksX4_init_1 15 rfl rfl)
theorem dX4_init_40 : decode cX4_init 40 = .ok (.dup, 1) := dk_89 (dk_at dksX4_init_1 16 rfl rfl)
theorem dX4_init_41 : decode cX4_init 41 = .ok (.bipush 6, 2) := dk_16 6 (dk_at dksX4_init_1 17 rfl rfl)
theorem dX4_init_43 : decode cX4_init 43 = .ok (.ldc 23, 2) := dk_18 23 (dk_at dksX4_init_1 19 rfl rfl)
theorem dX4_init_45 : decode cX4_init 45 = .ok (.aastore, 1) := dk_83 (dk_at dksX4_init_1 21 rfl rfl)
theorem dX4_init_46 : decode cX4_init 46 = .ok (.dup, 1) := dk_89 (dk_at dksX4_init_1 22 rfl rfl)
theorem dX4_init_47 : decode cX4_init 47 = .ok (.bipush 7, 2) := dk_16 7 (dk_at dksX4_init_2 0 rfl rfl)
theorem dX4_init_49 : decode cX4_init 49 = .ok (.ldc 25, 2) := dk_18 25 (dk_at dksX4_init_2 2 rfl rfl)
theorem dX4_init_51 : decode cX4_init 51 = .ok (.aastore, 1) := dk_83 (dk_at dksX4_init_2 4 rfl rfl)
theorem dX4_init_52 : decode cX4_init 52 = .ok (.dup, 1) := dk_89 (dk_at dksX4_init_2 5 rfl rfl)
theorem dX4_init_53 : decode cX4_init 53 = .ok (.bipush 8, 2) := dk_16 8 (dk_at dksX4_init_2 6 rfl rfl)
theorem dX4_init_55 : decode cX4_init 55 = .ok (.ldc 27, 2) := dk_18 27 (dk_at dksX4_init_2 8 rfl rfl)
theorem dX4_init_57 : decode cX4_init 57 = .ok (.aastore, 1) := dk_83 (dk_at dksX4_init_2 10 rfl rfl)
theorem dX4_init_58 : decode cX4_init 58 = .ok (.dup, 1) := dk_89 (dk_at dksX4_init_2 11 rfl rfl)
theorem dX4_init_59 : decode cX4_init 59 = .ok (.bipush 9, 2) := dk_16 9 (dk_at dksX4_init_2 12 rfl rfl)
theorem dX4_init_61 : decode cX4_init 61 = .ok (.ldc 29, 2) := dk_18 29 (dk_at dksX4_init_2 14 rfl rfl)
theorem dX4_init_63 : decode cX4_init 63 = .ok (.aastore, 1) := dk_83 (dk_at dksX4_init_2 16 rfl rfl)
theorem dX4_init_64 : decode cX4_init 64 = .ok (.dup, 1) := dk_89 (dk_at dksX4_init_2 17 rfl rfl)
theorem dX4_init_65 : decode cX4_init 65 = .ok (.bipush 10, 2) := dk_16 10 (dk_at dksX4_init_2 18 rfl rfl)
theorem dX4_init_67 : decode cX4_init 67 = .ok (.ldc 31, 2) := dk_18 31 (dk_at dksX4_init_2 20 rfl rfl)
theorem dX4_init_69 : decode cX4_init 69 = .ok (.aastore, 1) := dk_83 (dk_at dksX4_init_2 22 rfl rfl)
theorem dX4_init_70 : decode cX4_init 70 = .ok (.putfield 33, 3) := dk_181 0 33 (dk_at dksX4_init_3 0 rfl rfl)
theorem dX4_init_73 : decode cX4_init 73 = .ok (.aload_n 0, 1) := dk_42 (dk_at dksX4_init_3 3 rfl rfl)
theorem dX4_init_74 : decode cX4_init 74 = .ok (.bipush 7, 2) := dk_16 7 (dk_at dksX4_init_3 4 rfl rfl)
theorem dX4_init_76 : decode cX4_init 76 = .ok (.anewarray 9, 3) := dk_189 0 9 (dk_at dksX4_init_3 6 rfl rfl)
theorem dX4_init_79 : decode cX4_init 79 = .ok (.dup, 1) := dk_89 (dk_at dksX4_init_3 9 rfl rfl)
theorem dX4_init_80 : decode cX4_init 80 = .ok (.iconst 0, 1) := dk_3 (dk_at dksX4_init_3 10 rfl rfl)
theorem dX4_init_81 : decode cX4_init 81 = .ok (.ldc 37, 2) := dk_18 37 (dk_at dksX4_init_3 11 rfl rfl)
theorem dX4_init_83 : decode cX4_init 83 = .ok (.aastore, 1) := dk_83 (dk_at dksX4_init_3 13 rfl rfl)
theorem dX4_init_84 : decode cX4_init 84 = .ok (.dup, 1) := dk_89 (dk_at dksX4_init_3 14 rfl rfl)
theorem dX4_init_85 : decode cX4_init 85 = .ok (.iconst 1, 1) := dk_4 (dk_at dksX4_init_3 15 rfl rfl)
theorem dX4_init_86 : decode cX4_init 86 = .ok (.ldc 39, 2) := dk_18 39 (dk_at dksX4_init_3 16 rfl rfl)
theorem dX4_init_88 : decode cX4_init 88 = .ok (.aastore, 1) := dk_83 (dk_at dksX4_init_3 18 rfl rfl)
theorem dX4_init_89 : decode cX4_init 89 = .ok (.dup, 1) := dk_89 (dk_at dksX4_init_3 19 rfl rfl)
theorem dX4_init_90 : decode cX4_init 90 = .ok (.iconst 2, 1) := dk_5 (dk_at dksX4_init_3 20 rfl rfl)
theorem dX4_init_91 : decode cX4_init 91 = .ok (.ldc 41, 2) := dk_18 41 (dk_at dksX4_init_3 21 rfl rfl)
theorem dX4_init_93 : decode cX4_init 93 = .ok (.aastore, 1) := dk_83 (dk_at dksX4_init_3 23 rfl rfl)
theorem dX4_init_94 : decode cX4_init 94 = .ok (.dup, 1) := dk_89 (dk_at dksX4_init_4 0 rfl rfl)
theorem dX4_init_95 : decode cX4_init 95 = .ok (.iconst 3, 1) := dk_6 (dk_at dksX4_init_4 1 rfl rfl)
theorem dX4_init_96 : decode cX4_init 96 = .ok (.ldc 43, 2) := dk_18 43 (dk_at dksX4_init_4 2 rfl rfl)
theorem dX4_init_98 : decode cX4_init 98 = .ok (.aastore, 1) := dk_83 (dk_at dksX4_init_4 4 rfl rfl)
theorem dX4_init_99 : decode cX4_init 99 = .ok (.dup, 1) := dk_89 (dk_at dksX4_init_4 5 rfl rfl)
theorem dX4_init_100 : decode cX4_init 100 = .ok (.iconst 4, 1) := dk_7 (dk_at dksX4_init_4 6 rfl rfl)
theorem dX4_init_101 : decode cX4_init 101 = .ok (.ldc 45, 2) := dk_18 45 (dk_at dksX4_init_4 7 rfl rfl)
theorem dX4_init_103 : decode cX4_init 103 = .ok (.aastore, 1) := dk_83 (dk_at dksX4_init_4 9 rfl rfl)
theorem dX4_init_104 : decode cX4_init 104 = .ok (.dup, 1) := dk_89 (dk_at dksX4_init_4 10 rfl rfl)
theorem dX4_init_105 : decode cX4_init 105 = .ok (.iconst 5, 1) := dk_8 (dk_at dksX4_init_4 11 rfl rfl)
theorem dX4_init_106 : decode cX4_init 106 = .ok (.ldc 47, 2) := dk_18 47 (dk_at dksX4_init_4 12 rfl rfl)
theorem dX4_init_108 : decode cX4_init 108 = .ok (.aastore, 1) := dk_83 (dk_at dksX4_init_4 14 rfl rfl)
theorem dX4_init_109 : decode cX4_init 109 = .ok (.dup, 1) := dk_89 (dk_at dksX4_init_4 15 rfl rfl)
theorem dX4_init_110 : decode cX4_init 110 = .ok (.bipush 6, 2) := dk_16 6 (dk_at dksX4_init_4 16 rfl rfl)
theorem dX4_init_112 : decode cX4_init 112 = .ok (.ldc 49, 2) := dk_18 49 (dk_at dksX4_init_4 18 rfl rfl)
theorem dX4_init_114 : decode cX4_init 114 = .ok (.aastore, 1) := dk_83 (dk_at dksX4_init_4 20 rfl rfl)
theorem dX4_init_115 : decode cX4_init 115 = .ok (.putfield 51, 3) := dk_181 0 51 (dk_at dksX4_init_4 21 rfl rfl)
theorem dX4_init_118 : decode cX4_init 118 = .ok (.aload_n 0, 1) := dk_42 (dk_at dksX4_init_5 0 rfl rfl)
theorem dX4_init_119 : decode cX4_init 119 = .ok (.iconst 2, 1) := dk_5 (dk_at dksX4_init_5 1 rfl rfl)
theorem dX4_init_120 : decode cX4_init 120 = .ok (.putfield 54, 3) := dk_181 0 54 (dk_at dksX4_init_5 2 rfl rfl)
theorem dX4_init_123 : decode cX4_init 123 = .ok (.aload_n 0, 1) := dk_42 (dk_at dksX4_init_5 5 rfl rfl)
theorem dX4_init_124 : decode cX4_init 124 = .ok (.sipush 700, 3) := dk_17 2 188 (dk_at dksX4_init_5 6 rfl rfl)
theorem dX4_init_127 : decode cX4_init 127 = .ok (.newarray .int, 2) := dk_188_10 (dk_at dksX4_init_5 9 rfl rfl)
theorem dX4_init_129 : decode cX4_init 129 = .ok (.putfield 58, 3) := dk_181 0 58 (dk_at dksX4_init_5 11 rfl rfl)
theorem dX4_init_132 : decode cX4_init 132 = .ok (.aload_n 0, 1) := dk_42 (dk_at dksX4_init_5 14 rfl rfl)
theorem dX4_init_133 : decode cX4_init 133 = .ok (.iconst (-1), 1) := dk_2 (dk_at dksX4_init_5 15 rfl rfl)
theorem dX4_init_134 : decode cX4_init 134 = .ok (.putfield 62, 3) := dk_181 0 62 (dk_at dksX4_init_5 16 rfl rfl)
theorem dX4_init_137 : decode cX4_init 137 = .ok (.aload_n 0, 1) := dk_42 (dk_at dksX4_init_5 19 rfl rfl)
theorem dX4_init_138 : decode cX4_init 138 = .ok (.iconst 2, 1) := dk_5 (dk_at dksX4_init_5 20 rfl rfl)
theorem dX4_init_139 : decode cX4_init 139 = .ok (.newarray .int, 2) := dk_188_10 (dk_at dksX4_init_5 21 rfl rfl)
theorem dX4_init_141 : decode cX4_init 141 = .ok (.putfield 65, 3) := dk_181 0 65 (dk_at dksX4_init_6 0 rfl rfl)
theorem dX4_init_144 : decode cX4_init 144 = .ok (.aload_n 0, 1) := dk_42 (dk_at dksX4_init_6 3 rfl rfl)
theorem dX4_init_145 : decode cX4_init 145 = .ok (.sipush 2160, 3) := dk_17 8 112 (dk_at dksX4_init_6 4 rfl rfl)
theorem dX4_init_148 : decode cX4_init 148 = .ok (.newarray .int, 2) := dk_188_10 (dk_at dksX4_init_6 7 rfl rfl)
theorem dX4_init_150 : decode cX4_init 150 = .ok (.putfield 68, 3) := dk_181 0 68 (dk_at dksX4_init_6 9 rfl rfl)
theorem dX4_init_153 : decode cX4_init 153 = .ok (.aload_n 0, 1) := dk_42 (dk_at dksX4_init_6 12 rfl rfl)
theorem dX4_init_154 : decode cX4_init 154 = .ok (.bipush 80, 2) := dk_16 80 (dk_at dksX4_init_6 13 rfl rfl)
theorem dX4_init_156 : decode cX4_init 156 = .ok (.newarray .int, 2) := dk_188_10 (dk_at dksX4_init_6 15 rfl rfl)
theorem dX4_init_158 : decode cX4_init 158 = .ok (.putfield 71, 3) := dk_181 0 71 (dk_at dksX4_init_6 17 rfl rfl)
theorem dX4_init_161 : decode cX4_init 161 = .ok (.aload_n 0, 1) := dk_42 (dk_at dksX4_init_6 20 rfl rfl)
theorem dX4_init_162 : decode cX4_init 162 = .ok (.sipush 240, 3) := dk_17 0 240 (dk_at dksX4_init_6 21 rfl rfl)
theorem dX4_init_165 : decode cX4_init 165 = .ok (.newarray .int, 2) := dk_188_10 (dk_at dksX4_init_7 0 rfl rfl)
theorem dX4_init_167 : decode cX4_init 167 = .ok (.putfield 74, 3) := dk_181 0 74 (dk_at dksX4_init_7 2 rfl rfl)
theorem dX4_init_170 : decode cX4_init 170 = .ok (.aload_n 0, 1) := dk_42 (dk_at dksX4_init_7 5 rfl rfl)
theorem dX4_init_171 : decode cX4_init 171 = .ok (.sipush 240, 3) := dk_17 0 240 (dk_at dksX4_init_7 6 rfl rfl)
theorem dX4_init_174 : decode cX4_init 174 = .ok (.newarray .int, 2) := dk_188_10 (dk_at dksX4_init_7 9 rfl rfl)
theorem dX4_init_176 : decode cX4_init 176 = .ok (.putfield 77, 3) := dk_181 0 77 (dk_at dksX4_init_7 11 rfl rfl)
theorem dX4_init_179 : decode cX4_init 179 = .ok (.aload_n 0, 1) := dk_42 (dk_at dksX4_init_7 14 rfl rfl)
theorem dX4_init_180 : decode cX4_init 180 = .ok (.bipush 80, 2) := dk_16 80 (dk_at dksX4_init_7 15 rfl rfl)
theorem dX4_init_182 : decode cX4_init 182 = .ok (.newarray .int, 2) := dk_188_10 (dk_at dksX4_init_7 17 rfl rfl)
theorem dX4_init_184 : decode cX4_init 184 = .ok (.putfield 80, 3) := dk_181 0 80 (dk_at dksX4_init_7 19 rfl rfl)
theorem dX4_init_187 : decode cX4_init 187 = .ok (.aload_n 0, 1) := dk_42 (dk_at dksX4_init_7 22 rfl rfl)
theorem dX4_init_188 : decode cX4_init 188 = .ok (.bipush 80, 2) := dk_16 80 (dk_at dksX4_init_8 0 rfl rfl)
theorem dX4_init_190 : decode cX4_init 190 = .ok (.newarray .int, 2) := dk_188_10 (dk_at dksX4_init_8 2 rfl rfl)
theorem dX4_init_192 : decode cX4_init 192 = .ok (.putfield 83, 3) := dk_181 0 83 (dk_at dksX4_init_8 4 rfl rfl)
theorem dX4_init_195 : decode cX4_init 195 = .ok (.aload_n 0, 1) := dk_42 (dk_at dksX4_init_8 7 rfl rfl)
theorem dX4_init_196 : decode cX4_init 196 = .ok (.bipush 80, 2) := dk_16 80 (dk_at dksX4_init_8 8 rfl rfl)
theorem dX4_init_198 : decode cX4_init 198 = .ok (.newarray .int, 2) := dk_188_10 (dk_at dksX4_init_8 10 rfl rfl)
theorem dX4_init_200 : decode cX4_init 200 = .ok (.putfield 86, 3) := dk_181 0 86 (dk_at dksX4_init_8 12 rfl rfl)
theorem dX4_init_203 : decode cX4_init 203 = .ok (.aload_n 0, 1) := dk_42 (dk_at dksX4_init_8 15 rfl rfl)
theorem dX4_init_204 : decode cX4_init 204 = .ok (.bipush 80, 2) := dk_16 80 (dk_at dksX4_init_8 16 rfl rfl)
theorem dX4_init_206 : decode cX4_init 206 = .ok (.newarray .int, 2) := dk_188_10 (dk_at dksX4_init_8 18 rfl rfl)
theorem dX4_init_208 : decode cX4_init 208 = .ok (.putfield 89, 3) := dk_181 0 89 (dk_at dksX4_init_8 20 rfl rfl)
theorem dX4_init_211 : decode cX4_init 211 = .ok (.aload_n 0, 1) := dk_42 (dk_at dksX4_init_8 23 rfl rfl)
theorem dX4_init_212 : decode cX4_init 212 = .ok (.bipush 80, 2) := dk_16 80 (dk_at dksX4_init_9 0 rfl rfl)
theorem dX4_init_214 : decode cX4_init 214 = .ok (.newarray .int, 2) := dk_188_10 (dk_at dksX4_init_9 2 rfl rfl)
theorem dX4_init_216 : decode cX4_init 216 = .ok (.putfield 92, 3) := dk_181 0 92 (dk_at dksX4_init_9 4 rfl rfl)
theorem dX4_init_219 : decode cX4_init 219 = .ok (.aload_n 0, 1) := dk_42 (dk_at dksX4_init_9 7 rfl rfl)
theorem dX4_init_220 : decode cX4_init 220 = .ok (.bipush 40, 2) := dk_16 40 (dk_at dksX4_init_9 8 rfl rfl)
theorem dX4_init_222 : decode cX4_init 222 = .ok (.newarray .boolean, 2) := dk_188_4 (dk_at dksX4_init_9 10 rfl rfl)
theorem dX4_init_224 : decode cX4_init 224 = .ok (.putfield 95, 3) := dk_181 0 95 (dk_at dksX4_init_9 12 rfl rfl)
theorem dX4_init_227 : decode cX4_init 227 = .ok (.aload_n 0, 1) := dk_42 (dk_at dksX4_init_9 15 rfl rfl)
theorem dX4_init_228 : decode cX4_init 228 = .ok (.sipush 1985, 3) := dk_17 7 193 (dk_at dksX4_init_9 16 rfl rfl)
theorem dX4_init_231 : decode cX4_init 231 = .ok (.newarray .int, 2) := dk_188_10 (dk_at dksX4_init_9 19 rfl rfl)
theorem dX4_init_233 : decode cX4_init 233 = .ok (.putfield 99, 3) := dk_181 0 99 (dk_at dksX4_init_9 21 rfl rfl)
theorem dX4_init_236 : decode cX4_init 236 = .ok (.aload_n 0, 1) := dk_42 (dk_at dksX4_init_10 0 rfl rfl)
theorem dX4_init_237 : decode cX4_init 237 = .ok (.sipush 360, 3) := dk_17 1 104 (dk_at dksX4_init_10 1 rfl rfl)
theorem dX4_init_240 : decode cX4_init 240 = .ok (.newarray .int, 2) := dk_188_10 (dk_at dksX4_init_10 4 rfl rfl)
theorem dX4_init_242 : decode cX4_init 242 = .ok (.putfield 102, 3) := dk_181 0 102 (dk_at dksX4_init_10 6 rfl rfl)
theorem dX4_init_245 : decode cX4_init 245 = .ok (.aload_n 0, 1) := dk_42 (dk_at dksX4_init_10 9 rfl rfl)
theorem dX4_init_246 : decode cX4_init 246 = .ok (.iconst (-1), 1) := dk_2 (dk_at dksX4_init_10 10 rfl rfl)
theorem dX4_init_247 : decode cX4_init 247 = .ok (.putfield 105, 3) := dk_181 0 105 (dk_at dksX4_init_10 11 rfl rfl)
theorem dX4_init_250 : decode cX4_init 250 = .ok (.aload_n 0, 1) := dk_42 (dk_at dksX4_init_10 14 rfl rfl)
theorem dX4_init_251 : decode cX4_init 251 = .ok (.bipush 8, 2) := dk_16 8 (dk_at dksX4_init_10 15 rfl rfl)
theorem dX4_init_253 : decode cX4_init 253 = .ok (.newarray .int, 2) := dk_188_10 (dk_at dksX4_init_10 17 rfl rfl)
theorem dX4_init_255 : decode cX4_init 255 = .ok (.putfield 108, 3) := dk_181 0 108 (dk_at dksX4_init_10 19 rfl rfl)
theorem dX4_init_258 : decode cX4_init 258 = .ok (.aload_n 0, 1) := dk_42 (dk_at dksX4_init_10 22 rfl rfl)
theorem dX4_init_259 : decode cX4_init 259 = .ok (.bipush 8, 2) := dk_16 8 (dk_at dksX4_init_11 0 rfl rfl)
theorem dX4_init_261 : decode cX4_init 261 = .ok (.newarray .int, 2) := dk_188_10 (dk_at dksX4_init_11 2 rfl rfl)
theorem dX4_init_263 : decode cX4_init 263 = .ok (.putfield 111, 3) := dk_181 0 111 (dk_at dksX4_init_11 4 rfl rfl)
theorem dX4_init_266 : decode cX4_init 266 = .ok (.aload_n 0, 1) := dk_42 (dk_at dksX4_init_11 7 rfl rfl)
theorem dX4_init_267 : decode cX4_init 267 = .ok (.bipush 8, 2) := dk_16 8 (dk_at dksX4_init_11 8 rfl rfl)
theorem dX4_init_269 : decode cX4_init 269 = .ok (.newarray .int, 2) := dk_188_10 (dk_at dksX4_init_11 10 rfl rfl)
theorem dX4_init_271 : decode cX4_init 271 = .ok (.putfield 114, 3) := dk_181 0 114 (dk_at dksX4_init_11 12 rfl rfl)
theorem dX4_init_274 : decode cX4_init 274 = .ok (.aload_n 0, 1) := dk_42 (dk_at dksX4_init_11 15 rfl rfl)
theorem dX4_init_275 : decode cX4_init 275 = .ok (.sipush 321, 3) := dk_17 1 65 (dk_at dksX4_init_11 16 rfl rfl)
theorem dX4_init_278 : decode cX4_init 278 = .ok (.newarray .int, 2) := dk_188_10 (dk_at dksX4_init_11 19 rfl rfl)
theorem dX4_init_280 : decode cX4_init 280 = .ok (.putfield 117, 3) := dk_181 0 117 (dk_at dksX4_init_11 21 rfl rfl)
theorem dX4_init_283 : decode cX4_init 283 = .ok (.aload_n 0, 1) := dk_42 (dk_at dksX4_init_12 0 rfl rfl)
theorem dX4_init_284 : decode cX4_init 284 = .ok (.ldc 120, 2) := dk_18 120 (dk_at dksX4_init_12 1 rfl rfl)
theorem dX4_init_286 : decode cX4_init 286 = .ok (.newarray .int, 2) := dk_188_10 (dk_at dksX4_init_12 3 rfl rfl)
theorem dX4_init_288 : decode cX4_init 288 = .ok (.putfield 121, 3) := dk_181 0 121 (dk_at dksX4_init_12 5 rfl rfl)
theorem dX4_init_291 : decode cX4_init 291 = .ok (.aload_n 0, 1) := dk_42 (dk_at dksX4_init_12 8 rfl rfl)
theorem dX4_init_292 : decode cX4_init 292 = .ok (.sipush 201, 3) := dk_17 0 201 (dk_at dksX4_init_12 9 rfl rfl)
theorem dX4_init_295 : decode cX4_init 295 = .ok (.newarray .int, 2) := dk_188_10 (dk_at dksX4_init_12 12 rfl rfl)
theorem dX4_init_297 : decode cX4_init 297 = .ok (.putfield 124, 3) := dk_181 0 124 (dk_at dksX4_init_12 14 rfl rfl)
theorem dX4_init_300 : decode cX4_init 300 = .ok (.aload_n 0, 1) := dk_42 (dk_at dksX4_init_12 17 rfl rfl)
theorem dX4_init_301 : decode cX4_init 301 = .ok (.sipush 201, 3) := dk_17 0 201 (dk_at dksX4_init_12 18 rfl rfl)
theorem dX4_init_304 : decode cX4_init 304 = .ok (.newarray .boolean, 2) := dk_188_4 (dk_at dksX4_init_12 21 rfl rfl)
theorem dX4_init_306 : decode cX4_init 306 = .ok (.putfield 127, 3) := dk_181 0 127 (dk_at dksX4_init_13 0 rfl rfl)
theorem dX4_init_309 : decode cX4_init 309 = .ok (.aload_n 0, 1) := dk_42 (dk_at dksX4_init_13 3 rfl rfl)
theorem dX4_init_310 : decode cX4_init 310 = .ok (.iconst (-1), 1) := dk_2 (dk_at dksX4_init_13 4 rfl rfl)
theorem dX4_init_311 : decode cX4_init 311 = .ok (.putfield 130, 3) := dk_181 0 130 (dk_at dksX4_init_13 5 rfl rfl)
theorem dX4_init_314 : decode cX4_init 314 = .ok (.aload_n 0, 1) := dk_42 (dk_at dksX4_init_13 8 rfl rfl)
theorem dX4_init_315 : decode cX4_init 315 = .ok (.sipush 320, 3) := dk_17 1 64 (dk_at dksX4_init_13 9 rfl rfl)
theorem dX4_init_318 : decode cX4_init 318 = .ok (.newarray .int, 2) := dk_188_10 (dk_at dksX4_init_13 12 rfl rfl)
theorem dX4_init_320 : decode cX4_init 320 = .ok (.putfield 133, 3) := dk_181 0 133 (dk_at dksX4_init_13 14 rfl rfl)
theorem dX4_init_323 : decode cX4_init 323 = .ok (.aload_n 0, 1) := dk_42 (dk_at dksX4_init_13 17 rfl rfl)
theorem dX4_init_324 : decode cX4_init 324 = .ok (.sipush 2211, 3) := dk_17 8 163 (dk_at dksX4_init_13 18 rfl rfl)
theorem dX4_init_327 : decode cX4_init 327 = .ok (.newarray .int, 2) := dk_188_10 (dk_at dksX4_init_13 21 rfl rfl)
theorem dX4_init_329 : decode cX4_init 329 = .ok (.putfield 136, 3) := dk_181 0 136 (dk_at dksX4_init_14 0 rfl rfl)
theorem dX4_init_332 : decode cX4_init 332 = .ok (.aload_n 0, 1) := dk_42 (dk_at dksX4_init_14 3 rfl rfl)
theorem dX4_init_333 : decode cX4_init 333 = .ok (.sipush 320, 3) := dk_17 1 64 (dk_at dksX4_init_14 4 rfl rfl)
theorem dX4_init_336 : decode cX4_init 336 = .ok (.newarray .int, 2) := dk_188_10 (dk_at dksX4_init_14 7 rfl rfl)
theorem dX4_init_338 : decode cX4_init 338 = .ok (.putfield 139, 3) := dk_181 0 139 (dk_at dksX4_init_14 9 rfl rfl)
theorem dX4_init_341 : decode cX4_init 341 = .ok (.aload_n 0, 1) := dk_42 (dk_at dksX4_init_14 12 rfl rfl)
theorem dX4_init_342 : decode cX4_init 342 = .ok (.bipush 40, 2) := dk_16 40 (dk_at dksX4_init_14 13 rfl rfl)
theorem dX4_init_344 : decode cX4_init 344 = .ok (.newarray .boolean, 2) := dk_188_4 (dk_at dksX4_init_14 15 rfl rfl)
theorem dX4_init_346 : decode cX4_init 346 = .ok (.putfield 142, 3) := dk_181 0 142 (dk_at dksX4_init_14 17 rfl rfl)
theorem dX4_init_349 : decode cX4_init 349 = .ok (.aload_n 0, 1) := dk_42 (dk_at dksX4_init_14 20 rfl rfl)
theorem dX4_init_350 : decode cX4_init 350 = .ok (.iconst (-1), 1) := dk_2 (dk_at dksX4_init_14 21 rfl rfl)
theorem dX4_init_351 : decode cX4_init 351 = .ok (.putfield 145, 3) := dk_181 0 145 (dk_at dksX4_init_15 0 rfl rfl)
theorem dX4_init_354 : decode cX4_init 354 = .ok (.aload_n 0, 1) := dk_42 (dk_at dksX4_init_15 3 rfl rfl)
theorem dX4_init_355 : decode cX4_init 355 = .ok (.iconst (-1), 1) := dk_2 (dk_at dksX4_init_15 4 rfl rfl)
theorem dX4_init_356 : decode cX4_init 356 = .ok (.putfield 148, 3) := dk_181 0 148 (dk_at dksX4_init_15 5 rfl rfl)
theorem dX4_init_359 : decode cX4_init 359 = .ok (.aload_n 0, 1) := dk_42 (dk_at dksX4_init_15 8 rfl rfl)
theorem dX4_init_360 : decode cX4_init 360 = .ok (.sipush 1985, 3) := dk_17 7 193 (dk_at dksX4_init_15 9 rfl rfl)
theorem dX4_init_363 : decode cX4_init 363 = .ok (.newarray .int, 2) := dk_188_10 (dk_at dksX4_init_15 12 rfl rfl)
theorem dX4_init_365 : decode cX4_init 365 = .ok (.putfield 151, 3) := dk_181 0 151 (dk_at dksX4_init_15 14 rfl rfl)
theorem dX4_init_368 : decode cX4_init 368 = .ok (.aload_n 0, 1) := dk_42 (dk_at dksX4_init_15 17 rfl rfl)
theorem dX4_init_369 : decode cX4_init 369 = .ok (.sipush 320, 3) := dk_17 1 64 (dk_at dksX4_init_15 18 rfl rfl)
theorem dX4_init_372 : decode cX4_init 372 = .ok (.newarray .int, 2) := dk_188_10 (dk_at dksX4_init_15 21 rfl rfl)
theorem dX4_init_374 : decode cX4_init 374 = .ok (.putfield 154, 3) := dk_181 0 154 (dk_at dksX4_init_16 0 rfl rfl)
theorem dX4_init_377 : decode cX4_init 377 = .ok (.aload_n 0, 1) := dk_42 (dk_at dksX4_init_16 3 rfl rfl)
theorem dX4_init_378 : decode cX4_init 378 = .ok (.bipush 8, 2) := dk_16 8 (dk_at dksX4_init_16 4 rfl rfl)
theorem dX4_init_380 : decode cX4_init 380 = .ok (.newarray .int, 2) := dk_188_10 (dk_at dksX4_init_16 6 rfl rfl)
theorem dX4_init_382 : decode cX4_init 382 = .ok (.putfield 157, 3) := dk_181 0 157 (dk_at dksX4_init_16 8 rfl rfl)
theorem dX4_init_385 : decode cX4_init 385 = .ok (.aload_n 0, 1) := dk_42 (dk_at dksX4_init_16 11 rfl rfl)
theorem dX4_init_386 : decode cX4_init 386 = .ok (.bipush 8, 2) := dk_16 8 (dk_at dksX4_init_16 12 rfl rfl)
theorem dX4_init_388 : decode cX4_init 388 = .ok (.newarray .int, 2) := dk_188_10 (dk_at dksX4_init_16 14 rfl rfl)
theorem dX4_init_390 : decode cX4_init 390 = .ok (.putfield 160, 3) := dk_181 0 160 (dk_at dksX4_init_16 16 rfl rfl)
theorem dX4_init_393 : decode cX4_init 393 = .ok (.aload_n 0, 1) := dk_42 (dk_at dksX4_init_16 19 rfl rfl)
theorem dX4_init_394 : decode cX4_init 394 = .ok (.bipush 8, 2) := dk_16 8 (dk_at dksX4_init_16 20 rfl rfl)
theorem dX4_init_396 : decode cX4_init 396 = .ok (.newarray .int, 2) := dk_188_10 (dk_at dksX4_init_16 22 rfl rfl)
theorem dX4_init_398 : decode cX4_init 398 = .ok (.putfield 163, 3) := dk_181 0 163 (dk_at dksX4_init_17 0 rfl rfl)
theorem dX4_init_401 : decode cX4_init 401 = .ok (.aload_n 0, 1) := dk_42 (dk_at dksX4_init_17 3 rfl rfl)
theorem dX4_init_402 : decode cX4_init 402 = .ok (.bipush 8, 2) := dk_16 8 (dk_at dksX4_init_17 4 rfl rfl)
theorem dX4_init_404 : decode cX4_init 404 = .ok (.newarray .int, 2) := dk_188_10 (dk_at dksX4_init_17 6 rfl rfl)
theorem dX4_init_406 : decode cX4_init 406 = .ok (.putfield 166, 3) := dk_181 0 166 (dk_at dksX4_init_17 8 rfl rfl)
theorem dX4_init_409 : decode cX4_init 409 = .ok (.aload_n 0, 1) := dk_42 (dk_at dksX4_init_17 11 rfl rfl)
theorem dX4_init_410 : decode cX4_init 410 = .ok (.bipush 8, 2) := dk_16 8 (dk_at dksX4_init_17 12 rfl rfl)
theorem dX4_init_412 : decode cX4_init 412 = .ok (.newarray .int, 2) := dk_188_10 (dk_at dksX4_init_17 14 rfl rfl)
theorem dX4_init_414 : decode cX4_init 414 = .ok (.putfield 169, 3) := dk_181 0 169 (dk_at dksX4_init_17 16 rfl rfl)
theorem dX4_init_417 : decode cX4_init 417 = .ok (.aload_n 0, 1) := dk_42 (dk_at dksX4_init_17 19 rfl rfl)
theorem dX4_init_418 : decode cX4_init 418 = .ok (.sipush 320, 3) := dk_17 1 64 (dk_at dksX4_init_17 20 rfl rfl)
theorem dX4_init_421 : decode cX4_init 421 = .ok (.newarray .int, 2) := dk_188_10 (dk_at dksX4_init_18 0 rfl rfl)
theorem dX4_init_423 : decode cX4_init 423 = .ok (.putfield 172, 3) := dk_181 0 172 (dk_at dksX4_init_18 2 rfl rfl)
theorem dX4_init_426 : decode cX4_init 426 = .ok (.return_, 1) := dk_177 (dk_at dksX4_init_18 5 rfl rfl)
abbrev cX4_thrown : ByteArray := prog_21_method_2_code
def yX4_thrown : MethodName := ⟨RX4, "thrown", "()I"⟩
theorem dX4_thrown_0 : decode cX4_thrown 0 = .ok (.aload_n 0, 1) := by decide +kernel
theorem dX4_thrown_1 : decode cX4_thrown 1 = .ok (.getfield 175, 3) := by decide +kernel
theorem dX4_thrown_4 : decode cX4_thrown 4 = .ok (.ireturn, 1) := by decide +kernel
abbrev cX4_feed : ByteArray := prog_21_method_6_code
def yX4_feed : MethodName := ⟨RX4, "feed", "(IIIII)I"⟩
def dkwX4_feed_5 : List UInt8 := [167, 255, 162, 42, 180, 0, 178, 172]
abbrev dktX4_feed_5 : List UInt8 := dkwX4_feed_5 ++ []
def dkwX4_feed_4 : List UInt8 := [112, 104, 100, 122, 17, 0, 255, 126, 79, 42, 89, 180, 0, 178, 4, 96, 181, 0, 178, 132, 6, 1]
abbrev dktX4_feed_4 : List UInt8 := dkwX4_feed_4 ++ dktX4_feed_5
def dkwX4_feed_3 : List UInt8 := [167, 0, 5, 21, 5, 54, 7, 42, 180, 0, 58, 42, 180, 0, 178, 21, 7, 16, 24, 16, 8, 21, 6, 7]
abbrev dktX4_feed_3 : List UInt8 := dkwX4_feed_3 ++ dktX4_feed_4
def dkwX4_feed_2 : List UInt8 := [28, 167, 0, 28, 21, 6, 16, 12, 162, 0, 7, 29, 167, 0, 17, 21, 6, 16, 16, 162, 0, 8, 21, 4]
abbrev dktX4_feed_2 : List UInt8 := dkwX4_feed_2 ++ dktX4_feed_3
def dkwX4_feed_1 : List UInt8 := [21, 6, 16, 20, 162, 0, 93, 21, 6, 7, 162, 0, 7, 27, 167, 0, 39, 21, 6, 16, 8, 162, 0, 7]
abbrev dktX4_feed_1 : List UInt8 := dkwX4_feed_1 ++ dktX4_feed_2
def dkwX4_feed_0 : List UInt8 := [42, 3, 181, 0, 175, 42, 180, 0, 178, 16, 20, 96, 17, 2, 188, 164, 0, 5, 2, 172, 3, 54, 6]
abbrev dktX4_feed_0 : List UInt8 := dkwX4_feed_0 ++ dktX4_feed_1
theorem dksX4_feed_0 : cX4_feed.data.toList.drop 0 = dktX4_feed_0 := by decide +kernel
theorem dksX4_feed_1 : cX4_feed.data.toList.drop 23 = dktX4_feed_1 := dk_seg dksX4_feed_0 23 rfl rfl
theorem dksX4_feed_2 : cX4_feed.data.toList.drop 47 = dktX4_feed_2 := dk_seg dksX4_feed_1 24 rfl rfl
theorem dksX4_feed_3 : cX4_feed.data.toList.drop 71 = dktX4_feed_3 := dk_seg dksX4_feed_2 24 rfl rfl
theorem dksX4_feed_4 : cX4_feed.data.toList.drop 95 = dktX4_feed_4 := dk_seg dksX4_feed_3 24 rfl rfl
theorem dksX4_feed_5 : cX4_feed.data.toList.drop 117 = dktX4_feed_5 := dk_seg dksX4_feed_4 22 rfl rfl
theorem dX4_feed_0 : decode cX4_feed 0 = .ok (.aload_n 0, 1) := dk_42 (dk_at dksX4_feed_0 0 rfl rfl)
theorem dX4_feed_1 : decode cX4_feed 1 = .ok (.iconst 0, 1) := dk_3 (dk_at dksX4_feed_0 1 rfl rfl)
theorem dX4_feed_2 : decode cX4_feed 2 = .ok (.putfield 175, 3) := dk_181 0 175 (dk_at dksX4_feed_0 2 rfl rfl)
theorem dX4_feed_5 : decode cX4_feed 5 = .ok (.aload_n 0, 1) := dk_42 (dk_at dksX4_feed_0 5 rfl rfl)
theorem dX4_feed_6 : decode cX4_feed 6 = .ok (.getfield 178, 3) := dk_180 0 178 (dk_at dksX4_feed_0 6 rfl rfl)
theorem dX4_feed_9 : decode cX4_feed 9 = .ok (.bipush 20, 2) := dk_16 20 (dk_at dksX4_feed_0 9 rfl rfl)
theorem dX4_feed_11 : decode cX4_feed 11 = .ok (.iadd, 1) := dk_96 (dk_at dksX4_feed_0 11 rfl rfl)
theorem dX4_feed_12 : decode cX4_feed 12 = .ok (.sipush 700, 3) := dk_17 2 188 (dk_at dksX4_feed_0 12 rfl rfl)
theorem dX4_feed_15 : decode cX4_feed 15 = .ok (.if_icmp .le 5, 3) := dk_164 0 5 (dk_at dksX4_feed_0 15 rfl rfl)
theorem dX4_feed_18 : decode cX4_feed 18 = .ok (.iconst (-1), 1) := dk_2 (dk_at dksX4_feed_0 18 rfl rfl)
theorem dX4_feed_19 : decode cX4_feed 19 = .ok (.ireturn, 1) := dk_172 (dk_at dksX4_feed_0 19 rfl rfl)
theorem dX4_feed_20 : decode cX4_feed 20 = .ok (.iconst 0, 1) := dk_3 (dk_at dksX4_feed_0 20 rfl rfl)
theorem dX4_feed_21 : decode cX4_feed 21 = .ok (.istore 6, 2) := dk_54 6 (dk_at dksX4_feed_0 21 rfl rfl)
theorem dX4_feed_23 : decode cX4_feed 23 = .ok (.iload 6, 2) := dk_21 6 (dk_at dksX4_feed_1 0 rfl rfl)
theorem dX4_feed_25 : decode cX4_feed 25 = .ok (.bipush 20, 2) := dk_16 20 (dk_at dksX4_feed_1 2 rfl rfl)
theorem dX4_feed_27 : decode cX4_feed 27 = .ok (.if_icmp .ge 93, 3) := dk_162 0 93 (dk_at dksX4_feed_1 4 rfl rfl)
theorem dX4_feed_30 : decode cX4_feed 30 = .ok (.iload 6, 2) := dk_21 6 (dk_at dksX4_feed_1 7 rfl rfl)
theorem dX4_feed_32 : decode cX4_feed 32 = .ok (.iconst 4, 1) := dk_7 (dk_at dksX4_feed_1 9 rfl rfl)
theorem dX4_feed_33 : decode cX4_feed 33 = .ok (.if_icmp .ge 7, 3) := dk_162 0 7 (dk_at dksX4_feed_1 10 rfl rfl)
theorem dX4_feed_36 : decode cX4_feed 36 = .ok (.iload_n 1, 1) := dk_27 (dk_at dksX4_feed_1 13 rfl rfl)
theorem dX4_feed_37 : decode cX4_feed 37 = .ok (.goto 39, 3) := dk_167 0 39 (dk_at dksX4_feed_1 14 rfl rfl)
theorem dX4_feed_40 : decode cX4_feed 40 = .ok (.iload 6, 2) := dk_21 6 (dk_at dksX4_feed_1 17 rfl rfl)
theorem dX4_feed_42 : decode cX4_feed 42 = .ok (.bipush 8, 2) := dk_16 8 (dk_at dksX4_feed_1 19 rfl rfl)
theorem dX4_feed_44 : decode cX4_feed 44 = .ok (.if_icmp .ge 7, 3) := dk_162 0 7 (dk_at dksX4_feed_1 21 rfl rfl)
theorem dX4_feed_47 : decode cX4_feed 47 = .ok (.iload_n 2, 1) := dk_28 (dk_at dksX4_feed_2 0 rfl rfl)
theorem dX4_feed_48 : decode cX4_feed 48 = .ok (.goto 28, 3) := dk_167 0 28 (dk_at dksX4_feed_2 1 rfl rfl)
theorem dX4_feed_51 : decode cX4_feed 51 = .ok (.iload 6, 2) := dk_21 6 (dk_at dksX4_feed_2 4 rfl rfl)
theorem dX4_feed_53 : decode cX4_feed 53 = .ok (.bipush 12, 2) := dk_16 12 (dk_at dksX4_feed_2 6 rfl rfl)
theorem dX4_feed_55 : decode cX4_feed 55 = .ok (.if_icmp .ge 7, 3) := dk_162 0 7 (dk_at dksX4_feed_2 8 rfl rfl)
theorem dX4_feed_58 : decode cX4_feed 58 = .ok (.iload_n 3, 1) := dk_29 (dk_at dksX4_feed_2 11 rfl rfl)
theorem dX4_feed_59 : decode cX4_feed 59 = .ok (.goto 17, 3) := dk_167 0 17 (dk_at dksX4_feed_2 12 rfl rfl)
theorem dX4_feed_62 : decode cX4_feed 62 = .ok (.iload 6, 2) := dk_21 6 (dk_at dksX4_feed_2 15 rfl rfl)
theorem dX4_feed_64 : decode cX4_feed 64 = .ok (.bipush 16, 2) := dk_16 16 (dk_at dksX4_feed_2 17 rfl rfl)
theorem dX4_feed_66 : decode cX4_feed 66 = .ok (.if_icmp .ge 8, 3) := dk_162 0 8 (dk_at dksX4_feed_2 19 rfl rfl)
theorem dX4_feed_69 : decode cX4_feed 69 = .ok (.iload 4, 2) := dk_21 4 (dk_at dksX4_feed_2 22 rfl rfl)
theorem dX4_feed_71 : decode cX4_feed 71 = .ok (.goto 5, 3) := dk_167 0 5 (dk_at dksX4_feed_3 0 rfl rfl)
theorem dX4_feed_74 : decode cX4_feed 74 = .ok (.iload 5, 2) := dk_21 5 (dk_at dksX4_feed_3 3 rfl rfl)
theorem dX4_feed_76 : decode cX4_feed 76 = .ok (.istore 7, 2) := dk_54 7 (dk_at dksX4_feed_3 5 rfl rfl)
theorem dX4_feed_78 : decode cX4_feed 78 = .ok (.aload_n 0, 1) := dk_42 (dk_at dksX4_feed_3 7 rfl rfl)
theorem dX4_feed_79 : decode cX4_feed 79 = .ok (.getfield 58, 3) := dk_180 0 58 (dk_at dksX4_feed_3 8 rfl rfl)
theorem dX4_feed_82 : decode cX4_feed 82 = .ok (.aload_n 0, 1) := dk_42 (dk_at dksX4_feed_3 11 rfl rfl)
theorem dX4_feed_83 : decode cX4_feed 83 = .ok (.getfield 178, 3) := dk_180 0 178 (dk_at dksX4_feed_3 12 rfl rfl)
theorem dX4_feed_86 : decode cX4_feed 86 = .ok (.iload 7, 2) := dk_21 7 (dk_at dksX4_feed_3 15 rfl rfl)
theorem dX4_feed_88 : decode cX4_feed 88 = .ok (.bipush 24, 2) := dk_16 24 (dk_at dksX4_feed_3 17 rfl rfl)
theorem dX4_feed_90 : decode cX4_feed 90 = .ok (.bipush 8, 2) := dk_16 8 (dk_at dksX4_feed_3 19 rfl rfl)
theorem dX4_feed_92 : decode cX4_feed 92 = .ok (.iload 6, 2) := dk_21 6 (dk_at dksX4_feed_3 21 rfl rfl)
theorem dX4_feed_94 : decode cX4_feed 94 = .ok (.iconst 4, 1) := dk_7 (dk_at dksX4_feed_3 23 rfl rfl)
theorem dX4_feed_95 : decode cX4_feed 95 = .ok (.irem, 1) := dk_112 (dk_at dksX4_feed_4 0 rfl rfl)
theorem dX4_feed_96 : decode cX4_feed 96 = .ok (.imul, 1) := dk_104 (dk_at dksX4_feed_4 1 rfl rfl)
theorem dX4_feed_97 : decode cX4_feed 97 = .ok (.isub, 1) := dk_100 (dk_at dksX4_feed_4 2 rfl rfl)
theorem dX4_feed_98 : decode cX4_feed 98 = .ok (.ishr, 1) := dk_122 (dk_at dksX4_feed_4 3 rfl rfl)
theorem dX4_feed_99 : decode cX4_feed 99 = .ok (.sipush 255, 3) := dk_17 0 255 (dk_at dksX4_feed_4 4 rfl rfl)
theorem dX4_feed_102 : decode cX4_feed 102 = .ok (.iand, 1) := dk_126 (dk_at dksX4_feed_4 7 rfl rfl)
theorem dX4_feed_103 : decode cX4_feed 103 = .ok (.iastore, 1) := dk_79 (dk_at dksX4_feed_4 8 rfl rfl)
theorem dX4_feed_104 : decode cX4_feed 104 = .ok (.aload_n 0, 1) := dk_42 (dk_at dksX4_feed_4 9 rfl rfl)
theorem dX4_feed_105 : decode cX4_feed 105 = .ok (.dup, 1) := dk_89 (dk_at dksX4_feed_4 10 rfl rfl)
theorem dX4_feed_106 : decode cX4_feed 106 = .ok (.getfield 178, 3) := dk_180 0 178 (dk_at dksX4_feed_4 11 rfl rfl)
theorem dX4_feed_109 : decode cX4_feed 109 = .ok (.iconst 1, 1) := dk_4 (dk_at dksX4_feed_4 14 rfl rfl)
theorem dX4_feed_110 : decode cX4_feed 110 = .ok (.iadd, 1) := dk_96 (dk_at dksX4_feed_4 15 rfl rfl)
theorem dX4_feed_111 : decode cX4_feed 111 = .ok (.putfield 178, 3) := dk_181 0 178 (dk_at dksX4_feed_4 16 rfl rfl)
theorem dX4_feed_114 : decode cX4_feed 114 = .ok (.iinc 6 1, 3) := dk_132 6 1 (dk_at dksX4_feed_4 19 rfl rfl)
theorem dX4_feed_117 : decode cX4_feed 117 = .ok (.goto (-94), 3) := dk_167 255 162 (dk_at dksX4_feed_5 0 rfl rfl)
theorem dX4_feed_120 : decode cX4_feed 120 = .ok (.aload_n 0, 1) := dk_42 (dk_at dksX4_feed_5 3 rfl rfl)
theorem dX4_feed_121 : decode cX4_feed 121 = .ok (.getfield 178, 3) := dk_180 0 178 (dk_at dksX4_feed_5 4 rfl rfl)
theorem dX4_feed_124 : decode cX4_feed 124 = .ok (.ireturn, 1) := dk_172 (dk_at dksX4_feed_5 7 rfl rfl)
abbrev cX4_text : ByteArray := prog_21_method_28_code
def yX4_text : MethodName := ⟨RX4, "text", "(I)I"⟩
def dkwX4_text_13 : List UInt8 := [180, 1, 60, 4, 96, 181, 1, 60, 42, 89, 180, 1, 63, 4, 96, 181, 1, 63, 3, 172]
abbrev dktX4_text_13 : List UInt8 := dkwX4_text_13 ++ []
def dkwX4_text_12 : List UInt8 := [180, 0, 68, 28, 42, 180, 0, 68, 17, 4, 56, 28, 96, 46, 79, 132, 2, 1, 167, 255, 229, 42, 89]
abbrev dktX4_text_12 : List UInt8 := dkwX4_text_12 ++ dktX4_text_13
def dkwX4_text_11 : List UInt8 := [132, 3, 1, 167, 255, 202, 132, 2, 1, 167, 255, 94, 3, 61, 28, 42, 180, 0, 248, 162, 0, 25, 42]
abbrev dktX4_text_11 : List UInt8 := dkwX4_text_11 ++ dktX4_text_12
def dkwX4_text_10 : List UInt8 := [180, 0, 77, 6, 28, 104, 29, 96, 42, 180, 0, 77, 6, 16, 40, 28, 96, 104, 29, 96, 46, 79]
abbrev dktX4_text_10 : List UInt8 := dkwX4_text_10 ++ dktX4_text_11
def dkwX4_text_9 : List UInt8 := [180, 0, 74, 6, 28, 104, 29, 96, 42, 180, 0, 74, 6, 16, 40, 28, 96, 104, 29, 96, 46, 79, 42]
abbrev dktX4_text_9 : List UInt8 := dkwX4_text_9 ++ dktX4_text_10
def dkwX4_text_8 : List UInt8 := [42, 180, 0, 92, 28, 42, 180, 0, 92, 16, 40, 28, 96, 46, 79, 3, 62, 29, 6, 162, 0, 55, 42]
abbrev dktX4_text_8 : List UInt8 := dkwX4_text_8 ++ dktX4_text_9
def dkwX4_text_7 : List UInt8 := [180, 0, 86, 16, 40, 28, 96, 46, 79, 42, 180, 0, 89, 28, 42, 180, 0, 89, 16, 40, 28, 96, 46, 79]
abbrev dktX4_text_7 : List UInt8 := dkwX4_text_7 ++ dktX4_text_8
def dkwX4_text_6 : List UInt8 := [79, 42, 180, 0, 83, 28, 42, 180, 0, 83, 16, 40, 28, 96, 46, 79, 42, 180, 0, 86, 28, 42]
abbrev dktX4_text_6 : List UInt8 := dkwX4_text_6 ++ dktX4_text_7
def dkwX4_text_5 : List UInt8 := [42, 180, 0, 71, 16, 40, 28, 96, 46, 79, 42, 180, 0, 80, 28, 42, 180, 0, 80, 16, 40, 28, 96, 46]
abbrev dktX4_text_5 : List UInt8 := dkwX4_text_5 ++ dktX4_text_6
def dkwX4_text_4 : List UInt8 := [42, 180, 0, 65, 4, 46, 79, 3, 61, 28, 42, 180, 0, 65, 3, 46, 162, 0, 158, 42, 180, 0, 71, 28]
abbrev dktX4_text_4 : List UInt8 := dkwX4_text_4 ++ dktX4_text_5
def dkwX4_text_3 : List UInt8 := [180, 0, 220, 153, 0, 16, 42, 42, 180, 0, 223, 181, 0, 62, 42, 180, 0, 220, 172, 42, 180, 0, 65, 3]
abbrev dktX4_text_3 : List UInt8 := dkwX4_text_3 ++ dktX4_text_4
def dkwX4_text_2 : List UInt8 := [42, 3, 181, 0, 248, 42, 180, 0, 65, 4, 3, 79, 42, 182, 0, 245, 42, 3, 2, 182, 1, 47, 87, 42]
abbrev dktX4_text_2 : List UInt8 := dkwX4_text_2 ++ dktX4_text_3
def dkwX4_text_1 : List UInt8 := [3, 181, 0, 178, 42, 27, 181, 0, 181, 42, 3, 181, 0, 184, 42, 3, 181, 0, 220, 42, 2, 181, 0, 62]
abbrev dktX4_text_1 : List UInt8 := dkwX4_text_1 ++ dktX4_text_2
def dkwX4_text_0 : List UInt8 := [42, 3, 181, 0, 175, 27, 155, 0, 11, 27, 42, 180, 0, 178, 164, 0, 9, 42, 4, 182, 1, 57, 172, 42]
abbrev dktX4_text_0 : List UInt8 := dkwX4_text_0 ++ dktX4_text_1
theorem dksX4_text_0 : cX4_text.data.toList.drop 0 = dktX4_text_0 := by decide +kernel
theorem dksX4_text_1 : cX4_text.data.toList.drop 24 = dktX4_text_1 := dk_seg dksX4_text_0 24 rfl rfl
theorem dksX4_text_2 : cX4_text.data.toList.drop 48 = dktX4_text_2 := dk_seg dksX4_text_1 24 rfl rfl
theorem dksX4_text_3 : cX4_text.data.toList.drop 72 = dktX4_text_3 := dk_seg dksX4_text_2 24 rfl rfl
theorem dksX4_text_4 : cX4_text.data.toList.drop 96 = dktX4_text_4 := dk_seg dksX4_text_3 24 rfl rfl
theorem dksX4_text_5 : cX4_text.data.toList.drop 120 = dktX4_text_5 := dk_seg dksX4_text_4 24 rfl rfl
theorem dksX4_text_6 : cX4_text.data.toList.drop 144 = dktX4_text_6 := dk_seg dksX4_text_5 24 rfl rfl
theorem dksX4_text_7 : cX4_text.data.toList.drop 166 = dktX4_text_7 := dk_seg dksX4_text_6 22 rfl rfl
theorem dksX4_text_8 : cX4_text.data.toList.drop 190 = dktX4_text_8 := dk_seg dksX4_text_7 24 rfl rfl
theorem dksX4_text_9 : cX4_text.data.toList.drop 213 = dktX4_text_9 := dk_seg dksX4_text_8 23 rfl rfl
theorem dksX4_text_10 : cX4_text.data.toList.drop 236 = dktX4_text_10 := dk_seg dksX4_text_9 23 rfl rfl
theorem dksX4_text_11 : cX4_text.data.toList.drop 258 = dktX4_text_11 := dk_seg dksX4_text_10 22 rfl rfl
theorem dksX4_text_12 : cX4_text.data.toList.drop 281 = dktX4_text_12 := dk_seg dksX4_text_11 23 rfl rfl
theorem dksX4_text_13 : cX4_text.data.toList.drop 304 = dktX4_text_13 := dk_seg dksX4_text_12 23 rfl rfl
theorem dX4_text_0 : decode cX4_text 0 = .ok (.aload_n 0, 1) := dk_42 (dk_at dksX4_text_0 0 rfl rfl)
theorem dX4_text_1 : decode cX4_text 1 = .ok (.iconst 0, 1) := dk_3 (dk_at dksX4_text_0 1 rfl rfl)
theorem dX4_text_2 : decode cX4_text 2 = .ok (.putfield 175, 3) := dk_181 0 175 (dk_at dksX4_text_0 2 rfl rfl)
theorem dX4_text_5 : decode cX4_text 5 = .ok (.iload_n 1, 1) := dk_27 (dk_at dksX4_text_0 5 rfl rfl)
theorem dX4_text_6 : decode cX4_text 6 = .ok (.ifCond .lt 11, 3) := dk_155 0 11 (dk_at dksX4_text_0 6 rfl rfl)
theorem dX4_text_9 : decode cX4_text 9 = .ok (.iload_n 1, 1) := dk_27 (dk_at dksX4_text_0 9 rfl rfl)
theorem dX4_text_10 : decode cX4_text 10 = .ok (.aload_n 0, 1) := dk_42 (dk_at dksX4_text_0 10 rfl rfl)
theorem dX4_text_11 : decode cX4_text 11 = .ok (.getfield 178, 3) := dk_180 0 178 (dk_at dksX4_text_0 11 rfl rfl)
theorem dX4_text_14 : decode cX4_text 14 = .ok (.if_icmp .le 9, 3) := dk_164 0 9 (dk_at dksX4_text_0 14 rfl rfl)
theorem dX4_text_17 : decode cX4_text 17 = .ok (.aload_n 0, 1) := dk_42 (dk_at dksX4_text_0 17 rfl rfl)
theorem dX4_text_18 : decode cX4_text 18 = .ok (.iconst 1, 1) := dk_4 (dk_at dksX4_text_0 18 rfl rfl)
theorem dX4_text_19 : decode cX4_text 19 = .ok (.invokevirtual 313, 3) := dk_182 1 57 (dk_at dksX4_text_0 19 rfl rfl)
theorem dX4_text_22 : decode cX4_text 22 = .ok (.ireturn, 1) := dk_172 (dk_at dksX4_text_0 22 rfl rfl)
theorem dX4_text_23 : decode cX4_text 23 = .ok (.aload_n 0, 1) := dk_42 (dk_at dksX4_text_0 23 rfl rfl)
theorem dX4_text_24 : decode cX4_text 24 = .ok (.iconst 0, 1) := dk_3 (dk_at dksX4_text_1 0 rfl rfl)
theorem dX4_text_25 : decode cX4_text 25 = .ok (.putfield 178, 3) := dk_181 0 178 (dk_at dksX4_text_1 1 rfl rfl)
theorem dX4_text_28 : decode cX4_text 28 = .ok (.aload_n 0, 1) := dk_42 (dk_at dksX4_text_1 4 rfl rfl)
theorem dX4_text_29 : decode cX4_text 29 = .ok (.iload_n 1, 1) := dk_27 (dk_at dksX4_text_1 5 rfl rfl)
theorem dX4_text_30 : decode cX4_text 30 = .ok (.putfield 181, 3) := dk_181 0 181 (dk_at dksX4_text_1 6 rfl rfl)
theorem dX4_text_33 : decode cX4_text 33 = .ok (.aload_n 0, 1) := dk_42 (dk_at dksX4_text_1 9 rfl rfl)
theorem dX4_text_34 : decode cX4_text 34 = .ok (.iconst 0, 1) := dk_3 (dk_at dksX4_text_1 10 rfl rfl)
theorem dX4_text_35 : decode cX4_text 35 = .ok (.putfield 184, 3) := dk_181 0 184 (dk_at dksX4_text_1 11 rfl rfl)
theorem dX4_text_38 : decode cX4_text 38 = .ok (.aload_n 0, 1) := dk_42 (dk_at dksX4_text_1 14 rfl rfl)
theorem dX4_text_39 : decode cX4_text 39 = .ok (.iconst 0, 1) := dk_3 (dk_at dksX4_text_1 15 rfl rfl)
theorem dX4_text_40 : decode cX4_text 40 = .ok (.putfield 220, 3) := dk_181 0 220 (dk_at dksX4_text_1 16 rfl rfl)
theorem dX4_text_43 : decode cX4_text 43 = .ok (.aload_n 0, 1) := dk_42 (dk_at dksX4_text_1 19 rfl rfl)
theorem dX4_text_44 : decode cX4_text 44 = .ok (.iconst (-1), 1) := dk_2 (dk_at dksX4_text_1 20 rfl rfl)
theorem dX4_text_45 : decode cX4_text 45 = .ok (.putfield 62, 3) := dk_181 0 62 (dk_at dksX4_text_1 21 rfl rfl)
theorem dX4_text_48 : decode cX4_text 48 = .ok (.aload_n 0, 1) := dk_42 (dk_at dksX4_text_2 0 rfl rfl)
theorem dX4_text_49 : decode cX4_text 49 = .ok (.iconst 0, 1) := dk_3 (dk_at dksX4_text_2 1 rfl rfl)
theorem dX4_text_50 : decode cX4_text 50 = .ok (.putfield 248, 3) := dk_181 0 248 (dk_at dksX4_text_2 2 rfl rfl)
theorem dX4_text_53 : decode cX4_text 53 = .ok (.aload_n 0, 1) := dk_42 (dk_at dksX4_text_2 5 rfl rfl)
theorem dX4_text_54 : decode cX4_text 54 = .ok (.getfield 65, 3) := dk_180 0 65 (dk_at dksX4_text_2 6 rfl rfl)
theorem dX4_text_57 : decode cX4_text 57 = .ok (.iconst 1, 1) := dk_4 (dk_at dksX4_text_2 9 rfl rfl)
theorem dX4_text_58 : decode cX4_text 58 = .ok (.iconst 0, 1) := dk_3 (dk_at dksX4_text_2 10 rfl rfl)
theorem dX4_text_59 : decode cX4_text 59 = .ok (.iastore, 1) := dk_79 (dk_at dksX4_text_2 11 rfl rfl)
theorem dX4_text_60 : decode cX4_text 60 = .ok (.aload_n 0, 1) := dk_42 (dk_at dksX4_text_2 12 rfl rfl)
theorem dX4_text_61 : decode cX4_text 61 = .ok (.invokevirtual 245, 3) := dk_182 0 245 (dk_at dksX4_text_2 13 rfl rfl)
theorem dX4_text_64 : decode cX4_text 64 = .ok (.aload_n 0, 1) := dk_42 (dk_at dksX4_text_2 16 rfl rfl)
theorem dX4_text_65 : decode cX4_text 65 = .ok (.iconst 0, 1) := dk_3 (dk_at dksX4_text_2 17 rfl rfl)
theorem dX4_text_66 : decode cX4_text 66 = .ok (.iconst (-1), 1) := dk_2 (dk_at dksX4_text_2 18 rfl rfl)
theorem dX4_text_67 : decode cX4_text 67 = .ok (.invokevirtual 303, 3) := dk_182 1 47 (dk_at dksX4_text_2 19 rfl rfl)
theorem dX4_text_70 : decode cX4_text 70 = .ok (.pop, 1) := dk_87 (dk_at dksX4_text_2 22 rfl rfl)
theorem dX4_text_71 : decode cX4_text 71 = .ok (.aload_n 0, 1) := dk_42 (dk_at dksX4_text_2 23 rfl rfl)
theorem dX4_text_72 : decode cX4_text 72 = .ok (.getfield 220, 3) := dk_180 0 220 (dk_at dksX4_text_3 0 rfl rfl)
theorem dX4_text_75 : decode cX4_text 75 = .ok (.ifCond .eq 16, 3) := dk_153 0 16 (dk_at dksX4_text_3 3 rfl rfl)
theorem dX4_text_78 : decode cX4_text 78 = .ok (.aload_n 0, 1) := dk_42 (dk_at dksX4_text_3 6 rfl rfl)
theorem dX4_text_79 : decode cX4_text 79 = .ok (.aload_n 0, 1) := dk_42 (dk_at dksX4_text_3 7 rfl rfl)
theorem dX4_text_80 : decode cX4_text 80 = .ok (.getfield 223, 3) := dk_180 0 223 (dk_at dksX4_text_3 8 rfl rfl)
theorem dX4_text_83 : decode cX4_text 83 = .ok (.putfield 62, 3) := dk_181 0 62 (dk_at dksX4_text_3 11 rfl rfl)
theorem dX4_text_86 : decode cX4_text 86 = .ok (.aload_n 0, 1) := dk_42 (dk_at dksX4_text_3 14 rfl rfl)
theorem dX4_text_87 : decode cX4_text 87 = .ok (.getfield 220, 3) := dk_180 0 220 (dk_at dksX4_text_3 15 rfl rfl)
theorem dX4_text_90 : decode cX4_text 90 = .ok (.ireturn, 1) := dk_172 (dk_at dksX4_text_3 18 rfl rfl)
theorem dX4_text_91 : decode cX4_text 91 = .ok (.aload_n 0, 1) := dk_42 (dk_at dksX4_text_3 19 rfl rfl)
theorem dX4_text_92 : decode cX4_text 92 = .ok (.getfield 65, 3) := dk_180 0 65 (dk_at dksX4_text_3 20 rfl rfl)
theorem dX4_text_95 : decode cX4_text 95 = .ok (.iconst 0, 1) := dk_3 (dk_at dksX4_text_3 23 rfl rfl)
theorem dX4_text_96 : decode cX4_text 96 = .ok (.aload_n 0, 1) := dk_42 (dk_at dksX4_text_4 0 rfl rfl)
theorem dX4_text_97 : decode cX4_text 97 = .ok (.getfield 65, 3) := dk_180 0 65 (dk_at dksX4_text_4 1 rfl rfl)
theorem dX4_text_100 : decode cX4_text 100 = .ok (.iconst 1, 1) := dk_4 (dk_at dksX4_text_4 4 rfl rfl)
theorem dX4_text_101 : decode cX4_text 101 = .ok (.iaload, 1) := dk_46 (dk_at dksX4_text_4 5 rfl rfl)
theorem dX4_text_102 : decode cX4_text 102 = .ok (.iastore, 1) := dk_79 (dk_at dksX4_text_4 6 rfl rfl)
theorem dX4_text_103 : decode cX4_text 103 = .ok (.iconst 0, 1) := dk_3 (dk_at dksX4_text_4 7 rfl rfl)
theorem dX4_text_104 : decode cX4_text 104 = .ok (.istore_n 2, 1) := dk_61 (dk_at dksX4_text_4 8 rfl rfl)
theorem dX4_text_105 : decode cX4_text 105 = .ok (.iload_n 2, 1) := dk_28 (dk_at dksX4_text_4 9 rfl rfl)
theorem dX4_text_106 : decode cX4_text 106 = .ok (.aload_n 0, 1) := dk_42 (dk_at dksX4_text_4 10 rfl rfl)
theorem dX4_text_107 : decode cX4_text 107 = .ok (.getfield 65, 3) := dk_180 0 65 (dk_at dksX4_text_4 11 rfl rfl)
theorem dX4_text_110 : decode cX4_text 110 = .ok (.iconst 0, 1) := dk_3 (dk_at dksX4_text_4 14 rfl rfl)
theorem dX4_text_111 : decode cX4_text 111 = .ok (.iaload, 1) := dk_46 (dk_at dksX4_text_4 15 rfl rfl)
theorem dX4_text_112 : decode cX4_text 112 = .ok (.if_icmp .ge 158, 3) := dk_162 0 158 (dk_at dksX4_text_4 16 rfl rfl)
theorem dX4_text_115 : decode cX4_text 115 = .ok (.aload_n 0, 1) := dk_42 (dk_at dksX4_text_4 19 rfl rfl)
theorem dX4_text_116 : decode cX4_text 116 = .ok (.getfield 71, 3) := dk_180 0 71 (dk_at dksX4_text_4 20 rfl rfl)
theorem dX4_text_119 : decode cX4_text 119 = .ok (.iload_n 2, 1) := dk_28 (dk_at dksX4_text_4 23 rfl rfl)
theorem dX4_text_120 : decode cX4_text 120 = .ok (.aload_n 0, 1) := dk_42 (dk_at dksX4_text_5 0 rfl rfl)
theorem dX4_text_121 : decode cX4_text 121 = .ok (.getfield 71, 3) := dk_180 0 71 (dk_at dksX4_text_5 1 rfl rfl)
theorem dX4_text_124 : decode cX4_text 124 = .ok (.bipush 40, 2) := dk_16 40 (dk_at dksX4_text_5 4 rfl rfl)
theorem dX4_text_126 : decode cX4_text 126 = .ok (.iload_n 2, 1) := dk_28 (dk_at dksX4_text_5 6 rfl rfl)
theorem dX4_text_127 : decode cX4_text 127 = .ok (.iadd, 1) := dk_96 (dk_at dksX4_text_5 7 rfl rfl)
theorem dX4_text_128 : decode cX4_text 128 = .ok (.iaload, 1) := dk_46 (dk_at dksX4_text_5 8 rfl rfl)
theorem dX4_text_129 : decode cX4_text 129 = .ok (.iastore, 1) := dk_79 (dk_at dksX4_text_5 9 rfl rfl)
theorem dX4_text_130 : decode cX4_text 130 = .ok (.aload_n 0, 1) := dk_42 (dk_at dksX4_text_5 10 rfl rfl)
theorem dX4_text_131 : decode cX4_text 131 = .ok (.getfield 80, 3) := dk_180 0 80 (dk_at dksX4_text_5 11 rfl rfl)
theorem dX4_text_134 : decode cX4_text 134 = .ok (.iload_n 2, 1) := dk_28 (dk_at dksX4_text_5 14 rfl rfl)
theorem dX4_text_135 : decode cX4_text 135 = .ok (.aload_n 0, 1) := dk_42 (dk_at dksX4_text_5 15 rfl rfl)
theorem dX4_text_136 : decode cX4_text 136 = .ok (.getfield 80, 3) := dk_180 0 80 (dk_at dksX4_text_5 16 rfl rfl)
theorem dX4_text_139 : decode cX4_text 139 = .ok (.bipush 40, 2) := dk_16 40 (dk_at dksX4_text_5 19 rfl rfl)
theorem dX4_text_141 : decode cX4_text 141 = .ok (.iload_n 2, 1) := dk_28 (dk_at dksX4_text_5 21 rfl rfl)
theorem dX4_text_142 : decode cX4_text 142 = .ok (.iadd, 1) := dk_96 (dk_at dksX4_text_5 22 rfl rfl)
theorem dX4_text_143 : decode cX4_text 143 = .ok (.iaload, 1) := dk_46 (dk_at dksX4_text_5 23 rfl rfl)
theorem dX4_text_144 : decode cX4_text 144 = .ok (.iastore, 1) := dk_79 (dk_at dksX4_text_6 0 rfl rfl)
theorem dX4_text_145 : decode cX4_text 145 = .ok (.aload_n 0, 1) := dk_42 (dk_at dksX4_text_6 1 rfl rfl)
theorem dX4_text_146 : decode cX4_text 146 = .ok (.getfield 83, 3) := dk_180 0 83 (dk_at dksX4_text_6 2 rfl rfl)
theorem dX4_text_149 : decode cX4_text 149 = .ok (.iload_n 2, 1) := dk_28 (dk_at dksX4_text_6 5 rfl rfl)
theorem dX4_text_150 : decode cX4_text 150 = .ok (.aload_n 0, 1) := dk_42 (dk_at dksX4_text_6 6 rfl rfl)
theorem dX4_text_151 : decode cX4_text 151 = .ok (.getfield 83, 3) := dk_180 0 83 (dk_at dksX4_text_6 7 rfl rfl)
theorem dX4_text_154 : decode cX4_text 154 = .ok (.bipush 40, 2) := dk_16 40 (dk_at dksX4_text_6 10 rfl rfl)
theorem dX4_text_156 : decode cX4_text 156 = .ok (.iload_n 2, 1) := dk_28 (dk_at dksX4_text_6 12 rfl rfl)
theorem dX4_text_157 : decode cX4_text 157 = .ok (.iadd, 1) := dk_96 (dk_at dksX4_text_6 13 rfl rfl)
theorem dX4_text_158 : decode cX4_text 158 = .ok (.iaload, 1) := dk_46 (dk_at dksX4_text_6 14 rfl rfl)
theorem dX4_text_159 : decode cX4_text 159 = .ok (.iastore, 1) := dk_79 (dk_at dksX4_text_6 15 rfl rfl)
theorem dX4_text_160 : decode cX4_text 160 = .ok (.aload_n 0, 1) := dk_42 (dk_at dksX4_text_6 16 rfl rfl)
theorem dX4_text_161 : decode cX4_text 161 = .ok (.getfield 86, 3) := dk_180 0 86 (dk_at dksX4_text_6 17 rfl rfl)
theorem dX4_text_164 : decode cX4_text 164 = .ok (.iload_n 2, 1) := dk_28 (dk_at dksX4_text_6 20 rfl rfl)
theorem dX4_text_165 : decode cX4_text 165 = .ok (.aload_n 0, 1) := dk_42 (dk_at dksX4_text_6 21 rfl rfl)
theorem dX4_text_166 : decode cX4_text 166 = .ok (.getfield 86, 3) := dk_180 0 86 (dk_at dksX4_text_7 0 rfl rfl)
theorem dX4_text_169 : decode cX4_text 169 = .ok (.bipush 40, 2) := dk_16 40 (dk_at dksX4_text_7 3 rfl rfl)
theorem dX4_text_171 : decode cX4_text 171 = .ok (.iload_n 2, 1) := dk_28 (dk_at dksX4_text_7 5 rfl rfl)
theorem dX4_text_172 : decode cX4_text 172 = .ok (.iadd, 1) := dk_96 (dk_at dksX4_text_7 6 rfl rfl)
theorem dX4_text_173 : decode cX4_text 173 = .ok (.iaload, 1) := dk_46 (dk_at dksX4_text_7 7 rfl rfl)
theorem dX4_text_174 : decode cX4_text 174 = .ok (.iastore, 1) := dk_79 (dk_at dksX4_text_7 8 rfl rfl)
theorem dX4_text_175 : decode cX4_text 175 = .ok (.aload_n 0, 1) := dk_42 (dk_at dksX4_text_7 9 rfl rfl)
theorem dX4_text_176 : decode cX4_text 176 = .ok (.getfield 89, 3) := dk_180 0 89 (dk_at dksX4_text_7 10 rfl rfl)
theorem dX4_text_179 : decode cX4_text 179 = .ok (.iload_n 2, 1) := dk_28 (dk_at dksX4_text_7 13 rfl rfl)
theorem dX4_text_180 : decode cX4_text 180 = .ok (.aload_n 0, 1) := dk_42 (dk_at dksX4_text_7 14 rfl rfl)
theorem dX4_text_181 : decode cX4_text 181 = .ok (.getfield 89, 3) := dk_180 0 89 (dk_at dksX4_text_7 15 rfl rfl)
theorem dX4_text_184 : decode cX4_text 184 = .ok (.bipush 40, 2) := dk_16 40 (dk_at dksX4_text_7 18 rfl rfl)
theorem dX4_text_186 : decode cX4_text 186 = .ok (.iload_n 2, 1) := dk_28 (dk_at dksX4_text_7 20 rfl rfl)
theorem dX4_text_187 : decode cX4_text 187 = .ok (.iadd, 1) := dk_96 (dk_at dksX4_text_7 21 rfl rfl)
theorem dX4_text_188 : decode cX4_text 188 = .ok (.iaload, 1) := dk_46 (dk_at dksX4_text_7 22 rfl rfl)
theorem dX4_text_189 : decode cX4_text 189 = .ok (.iastore, 1) := dk_79 (dk_at dksX4_text_7 23 rfl rfl)
theorem dX4_text_190 : decode cX4_text 190 = .ok (.aload_n 0, 1) := dk_42 (dk_at dksX4_text_8 0 rfl rfl)
theorem dX4_text_191 : decode cX4_text 191 = .ok (.getfield 92, 3) := dk_180 0 92 (dk_at dksX4_text_8 1 rfl rfl)
theorem dX4_text_194 : decode cX4_text 194 = .ok (.iload_n 2, 1) := dk_28 (dk_at dksX4_text_8 4 rfl rfl)
theorem dX4_text_195 : decode cX4_text 195 = .ok (.aload_n 0, 1) := dk_42 (dk_at dksX4_text_8 5 rfl rfl)
theorem dX4_text_196 : decode cX4_text 196 = .ok (.getfield 92, 3) := dk_180 0 92 (dk_at dksX4_text_8 6 rfl rfl)
theorem dX4_text_199 : decode cX4_text 199 = .ok (.bipush 40, 2) := dk_16 40 (dk_at dksX4_text_8 9 rfl rfl)
theorem dX4_text_201 : decode cX4_text 201 = .ok (.iload_n 2, 1) := dk_28 (dk_at dksX4_text_8 11 rfl rfl)
theorem dX4_text_202 : decode cX4_text 202 = .ok (.iadd, 1) := dk_96 (dk_at dksX4_text_8 12 rfl rfl)
theorem dX4_text_203 : decode cX4_text 203 = .ok (.iaload, 1) := dk_46 (dk_at dksX4_text_8 13 rfl rfl)
theorem dX4_text_204 : decode cX4_text 204 = .ok (.iastore, 1) := dk_79 (dk_at dksX4_text_8 14 rfl rfl)
theorem dX4_text_205 : decode cX4_text 205 = .ok (.iconst 0, 1) := dk_3 (dk_at dksX4_text_8 15 rfl rfl)
theorem dX4_text_206 : decode cX4_text 206 = .ok (.istore_n 3, 1) := dk_62 (dk_at dksX4_text_8 16 rfl rfl)
theorem dX4_text_207 : decode cX4_text 207 = .ok (.iload_n 3, 1) := dk_29 (dk_at dksX4_text_8 17 rfl rfl)
theorem dX4_text_208 : decode cX4_text 208 = .ok (.iconst 3, 1) := dk_6 (dk_at dksX4_text_8 18 rfl rfl)
theorem dX4_text_209 : decode cX4_text 209 = .ok (.if_icmp .ge 55, 3) := dk_162 0 55 (dk_at dksX4_text_8 19 rfl rfl)
theorem dX4_text_212 : decode cX4_text 212 = .ok (.aload_n 0, 1) := dk_42 (dk_at dksX4_text_8 22 rfl rfl)
theorem dX4_text_213 : decode cX4_text 213 = .ok (.getfield 74, 3) := dk_180 0 74 (dk_at dksX4_text_9 0 rfl rfl)
theorem dX4_text_216 : decode cX4_text 216 = .ok (.iconst 3, 1) := dk_6 (dk_at dksX4_text_9 3 rfl rfl)
theorem dX4_text_217 : decode cX4_text 217 = .ok (.iload_n 2, 1) := dk_28 (dk_at dksX4_text_9 4 rfl rfl)
theorem dX4_text_218 : decode cX4_text 218 = .ok (.imul, 1) := dk_104 (dk_at dksX4_text_9 5 rfl rfl)
theorem dX4_text_219 : decode cX4_text 219 = .ok (.iload_n 3, 1) := dk_29 (dk_at dksX4_text_9 6 rfl rfl)
theorem dX4_text_220 : decode cX4_text 220 = .ok (.iadd, 1) := dk_96 (dk_at dksX4_text_9 7 rfl rfl)
theorem dX4_text_221 : decode cX4_text 221 = .ok (.aload_n 0, 1) := dk_42 (dk_at dksX4_text_9 8 rfl rfl)
theorem dX4_text_222 : decode cX4_text 222 = .ok (.getfield 74, 3) := dk_180 0 74 (dk_at dksX4_text_9 9 rfl rfl)
theorem dX4_text_225 : decode cX4_text 225 = .ok (.iconst 3, 1) := dk_6 (dk_at dksX4_text_9 12 rfl rfl)
theorem dX4_text_226 : decode cX4_text 226 = .ok (.bipush 40, 2) := dk_16 40 (dk_at dksX4_text_9 13 rfl rfl)
theorem dX4_text_228 : decode cX4_text 228 = .ok (.iload_n 2, 1) := dk_28 (dk_at dksX4_text_9 15 rfl rfl)
theorem dX4_text_229 : decode cX4_text 229 = .ok (.iadd, 1) := dk_96 (dk_at dksX4_text_9 16 rfl rfl)
theorem dX4_text_230 : decode cX4_text 230 = .ok (.imul, 1) := dk_104 (dk_at dksX4_text_9 17 rfl rfl)
theorem dX4_text_231 : decode cX4_text 231 = .ok (.iload_n 3, 1) := dk_29 (dk_at dksX4_text_9 18 rfl rfl)
theorem dX4_text_232 : decode cX4_text 232 = .ok (.iadd, 1) := dk_96 (dk_at dksX4_text_9 19 rfl rfl)
theorem dX4_text_233 : decode cX4_text 233 = .ok (.iaload, 1) := dk_46 (dk_at dksX4_text_9 20 rfl rfl)
theorem dX4_text_234 : decode cX4_text 234 = .ok (.iastore, 1) := dk_79 (dk_at dksX4_text_9 21 rfl rfl)
theorem dX4_text_235 : decode cX4_text 235 = .ok (.aload_n 0, 1) := dk_42 (dk_at dksX4_text_9 22 rfl rfl)
theorem dX4_text_236 : decode cX4_text 236 = .ok (.getfield 77, 3) := dk_180 0 77 (dk_at dksX4_text_10 0 rfl rfl)
theorem dX4_text_239 : decode cX4_text 239 = .ok (.iconst 3, 1) := dk_6 (dk_at dksX4_text_10 3 rfl rfl)
theorem dX4_text_240 : decode cX4_text 240 = .ok (.iload_n 2, 1) := dk_28 (dk_at dksX4_text_10 4 rfl rfl)
theorem dX4_text_241 : decode cX4_text 241 = .ok (.imul, 1) := dk_104 (dk_at dksX4_text_10 5 rfl rfl)
theorem dX4_text_242 : decode cX4_text 242 = .ok (.iload_n 3, 1) := dk_29 (dk_at dksX4_text_10 6 rfl rfl)
theorem dX4_text_243 : decode cX4_text 243 = .ok (.iadd, 1) := dk_96 (dk_at dksX4_text_10 7 rfl rfl)
theorem dX4_text_244 : decode cX4_text 244 = .ok (.aload_n 0, 1) := dk_42 (dk_at dksX4_text_10 8 rfl rfl)
theorem dX4_text_245 : decode cX4_text 245 = .ok (.getfield 77, 3) := dk_180 0 77 (dk_at dksX4_text_10 9 rfl rfl)
theorem dX4_text_248 : decode cX4_text 248 = .ok (.iconst 3, 1) := dk_6 (dk_at dksX4_text_10 12 rfl rfl)
theorem dX4_text_249 : decode cX4_text 249 = .ok (.bipush 40, 2) := dk_16 40 (dk_at dksX4_text_10 13 rfl rfl)
theorem dX4_text_251 : decode cX4_text 251 = .ok (.iload_n 2, 1) := dk_28 (dk_at dksX4_text_10 15 rfl rfl)
theorem dX4_text_252 : decode cX4_text 252 = .ok (.iadd, 1) := dk_96 (dk_at dksX4_text_10 16 rfl rfl)
theorem dX4_text_253 : decode cX4_text 253 = .ok (.imul, 1) := dk_104 (dk_at dksX4_text_10 17 rfl rfl)
theorem dX4_text_254 : decode cX4_text 254 = .ok (.iload_n 3, 1) := dk_29 (dk_at dksX4_text_10 18 rfl rfl)
theorem dX4_text_255 : decode cX4_text 255 = .ok (.iadd, 1) := dk_96 (dk_at dksX4_text_10 19 rfl rfl)
theorem dX4_text_256 : decode cX4_text 256 = .ok (.iaload, 1) := dk_46 (dk_at dksX4_text_10 20 rfl rfl)
theorem dX4_text_257 : decode cX4_text 257 = .ok (.iastore, 1) := dk_79 (dk_at dksX4_text_10 21 rfl rfl)
theorem dX4_text_258 : decode cX4_text 258 = .ok (.iinc 3 1, 3) := dk_132 3 1 (dk_at dksX4_text_11 0 rfl rfl)
theorem dX4_text_261 : decode cX4_text 261 = .ok (.goto (-54), 3) := dk_167 255 202 (dk_at dksX4_text_11 3 rfl rfl)
theorem dX4_text_264 : decode cX4_text 264 = .ok (.iinc 2 1, 3) := dk_132 2 1 (dk_at dksX4_text_11 6 rfl rfl)
theorem dX4_text_267 : decode cX4_text 267 = .ok (.goto (-162), 3) := dk_167 255 94 (dk_at dksX4_text_11 9 rfl rfl)
theorem dX4_text_270 : decode cX4_text 270 = .ok (.iconst 0, 1) := dk_3 (dk_at dksX4_text_11 12 rfl rfl)
theorem dX4_text_271 : decode cX4_text 271 = .ok (.istore_n 2, 1) := dk_61 (dk_at dksX4_text_11 13 rfl rfl)
theorem dX4_text_272 : decode cX4_text 272 = .ok (.iload_n 2, 1) := dk_28 (dk_at dksX4_text_11 14 rfl rfl)
theorem dX4_text_273 : decode cX4_text 273 = .ok (.aload_n 0, 1) := dk_42 (dk_at dksX4_text_11 15 rfl rfl)
theorem dX4_text_274 : decode cX4_text 274 = .ok (.getfield 248, 3) := dk_180 0 248 (dk_at dksX4_text_11 16 rfl rfl)
theorem dX4_text_277 : decode cX4_text 277 = .ok (.if_icmp .ge 25, 3) := dk_162 0 25 (dk_at dksX4_text_11 19 rfl rfl)
theorem dX4_text_280 : decode cX4_text 280 = .ok (.aload_n 0, 1) := dk_42 (dk_at dksX4_text_11 22 rfl rfl)
theorem dX4_text_281 : decode cX4_text 281 = .ok (.getfield 68, 3) := dk_180 0 68 (dk_at dksX4_text_12 0 rfl rfl)
theorem dX4_text_284 : decode cX4_text 284 = .ok (.iload_n 2, 1) := dk_28 (dk_at dksX4_text_12 3 rfl rfl)
theorem dX4_text_285 : decode cX4_text 285 = .ok (.aload_n 0, 1) := dk_42 (dk_at dksX4_text_12 4 rfl rfl)
theorem dX4_text_286 : decode cX4_text 286 = .ok (.getfield 68, 3) := dk_180 0 68 (dk_at dksX4_text_12 5 rfl rfl)
theorem dX4_text_289 : decode cX4_text 289 = .ok (.sipush 1080, 3) := dk_17 4 56 (dk_at dksX4_text_12 8 rfl rfl)
theorem dX4_text_292 : decode cX4_text 292 = .ok (.iload_n 2, 1) := dk_28 (dk_at dksX4_text_12 11 rfl rfl)
theorem dX4_text_293 : decode cX4_text 293 = .ok (.iadd, 1) := dk_96 (dk_at dksX4_text_12 12 rfl rfl)
theorem dX4_text_294 : decode cX4_text 294 = .ok (.iaload, 1) := dk_46 (dk_at dksX4_text_12 13 rfl rfl)
theorem dX4_text_295 : decode cX4_text 295 = .ok (.iastore, 1) := dk_79 (dk_at dksX4_text_12 14 rfl rfl)
theorem dX4_text_296 : decode cX4_text 296 = .ok (.iinc 2 1, 3) := dk_132 2 1 (dk_at dksX4_text_12 15 rfl rfl)
theorem dX4_text_299 : decode cX4_text 299 = .ok (.goto (-27), 3) := dk_167 255 229 (dk_at dksX4_text_12 18 rfl rfl)
theorem dX4_text_302 : decode cX4_text 302 = .ok (.aload_n 0, 1) := dk_42 (dk_at dksX4_text_12 21 rfl rfl)
theorem dX4_text_303 : decode cX4_text 303 = .ok (.dup, 1) := dk_89 (dk_at dksX4_text_12 22 rfl rfl)
theorem dX4_text_304 : decode cX4_text 304 = .ok (.getfield 316, 3) := dk_180 1 60 (dk_at dksX4_text_13 0 rfl rfl)
theorem dX4_text_307 : decode cX4_text 307 = .ok (.iconst 1, 1) := dk_4 (dk_at dksX4_text_13 3 rfl rfl)
theorem dX4_text_308 : decode cX4_text 308 = .ok (.iadd, 1) := dk_96 (dk_at dksX4_text_13 4 rfl rfl)
theorem dX4_text_309 : decode cX4_text 309 = .ok (.putfield 316, 3) := dk_181 1 60 (dk_at dksX4_text_13 5 rfl rfl)
theorem dX4_text_312 : decode cX4_text 312 = .ok (.aload_n 0, 1) := dk_42 (dk_at dksX4_text_13 8 rfl rfl)
theorem dX4_text_313 : decode cX4_text 313 = .ok (.dup, 1) := dk_89 (dk_at dksX4_text_13 9 rfl rfl)
theorem dX4_text_314 : decode cX4_text 314 = .ok (.getfield 319, 3) := dk_180 1 63 (dk_at dksX4_text_13 10 rfl rfl)
theorem dX4_text_317 : decode cX4_text 317 = .ok (.iconst 1, 1) := dk_4 (dk_at dksX4_text_13 13 rfl rfl)
theorem dX4_text_318 : decode cX4_text 318 = .ok (.iadd, 1) := dk_96 (dk_at dksX4_text_13 14 rfl rfl)
theorem dX4_text_319 : decode cX4_text 319 = .ok (.putfield 319, 3) := dk_181 1 63 (dk_at dksX4_text_13 15 rfl rfl)
theorem dX4_text_322 : decode cX4_text 322 = .ok (.iconst 0, 1) := dk_3 (dk_at dksX4_text_13 18 rfl rfl)
theorem dX4_text_323 : decode cX4_text 323 = .ok (.ireturn, 1) := dk_172 (dk_at dksX4_text_13 19 rfl rfl)
abbrev cX4_fail : ByteArray := prog_21_method_3_code
def yX4_fail : MethodName := ⟨RX4, "fail", "(I)I"⟩
def dkwX4_fail_0 : List UInt8 := [42, 27, 181, 0, 175, 3, 172]
abbrev dktX4_fail_0 : List UInt8 := dkwX4_fail_0 ++ []
theorem dksX4_fail_0 : cX4_fail.data.toList.drop 0 = dktX4_fail_0 := by decide +kernel
theorem dX4_fail_0 : decode cX4_fail 0 = .ok (.aload_n 0, 1) := dk_42 (dk_at dksX4_fail_0 0 rfl rfl)
theorem dX4_fail_1 : decode cX4_fail 1 = .ok (.iload_n 1, 1) := dk_27 (dk_at dksX4_fail_0 1 rfl rfl)
theorem dX4_fail_2 : decode cX4_fail 2 = .ok (.putfield 175, 3) := dk_181 0 175 (dk_at dksX4_fail_0 2 rfl rfl)
theorem dX4_fail_5 : decode cX4_fail 5 = .ok (.iconst 0, 1) := dk_3 (dk_at dksX4_fail_0 5 rfl rfl)
theorem dX4_fail_6 : decode cX4_fail 6 = .ok (.ireturn, 1) := dk_172 (dk_at dksX4_fail_0 6 rfl rfl)
abbrev cX4_stepOn : ByteArray := prog_21_method_10_code
def yX4_stepOn : MethodName := ⟨RX4, "stepOn", "()V"⟩
def dkwX4_stepOn_12 : List UInt8 := [42, 180, 0, 184, 181, 0, 217, 177]
abbrev dktX4_stepOn_12 : List UInt8 := dkwX4_stepOn_12 ++ []
def dkwX4_stepOn_11 : List UInt8 := [167, 0, 4, 3, 61, 42, 28, 153, 0, 7, 6, 167, 0, 4, 7, 181, 0, 197, 42, 27, 181, 0, 194, 42]
abbrev dktX4_stepOn_11 : List UInt8 := dkwX4_stepOn_11 ++ dktX4_stepOn_12
def dkwX4_stepOn_10 : List UInt8 := [16, 42, 159, 0, 21, 27, 16, 47, 159, 0, 15, 27, 16, 60, 159, 0, 9, 27, 16, 61, 160, 0, 7, 4]
abbrev dktX4_stepOn_10 : List UInt8 := dkwX4_stepOn_10 ++ dktX4_stepOn_11
def dkwX4_stepOn_9 : List UInt8 := [16, 40, 159, 0, 45, 27, 16, 41, 159, 0, 39, 27, 16, 43, 159, 0, 33, 27, 16, 45, 159, 0, 27, 27]
abbrev dktX4_stepOn_9 : List UInt8 := dkwX4_stepOn_9 ++ dktX4_stepOn_10
def dkwX4_stepOn_8 : List UInt8 := [181, 0, 197, 167, 0, 91, 42, 89, 180, 0, 184, 4, 96, 181, 0, 184, 27, 16, 59, 159, 0, 51, 27]
abbrev dktX4_stepOn_8 : List UInt8 := dkwX4_stepOn_8 ++ dktX4_stepOn_9
def dkwX4_stepOn_7 : List UInt8 := [100, 184, 0, 211, 181, 0, 207, 42, 89, 180, 0, 184, 4, 96, 181, 0, 184, 167, 255, 204, 42, 5]
abbrev dktX4_stepOn_7 : List UInt8 := dkwX4_stepOn_7 ++ dktX4_stepOn_8
def dkwX4_stepOn_6 : List UInt8 := [153, 0, 44, 42, 18, 210, 16, 10, 42, 180, 0, 207, 104, 42, 42, 180, 0, 184, 182, 0, 187, 96, 16, 48]
abbrev dktX4_stepOn_6 : List UInt8 := dkwX4_stepOn_6 ++ dktX4_stepOn_7
def dkwX4_stepOn_5 : List UInt8 := [184, 0, 204, 153, 0, 71, 42, 3, 181, 0, 207, 42, 42, 180, 0, 184, 182, 0, 187, 184, 0, 204]
abbrev dktX4_stepOn_5 : List UInt8 := dkwX4_stepOn_5 ++ dktX4_stepOn_6
def dkwX4_stepOn_4 : List UInt8 := [42, 89, 180, 0, 184, 4, 96, 181, 0, 184, 167, 255, 232, 42, 4, 181, 0, 197, 167, 0, 166, 27]
abbrev dktX4_stepOn_4 : List UInt8 := dkwX4_stepOn_4 ++ dktX4_stepOn_5
def dkwX4_stepOn_3 : List UInt8 := [167, 0, 208, 27, 184, 0, 200, 153, 0, 38, 42, 42, 180, 0, 184, 182, 0, 187, 184, 0, 200, 153, 0, 16]
abbrev dktX4_stepOn_3 : List UInt8 := dkwX4_stepOn_3 ++ dktX4_stepOn_4
def dkwX4_stepOn_2 : List UInt8 := [42, 3, 181, 0, 194, 42, 42, 180, 0, 184, 182, 0, 187, 60, 27, 2, 160, 0, 11, 42, 3, 181, 0, 197]
abbrev dktX4_stepOn_2 : List UInt8 := dkwX4_stepOn_2 ++ dktX4_stepOn_3
def dkwX4_stepOn_1 : List UInt8 := [160, 0, 16, 42, 89, 180, 0, 184, 4, 96, 181, 0, 184, 167, 255, 220, 42, 42, 180, 0, 184, 181, 0, 191]
abbrev dktX4_stepOn_1 : List UInt8 := dkwX4_stepOn_1 ++ dktX4_stepOn_2
def dkwX4_stepOn_0 : List UInt8 := [42, 42, 180, 0, 184, 182, 0, 187, 16, 32, 159, 0, 16, 42, 42, 180, 0, 184, 182, 0, 187, 16, 10]
abbrev dktX4_stepOn_0 : List UInt8 := dkwX4_stepOn_0 ++ dktX4_stepOn_1
theorem dksX4_stepOn_0 : cX4_stepOn.data.toList.drop 0 = dktX4_stepOn_0 := by decide +kernel
theorem dksX4_stepOn_1 : cX4_stepOn.data.toList.drop 23 = dktX4_stepOn_1 := dk_seg dksX4_stepOn_0 23 rfl rfl
theorem dksX4_stepOn_2 : cX4_stepOn.data.toList.drop 47 = dktX4_stepOn_2 := dk_seg dksX4_stepOn_1 24 rfl rfl
theorem dksX4_stepOn_3 : cX4_stepOn.data.toList.drop 71 = dktX4_stepOn_3 := dk_seg dksX4_stepOn_2 24 rfl rfl
theorem dksX4_stepOn_4 : cX4_stepOn.data.toList.drop 95 = dktX4_stepOn_4 := dk_seg dksX4_stepOn_3 24 rfl rfl
theorem dksX4_stepOn_5 : cX4_stepOn.data.toList.drop 117 = dktX4_stepOn_5 := dk_seg dksX4_stepOn_4 22 rfl rfl
theorem dksX4_stepOn_6 : cX4_stepOn.data.toList.drop 139 = dktX4_stepOn_6 := dk_seg dksX4_stepOn_5 22 rfl rfl
theorem dksX4_stepOn_7 : cX4_stepOn.data.toList.drop 163 = dktX4_stepOn_7 := dk_seg dksX4_stepOn_6 24 rfl rfl
theorem dksX4_stepOn_8 : cX4_stepOn.data.toList.drop 185 = dktX4_stepOn_8 := dk_seg dksX4_stepOn_7 22 rfl rfl
theorem dksX4_stepOn_9 : cX4_stepOn.data.toList.drop 208 = dktX4_stepOn_9 := dk_seg dksX4_stepOn_8 23 rfl rfl
theorem dksX4_stepOn_10 : cX4_stepOn.data.toList.drop 232 = dktX4_stepOn_10 := dk_seg dksX4_stepOn_9 24 rfl rfl
theorem dksX4_stepOn_11 : cX4_stepOn.data.toList.drop 256 = dktX4_stepOn_11 := dk_seg dksX4_stepOn_10 24 rfl rfl
theorem dksX4_stepOn_12 : cX4_stepOn.data.toList.drop 280 = dktX4_stepOn_12 := dk_seg dksX4_stepOn_11 24 rfl rfl
theorem dX4_stepOn_0 : decode cX4_stepOn 0 = .ok (.aload_n 0, 1) := dk_42 (dk_at dksX4_stepOn_0 0 rfl rfl)
theorem dX4_stepOn_1 : decode cX4_stepOn 1 = .ok (.aload_n 0, 1) := dk_42 (dk_at dksX4_stepOn_0 1 rfl rfl)
theorem dX4_stepOn_2 : decode cX4_stepOn 2 = .ok (.getfield 184, 3) := dk_180 0 184 (dk_at dksX4_stepOn_0 2 rfl rfl)
theorem dX4_stepOn_5 : decode cX4_stepOn 5 = .ok (.invokevirtual 187, 3) := dk_182 0 187 (dk_at dksX4_stepOn_0 5 rfl rfl)
theorem dX4_stepOn_8 : decode cX4_stepOn 8 = .ok (.bipush 32, 2) := dk_16 32 (dk_at dksX4_stepOn_0 8 rfl rfl)
theorem dX4_stepOn_10 : decode cX4_stepOn 10 = .ok (.if_icmp .eq 16, 3) := dk_159 0 16 (dk_at dksX4_stepOn_0 10 rfl rfl)
theorem dX4_stepOn_13 : decode cX4_stepOn 13 = .ok (.aload_n 0, 1) := dk_42 (dk_at dksX4_stepOn_0 13 rfl rfl)
theorem dX4_stepOn_14 : decode cX4_stepOn 14 = .ok (.aload_n 0, 1) := dk_42 (dk_at dksX4_stepOn_0 14 rfl rfl)
theorem dX4_stepOn_15 : decode cX4_stepOn 15 = .ok (.getfield 184, 3) := dk_180 0 184 (dk_at dksX4_stepOn_0 15 rfl rfl)
theorem dX4_stepOn_18 : decode cX4_stepOn 18 = .ok (.invokevirtual 187, 3) := dk_182 0 187 (dk_at dksX4_stepOn_0 18 rfl rfl)
theorem dX4_stepOn_21 : decode cX4_stepOn 21 = .ok (.bipush 10, 2) := dk_16 10 (dk_at dksX4_stepOn_0 21 rfl rfl)
theorem dX4_stepOn_23 : decode cX4_stepOn 23 = .ok (.if_icmp .ne 16, 3) := dk_160 0 16 (dk_at dksX4_stepOn_1 0 rfl rfl)
theorem dX4_stepOn_26 : decode cX4_stepOn 26 = .ok (.aload_n 0, 1) := dk_42 (dk_at dksX4_stepOn_1 3 rfl rfl)
theorem dX4_stepOn_27 : decode cX4_stepOn 27 = .ok (.dup, 1) := dk_89 (dk_at dksX4_stepOn_1 4 rfl rfl)
theorem dX4_stepOn_28 : decode cX4_stepOn 28 = .ok (.getfield 184, 3) := dk_180 0 184 (dk_at dksX4_stepOn_1 5 rfl rfl)
theorem dX4_stepOn_31 : decode cX4_stepOn 31 = .ok (.iconst 1, 1) := dk_4 (dk_at dksX4_stepOn_1 8 rfl rfl)
theorem dX4_stepOn_32 : decode cX4_stepOn 32 = .ok (.iadd, 1) := dk_96 (dk_at dksX4_stepOn_1 9 rfl rfl)
theorem dX4_stepOn_33 : decode cX4_stepOn 33 = .ok (.putfield 184, 3) := dk_181 0 184 (dk_at dksX4_stepOn_1 10 rfl rfl)
theorem dX4_stepOn_36 : decode cX4_stepOn 36 = .ok (.goto (-36), 3) := dk_167 255 220 (dk_at dksX4_stepOn_1 13 rfl rfl)
theorem dX4_stepOn_39 : decode cX4_stepOn 39 = .ok (.aload_n 0, 1) := dk_42 (dk_at dksX4_stepOn_1 16 rfl rfl)
theorem dX4_stepOn_40 : decode cX4_stepOn 40 = .ok (.aload_n 0, 1) := dk_42 (dk_at dksX4_stepOn_1 17 rfl rfl)
theorem dX4_stepOn_41 : decode cX4_stepOn 41 = .ok (.getfield 184, 3) := dk_180 0 184 (dk_at dksX4_stepOn_1 18 rfl rfl)
theorem dX4_stepOn_44 : decode cX4_stepOn 44 = .ok (.putfield 191, 3) := dk_181 0 191 (dk_at dksX4_stepOn_1 21 rfl rfl)
theorem dX4_stepOn_47 : decode cX4_stepOn 47 = .ok (.aload_n 0, 1) := dk_42 (dk_at dksX4_stepOn_2 0 rfl rfl)
theorem dX4_stepOn_48 : decode cX4_stepOn 48 = .ok (.iconst 0, 1) := dk_3 (dk_at dksX4_stepOn_2 1 rfl rfl)
theorem dX4_stepOn_49 : decode cX4_stepOn 49 = .ok (.putfield 194, 3) := dk_181 0 194 (dk_at dksX4_stepOn_2 2 rfl rfl)
theorem dX4_stepOn_52 : decode cX4_stepOn 52 = .ok (.aload_n 0, 1) := dk_42 (dk_at dksX4_stepOn_2 5 rfl rfl)
theorem dX4_stepOn_53 : decode cX4_stepOn 53 = .ok (.aload_n 0, 1) := dk_42 (dk_at dksX4_stepOn_2 6 rfl rfl)
theorem dX4_stepOn_54 : decode cX4_stepOn 54 = .ok (.getfield 184, 3) := dk_180 0 184 (dk_at dksX4_stepOn_2 7 rfl rfl)
theorem dX4_stepOn_57 : decode cX4_stepOn 57 = .ok (.invokevirtual 187, 3) := dk_182 0 187 (dk_at dksX4_stepOn_2 10 rfl rfl)
theorem dX4_stepOn_60 : decode cX4_stepOn 60 = .ok (.istore_n 1, 1) := dk_60 (dk_at dksX4_stepOn_2 13 rfl rfl)
theorem dX4_stepOn_61 : decode cX4_stepOn 61 = .ok (.iload_n 1, 1) := dk_27 (dk_at dksX4_stepOn_2 14 rfl rfl)
theorem dX4_stepOn_62 : decode cX4_stepOn 62 = .ok (.iconst (-1), 1) := dk_2 (dk_at dksX4_stepOn_2 15 rfl rfl)
theorem dX4_stepOn_63 : decode cX4_stepOn 63 = .ok (.if_icmp .ne 11, 3) := dk_160 0 11 (dk_at dksX4_stepOn_2 16 rfl rfl)
theorem dX4_stepOn_66 : decode cX4_stepOn 66 = .ok (.aload_n 0, 1) := dk_42 (dk_at dksX4_stepOn_2 19 rfl rfl)
theorem dX4_stepOn_67 : decode cX4_stepOn 67 = .ok (.iconst 0, 1) := dk_3 (dk_at dksX4_stepOn_2 20 rfl rfl)
theorem dX4_stepOn_68 : decode cX4_stepOn 68 = .ok (.putfield 197, 3) := dk_181 0 197 (dk_at dksX4_stepOn_2 21 rfl rfl)
theorem dX4_stepOn_71 : decode cX4_stepOn 71 = .ok (.goto 208, 3) := dk_167 0 208 (dk_at dksX4_stepOn_3 0 rfl rfl)
theorem dX4_stepOn_74 : decode cX4_stepOn 74 = .ok (.iload_n 1, 1) := dk_27 (dk_at dksX4_stepOn_3 3 rfl rfl)
theorem dX4_stepOn_75 : decode cX4_stepOn 75 = .ok (.invokestatic 200, 3) := dk_184 0 200 (dk_at dksX4_stepOn_3 4 rfl rfl)
theorem dX4_stepOn_78 : decode cX4_stepOn 78 = .ok (.ifCond .eq 38, 3) := dk_153 0 38 (dk_at dksX4_stepOn_3 7 rfl rfl)
theorem dX4_stepOn_81 : decode cX4_stepOn 81 = .ok (.aload_n 0, 1) := dk_42 (dk_at dksX4_stepOn_3 10 rfl rfl)
theorem dX4_stepOn_82 : decode cX4_stepOn 82 = .ok (.aload_n 0, 1) := dk_42 (dk_at dksX4_stepOn_3 11 rfl rfl)
theorem dX4_stepOn_83 : decode cX4_stepOn 83 = .ok (.getfield 184, 3) := dk_180 0 184 (dk_at dksX4_stepOn_3 12 rfl rfl)
theorem dX4_stepOn_86 : decode cX4_stepOn 86 = .ok (.invokevirtual 187, 3) := dk_182 0 187 (dk_at dksX4_stepOn_3 15 rfl rfl)
theorem dX4_stepOn_89 : decode cX4_stepOn 89 = .ok (.invokestatic 200, 3) := dk_184 0 200 (dk_at dksX4_stepOn_3 18 rfl rfl)
theorem dX4_stepOn_92 : decode cX4_stepOn 92 = .ok (.ifCond .eq 16, 3) := dk_153 0 16 (dk_at dksX4_stepOn_3 21 rfl rfl)
theorem dX4_stepOn_95 : decode cX4_stepOn 95 = .ok (.aload_n 0, 1) := dk_42 (dk_at dksX4_stepOn_4 0 rfl rfl)
theorem dX4_stepOn_96 : decode cX4_stepOn 96 = .ok (.dup, 1) := dk_89 (dk_at dksX4_stepOn_4 1 rfl rfl)
theorem dX4_stepOn_97 : decode cX4_stepOn 97 = .ok (.getfield 184, 3) := dk_180 0 184 (dk_at dksX4_stepOn_4 2 rfl rfl)
theorem dX4_stepOn_100 : decode cX4_stepOn 100 = .ok (.iconst 1, 1) := dk_4 (dk_at dksX4_stepOn_4 5 rfl rfl)
theorem dX4_stepOn_101 : decode cX4_stepOn 101 = .ok (.iadd, 1) := dk_96 (dk_at dksX4_stepOn_4 6 rfl rfl)
theorem dX4_stepOn_102 : decode cX4_stepOn 102 = .ok (.putfield 184, 3) := dk_181 0 184 (dk_at dksX4_stepOn_4 7 rfl rfl)
theorem dX4_stepOn_105 : decode cX4_stepOn 105 = .ok (.goto (-24), 3) := dk_167 255 232 (dk_at dksX4_stepOn_4 10 rfl rfl)
theorem dX4_stepOn_108 : decode cX4_stepOn 108 = .ok (.aload_n 0, 1) := dk_42 (dk_at dksX4_stepOn_4 13 rfl rfl)
theorem dX4_stepOn_109 : decode cX4_stepOn 109 = .ok (.iconst 1, 1) := dk_4 (dk_at dksX4_stepOn_4 14 rfl rfl)
theorem dX4_stepOn_110 : decode cX4_stepOn 110 = .ok (.putfield 197, 3) := dk_181 0 197 (dk_at dksX4_stepOn_4 15 rfl rfl)
theorem dX4_stepOn_113 : decode cX4_stepOn 113 = .ok (.goto 166, 3) := dk_167 0 166 (dk_at dksX4_stepOn_4 18 rfl rfl)
theorem dX4_stepOn_116 : decode cX4_stepOn 116 = .ok (.iload_n 1, 1) := dk_27 (dk_at dksX4_stepOn_4 21 rfl rfl)
theorem dX4_stepOn_117 : decode cX4_stepOn 117 = .ok (.invokestatic 204, 3) := dk_184 0 204 (dk_at dksX4_stepOn_5 0 rfl rfl)
theorem dX4_stepOn_120 : decode cX4_stepOn 120 = .ok (.ifCond .eq 71, 3) := dk_153 0 71 (dk_at dksX4_stepOn_5 3 rfl rfl)
theorem dX4_stepOn_123 : decode cX4_stepOn 123 = .ok (.aload_n 0, 1) := dk_42 (dk_at dksX4_stepOn_5 6 rfl rfl)
theorem dX4_stepOn_124 : decode cX4_stepOn 124 = .ok (.iconst 0, 1) := dk_3 (dk_at dksX4_stepOn_5 7 rfl rfl)
theorem dX4_stepOn_125 : decode cX4_stepOn 125 = .ok (.putfield 207, 3) := dk_181 0 207 (dk_at dksX4_stepOn_5 8 rfl rfl)
theorem dX4_stepOn_128 : decode cX4_stepOn 128 = .ok (.aload_n 0, 1) := dk_42 (dk_at dksX4_stepOn_5 11 rfl rfl)
theorem dX4_stepOn_129 : decode cX4_stepOn 129 = .ok (.aload_n 0, 1) := dk_42 (dk_at dksX4_stepOn_5 12 rfl rfl)
theorem dX4_stepOn_130 : decode cX4_stepOn 130 = .ok (.getfield 184, 3) := dk_180 0 184 (dk_at dksX4_stepOn_5 13 rfl rfl)
theorem dX4_stepOn_133 : decode cX4_stepOn 133 = .ok (.invokevirtual 187, 3) := dk_182 0 187 (dk_at dksX4_stepOn_5 16 rfl rfl)
theorem dX4_stepOn_136 : decode cX4_stepOn 136 = .ok (.invokestatic 204, 3) := dk_184 0 204 (dk_at dksX4_stepOn_5 19 rfl rfl)
theorem dX4_stepOn_139 : decode cX4_stepOn 139 = .ok (.ifCond .eq 44, 3) := dk_153 0 44 (dk_at dksX4_stepOn_6 0 rfl rfl)
theorem dX4_stepOn_142 : decode cX4_stepOn 142 = .ok (.aload_n 0, 1) := dk_42 (dk_at dksX4_stepOn_6 3 rfl rfl)
theorem dX4_stepOn_143 : decode cX4_stepOn 143 = .ok (.ldc 210, 2) := dk_18 210 (dk_at dksX4_stepOn_6 4 rfl rfl)
theorem dX4_stepOn_145 : decode cX4_stepOn 145 = .ok (.bipush 10, 2) := dk_16 10 (dk_at dksX4_stepOn_6 6 rfl rfl)
theorem dX4_stepOn_147 : decode cX4_stepOn 147 = .ok (.aload_n 0, 1) := dk_42 (dk_at dksX4_stepOn_6 8 rfl rfl)
theorem dX4_stepOn_148 : decode cX4_stepOn 148 = .ok (.getfield 207, 3) := dk_180 0 207 (dk_at dksX4_stepOn_6 9 rfl rfl)
theorem dX4_stepOn_151 : decode cX4_stepOn 151 = .ok (.imul, 1) := dk_104 (dk_at dksX4_stepOn_6 12 rfl rfl)
theorem dX4_stepOn_152 : decode cX4_stepOn 152 = .ok (.aload_n 0, 1) := dk_42 (dk_at dksX4_stepOn_6 13 rfl rfl)
theorem dX4_stepOn_153 : decode cX4_stepOn 153 = .ok (.aload_n 0, 1) := dk_42 (dk_at dksX4_stepOn_6 14 rfl rfl)
theorem dX4_stepOn_154 : decode cX4_stepOn 154 = .ok (.getfield 184, 3) := dk_180 0 184 (dk_at dksX4_stepOn_6 15 rfl rfl)
theorem dX4_stepOn_157 : decode cX4_stepOn 157 = .ok (.invokevirtual 187, 3) := dk_182 0 187 (dk_at dksX4_stepOn_6 18 rfl rfl)
theorem dX4_stepOn_160 : decode cX4_stepOn 160 = .ok (.iadd, 1) := dk_96 (dk_at dksX4_stepOn_6 21 rfl rfl)
theorem dX4_stepOn_161 : decode cX4_stepOn 161 = .ok (.bipush 48, 2) := dk_16 48 (dk_at dksX4_stepOn_6 22 rfl rfl)
theorem dX4_stepOn_163 : decode cX4_stepOn 163 = .ok (.isub, 1) := dk_100 (dk_at dksX4_stepOn_7 0 rfl rfl)
theorem dX4_stepOn_164 : decode cX4_stepOn 164 = .ok (.invokestatic 211, 3) := dk_184 0 211 (dk_at dksX4_stepOn_7 1 rfl rfl)
theorem dX4_stepOn_167 : decode cX4_stepOn 167 = .ok (.putfield 207, 3) := dk_181 0 207 (dk_at dksX4_stepOn_7 4 rfl rfl)
theorem dX4_stepOn_170 : decode cX4_stepOn 170 = .ok (.aload_n 0, 1) := dk_42 (dk_at dksX4_stepOn_7 7 rfl rfl)
theorem dX4_stepOn_171 : decode cX4_stepOn 171 = .ok (.dup, 1) := dk_89 (dk_at dksX4_stepOn_7 8 rfl rfl)
theorem dX4_stepOn_172 : decode cX4_stepOn 172 = .ok (.getfield 184, 3) := dk_180 0 184 (dk_at dksX4_stepOn_7 9 rfl rfl)
theorem dX4_stepOn_175 : decode cX4_stepOn 175 = .ok (.iconst 1, 1) := dk_4 (dk_at dksX4_stepOn_7 12 rfl rfl)
theorem dX4_stepOn_176 : decode cX4_stepOn 176 = .ok (.iadd, 1) := dk_96 (dk_at dksX4_stepOn_7 13 rfl rfl)
theorem dX4_stepOn_177 : decode cX4_stepOn 177 = .ok (.putfield 184, 3) := dk_181 0 184 (dk_at dksX4_stepOn_7 14 rfl rfl)
theorem dX4_stepOn_180 : decode cX4_stepOn 180 = .ok (.goto (-52), 3) := dk_167 255 204 (dk_at dksX4_stepOn_7 17 rfl rfl)
theorem dX4_stepOn_183 : decode cX4_stepOn 183 = .ok (.aload_n 0, 1) := dk_42 (dk_at dksX4_stepOn_7 20 rfl rfl)
theorem dX4_stepOn_184 : decode cX4_stepOn 184 = .ok (.iconst 2, 1) := dk_5 (dk_at dksX4_stepOn_7 21 rfl rfl)
theorem dX4_stepOn_185 : decode cX4_stepOn 185 = .ok (.putfield 197, 3) := dk_181 0 197 (dk_at dksX4_stepOn_8 0 rfl rfl)
theorem dX4_stepOn_188 : decode cX4_stepOn 188 = .ok (.goto 91, 3) := dk_167 0 91 (dk_at dksX4_stepOn_8 3 rfl rfl)
theorem dX4_stepOn_191 : decode cX4_stepOn 191 = .ok (.aload_n 0, 1) := dk_42 (dk_at dksX4_stepOn_8 6 rfl rfl)
theorem dX4_stepOn_192 : decode cX4_stepOn 192 = .ok (.dup, 1) := dk_89 (dk_at dksX4_stepOn_8 7 rfl rfl)
theorem dX4_stepOn_193 : decode cX4_stepOn 193 = .ok (.getfield 184, 3) := dk_180 0 184 (dk_at dksX4_stepOn_8 8 rfl rfl)
theorem dX4_stepOn_196 : decode cX4_stepOn 196 = .ok (.iconst 1, 1) := dk_4 (dk_at dksX4_stepOn_8 11 rfl rfl)
theorem dX4_stepOn_197 : decode cX4_stepOn 197 = .ok (.iadd, 1) := dk_96 (dk_at dksX4_stepOn_8 12 rfl rfl)
theorem dX4_stepOn_198 : decode cX4_stepOn 198 = .ok (.putfield 184, 3) := dk_181 0 184 (dk_at dksX4_stepOn_8 13 rfl rfl)
theorem dX4_stepOn_201 : decode cX4_stepOn 201 = .ok (.iload_n 1, 1) := dk_27 (dk_at dksX4_stepOn_8 16 rfl rfl)
theorem dX4_stepOn_202 : decode cX4_stepOn 202 = .ok (.bipush 59, 2) := dk_16 59 (dk_at dksX4_stepOn_8 17 rfl rfl)
theorem dX4_stepOn_204 : decode cX4_stepOn 204 = .ok (.if_icmp .eq 51, 3) := dk_159 0 51 (dk_at dksX4_stepOn_8 19 rfl rfl)
theorem dX4_stepOn_207 : decode cX4_stepOn 207 = .ok (.iload_n 1, 1) := dk_27 (dk_at dksX4_stepOn_8 22 rfl rfl)
theorem dX4_stepOn_208 : decode cX4_stepOn 208 = .ok (.bipush 40, 2) := dk_16 40 (dk_at dksX4_stepOn_9 0 rfl rfl)
theorem dX4_stepOn_210 : decode cX4_stepOn 210 = .ok (.if_icmp .eq 45, 3) := dk_159 0 45 (dk_at dksX4_stepOn_9 2 rfl rfl)
theorem dX4_stepOn_213 : decode cX4_stepOn 213 = .ok (.iload_n 1, 1) := dk_27 (dk_at dksX4_stepOn_9 5 rfl rfl)
theorem dX4_stepOn_214 : decode cX4_stepOn 214 = .ok (.bipush 41, 2) := dk_16 41 (dk_at dksX4_stepOn_9 6 rfl rfl)
theorem dX4_stepOn_216 : decode cX4_stepOn 216 = .ok (.if_icmp .eq 39, 3) := dk_159 0 39 (dk_at dksX4_stepOn_9 8 rfl rfl)
theorem dX4_stepOn_219 : decode cX4_stepOn 219 = .ok (.iload_n 1, 1) := dk_27 (dk_at dksX4_stepOn_9 11 rfl rfl)
theorem dX4_stepOn_220 : decode cX4_stepOn 220 = .ok (.bipush 43, 2) := dk_16 43 (dk_at dksX4_stepOn_9 12 rfl rfl)
theorem dX4_stepOn_222 : decode cX4_stepOn 222 = .ok (.if_icmp .eq 33, 3) := dk_159 0 33 (dk_at dksX4_stepOn_9 14 rfl rfl)
theorem dX4_stepOn_225 : decode cX4_stepOn 225 = .ok (.iload_n 1, 1) := dk_27 (dk_at dksX4_stepOn_9 17 rfl rfl)
theorem dX4_stepOn_226 : decode cX4_stepOn 226 = .ok (.bipush 45, 2) := dk_16 45 (dk_at dksX4_stepOn_9 18 rfl rfl)
theorem dX4_stepOn_228 : decode cX4_stepOn 228 = .ok (.if_icmp .eq 27, 3) := dk_159 0 27 (dk_at dksX4_stepOn_9 20 rfl rfl)
theorem dX4_stepOn_231 : decode cX4_stepOn 231 = .ok (.iload_n 1, 1) := dk_27 (dk_at dksX4_stepOn_9 23 rfl rfl)
theorem dX4_stepOn_232 : decode cX4_stepOn 232 = .ok (.bipush 42, 2) := dk_16 42 (dk_at dksX4_stepOn_10 0 rfl rfl)
theorem dX4_stepOn_234 : decode cX4_stepOn 234 = .ok (.if_icmp .eq 21, 3) := dk_159 0 21 (dk_at dksX4_stepOn_10 2 rfl rfl)
theorem dX4_stepOn_237 : decode cX4_stepOn 237 = .ok (.iload_n 1, 1) := dk_27 (dk_at dksX4_stepOn_10 5 rfl rfl)
theorem dX4_stepOn_238 : decode cX4_stepOn 238 = .ok (.bipush 47, 2) := dk_16 47 (dk_at dksX4_stepOn_10 6 rfl rfl)
theorem dX4_stepOn_240 : decode cX4_stepOn 240 = .ok (.if_icmp .eq 15, 3) := dk_159 0 15 (dk_at dksX4_stepOn_10 8 rfl rfl)
theorem dX4_stepOn_243 : decode cX4_stepOn 243 = .ok (.iload_n 1, 1) := dk_27 (dk_at dksX4_stepOn_10 11 rfl rfl)
theorem dX4_stepOn_244 : decode cX4_stepOn 244 = .ok (.bipush 60, 2) := dk_16 60 (dk_at dksX4_stepOn_10 12 rfl rfl)
theorem dX4_stepOn_246 : decode cX4_stepOn 246 = .ok (.if_icmp .eq 9, 3) := dk_159 0 9 (dk_at dksX4_stepOn_10 14 rfl rfl)
theorem dX4_stepOn_249 : decode cX4_stepOn 249 = .ok (.iload_n 1, 1) := dk_27 (dk_at dksX4_stepOn_10 17 rfl rfl)
theorem dX4_stepOn_250 : decode cX4_stepOn 250 = .ok (.bipush 61, 2) := dk_16 61 (dk_at dksX4_stepOn_10 18 rfl rfl)
theorem dX4_stepOn_252 : decode cX4_stepOn 252 = .ok (.if_icmp .ne 7, 3) := dk_160 0 7 (dk_at dksX4_stepOn_10 20 rfl rfl)
theorem dX4_stepOn_255 : decode cX4_stepOn 255 = .ok (.iconst 1, 1) := dk_4 (dk_at dksX4_stepOn_10 23 rfl rfl)
theorem dX4_stepOn_256 : decode cX4_stepOn 256 = .ok (.goto 4, 3) := dk_167 0 4 (dk_at dksX4_stepOn_11 0 rfl rfl)
theorem dX4_stepOn_259 : decode cX4_stepOn 259 = .ok (.iconst 0, 1) := dk_3 (dk_at dksX4_stepOn_11 3 rfl rfl)
theorem dX4_stepOn_260 : decode cX4_stepOn 260 = .ok (.istore_n 2, 1) := dk_61 (dk_at dksX4_stepOn_11 4 rfl rfl)
theorem dX4_stepOn_261 : decode cX4_stepOn 261 = .ok (.aload_n 0, 1) := dk_42 (dk_at dksX4_stepOn_11 5 rfl rfl)
theorem dX4_stepOn_262 : decode cX4_stepOn 262 = .ok (.iload_n 2, 1) := dk_28 (dk_at dksX4_stepOn_11 6 rfl rfl)
theorem dX4_stepOn_263 : decode cX4_stepOn 263 = .ok (.ifCond .eq 7, 3) := dk_153 0 7 (dk_at dksX4_stepOn_11 7 rfl rfl)
theorem dX4_stepOn_266 : decode cX4_stepOn 266 = .ok (.iconst 3, 1) := dk_6 (dk_at dksX4_stepOn_11 10 rfl rfl)
theorem dX4_stepOn_267 : decode cX4_stepOn 267 = .ok (.goto 4, 3) := dk_167 0 4 (dk_at dksX4_stepOn_11 11 rfl rfl)
theorem dX4_stepOn_270 : decode cX4_stepOn 270 = .ok (.iconst 4, 1) := dk_7 (dk_at dksX4_stepOn_11 14 rfl rfl)
theorem dX4_stepOn_271 : decode cX4_stepOn 271 = .ok (.putfield 197, 3) := dk_181 0 197 (dk_at dksX4_stepOn_11 15 rfl rfl)
theorem dX4_stepOn_274 : decode cX4_stepOn 274 = .ok (.aload_n 0, 1) := dk_42 (dk_at dksX4_stepOn_11 18 rfl rfl)
theorem dX4_stepOn_275 : decode cX4_stepOn 275 = .ok (.iload_n 1, 1) := dk_27 (dk_at dksX4_stepOn_11 19 rfl rfl)
theorem dX4_stepOn_276 : decode cX4_stepOn 276 = .ok (.putfield 194, 3) := dk_181 0 194 (dk_at dksX4_stepOn_11 20 rfl rfl)
theorem dX4_stepOn_279 : decode cX4_stepOn 279 = .ok (.aload_n 0, 1) := dk_42 (dk_at dksX4_stepOn_11 23 rfl rfl)
theorem dX4_stepOn_280 : decode cX4_stepOn 280 = .ok (.aload_n 0, 1) := dk_42 (dk_at dksX4_stepOn_12 0 rfl rfl)
theorem dX4_stepOn_281 : decode cX4_stepOn 281 = .ok (.getfield 184, 3) := dk_180 0 184 (dk_at dksX4_stepOn_12 1 rfl rfl)
theorem dX4_stepOn_284 : decode cX4_stepOn 284 = .ok (.putfield 217, 3) := dk_181 0 217 (dk_at dksX4_stepOn_12 4 rfl rfl)
theorem dX4_stepOn_287 : decode cX4_stepOn 287 = .ok (.return_, 1) := dk_177 (dk_at dksX4_stepOn_12 7 rfl rfl)
abbrev cX4_byteAt : ByteArray := prog_21_method_7_code
def yX4_byteAt : MethodName := ⟨RX4, "byteAt", "(I)I"⟩
def dkwX4_byteAt_0 : List UInt8 := [27, 42, 180, 0, 181, 162, 0, 12, 42, 180, 0, 58, 27, 46, 167, 0, 4, 2, 172]
abbrev dktX4_byteAt_0 : List UInt8 := dkwX4_byteAt_0 ++ []
theorem dksX4_byteAt_0 : cX4_byteAt.data.toList.drop 0 = dktX4_byteAt_0 := by decide +kernel
theorem dX4_byteAt_0 : decode cX4_byteAt 0 = .ok (.iload_n 1, 1) := dk_27 (dk_at dksX4_byteAt_0 0 rfl rfl)
theorem dX4_byteAt_1 : decode cX4_byteAt 1 = .ok (.aload_n 0, 1) := dk_42 (dk_at dksX4_byteAt_0 1 rfl rfl)
theorem dX4_byteAt_2 : decode cX4_byteAt 2 = .ok (.getfield 181, 3) := dk_180 0 181 (dk_at dksX4_byteAt_0 2 rfl rfl)
theorem dX4_byteAt_5 : decode cX4_byteAt 5 = .ok (.if_icmp .ge 12, 3) := dk_162 0 12 (dk_at dksX4_byteAt_0 5 rfl rfl)
theorem dX4_byteAt_8 : decode cX4_byteAt 8 = .ok (.aload_n 0, 1) := dk_42 (dk_at dksX4_byteAt_0 8 rfl rfl)
theorem dX4_byteAt_9 : decode cX4_byteAt 9 = .ok (.getfield 58, 3) := dk_180 0 58 (dk_at dksX4_byteAt_0 9 rfl rfl)
theorem dX4_byteAt_12 : decode cX4_byteAt 12 = .ok (.iload_n 1, 1) := dk_27 (dk_at dksX4_byteAt_0 12 rfl rfl)
theorem dX4_byteAt_13 : decode cX4_byteAt 13 = .ok (.iaload, 1) := dk_46 (dk_at dksX4_byteAt_0 13 rfl rfl)
theorem dX4_byteAt_14 : decode cX4_byteAt 14 = .ok (.goto 4, 3) := dk_167 0 4 (dk_at dksX4_byteAt_0 14 rfl rfl)
theorem dX4_byteAt_17 : decode cX4_byteAt 17 = .ok (.iconst (-1), 1) := dk_2 (dk_at dksX4_byteAt_0 17 rfl rfl)
theorem dX4_byteAt_18 : decode cX4_byteAt 18 = .ok (.ireturn, 1) := dk_172 (dk_at dksX4_byteAt_0 18 rfl rfl)
abbrev cX4_isLetter : ByteArray := prog_21_method_8_code
def yX4_isLetter : MethodName := ⟨RX4, "isLetter", "(I)Z"⟩
def dkwX4_isLetter_0 : List UInt8 := [26, 16, 97, 161, 0, 13, 26, 16, 122, 163, 0, 7, 4, 167, 0, 4, 3, 172]
abbrev dktX4_isLetter_0 : List UInt8 := dkwX4_isLetter_0 ++ []
theorem dksX4_isLetter_0 : cX4_isLetter.data.toList.drop 0 = dktX4_isLetter_0 := by decide +kernel
theorem dX4_isLetter_0 : decode cX4_isLetter 0 = .ok (.iload_n 0, 1) := dk_26 (dk_at dksX4_isLetter_0 0 rfl rfl)
theorem dX4_isLetter_1 : decode cX4_isLetter 1 = .ok (.bipush 97, 2) := dk_16 97 (dk_at dksX4_isLetter_0 1 rfl rfl)
theorem dX4_isLetter_3 : decode cX4_isLetter 3 = .ok (.if_icmp .lt 13, 3) := dk_161 0 13 (dk_at dksX4_isLetter_0 3 rfl rfl)
theorem dX4_isLetter_6 : decode cX4_isLetter 6 = .ok (.iload_n 0, 1) := dk_26 (dk_at dksX4_isLetter_0 6 rfl rfl)
theorem dX4_isLetter_7 : decode cX4_isLetter 7 = .ok (.bipush 122, 2) := dk_16 122 (dk_at dksX4_isLetter_0 7 rfl rfl)
theorem dX4_isLetter_9 : decode cX4_isLetter 9 = .ok (.if_icmp .gt 7, 3) := dk_163 0 7 (dk_at dksX4_isLetter_0 9 rfl rfl)
theorem dX4_isLetter_12 : decode cX4_isLetter 12 = .ok (.iconst 1, 1) := dk_4 (dk_at dksX4_isLetter_0 12 rfl rfl)
theorem dX4_isLetter_13 : decode cX4_isLetter 13 = .ok (.goto 4, 3) := dk_167 0 4 (dk_at dksX4_isLetter_0 13 rfl rfl)
theorem dX4_isLetter_16 : decode cX4_isLetter 16 = .ok (.iconst 0, 1) := dk_3 (dk_at dksX4_isLetter_0 16 rfl rfl)
theorem dX4_isLetter_17 : decode cX4_isLetter 17 = .ok (.ireturn, 1) := dk_172 (dk_at dksX4_isLetter_0 17 rfl rfl)
abbrev cX4_isDigit : ByteArray := prog_21_method_9_code
def yX4_isDigit : MethodName := ⟨RX4, "isDigit", "(I)Z"⟩
def dkwX4_isDigit_0 : List UInt8 := [26, 16, 48, 161, 0, 13, 26, 16, 57, 163, 0, 7, 4, 167, 0, 4, 3, 172]
abbrev dktX4_isDigit_0 : List UInt8 := dkwX4_isDigit_0 ++ []
theorem dksX4_isDigit_0 : cX4_isDigit.data.toList.drop 0 = dktX4_isDigit_0 := by decide +kernel
theorem dX4_isDigit_0 : decode cX4_isDigit 0 = .ok (.iload_n 0, 1) := dk_26 (dk_at dksX4_isDigit_0 0 rfl rfl)
theorem dX4_isDigit_1 : decode cX4_isDigit 1 = .ok (.bipush 48, 2) := dk_16 48 (dk_at dksX4_isDigit_0 1 rfl rfl)
theorem dX4_isDigit_3 : decode cX4_isDigit 3 = .ok (.if_icmp .lt 13, 3) := dk_161 0 13 (dk_at dksX4_isDigit_0 3 rfl rfl)
theorem dX4_isDigit_6 : decode cX4_isDigit 6 = .ok (.iload_n 0, 1) := dk_26 (dk_at dksX4_isDigit_0 6 rfl rfl)
theorem dX4_isDigit_7 : decode cX4_isDigit 7 = .ok (.bipush 57, 2) := dk_16 57 (dk_at dksX4_isDigit_0 7 rfl rfl)
theorem dX4_isDigit_9 : decode cX4_isDigit 9 = .ok (.if_icmp .gt 7, 3) := dk_163 0 7 (dk_at dksX4_isDigit_0 9 rfl rfl)
theorem dX4_isDigit_12 : decode cX4_isDigit 12 = .ok (.iconst 1, 1) := dk_4 (dk_at dksX4_isDigit_0 12 rfl rfl)
theorem dX4_isDigit_13 : decode cX4_isDigit 13 = .ok (.goto 4, 3) := dk_167 0 4 (dk_at dksX4_isDigit_0 13 rfl rfl)
theorem dX4_isDigit_16 : decode cX4_isDigit 16 = .ok (.iconst 0, 1) := dk_3 (dk_at dksX4_isDigit_0 16 rfl rfl)
theorem dX4_isDigit_17 : decode cX4_isDigit 17 = .ok (.ireturn, 1) := dk_172 (dk_at dksX4_isDigit_0 17 rfl rfl)
abbrev cX4_readSteps : ByteArray := prog_21_method_27_code
def yX4_readSteps : MethodName := ⟨RX4, "readSteps", "(II)I"⟩
def dkwX4_readSteps_5 : List UInt8 := [167, 0, 7, 16, 254, 28, 100, 79, 29, 172]
abbrev dktX4_readSteps_5 : List UInt8 := dkwX4_readSteps_5 ++ []
def dkwX4_readSteps_4 : List UInt8 := [167, 255, 167, 21, 4, 2, 159, 0, 26, 42, 180, 0, 86, 16, 40, 21, 4, 96, 28, 2, 160, 0, 7, 2]
abbrev dktX4_readSteps_4 : List UInt8 := dkwX4_readSteps_4 ++ dktX4_readSteps_5
def dkwX4_readSteps_3 : List UInt8 := [21, 5, 62, 167, 0, 15, 42, 180, 0, 86, 16, 40, 21, 4, 96, 21, 5, 79, 21, 5, 54, 4]
abbrev dktX4_readSteps_3 : List UInt8 := dkwX4_readSteps_3 ++ dktX4_readSteps_4
def dkwX4_readSteps_2 : List UInt8 := [4, 46, 54, 5, 42, 27, 182, 1, 54, 42, 180, 0, 220, 153, 0, 5, 2, 172, 21, 4, 2, 160, 0, 9]
abbrev dktX4_readSteps_2 : List UInt8 := dkwX4_readSteps_2 ++ dktX4_readSteps_3
def dkwX4_readSteps_1 : List UInt8 := [42, 19, 1, 50, 182, 0, 234, 154, 0, 66, 42, 19, 1, 52, 182, 0, 234, 154, 0, 56, 42, 180, 0, 65]
abbrev dktX4_readSteps_1 : List UInt8 := dkwX4_readSteps_1 ++ dktX4_readSteps_2
def dkwX4_readSteps_0 : List UInt8 := [2, 62, 2, 54, 4, 42, 180, 0, 220, 154, 0, 88, 42, 180, 0, 197, 153, 0, 81, 28, 2, 159, 0, 23]
abbrev dktX4_readSteps_0 : List UInt8 := dkwX4_readSteps_0 ++ dktX4_readSteps_1
theorem dksX4_readSteps_0 : cX4_readSteps.data.toList.drop 0 = dktX4_readSteps_0 := by decide +kernel
theorem dksX4_readSteps_1 : cX4_readSteps.data.toList.drop 24 = dktX4_readSteps_1 := dk_seg dksX4_readSteps_0 24 rfl rfl
theorem dksX4_readSteps_2 : cX4_readSteps.data.toList.drop 48 = dktX4_readSteps_2 := dk_seg dksX4_readSteps_1 24 rfl rfl
theorem dksX4_readSteps_3 : cX4_readSteps.data.toList.drop 72 = dktX4_readSteps_3 := dk_seg dksX4_readSteps_2 24 rfl rfl
theorem dksX4_readSteps_4 : cX4_readSteps.data.toList.drop 94 = dktX4_readSteps_4 := dk_seg dksX4_readSteps_3 22 rfl rfl
theorem dksX4_readSteps_5 : cX4_readSteps.data.toList.drop 118 = dktX4_readSteps_5 := dk_seg dksX4_readSteps_4 24 rfl rfl
theorem dX4_readSteps_0 : decode cX4_readSteps 0 = .ok (.iconst (-1), 1) := dk_2 (dk_at dksX4_readSteps_0 0 rfl rfl)
theorem dX4_readSteps_1 : decode cX4_readSteps 1 = .ok (.istore_n 3, 1) := dk_62 (dk_at dksX4_readSteps_0 1 rfl rfl)
theorem dX4_readSteps_2 : decode cX4_readSteps 2 = .ok (.iconst (-1), 1) := dk_2 (dk_at dksX4_readSteps_0 2 rfl rfl)
theorem dX4_readSteps_3 : decode cX4_readSteps 3 = .ok (.istore 4, 2) := dk_54 4 (dk_at dksX4_readSteps_0 3 rfl rfl)
theorem dX4_readSteps_5 : decode cX4_readSteps 5 = .ok (.aload_n 0, 1) := dk_42 (dk_at dksX4_readSteps_0 5 rfl rfl)
theorem dX4_readSteps_6 : decode cX4_readSteps 6 = .ok (.getfield 220, 3) := dk_180 0 220 (dk_at dksX4_readSteps_0 6 rfl rfl)
theorem dX4_readSteps_9 : decode cX4_readSteps 9 = .ok (.ifCond .ne 88, 3) := dk_154 0 88 (dk_at dksX4_readSteps_0 9 rfl rfl)
theorem dX4_readSteps_12 : decode cX4_readSteps 12 = .ok (.aload_n 0, 1) := dk_42 (dk_at dksX4_readSteps_0 12 rfl rfl)
theorem dX4_readSteps_13 : decode cX4_readSteps 13 = .ok (.getfield 197, 3) := dk_180 0 197 (dk_at dksX4_readSteps_0 13 rfl rfl)
theorem dX4_readSteps_16 : decode cX4_readSteps 16 = .ok (.ifCond .eq 81, 3) := dk_153 0 81 (dk_at dksX4_readSteps_0 16 rfl rfl)
theorem dX4_readSteps_19 : decode cX4_readSteps 19 = .ok (.iload_n 2, 1) := dk_28 (dk_at dksX4_readSteps_0 19 rfl rfl)
theorem dX4_readSteps_20 : decode cX4_readSteps 20 = .ok (.iconst (-1), 1) := dk_2 (dk_at dksX4_readSteps_0 20 rfl rfl)
theorem dX4_readSteps_21 : decode cX4_readSteps 21 = .ok (.if_icmp .eq 23, 3) := dk_159 0 23 (dk_at dksX4_readSteps_0 21 rfl rfl)
theorem dX4_readSteps_24 : decode cX4_readSteps 24 = .ok (.aload_n 0, 1) := dk_42 (dk_at dksX4_readSteps_1 0 rfl rfl)
theorem dX4_readSteps_25 : decode cX4_readSteps 25 = .ok (.ldc_w 306, 3) := dk_19 1 50 (dk_at dksX4_readSteps_1 1 rfl rfl)
theorem dX4_readSteps_28 : decode cX4_readSteps 28 = .ok (.invokevirtual 234, 3) := dk_182 0 234 (dk_at dksX4_readSteps_1 4 rfl rfl)
theorem dX4_readSteps_31 : decode cX4_readSteps 31 = .ok (.ifCond .ne 66, 3) := dk_154 0 66 (dk_at dksX4_readSteps_1 7 rfl rfl)
theorem dX4_readSteps_34 : decode cX4_readSteps 34 = .ok (.aload_n 0, 1) := dk_42 (dk_at dksX4_readSteps_1 10 rfl rfl)
theorem dX4_readSteps_35 : decode cX4_readSteps 35 = .ok (.ldc_w 308, 3) := dk_19 1 52 (dk_at dksX4_readSteps_1 11 rfl rfl)
theorem dX4_readSteps_38 : decode cX4_readSteps 38 = .ok (.invokevirtual 234, 3) := dk_182 0 234 (dk_at dksX4_readSteps_1 14 rfl rfl)
theorem dX4_readSteps_41 : decode cX4_readSteps 41 = .ok (.ifCond .ne 56, 3) := dk_154 0 56 (dk_at dksX4_readSteps_1 17 rfl rfl)
theorem dX4_readSteps_44 : decode cX4_readSteps 44 = .ok (.aload_n 0, 1) := dk_42 (dk_at dksX4_readSteps_1 20 rfl rfl)
theorem dX4_readSteps_45 : decode cX4_readSteps 45 = .ok (.getfield 65, 3) := dk_180 0 65 (dk_at dksX4_readSteps_1 21 rfl rfl)
theorem dX4_readSteps_48 : decode cX4_readSteps 48 = .ok (.iconst 1, 1) := dk_4 (dk_at dksX4_readSteps_2 0 rfl rfl)
theorem dX4_readSteps_49 : decode cX4_readSteps 49 = .ok (.iaload, 1) := dk_46 (dk_at dksX4_readSteps_2 1 rfl rfl)
theorem dX4_readSteps_50 : decode cX4_readSteps 50 = .ok (.istore 5, 2) := dk_54 5 (dk_at dksX4_readSteps_2 2 rfl rfl)
theorem dX4_readSteps_52 : decode cX4_readSteps 52 = .ok (.aload_n 0, 1) := dk_42 (dk_at dksX4_readSteps_2 4 rfl rfl)
theorem dX4_readSteps_53 : decode cX4_readSteps 53 = .ok (.iload_n 1, 1) := dk_27 (dk_at dksX4_readSteps_2 5 rfl rfl)
theorem dX4_readSteps_54 : decode cX4_readSteps 54 = .ok (.invokevirtual 310, 3) := dk_182 1 54 (dk_at dksX4_readSteps_2 6 rfl rfl)
theorem dX4_readSteps_57 : decode cX4_readSteps 57 = .ok (.aload_n 0, 1) := dk_42 (dk_at dksX4_readSteps_2 9 rfl rfl)
theorem dX4_readSteps_58 : decode cX4_readSteps 58 = .ok (.getfield 220, 3) := dk_180 0 220 (dk_at dksX4_readSteps_2 10 rfl rfl)
theorem dX4_readSteps_61 : decode cX4_readSteps 61 = .ok (.ifCond .eq 5, 3) := dk_153 0 5 (dk_at dksX4_readSteps_2 13 rfl rfl)
theorem dX4_readSteps_64 : decode cX4_readSteps 64 = .ok (.iconst (-1), 1) := dk_2 (dk_at dksX4_readSteps_2 16 rfl rfl)
theorem dX4_readSteps_65 : decode cX4_readSteps 65 = .ok (.ireturn, 1) := dk_172 (dk_at dksX4_readSteps_2 17 rfl rfl)
theorem dX4_readSteps_66 : decode cX4_readSteps 66 = .ok (.iload 4, 2) := dk_21 4 (dk_at dksX4_readSteps_2 18 rfl rfl)
theorem dX4_readSteps_68 : decode cX4_readSteps 68 = .ok (.iconst (-1), 1) := dk_2 (dk_at dksX4_readSteps_2 20 rfl rfl)
theorem dX4_readSteps_69 : decode cX4_readSteps 69 = .ok (.if_icmp .ne 9, 3) := dk_160 0 9 (dk_at dksX4_readSteps_2 21 rfl rfl)
theorem dX4_readSteps_72 : decode cX4_readSteps 72 = .ok (.iload 5, 2) := dk_21 5 (dk_at dksX4_readSteps_3 0 rfl rfl)
theorem dX4_readSteps_74 : decode cX4_readSteps 74 = .ok (.istore_n 3, 1) := dk_62 (dk_at dksX4_readSteps_3 2 rfl rfl)
theorem dX4_readSteps_75 : decode cX4_readSteps 75 = .ok (.goto 15, 3) := dk_167 0 15 (dk_at dksX4_readSteps_3 3 rfl rfl)
theorem dX4_readSteps_78 : decode cX4_readSteps 78 = .ok (.aload_n 0, 1) := dk_42 (dk_at dksX4_readSteps_3 6 rfl rfl)
theorem dX4_readSteps_79 : decode cX4_readSteps 79 = .ok (.getfield 86, 3) := dk_180 0 86 (dk_at dksX4_readSteps_3 7 rfl rfl)
theorem dX4_readSteps_82 : decode cX4_readSteps 82 = .ok (.bipush 40, 2) := dk_16 40 (dk_at dksX4_readSteps_3 10 rfl rfl)
theorem dX4_readSteps_84 : decode cX4_readSteps 84 = .ok (.iload 4, 2) := dk_21 4 (dk_at dksX4_readSteps_3 12 rfl rfl)
theorem dX4_readSteps_86 : decode cX4_readSteps 86 = .ok (.iadd, 1) := dk_96 (dk_at dksX4_readSteps_3 14 rfl rfl)
theorem dX4_readSteps_87 : decode cX4_readSteps 87 = .ok (.iload 5, 2) := dk_21 5 (dk_at dksX4_readSteps_3 15 rfl rfl)
theorem dX4_readSteps_89 : decode cX4_readSteps 89 = .ok (.iastore, 1) := dk_79 (dk_at dksX4_readSteps_3 17 rfl rfl)
theorem dX4_readSteps_90 : decode cX4_readSteps 90 = .ok (.iload 5, 2) := dk_21 5 (dk_at dksX4_readSteps_3 18 rfl rfl)
theorem dX4_readSteps_92 : decode cX4_readSteps 92 = .ok (.istore 4, 2) := dk_54 4 (dk_at dksX4_readSteps_3 20 rfl rfl)
theorem dX4_readSteps_94 : decode cX4_readSteps 94 = .ok (.goto (-89), 3) := dk_167 255 167 (dk_at dksX4_readSteps_4 0 rfl rfl)
theorem dX4_readSteps_97 : decode cX4_readSteps 97 = .ok (.iload 4, 2) := dk_21 4 (dk_at dksX4_readSteps_4 3 rfl rfl)
theorem dX4_readSteps_99 : decode cX4_readSteps 99 = .ok (.iconst (-1), 1) := dk_2 (dk_at dksX4_readSteps_4 5 rfl rfl)
theorem dX4_readSteps_100 : decode cX4_readSteps 100 = .ok (.if_icmp .eq 26, 3) := dk_159 0 26 (dk_at dksX4_readSteps_4 6 rfl rfl)
theorem dX4_readSteps_103 : decode cX4_readSteps 103 = .ok (.aload_n 0, 1) := dk_42 (dk_at dksX4_readSteps_4 9 rfl rfl)
theorem dX4_readSteps_104 : decode cX4_readSteps 104 = .ok (.getfield 86, 3) := dk_180 0 86 (dk_at dksX4_readSteps_4 10 rfl rfl)
theorem dX4_readSteps_107 : decode cX4_readSteps 107 = .ok (.bipush 40, 2) := dk_16 40 (dk_at dksX4_readSteps_4 13 rfl rfl)
theorem dX4_readSteps_109 : decode cX4_readSteps 109 = .ok (.iload 4, 2) := dk_21 4 (dk_at dksX4_readSteps_4 15 rfl rfl)
theorem dX4_readSteps_111 : decode cX4_readSteps 111 = .ok (.iadd, 1) := dk_96 (dk_at dksX4_readSteps_4 17 rfl rfl)
theorem dX4_readSteps_112 : decode cX4_readSteps 112 = .ok (.iload_n 2, 1) := dk_28 (dk_at dksX4_readSteps_4 18 rfl rfl)
theorem dX4_readSteps_113 : decode cX4_readSteps 113 = .ok (.iconst (-1), 1) := dk_2 (dk_at dksX4_readSteps_4 19 rfl rfl)
theorem dX4_readSteps_114 : decode cX4_readSteps 114 = .ok (.if_icmp .ne 7, 3) := dk_160 0 7 (dk_at dksX4_readSteps_4 20 rfl rfl)
theorem dX4_readSteps_117 : decode cX4_readSteps 117 = .ok (.iconst (-1), 1) := dk_2 (dk_at dksX4_readSteps_4 23 rfl rfl)
theorem dX4_readSteps_118 : decode cX4_readSteps 118 = .ok (.goto 7, 3) := dk_167 0 7 (dk_at dksX4_readSteps_5 0 rfl rfl)
theorem dX4_readSteps_121 : decode cX4_readSteps 121 = .ok (.bipush (-2), 2) := dk_16 254 (dk_at dksX4_readSteps_5 3 rfl rfl)
theorem dX4_readSteps_123 : decode cX4_readSteps 123 = .ok (.iload_n 2, 1) := dk_28 (dk_at dksX4_readSteps_5 5 rfl rfl)
theorem dX4_readSteps_124 : decode cX4_readSteps 124 = .ok (.isub, 1) := dk_100 (dk_at dksX4_readSteps_5 6 rfl rfl)
theorem dX4_readSteps_125 : decode cX4_readSteps 125 = .ok (.iastore, 1) := dk_79 (dk_at dksX4_readSteps_5 7 rfl rfl)
theorem dX4_readSteps_126 : decode cX4_readSteps 126 = .ok (.iload_n 3, 1) := dk_29 (dk_at dksX4_readSteps_5 8 rfl rfl)
theorem dX4_readSteps_127 : decode cX4_readSteps 127 = .ok (.ireturn, 1) := dk_172 (dk_at dksX4_readSteps_5 9 rfl rfl)
abbrev cX4_is : ByteArray := prog_21_method_13_code
def yX4_is : MethodName := ⟨RX4, "is", "(Ljava/lang/String;)Z"⟩
def dkwX4_is_3 : List UInt8 := [167, 0, 4, 3, 61, 132, 3, 1, 167, 255, 216, 28, 172]
abbrev dktX4_is_3 : List UInt8 := dkwX4_is_3 ++ []
def dkwX4_is_2 : List UInt8 := [162, 0, 34, 43, 29, 182, 0, 230, 42, 180, 0, 58, 42, 180, 0, 191, 29, 96, 46, 160, 0, 7, 4]
abbrev dktX4_is_2 : List UInt8 := dkwX4_is_2 ++ dktX4_is_3
def dkwX4_is_1 : List UInt8 := [180, 0, 191, 100, 160, 0, 7, 4, 167, 0, 4, 3, 61, 3, 62, 28, 153, 0, 42, 29, 43, 182, 0, 226]
abbrev dktX4_is_1 : List UInt8 := dkwX4_is_1 ++ dktX4_is_2
def dkwX4_is_0 : List UInt8 := [42, 180, 0, 220, 154, 0, 31, 42, 180, 0, 197, 4, 160, 0, 23, 43, 182, 0, 226, 42, 180, 0, 217, 42]
abbrev dktX4_is_0 : List UInt8 := dkwX4_is_0 ++ dktX4_is_1
theorem dksX4_is_0 : cX4_is.data.toList.drop 0 = dktX4_is_0 := by decide +kernel
theorem dksX4_is_1 : cX4_is.data.toList.drop 24 = dktX4_is_1 := dk_seg dksX4_is_0 24 rfl rfl
theorem dksX4_is_2 : cX4_is.data.toList.drop 48 = dktX4_is_2 := dk_seg dksX4_is_1 24 rfl rfl
theorem dksX4_is_3 : cX4_is.data.toList.drop 71 = dktX4_is_3 := dk_seg dksX4_is_2 23 rfl rfl
theorem dX4_is_0 : decode cX4_is 0 = .ok (.aload_n 0, 1) := dk_42 (dk_at dksX4_is_0 0 rfl rfl)
theorem dX4_is_1 : decode cX4_is 1 = .ok (.getfield 220, 3) := dk_180 0 220 (dk_at dksX4_is_0 1 rfl rfl)
theorem dX4_is_4 : decode cX4_is 4 = .ok (.ifCond .ne 31, 3) := dk_154 0 31 (dk_at dksX4_is_0 4 rfl rfl)
theorem dX4_is_7 : decode cX4_is 7 = .ok (.aload_n 0, 1) := dk_42 (dk_at dksX4_is_0 7 rfl rfl)
theorem dX4_is_8 : decode cX4_is 8 = .ok (.getfield 197, 3) := dk_180 0 197 (dk_at dksX4_is_0 8 rfl rfl)
theorem dX4_is_11 : decode cX4_is 11 = .ok (.iconst 1, 1) := dk_4 (dk_at dksX4_is_0 11 rfl rfl)
theorem dX4_is_12 : decode cX4_is 12 = .ok (.if_icmp .ne 23, 3) := dk_160 0 23 (dk_at dksX4_is_0 12 rfl rfl)
theorem dX4_is_15 : decode cX4_is 15 = .ok (.aload_n 1, 1) := dk_43 (dk_at dksX4_is_0 15 rfl rfl)
theorem dX4_is_16 : decode cX4_is 16 = .ok (.invokevirtual 226, 3) := dk_182 0 226 (dk_at dksX4_is_0 16 rfl rfl)
theorem dX4_is_19 : decode cX4_is 19 = .ok (.aload_n 0, 1) := dk_42 (dk_at dksX4_is_0 19 rfl rfl)
theorem dX4_is_20 : decode cX4_is 20 = .ok (.getfield 217, 3) := dk_180 0 217 (dk_at dksX4_is_0 20 rfl rfl)
theorem dX4_is_23 : decode cX4_is 23 = .ok (.aload_n 0, 1) := dk_42 (dk_at dksX4_is_0 23 rfl rfl)
theorem dX4_is_24 : decode cX4_is 24 = .ok (.getfield 191, 3) := dk_180 0 191 (dk_at dksX4_is_1 0 rfl rfl)
theorem dX4_is_27 : decode cX4_is 27 = .ok (.isub, 1) := dk_100 (dk_at dksX4_is_1 3 rfl rfl)
theorem dX4_is_28 : decode cX4_is 28 = .ok (.if_icmp .ne 7, 3) := dk_160 0 7 (dk_at dksX4_is_1 4 rfl rfl)
theorem dX4_is_31 : decode cX4_is 31 = .ok (.iconst 1, 1) := dk_4 (dk_at dksX4_is_1 7 rfl rfl)
theorem dX4_is_32 : decode cX4_is 32 = .ok (.goto 4, 3) := dk_167 0 4 (dk_at dksX4_is_1 8 rfl rfl)
theorem dX4_is_35 : decode cX4_is 35 = .ok (.iconst 0, 1) := dk_3 (dk_at dksX4_is_1 11 rfl rfl)
theorem dX4_is_36 : decode cX4_is 36 = .ok (.istore_n 2, 1) := dk_61 (dk_at dksX4_is_1 12 rfl rfl)
theorem dX4_is_37 : decode cX4_is 37 = .ok (.iconst 0, 1) := dk_3 (dk_at dksX4_is_1 13 rfl rfl)
theorem dX4_is_38 : decode cX4_is 38 = .ok (.istore_n 3, 1) := dk_62 (dk_at dksX4_is_1 14 rfl rfl)
theorem dX4_is_39 : decode cX4_is 39 = .ok (.iload_n 2, 1) := dk_28 (dk_at dksX4_is_1 15 rfl rfl)
theorem dX4_is_40 : decode cX4_is 40 = .ok (.ifCond .eq 42, 3) := dk_153 0 42 (dk_at dksX4_is_1 16 rfl rfl)
theorem dX4_is_43 : decode cX4_is 43 = .ok (.iload_n 3, 1) := dk_29 (dk_at dksX4_is_1 19 rfl rfl)
theorem dX4_is_44 : decode cX4_is 44 = .ok (.aload_n 1, 1) := dk_43 (dk_at dksX4_is_1 20 rfl rfl)
theorem dX4_is_45 : decode cX4_is 45 = .ok (.invokevirtual 226, 3) := dk_182 0 226 (dk_at dksX4_is_1 21 rfl rfl)
theorem dX4_is_48 : decode cX4_is 48 = .ok (.if_icmp .ge 34, 3) := dk_162 0 34 (dk_at dksX4_is_2 0 rfl rfl)
theorem dX4_is_51 : decode cX4_is 51 = .ok (.aload_n 1, 1) := dk_43 (dk_at dksX4_is_2 3 rfl rfl)
theorem dX4_is_52 : decode cX4_is 52 = .ok (.iload_n 3, 1) := dk_29 (dk_at dksX4_is_2 4 rfl rfl)
theorem dX4_is_53 : decode cX4_is 53 = .ok (.invokevirtual 230, 3) := dk_182 0 230 (dk_at dksX4_is_2 5 rfl rfl)
theorem dX4_is_56 : decode cX4_is 56 = .ok (.aload_n 0, 1) := dk_42 (dk_at dksX4_is_2 8 rfl rfl)
theorem dX4_is_57 : decode cX4_is 57 = .ok (.getfield 58, 3) := dk_180 0 58 (dk_at dksX4_is_2 9 rfl rfl)
theorem dX4_is_60 : decode cX4_is 60 = .ok (.aload_n 0, 1) := dk_42 (dk_at dksX4_is_2 12 rfl rfl)
theorem dX4_is_61 : decode cX4_is 61 = .ok (.getfield 191, 3) := dk_180 0 191 (dk_at dksX4_is_2 13 rfl rfl)
theorem dX4_is_64 : decode cX4_is 64 = .ok (.iload_n 3, 1) := dk_29 (dk_at dksX4_is_2 16 rfl rfl)
theorem dX4_is_65 : decode cX4_is 65 = .ok (.iadd, 1) := dk_96 (dk_at dksX4_is_2 17 rfl rfl)
theorem dX4_is_66 : decode cX4_is 66 = .ok (.iaload, 1) := dk_46 (dk_at dksX4_is_2 18 rfl rfl)
theorem dX4_is_67 : decode cX4_is 67 = .ok (.if_icmp .ne 7, 3) := dk_160 0 7 (dk_at dksX4_is_2 19 rfl rfl)
theorem dX4_is_70 : decode cX4_is 70 = .ok (.iconst 1, 1) := dk_4 (dk_at dksX4_is_2 22 rfl rfl)
theorem dX4_is_71 : decode cX4_is 71 = .ok (.goto 4, 3) := dk_167 0 4 (dk_at dksX4_is_3 0 rfl rfl)
theorem dX4_is_74 : decode cX4_is 74 = .ok (.iconst 0, 1) := dk_3 (dk_at dksX4_is_3 3 rfl rfl)
theorem dX4_is_75 : decode cX4_is 75 = .ok (.istore_n 2, 1) := dk_61 (dk_at dksX4_is_3 4 rfl rfl)
theorem dX4_is_76 : decode cX4_is 76 = .ok (.iinc 3 1, 3) := dk_132 3 1 (dk_at dksX4_is_3 5 rfl rfl)
theorem dX4_is_79 : decode cX4_is 79 = .ok (.goto (-40), 3) := dk_167 255 216 (dk_at dksX4_is_3 8 rfl rfl)
theorem dX4_is_82 : decode cX4_is 82 = .ok (.iload_n 2, 1) := dk_28 (dk_at dksX4_is_3 11 rfl rfl)
theorem dX4_is_83 : decode cX4_is 83 = .ok (.ireturn, 1) := dk_172 (dk_at dksX4_is_3 12 rfl rfl)
abbrev cX4_readStep : ByteArray := prog_21_method_25_code
def yX4_readStep : MethodName := ⟨RX4, "readStep", "(I)V"⟩
def dkwX4_readStep_19 : List UInt8 := [42, 29, 27, 182, 1, 42, 167, 0, 3, 42, 16, 59, 182, 1, 8, 177]
abbrev dktX4_readStep_19 : List UInt8 := dkwX4_readStep_19 ++ []
def dkwX4_readStep_18 : List UInt8 := [182, 1, 38, 79, 42, 29, 3, 4, 182, 1, 24, 167, 0, 22, 42, 29, 3, 4, 182, 1, 24, 167, 0, 12]
abbrev dktX4_readStep_18 : List UInt8 := dkwX4_readStep_18 ++ dktX4_readStep_19
def dkwX4_readStep_17 : List UInt8 := [180, 0, 80, 16, 40, 29, 96, 42, 182, 1, 38, 79, 167, 0, 45, 42, 180, 0, 80, 16, 40, 29, 96, 42]
abbrev dktX4_readStep_17 : List UInt8 := dkwX4_readStep_17 ++ dktX4_readStep_18
def dkwX4_readStep_16 : List UInt8 := [182, 0, 251, 79, 167, 0, 75, 42, 29, 3, 3, 182, 1, 24, 42, 19, 1, 37, 182, 1, 30, 42]
abbrev dktX4_readStep_16 : List UInt8 := dkwX4_readStep_16 ++ dktX4_readStep_17
def dkwX4_readStep_15 : List UInt8 := [182, 0, 234, 153, 0, 98, 42, 182, 0, 245, 42, 180, 0, 83, 16, 40, 29, 96, 42, 4, 16, 99]
abbrev dktX4_readStep_15 : List UInt8 := dkwX4_readStep_15 ++ dktX4_readStep_16
def dkwX4_readStep_14 : List UInt8 := [42, 19, 1, 37, 182, 1, 30, 42, 180, 0, 80, 16, 40, 29, 96, 42, 182, 1, 38, 79, 42, 19, 1, 41]
abbrev dktX4_readStep_14 : List UInt8 := dkwX4_readStep_14 ++ dktX4_readStep_15
def dkwX4_readStep_13 : List UInt8 := [160, 0, 10, 42, 29, 3, 3, 182, 1, 24, 42, 19, 1, 28, 182, 1, 30, 42, 29, 4, 3, 182, 1, 24]
abbrev dktX4_readStep_13 : List UInt8 := dkwX4_readStep_13 ++ dktX4_readStep_14
def dkwX4_readStep_12 : List UInt8 := [182, 0, 245, 42, 180, 0, 83, 16, 40, 29, 96, 42, 4, 16, 99, 182, 0, 251, 79, 167, 0, 154, 28, 6]
abbrev dktX4_readStep_12 : List UInt8 := dkwX4_readStep_12 ++ dktX4_readStep_13
def dkwX4_readStep_11 : List UInt8 := [19, 1, 34, 182, 1, 30, 42, 29, 5, 3, 182, 1, 24, 42, 19, 1, 35, 182, 0, 234, 153, 0, 177, 42]
abbrev dktX4_readStep_11 : List UInt8 := dkwX4_readStep_11 ++ dktX4_readStep_12
def dkwX4_readStep_10 : List UInt8 := [42, 29, 3, 3, 182, 1, 24, 42, 19, 1, 28, 182, 1, 30, 42, 29, 4, 3, 182, 1, 24, 42]
abbrev dktX4_readStep_10 : List UInt8 := dkwX4_readStep_10 ++ dktX4_readStep_11
def dkwX4_readStep_9 : List UInt8 := [170, 0, 0, 1, 20, 0, 0, 0, 0, 0, 0, 0, 10, 0, 0, 0, 57, 0, 0, 0, 57, 0, 0, 0, 57, 0, 0, 0, 125, 0, 0, 0, 125, 0, 0, 1, 20, 0, 0, 1, 20, 0, 0, 0, 204, 0, 0, 0, 234, 0, 0, 1, 1, 0, 0, 1, 11]
abbrev dktX4_readStep_9 : List UInt8 := dkwX4_readStep_9 ++ dktX4_readStep_10
def dkwX4_readStep_8 : List UInt8 := [79, 132, 4, 1, 167, 255, 217, 42, 182, 0, 245, 28]
abbrev dktX4_readStep_8 : List UInt8 := dkwX4_readStep_8 ++ dktX4_readStep_9
def dkwX4_readStep_7 : List UInt8 := [16, 40, 29, 96, 104, 21, 4, 96, 3, 79, 42, 180, 0, 77, 6, 16, 40, 29, 96, 104, 21, 4, 96, 3]
abbrev dktX4_readStep_7 : List UInt8 := dkwX4_readStep_7 ++ dktX4_readStep_8
def dkwX4_readStep_6 : List UInt8 := [180, 0, 86, 16, 40, 29, 96, 2, 79, 3, 54, 4, 21, 4, 6, 162, 0, 39, 42, 180, 0, 74, 6]
abbrev dktX4_readStep_6 : List UInt8 := dkwX4_readStep_6 ++ dktX4_readStep_7
def dkwX4_readStep_5 : List UInt8 := [79, 42, 180, 0, 89, 16, 40, 29, 96, 2, 79, 42, 180, 0, 92, 16, 40, 29, 96, 2, 79, 42]
abbrev dktX4_readStep_5 : List UInt8 := dkwX4_readStep_5 ++ dktX4_readStep_6
def dkwX4_readStep_4 : List UInt8 := [159, 0, 8, 28, 7, 160, 0, 8, 16, 99, 167, 0, 4, 4, 79, 42, 180, 0, 80, 16, 40, 29, 96, 3]
abbrev dktX4_readStep_4 : List UInt8 := dkwX4_readStep_4 ++ dktX4_readStep_5
def dkwX4_readStep_3 : List UInt8 := [46, 4, 96, 79, 42, 180, 0, 71, 16, 40, 29, 96, 28, 79, 42, 180, 0, 83, 16, 40, 29, 96, 28, 6]
abbrev dktX4_readStep_3 : List UInt8 := dkwX4_readStep_3 ++ dktX4_readStep_4
def dkwX4_readStep_2 : List UInt8 := [182, 0, 241, 42, 180, 0, 220, 153, 0, 4, 177, 42, 180, 0, 65, 4, 46, 62, 42, 180, 0, 65, 4, 92]
abbrev dktX4_readStep_2 : List UInt8 := dkwX4_readStep_2 ++ dktX4_readStep_3
def dkwX4_readStep_1 : List UInt8 := [180, 0, 65, 4, 46, 16, 40, 159, 0, 14, 28, 16, 10, 160, 0, 13, 27, 7, 160, 0, 8, 42, 5]
abbrev dktX4_readStep_1 : List UInt8 := dkwX4_readStep_1 ++ dktX4_readStep_2
def dkwX4_readStep_0 : List UInt8 := [42, 42, 180, 0, 33, 182, 1, 1, 61, 28, 2, 160, 0, 11, 42, 4, 182, 0, 241, 167, 0, 30, 42]
abbrev dktX4_readStep_0 : List UInt8 := dkwX4_readStep_0 ++ dktX4_readStep_1
theorem dksX4_readStep_0 : cX4_readStep.data.toList.drop 0 = dktX4_readStep_0 := by decide +kernel
theorem dksX4_readStep_1 : cX4_readStep.data.toList.drop 23 = dktX4_readStep_1 := dk_seg dksX4_readStep_0 23 rfl rfl
theorem dksX4_readStep_2 : cX4_readStep.data.toList.drop 46 = dktX4_readStep_2 := dk_seg dksX4_readStep_1 23 rfl rfl
theorem dksX4_readStep_3 : cX4_readStep.data.toList.drop 70 = dktX4_readStep_3 := dk_seg dksX4_readStep_2 24 rfl rfl
theorem dksX4_readStep_4 : cX4_readStep.data.toList.drop 94 = dktX4_readStep_4 := dk_seg dksX4_readStep_3 24 rfl rfl
theorem dksX4_readStep_5 : cX4_readStep.data.toList.drop 118 = dktX4_readStep_5 := dk_seg dksX4_readStep_4 24 rfl rfl
theorem dksX4_readStep_6 : cX4_readStep.data.toList.drop 140 = dktX4_readStep_6 := dk_seg dksX4_readStep_5 22 rfl rfl
theorem dksX4_readStep_7 : cX4_readStep.data.toList.drop 163 = dktX4_readStep_7 := dk_seg dksX4_readStep_6 23 rfl rfl
theorem dksX4_readStep_8 : cX4_readStep.data.toList.drop 187 = dktX4_readStep_8 := dk_seg dksX4_readStep_7 24 rfl rfl
theorem dksX4_readStep_9 : cX4_readStep.data.toList.drop 199 = dktX4_readStep_9 := dk_seg dksX4_readStep_8 12 rfl rfl
theorem dksX4_readStep_10 : cX4_readStep.data.toList.drop 256 = dktX4_readStep_10 := dk_seg dksX4_readStep_9 57 rfl rfl
theorem dksX4_readStep_11 : cX4_readStep.data.toList.drop 278 = dktX4_readStep_11 := dk_seg dksX4_readStep_10 22 rfl rfl
theorem dksX4_readStep_12 : cX4_readStep.data.toList.drop 302 = dktX4_readStep_12 := dk_seg dksX4_readStep_11 24 rfl rfl
theorem dksX4_readStep_13 : cX4_readStep.data.toList.drop 326 = dktX4_readStep_13 := dk_seg dksX4_readStep_12 24 rfl rfl
theorem dksX4_readStep_14 : cX4_readStep.data.toList.drop 350 = dktX4_readStep_14 := dk_seg dksX4_readStep_13 24 rfl rfl
theorem dksX4_readStep_15 : cX4_readStep.data.toList.drop 374 = dktX4_readStep_15 := dk_seg dksX4_readStep_14 24 rfl rfl
theorem dksX4_readStep_16 : cX4_readStep.data.toList.drop 396 = dktX4_readStep_16 := dk_seg dksX4_readStep_15 22 rfl rfl
theorem dksX4_readStep_17 : cX4_readStep.data.toList.drop 418 = dktX4_readStep_17 := dk_seg dksX4_readStep_16 22 rfl rfl
theorem dksX4_readStep_18 : cX4_readStep.data.toList.drop 442 = dktX4_readStep_18 := dk_seg dksX4_readStep_17 24 rfl rfl
theorem dksX4_readStep_19 : cX4_readStep.data.toList.drop 466 = dktX4_readStep_19 := dk_seg dksX4_readStep_18 24 rfl rfl
theorem dX4_readStep_0 : decode cX4_readStep 0 = .ok (.aload_n 0, 1) := dk_42 (dk_at dksX4_readStep_0 0 rfl rfl)
theorem dX4_readStep_1 : decode cX4_readStep 1 = .ok (.aload_n 0, 1) := dk_42 (dk_at dksX4_readStep_0 1 rfl rfl)
theorem dX4_readStep_2 : decode cX4_readStep 2 = .ok (.getfield 33, 3) := dk_180 0 33 (dk_at dksX4_readStep_0 2 rfl rfl)
theorem dX4_readStep_5 : decode cX4_readStep 5 = .ok (.invokevirtual 257, 3) := dk_182 1 1 (dk_at dksX4_readStep_0 5 rfl rfl)
theorem dX4_readStep_8 : decode cX4_readStep 8 = .ok (.istore_n 2, 1) := dk_61 (dk_at dksX4_readStep_0 8 rfl rfl)
theorem dX4_readStep_9 : decode cX4_readStep 9 = .ok (.iload_n 2, 1) := dk_28 (dk_at dksX4_readStep_0 9 rfl rfl)
theorem dX4_readStep_10 : decode cX4_readStep 10 = .ok (.iconst (-1), 1) := dk_2 (dk_at dksX4_readStep_0 10 rfl rfl)
theorem dX4_readStep_11 : decode cX4_readStep 11 = .ok (.if_icmp .ne 11, 3) := dk_160 0 11 (dk_at dksX4_readStep_0 11 rfl rfl)
theorem dX4_readStep_14 : decode cX4_readStep 14 = .ok (.aload_n 0, 1) := dk_42 (dk_at dksX4_readStep_0 14 rfl rfl)
theorem dX4_readStep_15 : decode cX4_readStep 15 = .ok (.iconst 1, 1) := dk_4 (dk_at dksX4_readStep_0 15 rfl rfl)
theorem dX4_readStep_16 : decode cX4_readStep 16 = .ok (.invokevirtual 241, 3) := dk_182 0 241 (dk_at dksX4_readStep_0 16 rfl rfl)
theorem dX4_readStep_19 : decode cX4_readStep 19 = .ok (.goto 30, 3) := dk_167 0 30 (dk_at dksX4_readStep_0 19 rfl rfl)
theorem dX4_readStep_22 : decode cX4_readStep 22 = .ok (.aload_n 0, 1) := dk_42 (dk_at dksX4_readStep_0 22 rfl rfl)
theorem dX4_readStep_23 : decode cX4_readStep 23 = .ok (.getfield 65, 3) := dk_180 0 65 (dk_at dksX4_readStep_1 0 rfl rfl)
theorem dX4_readStep_26 : decode cX4_readStep 26 = .ok (.iconst 1, 1) := dk_4 (dk_at dksX4_readStep_1 3 rfl rfl)
theorem dX4_readStep_27 : decode cX4_readStep 27 = .ok (.iaload, 1) := dk_46 (dk_at dksX4_readStep_1 4 rfl rfl)
theorem dX4_readStep_28 : decode cX4_readStep 28 = .ok (.bipush 40, 2) := dk_16 40 (dk_at dksX4_readStep_1 5 rfl rfl)
theorem dX4_readStep_30 : decode cX4_readStep 30 = .ok (.if_icmp .eq 14, 3) := dk_159 0 14 (dk_at dksX4_readStep_1 7 rfl rfl)
theorem dX4_readStep_33 : decode cX4_readStep 33 = .ok (.iload_n 2, 1) := dk_28 (dk_at dksX4_readStep_1 10 rfl rfl)
theorem dX4_readStep_34 : decode cX4_readStep 34 = .ok (.bipush 10, 2) := dk_16 10 (dk_at dksX4_readStep_1 11 rfl rfl)
theorem dX4_readStep_36 : decode cX4_readStep 36 = .ok (.if_icmp .ne 13, 3) := dk_160 0 13 (dk_at dksX4_readStep_1 13 rfl rfl)
theorem dX4_readStep_39 : decode cX4_readStep 39 = .ok (.iload_n 1, 1) := dk_27 (dk_at dksX4_readStep_1 16 rfl rfl)
theorem dX4_readStep_40 : decode cX4_readStep 40 = .ok (.iconst 4, 1) := dk_7 (dk_at dksX4_readStep_1 17 rfl rfl)
theorem dX4_readStep_41 : decode cX4_readStep 41 = .ok (.if_icmp .ne 8, 3) := dk_160 0 8 (dk_at dksX4_readStep_1 18 rfl rfl)
theorem dX4_readStep_44 : decode cX4_readStep 44 = .ok (.aload_n 0, 1) := dk_42 (dk_at dksX4_readStep_1 21 rfl rfl)
theorem dX4_readStep_45 : decode cX4_readStep 45 = .ok (.iconst 2, 1) := dk_5 (dk_at dksX4_readStep_1 22 rfl rfl)
theorem dX4_readStep_46 : decode cX4_readStep 46 = .ok (.invokevirtual 241, 3) := dk_182 0 241 (dk_at dksX4_readStep_2 0 rfl rfl)
theorem dX4_readStep_49 : decode cX4_readStep 49 = .ok (.aload_n 0, 1) := dk_42 (dk_at dksX4_readStep_2 3 rfl rfl)
theorem dX4_readStep_50 : decode cX4_readStep 50 = .ok (.getfield 220, 3) := dk_180 0 220 (dk_at dksX4_readStep_2 4 rfl rfl)
theorem dX4_readStep_53 : decode cX4_readStep 53 = .ok (.ifCond .eq 4, 3) := dk_153 0 4 (dk_at dksX4_readStep_2 7 rfl rfl)
theorem dX4_readStep_56 : decode cX4_readStep 56 = .ok (.return_, 1) := dk_177 (dk_at dksX4_readStep_2 10 rfl rfl)
theorem dX4_readStep_57 : decode cX4_readStep 57 = .ok (.aload_n 0, 1) := dk_42 (dk_at dksX4_readStep_2 11 rfl rfl)
theorem dX4_readStep_58 : decode cX4_readStep 58 = .ok (.getfield 65, 3) := dk_180 0 65 (dk_at dksX4_readStep_2 12 rfl rfl)
theorem dX4_readStep_61 : decode cX4_readStep 61 = .ok (.iconst 1, 1) := dk_4 (dk_at dksX4_readStep_2 15 rfl rfl)
theorem dX4_readStep_62 : decode cX4_readStep 62 = .ok (.iaload, 1) := dk_46 (dk_at dksX4_readStep_2 16 rfl rfl)
theorem dX4_readStep_63 : decode cX4_readStep 63 = .ok (.istore_n 3, 1) := dk_62 (dk_at dksX4_readStep_2 17 rfl rfl)
theorem dX4_readStep_64 : decode cX4_readStep 64 = .ok (.aload_n 0, 1) := dk_42 (dk_at dksX4_readStep_2 18 rfl rfl)
theorem dX4_readStep_65 : decode cX4_readStep 65 = .ok (.getfield 65, 3) := dk_180 0 65 (dk_at dksX4_readStep_2 19 rfl rfl)
theorem dX4_readStep_68 : decode cX4_readStep 68 = .ok (.iconst 1, 1) := dk_4 (dk_at dksX4_readStep_2 22 rfl rfl)
theorem dX4_readStep_69 : decode cX4_readStep 69 = .ok (.dup2, 1) := dk_92 (dk_at dksX4_readStep_2 23 rfl rfl)
theorem dX4_readStep_70 : decode cX4_readStep 70 = .ok (.iaload, 1) := dk_46 (dk_at dksX4_readStep_3 0 rfl rfl)
theorem dX4_readStep_71 : decode cX4_readStep 71 = .ok (.iconst 1, 1) := dk_4 (dk_at dksX4_readStep_3 1 rfl rfl)
theorem dX4_readStep_72 : decode cX4_readStep 72 = .ok (.iadd, 1) := dk_96 (dk_at dksX4_readStep_3 2 rfl rfl)
theorem dX4_readStep_73 : decode cX4_readStep 73 = .ok (.iastore, 1) := dk_79 (dk_at dksX4_readStep_3 3 rfl rfl)
theorem dX4_readStep_74 : decode cX4_readStep 74 = .ok (.aload_n 0, 1) := dk_42 (dk_at dksX4_readStep_3 4 rfl rfl)
theorem dX4_readStep_75 : decode cX4_readStep 75 = .ok (.getfield 71, 3) := dk_180 0 71 (dk_at dksX4_readStep_3 5 rfl rfl)
theorem dX4_readStep_78 : decode cX4_readStep 78 = .ok (.bipush 40, 2) := dk_16 40 (dk_at dksX4_readStep_3 8 rfl rfl)
theorem dX4_readStep_80 : decode cX4_readStep 80 = .ok (.iload_n 3, 1) := dk_29 (dk_at dksX4_readStep_3 10 rfl rfl)
theorem dX4_readStep_81 : decode cX4_readStep 81 = .ok (.iadd, 1) := dk_96 (dk_at dksX4_readStep_3 11 rfl rfl)
theorem dX4_readStep_82 : decode cX4_readStep 82 = .ok (.iload_n 2, 1) := dk_28 (dk_at dksX4_readStep_3 12 rfl rfl)
theorem dX4_readStep_83 : decode cX4_readStep 83 = .ok (.iastore, 1) := dk_79 (dk_at dksX4_readStep_3 13 rfl rfl)
theorem dX4_readStep_84 : decode cX4_readStep 84 = .ok (.aload_n 0, 1) := dk_42 (dk_at dksX4_readStep_3 14 rfl rfl)
theorem dX4_readStep_85 : decode cX4_readStep 85 = .ok (.getfield 83, 3) := dk_180 0 83 (dk_at dksX4_readStep_3 15 rfl rfl)
theorem dX4_readStep_88 : decode cX4_readStep 88 = .ok (.bipush 40, 2) := dk_16 40 (dk_at dksX4_readStep_3 18 rfl rfl)
theorem dX4_readStep_90 : decode cX4_readStep 90 = .ok (.iload_n 3, 1) := dk_29 (dk_at dksX4_readStep_3 20 rfl rfl)
theorem dX4_readStep_91 : decode cX4_readStep 91 = .ok (.iadd, 1) := dk_96 (dk_at dksX4_readStep_3 21 rfl rfl)
theorem dX4_readStep_92 : decode cX4_readStep 92 = .ok (.iload_n 2, 1) := dk_28 (dk_at dksX4_readStep_3 22 rfl rfl)
theorem dX4_readStep_93 : decode cX4_readStep 93 = .ok (.iconst 3, 1) := dk_6 (dk_at dksX4_readStep_3 23 rfl rfl)
theorem dX4_readStep_94 : decode cX4_readStep 94 = .ok (.if_icmp .eq 8, 3) := dk_159 0 8 (dk_at dksX4_readStep_4 0 rfl rfl)
theorem dX4_readStep_97 : decode cX4_readStep 97 = .ok (.iload_n 2, 1) := dk_28 (dk_at dksX4_readStep_4 3 rfl rfl)
theorem dX4_readStep_98 : decode cX4_readStep 98 = .ok (.iconst 4, 1) := dk_7 (dk_at dksX4_readStep_4 4 rfl rfl)
theorem dX4_readStep_99 : decode cX4_readStep 99 = .ok (.if_icmp .ne 8, 3) := dk_160 0 8 (dk_at dksX4_readStep_4 5 rfl rfl)
theorem dX4_readStep_102 : decode cX4_readStep 102 = .ok (.bipush 99, 2) := dk_16 99 (dk_at dksX4_readStep_4 8 rfl rfl)
theorem dX4_readStep_104 : decode cX4_readStep 104 = .ok (.goto 4, 3) := dk_167 0 4 (dk_at dksX4_readStep_4 10 rfl rfl)
theorem dX4_readStep_107 : decode cX4_readStep 107 = .ok (.iconst 1, 1) := dk_4 (dk_at dksX4_readStep_4 13 rfl rfl)
theorem dX4_readStep_108 : decode cX4_readStep 108 = .ok (.iastore, 1) := dk_79 (dk_at dksX4_readStep_4 14 rfl rfl)
theorem dX4_readStep_109 : decode cX4_readStep 109 = .ok (.aload_n 0, 1) := dk_42 (dk_at dksX4_readStep_4 15 rfl rfl)
theorem dX4_readStep_110 : decode cX4_readStep 110 = .ok (.getfield 80, 3) := dk_180 0 80 (dk_at dksX4_readStep_4 16 rfl rfl)
theorem dX4_readStep_113 : decode cX4_readStep 113 = .ok (.bipush 40, 2) := dk_16 40 (dk_at dksX4_readStep_4 19 rfl rfl)
theorem dX4_readStep_115 : decode cX4_readStep 115 = .ok (.iload_n 3, 1) := dk_29 (dk_at dksX4_readStep_4 21 rfl rfl)
theorem dX4_readStep_116 : decode cX4_readStep 116 = .ok (.iadd, 1) := dk_96 (dk_at dksX4_readStep_4 22 rfl rfl)
theorem dX4_readStep_117 : decode cX4_readStep 117 = .ok (.iconst 0, 1) := dk_3 (dk_at dksX4_readStep_4 23 rfl rfl)
theorem dX4_readStep_118 : decode cX4_readStep 118 = .ok (.iastore, 1) := dk_79 (dk_at dksX4_readStep_5 0 rfl rfl)
theorem dX4_readStep_119 : decode cX4_readStep 119 = .ok (.aload_n 0, 1) := dk_42 (dk_at dksX4_readStep_5 1 rfl rfl)
theorem dX4_readStep_120 : decode cX4_readStep 120 = .ok (.getfield 89, 3) := dk_180 0 89 (dk_at dksX4_readStep_5 2 rfl rfl)
theorem dX4_readStep_123 : decode cX4_readStep 123 = .ok (.bipush 40, 2) := dk_16 40 (dk_at dksX4_readStep_5 5 rfl rfl)
theorem dX4_readStep_125 : decode cX4_readStep 125 = .ok (.iload_n 3, 1) := dk_29 (dk_at dksX4_readStep_5 7 rfl rfl)
theorem dX4_readStep_126 : decode cX4_readStep 126 = .ok (.iadd, 1) := dk_96 (dk_at dksX4_readStep_5 8 rfl rfl)
theorem dX4_readStep_127 : decode cX4_readStep 127 = .ok (.iconst (-1), 1) := dk_2 (dk_at dksX4_readStep_5 9 rfl rfl)
theorem dX4_readStep_128 : decode cX4_readStep 128 = .ok (.iastore, 1) := dk_79 (dk_at dksX4_readStep_5 10 rfl rfl)
theorem dX4_readStep_129 : decode cX4_readStep 129 = .ok (.aload_n 0, 1) := dk_42 (dk_at dksX4_readStep_5 11 rfl rfl)
theorem dX4_readStep_130 : decode cX4_readStep 130 = .ok (.getfield 92, 3) := dk_180 0 92 (dk_at dksX4_readStep_5 12 rfl rfl)
theorem dX4_readStep_133 : decode cX4_readStep 133 = .ok (.bipush 40, 2) := dk_16 40 (dk_at dksX4_readStep_5 15 rfl rfl)
theorem dX4_readStep_135 : decode cX4_readStep 135 = .ok (.iload_n 3, 1) := dk_29 (dk_at dksX4_readStep_5 17 rfl rfl)
theorem dX4_readStep_136 : decode cX4_readStep 136 = .ok (.iadd, 1) := dk_96 (dk_at dksX4_readStep_5 18 rfl rfl)
theorem dX4_readStep_137 : decode cX4_readStep 137 = .ok (.iconst (-1), 1) := dk_2 (dk_at dksX4_readStep_5 19 rfl rfl)
theorem dX4_readStep_138 : decode cX4_readStep 138 = .ok (.iastore, 1) := dk_79 (dk_at dksX4_readStep_5 20 rfl rfl)
theorem dX4_readStep_139 : decode cX4_readStep 139 = .ok (.aload_n 0, 1) := dk_42 (dk_at dksX4_readStep_5 21 rfl rfl)
theorem dX4_readStep_140 : decode cX4_readStep 140 = .ok (.getfield 86, 3) := dk_180 0 86 (dk_at dksX4_readStep_6 0 rfl rfl)
theorem dX4_readStep_143 : decode cX4_readStep 143 = .ok (.bipush 40, 2) := dk_16 40 (dk_at dksX4_readStep_6 3 rfl rfl)
theorem dX4_readStep_145 : decode cX4_readStep 145 = .ok (.iload_n 3, 1) := dk_29 (dk_at dksX4_readStep_6 5 rfl rfl)
theorem dX4_readStep_146 : decode cX4_readStep 146 = .ok (.iadd, 1) := dk_96 (dk_at dksX4_readStep_6 6 rfl rfl)
theorem dX4_readStep_147 : decode cX4_readStep 147 = .ok (.iconst (-1), 1) := dk_2 (dk_at dksX4_readStep_6 7 rfl rfl)
theorem dX4_readStep_148 : decode cX4_readStep 148 = .ok (.iastore, 1) := dk_79 (dk_at dksX4_readStep_6 8 rfl rfl)
theorem dX4_readStep_149 : decode cX4_readStep 149 = .ok (.iconst 0, 1) := dk_3 (dk_at dksX4_readStep_6 9 rfl rfl)
theorem dX4_readStep_150 : decode cX4_readStep 150 = .ok (.istore 4, 2) := dk_54 4 (dk_at dksX4_readStep_6 10 rfl rfl)
theorem dX4_readStep_152 : decode cX4_readStep 152 = .ok (.iload 4, 2) := dk_21 4 (dk_at dksX4_readStep_6 12 rfl rfl)
theorem dX4_readStep_154 : decode cX4_readStep 154 = .ok (.iconst 3, 1) := dk_6 (dk_at dksX4_readStep_6 14 rfl rfl)
theorem dX4_readStep_155 : decode cX4_readStep 155 = .ok (.if_icmp .ge 39, 3) := dk_162 0 39 (dk_at dksX4_readStep_6 15 rfl rfl)
theorem dX4_readStep_158 : decode cX4_readStep 158 = .ok (.aload_n 0, 1) := dk_42 (dk_at dksX4_readStep_6 18 rfl rfl)
theorem dX4_readStep_159 : decode cX4_readStep 159 = .ok (.getfield 74, 3) := dk_180 0 74 (dk_at dksX4_readStep_6 19 rfl rfl)
theorem dX4_readStep_162 : decode cX4_readStep 162 = .ok (.iconst 3, 1) := dk_6 (dk_at dksX4_readStep_6 22 rfl rfl)
theorem dX4_readStep_163 : decode cX4_readStep 163 = .ok (.bipush 40, 2) := dk_16 40 (dk_at dksX4_readStep_7 0 rfl rfl)
theorem dX4_readStep_165 : decode cX4_readStep 165 = .ok (.iload_n 3, 1) := dk_29 (dk_at dksX4_readStep_7 2 rfl rfl)
theorem dX4_readStep_166 : decode cX4_readStep 166 = .ok (.iadd, 1) := dk_96 (dk_at dksX4_readStep_7 3 rfl rfl)
theorem dX4_readStep_167 : decode cX4_readStep 167 = .ok (.imul, 1) := dk_104 (dk_at dksX4_readStep_7 4 rfl rfl)
theorem dX4_readStep_168 : decode cX4_readStep 168 = .ok (.iload 4, 2) := dk_21 4 (dk_at dksX4_readStep_7 5 rfl rfl)
theorem dX4_readStep_170 : decode cX4_readStep 170 = .ok (.iadd, 1) := dk_96 (dk_at dksX4_readStep_7 7 rfl rfl)
theorem dX4_readStep_171 : decode cX4_readStep 171 = .ok (.iconst 0, 1) := dk_3 (dk_at dksX4_readStep_7 8 rfl rfl)
theorem dX4_readStep_172 : decode cX4_readStep 172 = .ok (.iastore, 1) := dk_79 (dk_at dksX4_readStep_7 9 rfl rfl)
theorem dX4_readStep_173 : decode cX4_readStep 173 = .ok (.aload_n 0, 1) := dk_42 (dk_at dksX4_readStep_7 10 rfl rfl)
theorem dX4_readStep_174 : decode cX4_readStep 174 = .ok (.getfield 77, 3) := dk_180 0 77 (dk_at dksX4_readStep_7 11 rfl rfl)
theorem dX4_readStep_177 : decode cX4_readStep 177 = .ok (.iconst 3, 1) := dk_6 (dk_at dksX4_readStep_7 14 rfl rfl)
theorem dX4_readStep_178 : decode cX4_readStep 178 = .ok (.bipush 40, 2) := dk_16 40 (dk_at dksX4_readStep_7 15 rfl rfl)
theorem dX4_readStep_180 : decode cX4_readStep 180 = .ok (.iload_n 3, 1) := dk_29 (dk_at dksX4_readStep_7 17 rfl rfl)
theorem dX4_readStep_181 : decode cX4_readStep 181 = .ok (.iadd, 1) := dk_96 (dk_at dksX4_readStep_7 18 rfl rfl)
theorem dX4_readStep_182 : decode cX4_readStep 182 = .ok (.imul, 1) := dk_104 (dk_at dksX4_readStep_7 19 rfl rfl)
theorem dX4_readStep_183 : decode cX4_readStep 183 = .ok (.iload 4, 2) := dk_21 4 (dk_at dksX4_readStep_7 20 rfl rfl)
theorem dX4_readStep_185 : decode cX4_readStep 185 = .ok (.iadd, 1) := dk_96 (dk_at dksX4_readStep_7 22 rfl rfl)
theorem dX4_readStep_186 : decode cX4_readStep 186 = .ok (.iconst 0, 1) := dk_3 (dk_at dksX4_readStep_7 23 rfl rfl)
theorem dX4_readStep_187 : decode cX4_readStep 187 = .ok (.iastore, 1) := dk_79 (dk_at dksX4_readStep_8 0 rfl rfl)
theorem dX4_readStep_188 : decode cX4_readStep 188 = .ok (.iinc 4 1, 3) := dk_132 4 1 (dk_at dksX4_readStep_8 1 rfl rfl)
theorem dX4_readStep_191 : decode cX4_readStep 191 = .ok (.goto (-39), 3) := dk_167 255 217 (dk_at dksX4_readStep_8 4 rfl rfl)
theorem dX4_readStep_194 : decode cX4_readStep 194 = .ok (.aload_n 0, 1) := dk_42 (dk_at dksX4_readStep_8 7 rfl rfl)
theorem dX4_readStep_195 : decode cX4_readStep 195 = .ok (.invokevirtual 245, 3) := dk_182 0 245 (dk_at dksX4_readStep_8 8 rfl rfl)
theorem dX4_readStep_198 : decode cX4_readStep 198 = .ok (.iload_n 2, 1) := dk_28 (dk_at dksX4_readStep_8 11 rfl rfl)
theorem dX4_readStep_199 : decode cX4_readStep 199 = .ok (.tableswitch 276 0 10 #[57, 57, 57, 125, 125, 276, 276, 204, 234, 257, 267], 57) := by decide +kernel
theorem dX4_readStep_256 : decode cX4_readStep 256 = .ok (.aload_n 0, 1) := dk_42 (dk_at dksX4_readStep_10 0 rfl rfl)
theorem dX4_readStep_257 : decode cX4_readStep 257 = .ok (.iload_n 3, 1) := dk_29 (dk_at dksX4_readStep_10 1 rfl rfl)
theorem dX4_readStep_258 : decode cX4_readStep 258 = .ok (.iconst 0, 1) := dk_3 (dk_at dksX4_readStep_10 2 rfl rfl)
theorem dX4_readStep_259 : decode cX4_readStep 259 = .ok (.iconst 0, 1) := dk_3 (dk_at dksX4_readStep_10 3 rfl rfl)
theorem dX4_readStep_260 : decode cX4_readStep 260 = .ok (.invokevirtual 280, 3) := dk_182 1 24 (dk_at dksX4_readStep_10 4 rfl rfl)
theorem dX4_readStep_263 : decode cX4_readStep 263 = .ok (.aload_n 0, 1) := dk_42 (dk_at dksX4_readStep_10 7 rfl rfl)
theorem dX4_readStep_264 : decode cX4_readStep 264 = .ok (.ldc_w 284, 3) := dk_19 1 28 (dk_at dksX4_readStep_10 8 rfl rfl)
theorem dX4_readStep_267 : decode cX4_readStep 267 = .ok (.invokevirtual 286, 3) := dk_182 1 30 (dk_at dksX4_readStep_10 11 rfl rfl)
theorem dX4_readStep_270 : decode cX4_readStep 270 = .ok (.aload_n 0, 1) := dk_42 (dk_at dksX4_readStep_10 14 rfl rfl)
theorem dX4_readStep_271 : decode cX4_readStep 271 = .ok (.iload_n 3, 1) := dk_29 (dk_at dksX4_readStep_10 15 rfl rfl)
theorem dX4_readStep_272 : decode cX4_readStep 272 = .ok (.iconst 1, 1) := dk_4 (dk_at dksX4_readStep_10 16 rfl rfl)
theorem dX4_readStep_273 : decode cX4_readStep 273 = .ok (.iconst 0, 1) := dk_3 (dk_at dksX4_readStep_10 17 rfl rfl)
theorem dX4_readStep_274 : decode cX4_readStep 274 = .ok (.invokevirtual 280, 3) := dk_182 1 24 (dk_at dksX4_readStep_10 18 rfl rfl)
theorem dX4_readStep_277 : decode cX4_readStep 277 = .ok (.aload_n 0, 1) := dk_42 (dk_at dksX4_readStep_10 21 rfl rfl)
theorem dX4_readStep_278 : decode cX4_readStep 278 = .ok (.ldc_w 290, 3) := dk_19 1 34 (dk_at dksX4_readStep_11 0 rfl rfl)
theorem dX4_readStep_281 : decode cX4_readStep 281 = .ok (.invokevirtual 286, 3) := dk_182 1 30 (dk_at dksX4_readStep_11 3 rfl rfl)
theorem dX4_readStep_284 : decode cX4_readStep 284 = .ok (.aload_n 0, 1) := dk_42 (dk_at dksX4_readStep_11 6 rfl rfl)
theorem dX4_readStep_285 : decode cX4_readStep 285 = .ok (.iload_n 3, 1) := dk_29 (dk_at dksX4_readStep_11 7 rfl rfl)
theorem dX4_readStep_286 : decode cX4_readStep 286 = .ok (.iconst 2, 1) := dk_5 (dk_at dksX4_readStep_11 8 rfl rfl)
theorem dX4_readStep_287 : decode cX4_readStep 287 = .ok (.iconst 0, 1) := dk_3 (dk_at dksX4_readStep_11 9 rfl rfl)
theorem dX4_readStep_288 : decode cX4_readStep 288 = .ok (.invokevirtual 280, 3) := dk_182 1 24 (dk_at dksX4_readStep_11 10 rfl rfl)
theorem dX4_readStep_291 : decode cX4_readStep 291 = .ok (.aload_n 0, 1) := dk_42 (dk_at dksX4_readStep_11 13 rfl rfl)
theorem dX4_readStep_292 : decode cX4_readStep 292 = .ok (.ldc_w 291, 3) := dk_19 1 35 (dk_at dksX4_readStep_11 14 rfl rfl)
theorem dX4_readStep_295 : decode cX4_readStep 295 = .ok (.invokevirtual 234, 3) := dk_182 0 234 (dk_at dksX4_readStep_11 17 rfl rfl)
theorem dX4_readStep_298 : decode cX4_readStep 298 = .ok (.ifCond .eq 177, 3) := dk_153 0 177 (dk_at dksX4_readStep_11 20 rfl rfl)
theorem dX4_readStep_301 : decode cX4_readStep 301 = .ok (.aload_n 0, 1) := dk_42 (dk_at dksX4_readStep_11 23 rfl rfl)
theorem dX4_readStep_302 : decode cX4_readStep 302 = .ok (.invokevirtual 245, 3) := dk_182 0 245 (dk_at dksX4_readStep_12 0 rfl rfl)
theorem dX4_readStep_305 : decode cX4_readStep 305 = .ok (.aload_n 0, 1) := dk_42 (dk_at dksX4_readStep_12 3 rfl rfl)
theorem dX4_readStep_306 : decode cX4_readStep 306 = .ok (.getfield 83, 3) := dk_180 0 83 (dk_at dksX4_readStep_12 4 rfl rfl)
theorem dX4_readStep_309 : decode cX4_readStep 309 = .ok (.bipush 40, 2) := dk_16 40 (dk_at dksX4_readStep_12 7 rfl rfl)
theorem dX4_readStep_311 : decode cX4_readStep 311 = .ok (.iload_n 3, 1) := dk_29 (dk_at dksX4_readStep_12 9 rfl rfl)
theorem dX4_readStep_312 : decode cX4_readStep 312 = .ok (.iadd, 1) := dk_96 (dk_at dksX4_readStep_12 10 rfl rfl)
theorem dX4_readStep_313 : decode cX4_readStep 313 = .ok (.aload_n 0, 1) := dk_42 (dk_at dksX4_readStep_12 11 rfl rfl)
theorem dX4_readStep_314 : decode cX4_readStep 314 = .ok (.iconst 1, 1) := dk_4 (dk_at dksX4_readStep_12 12 rfl rfl)
theorem dX4_readStep_315 : decode cX4_readStep 315 = .ok (.bipush 99, 2) := dk_16 99 (dk_at dksX4_readStep_12 13 rfl rfl)
theorem dX4_readStep_317 : decode cX4_readStep 317 = .ok (.invokevirtual 251, 3) := dk_182 0 251 (dk_at dksX4_readStep_12 15 rfl rfl)
theorem dX4_readStep_320 : decode cX4_readStep 320 = .ok (.iastore, 1) := dk_79 (dk_at dksX4_readStep_12 18 rfl rfl)
theorem dX4_readStep_321 : decode cX4_readStep 321 = .ok (.goto 154, 3) := dk_167 0 154 (dk_at dksX4_readStep_12 19 rfl rfl)
theorem dX4_readStep_324 : decode cX4_readStep 324 = .ok (.iload_n 2, 1) := dk_28 (dk_at dksX4_readStep_12 22 rfl rfl)
theorem dX4_readStep_325 : decode cX4_readStep 325 = .ok (.iconst 3, 1) := dk_6 (dk_at dksX4_readStep_12 23 rfl rfl)
theorem dX4_readStep_326 : decode cX4_readStep 326 = .ok (.if_icmp .ne 10, 3) := dk_160 0 10 (dk_at dksX4_readStep_13 0 rfl rfl)
theorem dX4_readStep_329 : decode cX4_readStep 329 = .ok (.aload_n 0, 1) := dk_42 (dk_at dksX4_readStep_13 3 rfl rfl)
theorem dX4_readStep_330 : decode cX4_readStep 330 = .ok (.iload_n 3, 1) := dk_29 (dk_at dksX4_readStep_13 4 rfl rfl)
theorem dX4_readStep_331 : decode cX4_readStep 331 = .ok (.iconst 0, 1) := dk_3 (dk_at dksX4_readStep_13 5 rfl rfl)
theorem dX4_readStep_332 : decode cX4_readStep 332 = .ok (.iconst 0, 1) := dk_3 (dk_at dksX4_readStep_13 6 rfl rfl)
theorem dX4_readStep_333 : decode cX4_readStep 333 = .ok (.invokevirtual 280, 3) := dk_182 1 24 (dk_at dksX4_readStep_13 7 rfl rfl)
theorem dX4_readStep_336 : decode cX4_readStep 336 = .ok (.aload_n 0, 1) := dk_42 (dk_at dksX4_readStep_13 10 rfl rfl)
theorem dX4_readStep_337 : decode cX4_readStep 337 = .ok (.ldc_w 284, 3) := dk_19 1 28 (dk_at dksX4_readStep_13 11 rfl rfl)
theorem dX4_readStep_340 : decode cX4_readStep 340 = .ok (.invokevirtual 286, 3) := dk_182 1 30 (dk_at dksX4_readStep_13 14 rfl rfl)
theorem dX4_readStep_343 : decode cX4_readStep 343 = .ok (.aload_n 0, 1) := dk_42 (dk_at dksX4_readStep_13 17 rfl rfl)
theorem dX4_readStep_344 : decode cX4_readStep 344 = .ok (.iload_n 3, 1) := dk_29 (dk_at dksX4_readStep_13 18 rfl rfl)
theorem dX4_readStep_345 : decode cX4_readStep 345 = .ok (.iconst 1, 1) := dk_4 (dk_at dksX4_readStep_13 19 rfl rfl)
theorem dX4_readStep_346 : decode cX4_readStep 346 = .ok (.iconst 0, 1) := dk_3 (dk_at dksX4_readStep_13 20 rfl rfl)
theorem dX4_readStep_347 : decode cX4_readStep 347 = .ok (.invokevirtual 280, 3) := dk_182 1 24 (dk_at dksX4_readStep_13 21 rfl rfl)
theorem dX4_readStep_350 : decode cX4_readStep 350 = .ok (.aload_n 0, 1) := dk_42 (dk_at dksX4_readStep_14 0 rfl rfl)
theorem dX4_readStep_351 : decode cX4_readStep 351 = .ok (.ldc_w 293, 3) := dk_19 1 37 (dk_at dksX4_readStep_14 1 rfl rfl)
theorem dX4_readStep_354 : decode cX4_readStep 354 = .ok (.invokevirtual 286, 3) := dk_182 1 30 (dk_at dksX4_readStep_14 4 rfl rfl)
theorem dX4_readStep_357 : decode cX4_readStep 357 = .ok (.aload_n 0, 1) := dk_42 (dk_at dksX4_readStep_14 7 rfl rfl)
theorem dX4_readStep_358 : decode cX4_readStep 358 = .ok (.getfield 80, 3) := dk_180 0 80 (dk_at dksX4_readStep_14 8 rfl rfl)
theorem dX4_readStep_361 : decode cX4_readStep 361 = .ok (.bipush 40, 2) := dk_16 40 (dk_at dksX4_readStep_14 11 rfl rfl)
theorem dX4_readStep_363 : decode cX4_readStep 363 = .ok (.iload_n 3, 1) := dk_29 (dk_at dksX4_readStep_14 13 rfl rfl)
theorem dX4_readStep_364 : decode cX4_readStep 364 = .ok (.iadd, 1) := dk_96 (dk_at dksX4_readStep_14 14 rfl rfl)
theorem dX4_readStep_365 : decode cX4_readStep 365 = .ok (.aload_n 0, 1) := dk_42 (dk_at dksX4_readStep_14 15 rfl rfl)
theorem dX4_readStep_366 : decode cX4_readStep 366 = .ok (.invokevirtual 294, 3) := dk_182 1 38 (dk_at dksX4_readStep_14 16 rfl rfl)
theorem dX4_readStep_369 : decode cX4_readStep 369 = .ok (.iastore, 1) := dk_79 (dk_at dksX4_readStep_14 19 rfl rfl)
theorem dX4_readStep_370 : decode cX4_readStep 370 = .ok (.aload_n 0, 1) := dk_42 (dk_at dksX4_readStep_14 20 rfl rfl)
theorem dX4_readStep_371 : decode cX4_readStep 371 = .ok (.ldc_w 297, 3) := dk_19 1 41 (dk_at dksX4_readStep_14 21 rfl rfl)
theorem dX4_readStep_374 : decode cX4_readStep 374 = .ok (.invokevirtual 234, 3) := dk_182 0 234 (dk_at dksX4_readStep_15 0 rfl rfl)
theorem dX4_readStep_377 : decode cX4_readStep 377 = .ok (.ifCond .eq 98, 3) := dk_153 0 98 (dk_at dksX4_readStep_15 3 rfl rfl)
theorem dX4_readStep_380 : decode cX4_readStep 380 = .ok (.aload_n 0, 1) := dk_42 (dk_at dksX4_readStep_15 6 rfl rfl)
theorem dX4_readStep_381 : decode cX4_readStep 381 = .ok (.invokevirtual 245, 3) := dk_182 0 245 (dk_at dksX4_readStep_15 7 rfl rfl)
theorem dX4_readStep_384 : decode cX4_readStep 384 = .ok (.aload_n 0, 1) := dk_42 (dk_at dksX4_readStep_15 10 rfl rfl)
theorem dX4_readStep_385 : decode cX4_readStep 385 = .ok (.getfield 83, 3) := dk_180 0 83 (dk_at dksX4_readStep_15 11 rfl rfl)
theorem dX4_readStep_388 : decode cX4_readStep 388 = .ok (.bipush 40, 2) := dk_16 40 (dk_at dksX4_readStep_15 14 rfl rfl)
theorem dX4_readStep_390 : decode cX4_readStep 390 = .ok (.iload_n 3, 1) := dk_29 (dk_at dksX4_readStep_15 16 rfl rfl)
theorem dX4_readStep_391 : decode cX4_readStep 391 = .ok (.iadd, 1) := dk_96 (dk_at dksX4_readStep_15 17 rfl rfl)
theorem dX4_readStep_392 : decode cX4_readStep 392 = .ok (.aload_n 0, 1) := dk_42 (dk_at dksX4_readStep_15 18 rfl rfl)
theorem dX4_readStep_393 : decode cX4_readStep 393 = .ok (.iconst 1, 1) := dk_4 (dk_at dksX4_readStep_15 19 rfl rfl)
theorem dX4_readStep_394 : decode cX4_readStep 394 = .ok (.bipush 99, 2) := dk_16 99 (dk_at dksX4_readStep_15 20 rfl rfl)
theorem dX4_readStep_396 : decode cX4_readStep 396 = .ok (.invokevirtual 251, 3) := dk_182 0 251 (dk_at dksX4_readStep_16 0 rfl rfl)
theorem dX4_readStep_399 : decode cX4_readStep 399 = .ok (.iastore, 1) := dk_79 (dk_at dksX4_readStep_16 3 rfl rfl)
theorem dX4_readStep_400 : decode cX4_readStep 400 = .ok (.goto 75, 3) := dk_167 0 75 (dk_at dksX4_readStep_16 4 rfl rfl)
theorem dX4_readStep_403 : decode cX4_readStep 403 = .ok (.aload_n 0, 1) := dk_42 (dk_at dksX4_readStep_16 7 rfl rfl)
theorem dX4_readStep_404 : decode cX4_readStep 404 = .ok (.iload_n 3, 1) := dk_29 (dk_at dksX4_readStep_16 8 rfl rfl)
theorem dX4_readStep_405 : decode cX4_readStep 405 = .ok (.iconst 0, 1) := dk_3 (dk_at dksX4_readStep_16 9 rfl rfl)
theorem dX4_readStep_406 : decode cX4_readStep 406 = .ok (.iconst 0, 1) := dk_3 (dk_at dksX4_readStep_16 10 rfl rfl)
theorem dX4_readStep_407 : decode cX4_readStep 407 = .ok (.invokevirtual 280, 3) := dk_182 1 24 (dk_at dksX4_readStep_16 11 rfl rfl)
theorem dX4_readStep_410 : decode cX4_readStep 410 = .ok (.aload_n 0, 1) := dk_42 (dk_at dksX4_readStep_16 14 rfl rfl)
theorem dX4_readStep_411 : decode cX4_readStep 411 = .ok (.ldc_w 293, 3) := dk_19 1 37 (dk_at dksX4_readStep_16 15 rfl rfl)
theorem dX4_readStep_414 : decode cX4_readStep 414 = .ok (.invokevirtual 286, 3) := dk_182 1 30 (dk_at dksX4_readStep_16 18 rfl rfl)
theorem dX4_readStep_417 : decode cX4_readStep 417 = .ok (.aload_n 0, 1) := dk_42 (dk_at dksX4_readStep_16 21 rfl rfl)
theorem dX4_readStep_418 : decode cX4_readStep 418 = .ok (.getfield 80, 3) := dk_180 0 80 (dk_at dksX4_readStep_17 0 rfl rfl)
theorem dX4_readStep_421 : decode cX4_readStep 421 = .ok (.bipush 40, 2) := dk_16 40 (dk_at dksX4_readStep_17 3 rfl rfl)
theorem dX4_readStep_423 : decode cX4_readStep 423 = .ok (.iload_n 3, 1) := dk_29 (dk_at dksX4_readStep_17 5 rfl rfl)
theorem dX4_readStep_424 : decode cX4_readStep 424 = .ok (.iadd, 1) := dk_96 (dk_at dksX4_readStep_17 6 rfl rfl)
theorem dX4_readStep_425 : decode cX4_readStep 425 = .ok (.aload_n 0, 1) := dk_42 (dk_at dksX4_readStep_17 7 rfl rfl)
theorem dX4_readStep_426 : decode cX4_readStep 426 = .ok (.invokevirtual 294, 3) := dk_182 1 38 (dk_at dksX4_readStep_17 8 rfl rfl)
theorem dX4_readStep_429 : decode cX4_readStep 429 = .ok (.iastore, 1) := dk_79 (dk_at dksX4_readStep_17 11 rfl rfl)
theorem dX4_readStep_430 : decode cX4_readStep 430 = .ok (.goto 45, 3) := dk_167 0 45 (dk_at dksX4_readStep_17 12 rfl rfl)
theorem dX4_readStep_433 : decode cX4_readStep 433 = .ok (.aload_n 0, 1) := dk_42 (dk_at dksX4_readStep_17 15 rfl rfl)
theorem dX4_readStep_434 : decode cX4_readStep 434 = .ok (.getfield 80, 3) := dk_180 0 80 (dk_at dksX4_readStep_17 16 rfl rfl)
theorem dX4_readStep_437 : decode cX4_readStep 437 = .ok (.bipush 40, 2) := dk_16 40 (dk_at dksX4_readStep_17 19 rfl rfl)
theorem dX4_readStep_439 : decode cX4_readStep 439 = .ok (.iload_n 3, 1) := dk_29 (dk_at dksX4_readStep_17 21 rfl rfl)
theorem dX4_readStep_440 : decode cX4_readStep 440 = .ok (.iadd, 1) := dk_96 (dk_at dksX4_readStep_17 22 rfl rfl)
theorem dX4_readStep_441 : decode cX4_readStep 441 = .ok (.aload_n 0, 1) := dk_42 (dk_at dksX4_readStep_17 23 rfl rfl)
theorem dX4_readStep_442 : decode cX4_readStep 442 = .ok (.invokevirtual 294, 3) := dk_182 1 38 (dk_at dksX4_readStep_18 0 rfl rfl)
theorem dX4_readStep_445 : decode cX4_readStep 445 = .ok (.iastore, 1) := dk_79 (dk_at dksX4_readStep_18 3 rfl rfl)
theorem dX4_readStep_446 : decode cX4_readStep 446 = .ok (.aload_n 0, 1) := dk_42 (dk_at dksX4_readStep_18 4 rfl rfl)
theorem dX4_readStep_447 : decode cX4_readStep 447 = .ok (.iload_n 3, 1) := dk_29 (dk_at dksX4_readStep_18 5 rfl rfl)
theorem dX4_readStep_448 : decode cX4_readStep 448 = .ok (.iconst 0, 1) := dk_3 (dk_at dksX4_readStep_18 6 rfl rfl)
theorem dX4_readStep_449 : decode cX4_readStep 449 = .ok (.iconst 1, 1) := dk_4 (dk_at dksX4_readStep_18 7 rfl rfl)
theorem dX4_readStep_450 : decode cX4_readStep 450 = .ok (.invokevirtual 280, 3) := dk_182 1 24 (dk_at dksX4_readStep_18 8 rfl rfl)
theorem dX4_readStep_453 : decode cX4_readStep 453 = .ok (.goto 22, 3) := dk_167 0 22 (dk_at dksX4_readStep_18 11 rfl rfl)
theorem dX4_readStep_456 : decode cX4_readStep 456 = .ok (.aload_n 0, 1) := dk_42 (dk_at dksX4_readStep_18 14 rfl rfl)
theorem dX4_readStep_457 : decode cX4_readStep 457 = .ok (.iload_n 3, 1) := dk_29 (dk_at dksX4_readStep_18 15 rfl rfl)
theorem dX4_readStep_458 : decode cX4_readStep 458 = .ok (.iconst 0, 1) := dk_3 (dk_at dksX4_readStep_18 16 rfl rfl)
theorem dX4_readStep_459 : decode cX4_readStep 459 = .ok (.iconst 1, 1) := dk_4 (dk_at dksX4_readStep_18 17 rfl rfl)
theorem dX4_readStep_460 : decode cX4_readStep 460 = .ok (.invokevirtual 280, 3) := dk_182 1 24 (dk_at dksX4_readStep_18 18 rfl rfl)
theorem dX4_readStep_463 : decode cX4_readStep 463 = .ok (.goto 12, 3) := dk_167 0 12 (dk_at dksX4_readStep_18 21 rfl rfl)
theorem dX4_readStep_466 : decode cX4_readStep 466 = .ok (.aload_n 0, 1) := dk_42 (dk_at dksX4_readStep_19 0 rfl rfl)
theorem dX4_readStep_467 : decode cX4_readStep 467 = .ok (.iload_n 3, 1) := dk_29 (dk_at dksX4_readStep_19 1 rfl rfl)
theorem dX4_readStep_468 : decode cX4_readStep 468 = .ok (.iload_n 1, 1) := dk_27 (dk_at dksX4_readStep_19 2 rfl rfl)
theorem dX4_readStep_469 : decode cX4_readStep 469 = .ok (.invokevirtual 298, 3) := dk_182 1 42 (dk_at dksX4_readStep_19 3 rfl rfl)
theorem dX4_readStep_472 : decode cX4_readStep 472 = .ok (.goto 3, 3) := dk_167 0 3 (dk_at dksX4_readStep_19 6 rfl rfl)
theorem dX4_readStep_475 : decode cX4_readStep 475 = .ok (.aload_n 0, 1) := dk_42 (dk_at dksX4_readStep_19 9 rfl rfl)
theorem dX4_readStep_476 : decode cX4_readStep 476 = .ok (.bipush 59, 2) := dk_16 59 (dk_at dksX4_readStep_19 10 rfl rfl)
theorem dX4_readStep_478 : decode cX4_readStep 478 = .ok (.invokevirtual 264, 3) := dk_182 1 8 (dk_at dksX4_readStep_19 12 rfl rfl)
theorem dX4_readStep_481 : decode cX4_readStep 481 = .ok (.return_, 1) := dk_177 (dk_at dksX4_readStep_19 15 rfl rfl)
abbrev cX4_which : ByteArray := prog_21_method_14_code
def yX4_which : MethodName := ⟨RX4, "which", "([Ljava/lang/String;)I"⟩
def dkwX4_which_1 : List UInt8 := [167, 255, 235, 2, 172]
abbrev dktX4_which_1 : List UInt8 := dkwX4_which_1 ++ []
def dkwX4_which_0 : List UInt8 := [3, 61, 28, 43, 190, 162, 0, 21, 42, 43, 28, 50, 182, 0, 234, 153, 0, 5, 28, 172, 132, 2, 1]
abbrev dktX4_which_0 : List UInt8 := dkwX4_which_0 ++ dktX4_which_1
theorem dksX4_which_0 : cX4_which.data.toList.drop 0 = dktX4_which_0 := by decide +kernel
theorem dksX4_which_1 : cX4_which.data.toList.drop 23 = dktX4_which_1 := dk_seg dksX4_which_0 23 rfl rfl
theorem dX4_which_0 : decode cX4_which 0 = .ok (.iconst 0, 1) := dk_3 (dk_at dksX4_which_0 0 rfl rfl)
theorem dX4_which_1 : decode cX4_which 1 = .ok (.istore_n 2, 1) := dk_61 (dk_at dksX4_which_0 1 rfl rfl)
theorem dX4_which_2 : decode cX4_which 2 = .ok (.iload_n 2, 1) := dk_28 (dk_at dksX4_which_0 2 rfl rfl)
theorem dX4_which_3 : decode cX4_which 3 = .ok (.aload_n 1, 1) := dk_43 (dk_at dksX4_which_0 3 rfl rfl)
theorem dX4_which_4 : decode cX4_which 4 = .ok (.arraylength, 1) := dk_190 (dk_at dksX4_which_0 4 rfl rfl)
theorem dX4_which_5 : decode cX4_which 5 = .ok (.if_icmp .ge 21, 3) := dk_162 0 21 (dk_at dksX4_which_0 5 rfl rfl)
theorem dX4_which_8 : decode cX4_which 8 = .ok (.aload_n 0, 1) := dk_42 (dk_at dksX4_which_0 8 rfl rfl)
theorem dX4_which_9 : decode cX4_which 9 = .ok (.aload_n 1, 1) := dk_43 (dk_at dksX4_which_0 9 rfl rfl)
theorem dX4_which_10 : decode cX4_which 10 = .ok (.iload_n 2, 1) := dk_28 (dk_at dksX4_which_0 10 rfl rfl)
theorem dX4_which_11 : decode cX4_which 11 = .ok (.aaload, 1) := dk_50 (dk_at dksX4_which_0 11 rfl rfl)
theorem dX4_which_12 : decode cX4_which 12 = .ok (.invokevirtual 234, 3) := dk_182 0 234 (dk_at dksX4_which_0 12 rfl rfl)
theorem dX4_which_15 : decode cX4_which 15 = .ok (.ifCond .eq 5, 3) := dk_153 0 5 (dk_at dksX4_which_0 15 rfl rfl)
theorem dX4_which_18 : decode cX4_which 18 = .ok (.iload_n 2, 1) := dk_28 (dk_at dksX4_which_0 18 rfl rfl)
theorem dX4_which_19 : decode cX4_which 19 = .ok (.ireturn, 1) := dk_172 (dk_at dksX4_which_0 19 rfl rfl)
theorem dX4_which_20 : decode cX4_which 20 = .ok (.iinc 2 1, 3) := dk_132 2 1 (dk_at dksX4_which_0 20 rfl rfl)
theorem dX4_which_23 : decode cX4_which 23 = .ok (.goto (-21), 3) := dk_167 255 235 (dk_at dksX4_which_1 0 rfl rfl)
theorem dX4_which_26 : decode cX4_which 26 = .ok (.iconst (-1), 1) := dk_2 (dk_at dksX4_which_1 3 rfl rfl)
theorem dX4_which_27 : decode cX4_which 27 = .ok (.ireturn, 1) := dk_172 (dk_at dksX4_which_1 4 rfl rfl)
abbrev cX4_wrong : ByteArray := prog_21_method_11_code
def yX4_wrong : MethodName := ⟨RX4, "wrong", "(I)V"⟩
def dkwX4_wrong_0 : List UInt8 := [42, 180, 0, 220, 153, 0, 4, 177, 42, 27, 181, 0, 220, 42, 42, 180, 0, 191, 181, 0, 223, 177]
abbrev dktX4_wrong_0 : List UInt8 := dkwX4_wrong_0 ++ []
theorem dksX4_wrong_0 : cX4_wrong.data.toList.drop 0 = dktX4_wrong_0 := by decide +kernel
theorem dX4_wrong_0 : decode cX4_wrong 0 = .ok (.aload_n 0, 1) := dk_42 (dk_at dksX4_wrong_0 0 rfl rfl)
theorem dX4_wrong_1 : decode cX4_wrong 1 = .ok (.getfield 220, 3) := dk_180 0 220 (dk_at dksX4_wrong_0 1 rfl rfl)
theorem dX4_wrong_4 : decode cX4_wrong 4 = .ok (.ifCond .eq 4, 3) := dk_153 0 4 (dk_at dksX4_wrong_0 4 rfl rfl)
theorem dX4_wrong_7 : decode cX4_wrong 7 = .ok (.return_, 1) := dk_177 (dk_at dksX4_wrong_0 7 rfl rfl)
theorem dX4_wrong_8 : decode cX4_wrong 8 = .ok (.aload_n 0, 1) := dk_42 (dk_at dksX4_wrong_0 8 rfl rfl)
theorem dX4_wrong_9 : decode cX4_wrong 9 = .ok (.iload_n 1, 1) := dk_27 (dk_at dksX4_wrong_0 9 rfl rfl)
theorem dX4_wrong_10 : decode cX4_wrong 10 = .ok (.putfield 220, 3) := dk_181 0 220 (dk_at dksX4_wrong_0 10 rfl rfl)
theorem dX4_wrong_13 : decode cX4_wrong 13 = .ok (.aload_n 0, 1) := dk_42 (dk_at dksX4_wrong_0 13 rfl rfl)
theorem dX4_wrong_14 : decode cX4_wrong 14 = .ok (.aload_n 0, 1) := dk_42 (dk_at dksX4_wrong_0 14 rfl rfl)
theorem dX4_wrong_15 : decode cX4_wrong 15 = .ok (.getfield 191, 3) := dk_180 0 191 (dk_at dksX4_wrong_0 15 rfl rfl)
theorem dX4_wrong_18 : decode cX4_wrong 18 = .ok (.putfield 223, 3) := dk_181 0 223 (dk_at dksX4_wrong_0 18 rfl rfl)
theorem dX4_wrong_21 : decode cX4_wrong 21 = .ok (.return_, 1) := dk_177 (dk_at dksX4_wrong_0 21 rfl rfl)
abbrev cX4_readInto : ByteArray := prog_21_method_23_code
def yX4_readInto : MethodName := ⟨RX4, "readInto", "(IIZ)V"⟩
def dkwX4_readInto_2 : List UInt8 := [180, 0, 248, 79, 177]
abbrev dktX4_readInto_2 : List UInt8 := dkwX4_readInto_2 ++ []
def dkwX4_readInto_1 : List UInt8 := [182, 1, 5, 167, 0, 8, 42, 3, 182, 1, 17, 42, 180, 0, 77, 6, 16, 40, 27, 96, 104, 28, 96, 42]
abbrev dktX4_readInto_1 : List UInt8 := dkwX4_readInto_1 ++ dktX4_readInto_2
def dkwX4_readInto_0 : List UInt8 := [42, 180, 0, 74, 6, 16, 40, 27, 96, 104, 28, 96, 42, 180, 0, 248, 79, 29, 153, 0, 11, 42, 3]
abbrev dktX4_readInto_0 : List UInt8 := dkwX4_readInto_0 ++ dktX4_readInto_1
theorem dksX4_readInto_0 : cX4_readInto.data.toList.drop 0 = dktX4_readInto_0 := by decide +kernel
theorem dksX4_readInto_1 : cX4_readInto.data.toList.drop 23 = dktX4_readInto_1 := dk_seg dksX4_readInto_0 23 rfl rfl
theorem dksX4_readInto_2 : cX4_readInto.data.toList.drop 47 = dktX4_readInto_2 := dk_seg dksX4_readInto_1 24 rfl rfl
theorem dX4_readInto_0 : decode cX4_readInto 0 = .ok (.aload_n 0, 1) := dk_42 (dk_at dksX4_readInto_0 0 rfl rfl)
theorem dX4_readInto_1 : decode cX4_readInto 1 = .ok (.getfield 74, 3) := dk_180 0 74 (dk_at dksX4_readInto_0 1 rfl rfl)
theorem dX4_readInto_4 : decode cX4_readInto 4 = .ok (.iconst 3, 1) := dk_6 (dk_at dksX4_readInto_0 4 rfl rfl)
theorem dX4_readInto_5 : decode cX4_readInto 5 = .ok (.bipush 40, 2) := dk_16 40 (dk_at dksX4_readInto_0 5 rfl rfl)
theorem dX4_readInto_7 : decode cX4_readInto 7 = .ok (.iload_n 1, 1) := dk_27 (dk_at dksX4_readInto_0 7 rfl rfl)
theorem dX4_readInto_8 : decode cX4_readInto 8 = .ok (.iadd, 1) := dk_96 (dk_at dksX4_readInto_0 8 rfl rfl)
theorem dX4_readInto_9 : decode cX4_readInto 9 = .ok (.imul, 1) := dk_104 (dk_at dksX4_readInto_0 9 rfl rfl)
theorem dX4_readInto_10 : decode cX4_readInto 10 = .ok (.iload_n 2, 1) := dk_28 (dk_at dksX4_readInto_0 10 rfl rfl)
theorem dX4_readInto_11 : decode cX4_readInto 11 = .ok (.iadd, 1) := dk_96 (dk_at dksX4_readInto_0 11 rfl rfl)
theorem dX4_readInto_12 : decode cX4_readInto 12 = .ok (.aload_n 0, 1) := dk_42 (dk_at dksX4_readInto_0 12 rfl rfl)
theorem dX4_readInto_13 : decode cX4_readInto 13 = .ok (.getfield 248, 3) := dk_180 0 248 (dk_at dksX4_readInto_0 13 rfl rfl)
theorem dX4_readInto_16 : decode cX4_readInto 16 = .ok (.iastore, 1) := dk_79 (dk_at dksX4_readInto_0 16 rfl rfl)
theorem dX4_readInto_17 : decode cX4_readInto 17 = .ok (.iload_n 3, 1) := dk_29 (dk_at dksX4_readInto_0 17 rfl rfl)
theorem dX4_readInto_18 : decode cX4_readInto 18 = .ok (.ifCond .eq 11, 3) := dk_153 0 11 (dk_at dksX4_readInto_0 18 rfl rfl)
theorem dX4_readInto_21 : decode cX4_readInto 21 = .ok (.aload_n 0, 1) := dk_42 (dk_at dksX4_readInto_0 21 rfl rfl)
theorem dX4_readInto_22 : decode cX4_readInto 22 = .ok (.iconst 0, 1) := dk_3 (dk_at dksX4_readInto_0 22 rfl rfl)
theorem dX4_readInto_23 : decode cX4_readInto 23 = .ok (.invokevirtual 261, 3) := dk_182 1 5 (dk_at dksX4_readInto_1 0 rfl rfl)
theorem dX4_readInto_26 : decode cX4_readInto 26 = .ok (.goto 8, 3) := dk_167 0 8 (dk_at dksX4_readInto_1 3 rfl rfl)
theorem dX4_readInto_29 : decode cX4_readInto 29 = .ok (.aload_n 0, 1) := dk_42 (dk_at dksX4_readInto_1 6 rfl rfl)
theorem dX4_readInto_30 : decode cX4_readInto 30 = .ok (.iconst 0, 1) := dk_3 (dk_at dksX4_readInto_1 7 rfl rfl)
theorem dX4_readInto_31 : decode cX4_readInto 31 = .ok (.invokevirtual 273, 3) := dk_182 1 17 (dk_at dksX4_readInto_1 8 rfl rfl)
theorem dX4_readInto_34 : decode cX4_readInto 34 = .ok (.aload_n 0, 1) := dk_42 (dk_at dksX4_readInto_1 11 rfl rfl)
theorem dX4_readInto_35 : decode cX4_readInto 35 = .ok (.getfield 77, 3) := dk_180 0 77 (dk_at dksX4_readInto_1 12 rfl rfl)
theorem dX4_readInto_38 : decode cX4_readInto 38 = .ok (.iconst 3, 1) := dk_6 (dk_at dksX4_readInto_1 15 rfl rfl)
theorem dX4_readInto_39 : decode cX4_readInto 39 = .ok (.bipush 40, 2) := dk_16 40 (dk_at dksX4_readInto_1 16 rfl rfl)
theorem dX4_readInto_41 : decode cX4_readInto 41 = .ok (.iload_n 1, 1) := dk_27 (dk_at dksX4_readInto_1 18 rfl rfl)
theorem dX4_readInto_42 : decode cX4_readInto 42 = .ok (.iadd, 1) := dk_96 (dk_at dksX4_readInto_1 19 rfl rfl)
theorem dX4_readInto_43 : decode cX4_readInto 43 = .ok (.imul, 1) := dk_104 (dk_at dksX4_readInto_1 20 rfl rfl)
theorem dX4_readInto_44 : decode cX4_readInto 44 = .ok (.iload_n 2, 1) := dk_28 (dk_at dksX4_readInto_1 21 rfl rfl)
theorem dX4_readInto_45 : decode cX4_readInto 45 = .ok (.iadd, 1) := dk_96 (dk_at dksX4_readInto_1 22 rfl rfl)
theorem dX4_readInto_46 : decode cX4_readInto 46 = .ok (.aload_n 0, 1) := dk_42 (dk_at dksX4_readInto_1 23 rfl rfl)
theorem dX4_readInto_47 : decode cX4_readInto 47 = .ok (.getfield 248, 3) := dk_180 0 248 (dk_at dksX4_readInto_2 0 rfl rfl)
theorem dX4_readInto_50 : decode cX4_readInto 50 = .ok (.iastore, 1) := dk_79 (dk_at dksX4_readInto_2 3 rfl rfl)
theorem dX4_readInto_51 : decode cX4_readInto 51 = .ok (.return_, 1) := dk_177 (dk_at dksX4_readInto_2 4 rfl rfl)
abbrev cX4_readExpression : ByteArray := prog_21_method_22_code
def yX4_readExpression : MethodName := ⟨RX4, "readExpression", "(I)V"⟩
def dkwX4_readExpression_4 : List UInt8 := [8, 167, 0, 5, 16, 6, 62, 42, 182, 0, 245, 42, 27, 182, 1, 17, 42, 29, 182, 0, 254, 177]
abbrev dktX4_readExpression_4 : List UInt8 := dkwX4_readExpression_4 ++ []
def dkwX4_readExpression_3 : List UInt8 := [182, 0, 238, 154, 0, 12, 42, 16, 61, 182, 0, 238, 153, 0, 33, 42, 16, 60, 182, 0, 238, 153, 0, 7]
abbrev dktX4_readExpression_3 : List UInt8 := dkwX4_readExpression_3 ++ dktX4_readExpression_4
def dkwX4_readExpression_2 : List UInt8 := [167, 0, 14, 27, 16, 7, 160, 0, 8, 42, 5, 182, 0, 241, 42, 27, 182, 1, 17, 42, 16, 60]
abbrev dktX4_readExpression_2 : List UInt8 := dkwX4_readExpression_2 ++ dktX4_readExpression_3
def dkwX4_readExpression_1 : List UInt8 := [42, 16, 40, 182, 0, 238, 153, 0, 7, 4, 167, 0, 4, 3, 61, 28, 154, 0, 11, 42, 4, 182, 0, 241]
abbrev dktX4_readExpression_1 : List UInt8 := dkwX4_readExpression_1 ++ dktX4_readExpression_2
def dkwX4_readExpression_0 : List UInt8 := [42, 180, 0, 220, 153, 0, 4, 177, 42, 180, 0, 197, 5, 159, 0, 20, 42, 180, 0, 197, 4, 159, 0, 12]
abbrev dktX4_readExpression_0 : List UInt8 := dkwX4_readExpression_0 ++ dktX4_readExpression_1
theorem dksX4_readExpression_0 : cX4_readExpression.data.toList.drop 0 = dktX4_readExpression_0 := by decide +kernel
theorem dksX4_readExpression_1 : cX4_readExpression.data.toList.drop 24 = dktX4_readExpression_1 := dk_seg dksX4_readExpression_0 24 rfl rfl
theorem dksX4_readExpression_2 : cX4_readExpression.data.toList.drop 48 = dktX4_readExpression_2 := dk_seg dksX4_readExpression_1 24 rfl rfl
theorem dksX4_readExpression_3 : cX4_readExpression.data.toList.drop 70 = dktX4_readExpression_3 := dk_seg dksX4_readExpression_2 22 rfl rfl
theorem dksX4_readExpression_4 : cX4_readExpression.data.toList.drop 94 = dktX4_readExpression_4 := dk_seg dksX4_readExpression_3 24 rfl rfl
theorem dX4_readExpression_0 : decode cX4_readExpression 0 = .ok (.aload_n 0, 1) := dk_42 (dk_at dksX4_readExpression_0 0 rfl rfl)
theorem dX4_readExpression_1 : decode cX4_readExpression 1 = .ok (.getfield 220, 3) := dk_180 0 220 (dk_at dksX4_readExpression_0 1 rfl rfl)
theorem dX4_readExpression_4 : decode cX4_readExpression 4 = .ok (.ifCond .eq 4, 3) := dk_153 0 4 (dk_at dksX4_readExpression_0 4 rfl rfl)
theorem dX4_readExpression_7 : decode cX4_readExpression 7 = .ok (.return_, 1) := dk_177 (dk_at dksX4_readExpression_0 7 rfl rfl)
theorem dX4_readExpression_8 : decode cX4_readExpression 8 = .ok (.aload_n 0, 1) := dk_42 (dk_at dksX4_readExpression_0 8 rfl rfl)
theorem dX4_readExpression_9 : decode cX4_readExpression 9 = .ok (.getfield 197, 3) := dk_180 0 197 (dk_at dksX4_readExpression_0 9 rfl rfl)
theorem dX4_readExpression_12 : decode cX4_readExpression 12 = .ok (.iconst 2, 1) := dk_5 (dk_at dksX4_readExpression_0 12 rfl rfl)
theorem dX4_readExpression_13 : decode cX4_readExpression 13 = .ok (.if_icmp .eq 20, 3) := dk_159 0 20 (dk_at dksX4_readExpression_0 13 rfl rfl)
theorem dX4_readExpression_16 : decode cX4_readExpression 16 = .ok (.aload_n 0, 1) := dk_42 (dk_at dksX4_readExpression_0 16 rfl rfl)
theorem dX4_readExpression_17 : decode cX4_readExpression 17 = .ok (.getfield 197, 3) := dk_180 0 197 (dk_at dksX4_readExpression_0 17 rfl rfl)
theorem dX4_readExpression_20 : decode cX4_readExpression 20 = .ok (.iconst 1, 1) := dk_4 (dk_at dksX4_readExpression_0 20 rfl rfl)
theorem dX4_readExpression_21 : decode cX4_readExpression 21 = .ok (.if_icmp .eq 12, 3) := dk_159 0 12 (dk_at dksX4_readExpression_0 21 rfl rfl)
theorem dX4_readExpression_24 : decode cX4_readExpression 24 = .ok (.aload_n 0, 1) := dk_42 (dk_at dksX4_readExpression_1 0 rfl rfl)
theorem dX4_readExpression_25 : decode cX4_readExpression 25 = .ok (.bipush 40, 2) := dk_16 40 (dk_at dksX4_readExpression_1 1 rfl rfl)
theorem dX4_readExpression_27 : decode cX4_readExpression 27 = .ok (.invokevirtual 238, 3) := dk_182 0 238 (dk_at dksX4_readExpression_1 3 rfl rfl)
theorem dX4_readExpression_30 : decode cX4_readExpression 30 = .ok (.ifCond .eq 7, 3) := dk_153 0 7 (dk_at dksX4_readExpression_1 6 rfl rfl)
theorem dX4_readExpression_33 : decode cX4_readExpression 33 = .ok (.iconst 1, 1) := dk_4 (dk_at dksX4_readExpression_1 9 rfl rfl)
theorem dX4_readExpression_34 : decode cX4_readExpression 34 = .ok (.goto 4, 3) := dk_167 0 4 (dk_at dksX4_readExpression_1 10 rfl rfl)
theorem dX4_readExpression_37 : decode cX4_readExpression 37 = .ok (.iconst 0, 1) := dk_3 (dk_at dksX4_readExpression_1 13 rfl rfl)
theorem dX4_readExpression_38 : decode cX4_readExpression 38 = .ok (.istore_n 2, 1) := dk_61 (dk_at dksX4_readExpression_1 14 rfl rfl)
theorem dX4_readExpression_39 : decode cX4_readExpression 39 = .ok (.iload_n 2, 1) := dk_28 (dk_at dksX4_readExpression_1 15 rfl rfl)
theorem dX4_readExpression_40 : decode cX4_readExpression 40 = .ok (.ifCond .ne 11, 3) := dk_154 0 11 (dk_at dksX4_readExpression_1 16 rfl rfl)
theorem dX4_readExpression_43 : decode cX4_readExpression 43 = .ok (.aload_n 0, 1) := dk_42 (dk_at dksX4_readExpression_1 19 rfl rfl)
theorem dX4_readExpression_44 : decode cX4_readExpression 44 = .ok (.iconst 1, 1) := dk_4 (dk_at dksX4_readExpression_1 20 rfl rfl)
theorem dX4_readExpression_45 : decode cX4_readExpression 45 = .ok (.invokevirtual 241, 3) := dk_182 0 241 (dk_at dksX4_readExpression_1 21 rfl rfl)
theorem dX4_readExpression_48 : decode cX4_readExpression 48 = .ok (.goto 14, 3) := dk_167 0 14 (dk_at dksX4_readExpression_2 0 rfl rfl)
theorem dX4_readExpression_51 : decode cX4_readExpression 51 = .ok (.iload_n 1, 1) := dk_27 (dk_at dksX4_readExpression_2 3 rfl rfl)
theorem dX4_readExpression_52 : decode cX4_readExpression 52 = .ok (.bipush 7, 2) := dk_16 7 (dk_at dksX4_readExpression_2 4 rfl rfl)
theorem dX4_readExpression_54 : decode cX4_readExpression 54 = .ok (.if_icmp .ne 8, 3) := dk_160 0 8 (dk_at dksX4_readExpression_2 6 rfl rfl)
theorem dX4_readExpression_57 : decode cX4_readExpression 57 = .ok (.aload_n 0, 1) := dk_42 (dk_at dksX4_readExpression_2 9 rfl rfl)
theorem dX4_readExpression_58 : decode cX4_readExpression 58 = .ok (.iconst 2, 1) := dk_5 (dk_at dksX4_readExpression_2 10 rfl rfl)
theorem dX4_readExpression_59 : decode cX4_readExpression 59 = .ok (.invokevirtual 241, 3) := dk_182 0 241 (dk_at dksX4_readExpression_2 11 rfl rfl)
theorem dX4_readExpression_62 : decode cX4_readExpression 62 = .ok (.aload_n 0, 1) := dk_42 (dk_at dksX4_readExpression_2 14 rfl rfl)
theorem dX4_readExpression_63 : decode cX4_readExpression 63 = .ok (.iload_n 1, 1) := dk_27 (dk_at dksX4_readExpression_2 15 rfl rfl)
theorem dX4_readExpression_64 : decode cX4_readExpression 64 = .ok (.invokevirtual 273, 3) := dk_182 1 17 (dk_at dksX4_readExpression_2 16 rfl rfl)
theorem dX4_readExpression_67 : decode cX4_readExpression 67 = .ok (.aload_n 0, 1) := dk_42 (dk_at dksX4_readExpression_2 19 rfl rfl)
theorem dX4_readExpression_68 : decode cX4_readExpression 68 = .ok (.bipush 60, 2) := dk_16 60 (dk_at dksX4_readExpression_2 20 rfl rfl)
theorem dX4_readExpression_70 : decode cX4_readExpression 70 = .ok (.invokevirtual 238, 3) := dk_182 0 238 (dk_at dksX4_readExpression_3 0 rfl rfl)
theorem dX4_readExpression_73 : decode cX4_readExpression 73 = .ok (.ifCond .ne 12, 3) := dk_154 0 12 (dk_at dksX4_readExpression_3 3 rfl rfl)
theorem dX4_readExpression_76 : decode cX4_readExpression 76 = .ok (.aload_n 0, 1) := dk_42 (dk_at dksX4_readExpression_3 6 rfl rfl)
theorem dX4_readExpression_77 : decode cX4_readExpression 77 = .ok (.bipush 61, 2) := dk_16 61 (dk_at dksX4_readExpression_3 7 rfl rfl)
theorem dX4_readExpression_79 : decode cX4_readExpression 79 = .ok (.invokevirtual 238, 3) := dk_182 0 238 (dk_at dksX4_readExpression_3 9 rfl rfl)
theorem dX4_readExpression_82 : decode cX4_readExpression 82 = .ok (.ifCond .eq 33, 3) := dk_153 0 33 (dk_at dksX4_readExpression_3 12 rfl rfl)
theorem dX4_readExpression_85 : decode cX4_readExpression 85 = .ok (.aload_n 0, 1) := dk_42 (dk_at dksX4_readExpression_3 15 rfl rfl)
theorem dX4_readExpression_86 : decode cX4_readExpression 86 = .ok (.bipush 60, 2) := dk_16 60 (dk_at dksX4_readExpression_3 16 rfl rfl)
theorem dX4_readExpression_88 : decode cX4_readExpression 88 = .ok (.invokevirtual 238, 3) := dk_182 0 238 (dk_at dksX4_readExpression_3 18 rfl rfl)
theorem dX4_readExpression_91 : decode cX4_readExpression 91 = .ok (.ifCond .eq 7, 3) := dk_153 0 7 (dk_at dksX4_readExpression_3 21 rfl rfl)
theorem dX4_readExpression_94 : decode cX4_readExpression 94 = .ok (.iconst 5, 1) := dk_8 (dk_at dksX4_readExpression_4 0 rfl rfl)
theorem dX4_readExpression_95 : decode cX4_readExpression 95 = .ok (.goto 5, 3) := dk_167 0 5 (dk_at dksX4_readExpression_4 1 rfl rfl)
theorem dX4_readExpression_98 : decode cX4_readExpression 98 = .ok (.bipush 6, 2) := dk_16 6 (dk_at dksX4_readExpression_4 4 rfl rfl)
theorem dX4_readExpression_100 : decode cX4_readExpression 100 = .ok (.istore_n 3, 1) := dk_62 (dk_at dksX4_readExpression_4 6 rfl rfl)
theorem dX4_readExpression_101 : decode cX4_readExpression 101 = .ok (.aload_n 0, 1) := dk_42 (dk_at dksX4_readExpression_4 7 rfl rfl)
theorem dX4_readExpression_102 : decode cX4_readExpression 102 = .ok (.invokevirtual 245, 3) := dk_182 0 245 (dk_at dksX4_readExpression_4 8 rfl rfl)
theorem dX4_readExpression_105 : decode cX4_readExpression 105 = .ok (.aload_n 0, 1) := dk_42 (dk_at dksX4_readExpression_4 11 rfl rfl)
theorem dX4_readExpression_106 : decode cX4_readExpression 106 = .ok (.iload_n 1, 1) := dk_27 (dk_at dksX4_readExpression_4 12 rfl rfl)
theorem dX4_readExpression_107 : decode cX4_readExpression 107 = .ok (.invokevirtual 273, 3) := dk_182 1 17 (dk_at dksX4_readExpression_4 13 rfl rfl)
theorem dX4_readExpression_110 : decode cX4_readExpression 110 = .ok (.aload_n 0, 1) := dk_42 (dk_at dksX4_readExpression_4 16 rfl rfl)
theorem dX4_readExpression_111 : decode cX4_readExpression 111 = .ok (.iload_n 3, 1) := dk_29 (dk_at dksX4_readExpression_4 17 rfl rfl)
theorem dX4_readExpression_112 : decode cX4_readExpression 112 = .ok (.invokevirtual 254, 3) := dk_182 0 254 (dk_at dksX4_readExpression_4 18 rfl rfl)
theorem dX4_readExpression_115 : decode cX4_readExpression 115 = .ok (.return_, 1) := dk_177 (dk_at dksX4_readExpression_4 21 rfl rfl)
abbrev cX4_isSign : ByteArray := prog_21_method_12_code
def yX4_isSign : MethodName := ⟨RX4, "isSign", "(I)Z"⟩
def dkwX4_isSign_1 : List UInt8 := [167, 0, 4, 3, 172]
abbrev dktX4_isSign_1 : List UInt8 := dkwX4_isSign_1 ++ []
def dkwX4_isSign_0 : List UInt8 := [42, 180, 0, 220, 154, 0, 23, 42, 180, 0, 197, 6, 160, 0, 15, 42, 180, 0, 194, 27, 160, 0, 7, 4]
abbrev dktX4_isSign_0 : List UInt8 := dkwX4_isSign_0 ++ dktX4_isSign_1
theorem dksX4_isSign_0 : cX4_isSign.data.toList.drop 0 = dktX4_isSign_0 := by decide +kernel
theorem dksX4_isSign_1 : cX4_isSign.data.toList.drop 24 = dktX4_isSign_1 := dk_seg dksX4_isSign_0 24 rfl rfl
theorem dX4_isSign_0 : decode cX4_isSign 0 = .ok (.aload_n 0, 1) := dk_42 (dk_at dksX4_isSign_0 0 rfl rfl)
theorem dX4_isSign_1 : decode cX4_isSign 1 = .ok (.getfield 220, 3) := dk_180 0 220 (dk_at dksX4_isSign_0 1 rfl rfl)
theorem dX4_isSign_4 : decode cX4_isSign 4 = .ok (.ifCond .ne 23, 3) := dk_154 0 23 (dk_at dksX4_isSign_0 4 rfl rfl)
theorem dX4_isSign_7 : decode cX4_isSign 7 = .ok (.aload_n 0, 1) := dk_42 (dk_at dksX4_isSign_0 7 rfl rfl)
theorem dX4_isSign_8 : decode cX4_isSign 8 = .ok (.getfield 197, 3) := dk_180 0 197 (dk_at dksX4_isSign_0 8 rfl rfl)
theorem dX4_isSign_11 : decode cX4_isSign 11 = .ok (.iconst 3, 1) := dk_6 (dk_at dksX4_isSign_0 11 rfl rfl)
theorem dX4_isSign_12 : decode cX4_isSign 12 = .ok (.if_icmp .ne 15, 3) := dk_160 0 15 (dk_at dksX4_isSign_0 12 rfl rfl)
theorem dX4_isSign_15 : decode cX4_isSign 15 = .ok (.aload_n 0, 1) := dk_42 (dk_at dksX4_isSign_0 15 rfl rfl)
theorem dX4_isSign_16 : decode cX4_isSign 16 = .ok (.getfield 194, 3) := dk_180 0 194 (dk_at dksX4_isSign_0 16 rfl rfl)
theorem dX4_isSign_19 : decode cX4_isSign 19 = .ok (.iload_n 1, 1) := dk_27 (dk_at dksX4_isSign_0 19 rfl rfl)
theorem dX4_isSign_20 : decode cX4_isSign 20 = .ok (.if_icmp .ne 7, 3) := dk_160 0 7 (dk_at dksX4_isSign_0 20 rfl rfl)
theorem dX4_isSign_23 : decode cX4_isSign 23 = .ok (.iconst 1, 1) := dk_4 (dk_at dksX4_isSign_0 23 rfl rfl)
theorem dX4_isSign_24 : decode cX4_isSign 24 = .ok (.goto 4, 3) := dk_167 0 4 (dk_at dksX4_isSign_1 0 rfl rfl)
theorem dX4_isSign_27 : decode cX4_isSign 27 = .ok (.iconst 0, 1) := dk_3 (dk_at dksX4_isSign_1 3 rfl rfl)
theorem dX4_isSign_28 : decode cX4_isSign 28 = .ok (.ireturn, 1) := dk_172 (dk_at dksX4_isSign_1 4 rfl rfl)
abbrev cX4_readSum : ByteArray := prog_21_method_21_code
def yX4_readSum : MethodName := ⟨RX4, "readSum", "(I)V"⟩
def dkwX4_readSum_2 : List UInt8 := [28, 182, 0, 254, 167, 255, 209, 177]
abbrev dktX4_readSum_2 : List UInt8 := dkwX4_readSum_2 ++ []
def dkwX4_readSum_1 : List UInt8 := [16, 43, 182, 0, 238, 153, 0, 7, 4, 167, 0, 4, 5, 61, 42, 182, 0, 245, 42, 27, 182, 1, 14, 42]
abbrev dktX4_readSum_1 : List UInt8 := dkwX4_readSum_1 ++ dktX4_readSum_2
def dkwX4_readSum_0 : List UInt8 := [42, 27, 182, 1, 14, 42, 16, 43, 182, 0, 238, 154, 0, 12, 42, 16, 45, 182, 0, 238, 153, 0, 35, 42]
abbrev dktX4_readSum_0 : List UInt8 := dkwX4_readSum_0 ++ dktX4_readSum_1
theorem dksX4_readSum_0 : cX4_readSum.data.toList.drop 0 = dktX4_readSum_0 := by decide +kernel
theorem dksX4_readSum_1 : cX4_readSum.data.toList.drop 24 = dktX4_readSum_1 := dk_seg dksX4_readSum_0 24 rfl rfl
theorem dksX4_readSum_2 : cX4_readSum.data.toList.drop 48 = dktX4_readSum_2 := dk_seg dksX4_readSum_1 24 rfl rfl
theorem dX4_readSum_0 : decode cX4_readSum 0 = .ok (.aload_n 0, 1) := dk_42 (dk_at dksX4_readSum_0 0 rfl rfl)
theorem dX4_readSum_1 : decode cX4_readSum 1 = .ok (.iload_n 1, 1) := dk_27 (dk_at dksX4_readSum_0 1 rfl rfl)
theorem dX4_readSum_2 : decode cX4_readSum 2 = .ok (.invokevirtual 270, 3) := dk_182 1 14 (dk_at dksX4_readSum_0 2 rfl rfl)
theorem dX4_readSum_5 : decode cX4_readSum 5 = .ok (.aload_n 0, 1) := dk_42 (dk_at dksX4_readSum_0 5 rfl rfl)
theorem dX4_readSum_6 : decode cX4_readSum 6 = .ok (.bipush 43, 2) := dk_16 43 (dk_at dksX4_readSum_0 6 rfl rfl)
theorem dX4_readSum_8 : decode cX4_readSum 8 = .ok (.invokevirtual 238, 3) := dk_182 0 238 (dk_at dksX4_readSum_0 8 rfl rfl)
theorem dX4_readSum_11 : decode cX4_readSum 11 = .ok (.ifCond .ne 12, 3) := dk_154 0 12 (dk_at dksX4_readSum_0 11 rfl rfl)
theorem dX4_readSum_14 : decode cX4_readSum 14 = .ok (.aload_n 0, 1) := dk_42 (dk_at dksX4_readSum_0 14 rfl rfl)
theorem dX4_readSum_15 : decode cX4_readSum 15 = .ok (.bipush 45, 2) := dk_16 45 (dk_at dksX4_readSum_0 15 rfl rfl)
theorem dX4_readSum_17 : decode cX4_readSum 17 = .ok (.invokevirtual 238, 3) := dk_182 0 238 (dk_at dksX4_readSum_0 17 rfl rfl)
theorem dX4_readSum_20 : decode cX4_readSum 20 = .ok (.ifCond .eq 35, 3) := dk_153 0 35 (dk_at dksX4_readSum_0 20 rfl rfl)
theorem dX4_readSum_23 : decode cX4_readSum 23 = .ok (.aload_n 0, 1) := dk_42 (dk_at dksX4_readSum_0 23 rfl rfl)
theorem dX4_readSum_24 : decode cX4_readSum 24 = .ok (.bipush 43, 2) := dk_16 43 (dk_at dksX4_readSum_1 0 rfl rfl)
theorem dX4_readSum_26 : decode cX4_readSum 26 = .ok (.invokevirtual 238, 3) := dk_182 0 238 (dk_at dksX4_readSum_1 2 rfl rfl)
theorem dX4_readSum_29 : decode cX4_readSum 29 = .ok (.ifCond .eq 7, 3) := dk_153 0 7 (dk_at dksX4_readSum_1 5 rfl rfl)
theorem dX4_readSum_32 : decode cX4_readSum 32 = .ok (.iconst 1, 1) := dk_4 (dk_at dksX4_readSum_1 8 rfl rfl)
theorem dX4_readSum_33 : decode cX4_readSum 33 = .ok (.goto 4, 3) := dk_167 0 4 (dk_at dksX4_readSum_1 9 rfl rfl)
theorem dX4_readSum_36 : decode cX4_readSum 36 = .ok (.iconst 2, 1) := dk_5 (dk_at dksX4_readSum_1 12 rfl rfl)
theorem dX4_readSum_37 : decode cX4_readSum 37 = .ok (.istore_n 2, 1) := dk_61 (dk_at dksX4_readSum_1 13 rfl rfl)
theorem dX4_readSum_38 : decode cX4_readSum 38 = .ok (.aload_n 0, 1) := dk_42 (dk_at dksX4_readSum_1 14 rfl rfl)
theorem dX4_readSum_39 : decode cX4_readSum 39 = .ok (.invokevirtual 245, 3) := dk_182 0 245 (dk_at dksX4_readSum_1 15 rfl rfl)
theorem dX4_readSum_42 : decode cX4_readSum 42 = .ok (.aload_n 0, 1) := dk_42 (dk_at dksX4_readSum_1 18 rfl rfl)
theorem dX4_readSum_43 : decode cX4_readSum 43 = .ok (.iload_n 1, 1) := dk_27 (dk_at dksX4_readSum_1 19 rfl rfl)
theorem dX4_readSum_44 : decode cX4_readSum 44 = .ok (.invokevirtual 270, 3) := dk_182 1 14 (dk_at dksX4_readSum_1 20 rfl rfl)
theorem dX4_readSum_47 : decode cX4_readSum 47 = .ok (.aload_n 0, 1) := dk_42 (dk_at dksX4_readSum_1 23 rfl rfl)
theorem dX4_readSum_48 : decode cX4_readSum 48 = .ok (.iload_n 2, 1) := dk_28 (dk_at dksX4_readSum_2 0 rfl rfl)
theorem dX4_readSum_49 : decode cX4_readSum 49 = .ok (.invokevirtual 254, 3) := dk_182 0 254 (dk_at dksX4_readSum_2 1 rfl rfl)
theorem dX4_readSum_52 : decode cX4_readSum 52 = .ok (.goto (-47), 3) := dk_167 255 209 (dk_at dksX4_readSum_2 4 rfl rfl)
theorem dX4_readSum_55 : decode cX4_readSum 55 = .ok (.return_, 1) := dk_177 (dk_at dksX4_readSum_2 7 rfl rfl)
abbrev cX4_readProduct : ByteArray := prog_21_method_20_code
def yX4_readProduct : MethodName := ⟨RX4, "readProduct", "(I)V"⟩
def dkwX4_readProduct_2 : List UInt8 := [28, 182, 0, 254, 167, 255, 209, 177]
abbrev dktX4_readProduct_2 : List UInt8 := dkwX4_readProduct_2 ++ []
def dkwX4_readProduct_1 : List UInt8 := [16, 42, 182, 0, 238, 153, 0, 7, 6, 167, 0, 4, 7, 61, 42, 182, 0, 245, 42, 27, 182, 1, 11, 42]
abbrev dktX4_readProduct_1 : List UInt8 := dkwX4_readProduct_1 ++ dktX4_readProduct_2
def dkwX4_readProduct_0 : List UInt8 := [42, 27, 182, 1, 11, 42, 16, 42, 182, 0, 238, 154, 0, 12, 42, 16, 47, 182, 0, 238, 153, 0, 35, 42]
abbrev dktX4_readProduct_0 : List UInt8 := dkwX4_readProduct_0 ++ dktX4_readProduct_1
theorem dksX4_readProduct_0 : cX4_readProduct.data.toList.drop 0 = dktX4_readProduct_0 := by decide +kernel
theorem dksX4_readProduct_1 : cX4_readProduct.data.toList.drop 24 = dktX4_readProduct_1 := dk_seg dksX4_readProduct_0 24 rfl rfl
theorem dksX4_readProduct_2 : cX4_readProduct.data.toList.drop 48 = dktX4_readProduct_2 := dk_seg dksX4_readProduct_1 24 rfl rfl
theorem dX4_readProduct_0 : decode cX4_readProduct 0 = .ok (.aload_n 0, 1) := dk_42 (dk_at dksX4_readProduct_0 0 rfl rfl)
theorem dX4_readProduct_1 : decode cX4_readProduct 1 = .ok (.iload_n 1, 1) := dk_27 (dk_at dksX4_readProduct_0 1 rfl rfl)
theorem dX4_readProduct_2 : decode cX4_readProduct 2 = .ok (.invokevirtual 267, 3) := dk_182 1 11 (dk_at dksX4_readProduct_0 2 rfl rfl)
theorem dX4_readProduct_5 : decode cX4_readProduct 5 = .ok (.aload_n 0, 1) := dk_42 (dk_at dksX4_readProduct_0 5 rfl rfl)
theorem dX4_readProduct_6 : decode cX4_readProduct 6 = .ok (.bipush 42, 2) := dk_16 42 (dk_at dksX4_readProduct_0 6 rfl rfl)
theorem dX4_readProduct_8 : decode cX4_readProduct 8 = .ok (.invokevirtual 238, 3) := dk_182 0 238 (dk_at dksX4_readProduct_0 8 rfl rfl)
theorem dX4_readProduct_11 : decode cX4_readProduct 11 = .ok (.ifCond .ne 12, 3) := dk_154 0 12 (dk_at dksX4_readProduct_0 11 rfl rfl)
theorem dX4_readProduct_14 : decode cX4_readProduct 14 = .ok (.aload_n 0, 1) := dk_42 (dk_at dksX4_readProduct_0 14 rfl rfl)
theorem dX4_readProduct_15 : decode cX4_readProduct 15 = .ok (.bipush 47, 2) := dk_16 47 (dk_at dksX4_readProduct_0 15 rfl rfl)
theorem dX4_readProduct_17 : decode cX4_readProduct 17 = .ok (.invokevirtual 238, 3) := dk_182 0 238 (dk_at dksX4_readProduct_0 17 rfl rfl)
theorem dX4_readProduct_20 : decode cX4_readProduct 20 = .ok (.ifCond .eq 35, 3) := dk_153 0 35 (dk_at dksX4_readProduct_0 20 rfl rfl)
theorem dX4_readProduct_23 : decode cX4_readProduct 23 = .ok (.aload_n 0, 1) := dk_42 (dk_at dksX4_readProduct_0 23 rfl rfl)
theorem dX4_readProduct_24 : decode cX4_readProduct 24 = .ok (.bipush 42, 2) := dk_16 42 (dk_at dksX4_readProduct_1 0 rfl rfl)
theorem dX4_readProduct_26 : decode cX4_readProduct 26 = .ok (.invokevirtual 238, 3) := dk_182 0 238 (dk_at dksX4_readProduct_1 2 rfl rfl)
theorem dX4_readProduct_29 : decode cX4_readProduct 29 = .ok (.ifCond .eq 7, 3) := dk_153 0 7 (dk_at dksX4_readProduct_1 5 rfl rfl)
theorem dX4_readProduct_32 : decode cX4_readProduct 32 = .ok (.iconst 3, 1) := dk_6 (dk_at dksX4_readProduct_1 8 rfl rfl)
theorem dX4_readProduct_33 : decode cX4_readProduct 33 = .ok (.goto 4, 3) := dk_167 0 4 (dk_at dksX4_readProduct_1 9 rfl rfl)
theorem dX4_readProduct_36 : decode cX4_readProduct 36 = .ok (.iconst 4, 1) := dk_7 (dk_at dksX4_readProduct_1 12 rfl rfl)
theorem dX4_readProduct_37 : decode cX4_readProduct 37 = .ok (.istore_n 2, 1) := dk_61 (dk_at dksX4_readProduct_1 13 rfl rfl)
theorem dX4_readProduct_38 : decode cX4_readProduct 38 = .ok (.aload_n 0, 1) := dk_42 (dk_at dksX4_readProduct_1 14 rfl rfl)
theorem dX4_readProduct_39 : decode cX4_readProduct 39 = .ok (.invokevirtual 245, 3) := dk_182 0 245 (dk_at dksX4_readProduct_1 15 rfl rfl)
theorem dX4_readProduct_42 : decode cX4_readProduct 42 = .ok (.aload_n 0, 1) := dk_42 (dk_at dksX4_readProduct_1 18 rfl rfl)
theorem dX4_readProduct_43 : decode cX4_readProduct 43 = .ok (.iload_n 1, 1) := dk_27 (dk_at dksX4_readProduct_1 19 rfl rfl)
theorem dX4_readProduct_44 : decode cX4_readProduct 44 = .ok (.invokevirtual 267, 3) := dk_182 1 11 (dk_at dksX4_readProduct_1 20 rfl rfl)
theorem dX4_readProduct_47 : decode cX4_readProduct 47 = .ok (.aload_n 0, 1) := dk_42 (dk_at dksX4_readProduct_1 23 rfl rfl)
theorem dX4_readProduct_48 : decode cX4_readProduct 48 = .ok (.iload_n 2, 1) := dk_28 (dk_at dksX4_readProduct_2 0 rfl rfl)
theorem dX4_readProduct_49 : decode cX4_readProduct 49 = .ok (.invokevirtual 254, 3) := dk_182 0 254 (dk_at dksX4_readProduct_2 1 rfl rfl)
theorem dX4_readProduct_52 : decode cX4_readProduct 52 = .ok (.goto (-47), 3) := dk_167 255 209 (dk_at dksX4_readProduct_2 4 rfl rfl)
theorem dX4_readProduct_55 : decode cX4_readProduct 55 = .ok (.return_, 1) := dk_177 (dk_at dksX4_readProduct_2 7 rfl rfl)
abbrev cX4_readPart : ByteArray := prog_21_method_19_code
def yX4_readPart : MethodName := ⟨RX4, "readPart", "(I)V"⟩
def dkwX4_readPart_5 : List UInt8 := [4, 182, 0, 241, 177]
abbrev dktX4_readPart_5 : List UInt8 := dkwX4_readPart_5 ++ []
def dkwX4_readPart_4 : List UInt8 := [153, 0, 23, 42, 182, 0, 245, 42, 27, 4, 96, 182, 1, 5, 42, 16, 41, 182, 1, 8, 167, 0, 8, 42]
abbrev dktX4_readPart_4 : List UInt8 := dkwX4_readPart_4 ++ dktX4_readPart_5
def dkwX4_readPart_3 : List UInt8 := [182, 0, 254, 42, 180, 0, 220, 154, 0, 7, 42, 182, 0, 245, 167, 0, 37, 42, 16, 40, 182, 0, 238]
abbrev dktX4_readPart_3 : List UInt8 := dkwX4_readPart_3 ++ dktX4_readPart_4
def dkwX4_readPart_2 : List UInt8 := [180, 0, 51, 182, 1, 1, 61, 28, 2, 160, 0, 8, 42, 6, 182, 0, 241, 42, 16, 20, 28, 96]
abbrev dktX4_readPart_2 : List UInt8 := dkwX4_readPart_2 ++ dktX4_readPart_3
def dkwX4_readPart_1 : List UInt8 := [61, 42, 3, 182, 0, 254, 42, 28, 182, 0, 254, 167, 0, 86, 42, 180, 0, 197, 4, 160, 0, 44, 42, 42]
abbrev dktX4_readPart_1 : List UInt8 := dkwX4_readPart_1 ++ dktX4_readPart_2
def dkwX4_readPart_0 : List UInt8 := [42, 180, 0, 220, 153, 0, 4, 177, 42, 180, 0, 197, 5, 160, 0, 25, 42, 3, 17, 39, 15, 182, 0, 251]
abbrev dktX4_readPart_0 : List UInt8 := dkwX4_readPart_0 ++ dktX4_readPart_1
theorem dksX4_readPart_0 : cX4_readPart.data.toList.drop 0 = dktX4_readPart_0 := by decide +kernel
theorem dksX4_readPart_1 : cX4_readPart.data.toList.drop 24 = dktX4_readPart_1 := dk_seg dksX4_readPart_0 24 rfl rfl
theorem dksX4_readPart_2 : cX4_readPart.data.toList.drop 48 = dktX4_readPart_2 := dk_seg dksX4_readPart_1 24 rfl rfl
theorem dksX4_readPart_3 : cX4_readPart.data.toList.drop 70 = dktX4_readPart_3 := dk_seg dksX4_readPart_2 22 rfl rfl
theorem dksX4_readPart_4 : cX4_readPart.data.toList.drop 93 = dktX4_readPart_4 := dk_seg dksX4_readPart_3 23 rfl rfl
theorem dksX4_readPart_5 : cX4_readPart.data.toList.drop 117 = dktX4_readPart_5 := dk_seg dksX4_readPart_4 24 rfl rfl
theorem dX4_readPart_0 : decode cX4_readPart 0 = .ok (.aload_n 0, 1) := dk_42 (dk_at dksX4_readPart_0 0 rfl rfl)
theorem dX4_readPart_1 : decode cX4_readPart 1 = .ok (.getfield 220, 3) := dk_180 0 220 (dk_at dksX4_readPart_0 1 rfl rfl)
theorem dX4_readPart_4 : decode cX4_readPart 4 = .ok (.ifCond .eq 4, 3) := dk_153 0 4 (dk_at dksX4_readPart_0 4 rfl rfl)
theorem dX4_readPart_7 : decode cX4_readPart 7 = .ok (.return_, 1) := dk_177 (dk_at dksX4_readPart_0 7 rfl rfl)
theorem dX4_readPart_8 : decode cX4_readPart 8 = .ok (.aload_n 0, 1) := dk_42 (dk_at dksX4_readPart_0 8 rfl rfl)
theorem dX4_readPart_9 : decode cX4_readPart 9 = .ok (.getfield 197, 3) := dk_180 0 197 (dk_at dksX4_readPart_0 9 rfl rfl)
theorem dX4_readPart_12 : decode cX4_readPart 12 = .ok (.iconst 2, 1) := dk_5 (dk_at dksX4_readPart_0 12 rfl rfl)
theorem dX4_readPart_13 : decode cX4_readPart 13 = .ok (.if_icmp .ne 25, 3) := dk_160 0 25 (dk_at dksX4_readPart_0 13 rfl rfl)
theorem dX4_readPart_16 : decode cX4_readPart 16 = .ok (.aload_n 0, 1) := dk_42 (dk_at dksX4_readPart_0 16 rfl rfl)
theorem dX4_readPart_17 : decode cX4_readPart 17 = .ok (.iconst 0, 1) := dk_3 (dk_at dksX4_readPart_0 17 rfl rfl)
theorem dX4_readPart_18 : decode cX4_readPart 18 = .ok (.sipush 9999, 3) := dk_17 39 15 (dk_at dksX4_readPart_0 18 rfl rfl)
theorem dX4_readPart_21 : decode cX4_readPart 21 = .ok (.invokevirtual 251, 3) := dk_182 0 251 (dk_at dksX4_readPart_0 21 rfl rfl)
theorem dX4_readPart_24 : decode cX4_readPart 24 = .ok (.istore_n 2, 1) := dk_61 (dk_at dksX4_readPart_1 0 rfl rfl)
theorem dX4_readPart_25 : decode cX4_readPart 25 = .ok (.aload_n 0, 1) := dk_42 (dk_at dksX4_readPart_1 1 rfl rfl)
theorem dX4_readPart_26 : decode cX4_readPart 26 = .ok (.iconst 0, 1) := dk_3 (dk_at dksX4_readPart_1 2 rfl rfl)
theorem dX4_readPart_27 : decode cX4_readPart 27 = .ok (.invokevirtual 254, 3) := dk_182 0 254 (dk_at dksX4_readPart_1 3 rfl rfl)
theorem dX4_readPart_30 : decode cX4_readPart 30 = .ok (.aload_n 0, 1) := dk_42 (dk_at dksX4_readPart_1 6 rfl rfl)
theorem dX4_readPart_31 : decode cX4_readPart 31 = .ok (.iload_n 2, 1) := dk_28 (dk_at dksX4_readPart_1 7 rfl rfl)
theorem dX4_readPart_32 : decode cX4_readPart 32 = .ok (.invokevirtual 254, 3) := dk_182 0 254 (dk_at dksX4_readPart_1 8 rfl rfl)
theorem dX4_readPart_35 : decode cX4_readPart 35 = .ok (.goto 86, 3) := dk_167 0 86 (dk_at dksX4_readPart_1 11 rfl rfl)
theorem dX4_readPart_38 : decode cX4_readPart 38 = .ok (.aload_n 0, 1) := dk_42 (dk_at dksX4_readPart_1 14 rfl rfl)
theorem dX4_readPart_39 : decode cX4_readPart 39 = .ok (.getfield 197, 3) := dk_180 0 197 (dk_at dksX4_readPart_1 15 rfl rfl)
theorem dX4_readPart_42 : decode cX4_readPart 42 = .ok (.iconst 1, 1) := dk_4 (dk_at dksX4_readPart_1 18 rfl rfl)
theorem dX4_readPart_43 : decode cX4_readPart 43 = .ok (.if_icmp .ne 44, 3) := dk_160 0 44 (dk_at dksX4_readPart_1 19 rfl rfl)
theorem dX4_readPart_46 : decode cX4_readPart 46 = .ok (.aload_n 0, 1) := dk_42 (dk_at dksX4_readPart_1 22 rfl rfl)
theorem dX4_readPart_47 : decode cX4_readPart 47 = .ok (.aload_n 0, 1) := dk_42 (dk_at dksX4_readPart_1 23 rfl rfl)
theorem dX4_readPart_48 : decode cX4_readPart 48 = .ok (.getfield 51, 3) := dk_180 0 51 (dk_at dksX4_readPart_2 0 rfl rfl)
theorem dX4_readPart_51 : decode cX4_readPart 51 = .ok (.invokevirtual 257, 3) := dk_182 1 1 (dk_at dksX4_readPart_2 3 rfl rfl)
theorem dX4_readPart_54 : decode cX4_readPart 54 = .ok (.istore_n 2, 1) := dk_61 (dk_at dksX4_readPart_2 6 rfl rfl)
theorem dX4_readPart_55 : decode cX4_readPart 55 = .ok (.iload_n 2, 1) := dk_28 (dk_at dksX4_readPart_2 7 rfl rfl)
theorem dX4_readPart_56 : decode cX4_readPart 56 = .ok (.iconst (-1), 1) := dk_2 (dk_at dksX4_readPart_2 8 rfl rfl)
theorem dX4_readPart_57 : decode cX4_readPart 57 = .ok (.if_icmp .ne 8, 3) := dk_160 0 8 (dk_at dksX4_readPart_2 9 rfl rfl)
theorem dX4_readPart_60 : decode cX4_readPart 60 = .ok (.aload_n 0, 1) := dk_42 (dk_at dksX4_readPart_2 12 rfl rfl)
theorem dX4_readPart_61 : decode cX4_readPart 61 = .ok (.iconst 3, 1) := dk_6 (dk_at dksX4_readPart_2 13 rfl rfl)
theorem dX4_readPart_62 : decode cX4_readPart 62 = .ok (.invokevirtual 241, 3) := dk_182 0 241 (dk_at dksX4_readPart_2 14 rfl rfl)
theorem dX4_readPart_65 : decode cX4_readPart 65 = .ok (.aload_n 0, 1) := dk_42 (dk_at dksX4_readPart_2 17 rfl rfl)
theorem dX4_readPart_66 : decode cX4_readPart 66 = .ok (.bipush 20, 2) := dk_16 20 (dk_at dksX4_readPart_2 18 rfl rfl)
theorem dX4_readPart_68 : decode cX4_readPart 68 = .ok (.iload_n 2, 1) := dk_28 (dk_at dksX4_readPart_2 20 rfl rfl)
theorem dX4_readPart_69 : decode cX4_readPart 69 = .ok (.iadd, 1) := dk_96 (dk_at dksX4_readPart_2 21 rfl rfl)
theorem dX4_readPart_70 : decode cX4_readPart 70 = .ok (.invokevirtual 254, 3) := dk_182 0 254 (dk_at dksX4_readPart_3 0 rfl rfl)
theorem dX4_readPart_73 : decode cX4_readPart 73 = .ok (.aload_n 0, 1) := dk_42 (dk_at dksX4_readPart_3 3 rfl rfl)
theorem dX4_readPart_74 : decode cX4_readPart 74 = .ok (.getfield 220, 3) := dk_180 0 220 (dk_at dksX4_readPart_3 4 rfl rfl)
theorem dX4_readPart_77 : decode cX4_readPart 77 = .ok (.ifCond .ne 7, 3) := dk_154 0 7 (dk_at dksX4_readPart_3 7 rfl rfl)
theorem dX4_readPart_80 : decode cX4_readPart 80 = .ok (.aload_n 0, 1) := dk_42 (dk_at dksX4_readPart_3 10 rfl rfl)
theorem dX4_readPart_81 : decode cX4_readPart 81 = .ok (.invokevirtual 245, 3) := dk_182 0 245 (dk_at dksX4_readPart_3 11 rfl rfl)
theorem dX4_readPart_84 : decode cX4_readPart 84 = .ok (.goto 37, 3) := dk_167 0 37 (dk_at dksX4_readPart_3 14 rfl rfl)
theorem dX4_readPart_87 : decode cX4_readPart 87 = .ok (.aload_n 0, 1) := dk_42 (dk_at dksX4_readPart_3 17 rfl rfl)
theorem dX4_readPart_88 : decode cX4_readPart 88 = .ok (.bipush 40, 2) := dk_16 40 (dk_at dksX4_readPart_3 18 rfl rfl)
theorem dX4_readPart_90 : decode cX4_readPart 90 = .ok (.invokevirtual 238, 3) := dk_182 0 238 (dk_at dksX4_readPart_3 20 rfl rfl)
theorem dX4_readPart_93 : decode cX4_readPart 93 = .ok (.ifCond .eq 23, 3) := dk_153 0 23 (dk_at dksX4_readPart_4 0 rfl rfl)
theorem dX4_readPart_96 : decode cX4_readPart 96 = .ok (.aload_n 0, 1) := dk_42 (dk_at dksX4_readPart_4 3 rfl rfl)
theorem dX4_readPart_97 : decode cX4_readPart 97 = .ok (.invokevirtual 245, 3) := dk_182 0 245 (dk_at dksX4_readPart_4 4 rfl rfl)
theorem dX4_readPart_100 : decode cX4_readPart 100 = .ok (.aload_n 0, 1) := dk_42 (dk_at dksX4_readPart_4 7 rfl rfl)
theorem dX4_readPart_101 : decode cX4_readPart 101 = .ok (.iload_n 1, 1) := dk_27 (dk_at dksX4_readPart_4 8 rfl rfl)
theorem dX4_readPart_102 : decode cX4_readPart 102 = .ok (.iconst 1, 1) := dk_4 (dk_at dksX4_readPart_4 9 rfl rfl)
theorem dX4_readPart_103 : decode cX4_readPart 103 = .ok (.iadd, 1) := dk_96 (dk_at dksX4_readPart_4 10 rfl rfl)
theorem dX4_readPart_104 : decode cX4_readPart 104 = .ok (.invokevirtual 261, 3) := dk_182 1 5 (dk_at dksX4_readPart_4 11 rfl rfl)
theorem dX4_readPart_107 : decode cX4_readPart 107 = .ok (.aload_n 0, 1) := dk_42 (dk_at dksX4_readPart_4 14 rfl rfl)
theorem dX4_readPart_108 : decode cX4_readPart 108 = .ok (.bipush 41, 2) := dk_16 41 (dk_at dksX4_readPart_4 15 rfl rfl)
theorem dX4_readPart_110 : decode cX4_readPart 110 = .ok (.invokevirtual 264, 3) := dk_182 1 8 (dk_at dksX4_readPart_4 17 rfl rfl)
theorem dX4_readPart_113 : decode cX4_readPart 113 = .ok (.goto 8, 3) := dk_167 0 8 (dk_at dksX4_readPart_4 20 rfl rfl)
theorem dX4_readPart_116 : decode cX4_readPart 116 = .ok (.aload_n 0, 1) := dk_42 (dk_at dksX4_readPart_4 23 rfl rfl)
theorem dX4_readPart_117 : decode cX4_readPart 117 = .ok (.iconst 1, 1) := dk_4 (dk_at dksX4_readPart_5 0 rfl rfl)
theorem dX4_readPart_118 : decode cX4_readPart 118 = .ok (.invokevirtual 241, 3) := dk_182 0 241 (dk_at dksX4_readPart_5 1 rfl rfl)
theorem dX4_readPart_121 : decode cX4_readPart 121 = .ok (.return_, 1) := dk_177 (dk_at dksX4_readPart_5 4 rfl rfl)
abbrev cX4_readNumber : ByteArray := prog_21_method_17_code
def yX4_readNumber : MethodName := ⟨RX4, "readNumber", "(II)I"⟩
def dkwX4_readNumber_3 : List UInt8 := [154, 0, 7, 42, 182, 0, 245, 29, 172]
abbrev dktX4_readNumber_3 : List UInt8 := dkwX4_readNumber_3 ++ []
def dkwX4_readNumber_2 : List UInt8 := [42, 180, 0, 207, 28, 164, 0, 8, 42, 5, 182, 0, 241, 42, 180, 0, 207, 62, 42, 180, 0, 220]
abbrev dktX4_readNumber_2 : List UInt8 := dkwX4_readNumber_2 ++ dktX4_readNumber_3
def dkwX4_readNumber_1 : List UInt8 := [167, 0, 37, 42, 180, 0, 217, 42, 180, 0, 191, 100, 7, 163, 0, 19, 42, 180, 0, 207, 27, 161, 0, 11]
abbrev dktX4_readNumber_1 : List UInt8 := dkwX4_readNumber_1 ++ dktX4_readNumber_2
def dkwX4_readNumber_0 : List UInt8 := [42, 180, 0, 220, 153, 0, 5, 3, 172, 42, 180, 0, 197, 5, 159, 0, 11, 42, 4, 182, 0, 241]
abbrev dktX4_readNumber_0 : List UInt8 := dkwX4_readNumber_0 ++ dktX4_readNumber_1
theorem dksX4_readNumber_0 : cX4_readNumber.data.toList.drop 0 = dktX4_readNumber_0 := by decide +kernel
theorem dksX4_readNumber_1 : cX4_readNumber.data.toList.drop 22 = dktX4_readNumber_1 := dk_seg dksX4_readNumber_0 22 rfl rfl
theorem dksX4_readNumber_2 : cX4_readNumber.data.toList.drop 46 = dktX4_readNumber_2 := dk_seg dksX4_readNumber_1 24 rfl rfl
theorem dksX4_readNumber_3 : cX4_readNumber.data.toList.drop 68 = dktX4_readNumber_3 := dk_seg dksX4_readNumber_2 22 rfl rfl
theorem dX4_readNumber_0 : decode cX4_readNumber 0 = .ok (.aload_n 0, 1) := dk_42 (dk_at dksX4_readNumber_0 0 rfl rfl)
theorem dX4_readNumber_1 : decode cX4_readNumber 1 = .ok (.getfield 220, 3) := dk_180 0 220 (dk_at dksX4_readNumber_0 1 rfl rfl)
theorem dX4_readNumber_4 : decode cX4_readNumber 4 = .ok (.ifCond .eq 5, 3) := dk_153 0 5 (dk_at dksX4_readNumber_0 4 rfl rfl)
theorem dX4_readNumber_7 : decode cX4_readNumber 7 = .ok (.iconst 0, 1) := dk_3 (dk_at dksX4_readNumber_0 7 rfl rfl)
theorem dX4_readNumber_8 : decode cX4_readNumber 8 = .ok (.ireturn, 1) := dk_172 (dk_at dksX4_readNumber_0 8 rfl rfl)
theorem dX4_readNumber_9 : decode cX4_readNumber 9 = .ok (.aload_n 0, 1) := dk_42 (dk_at dksX4_readNumber_0 9 rfl rfl)
theorem dX4_readNumber_10 : decode cX4_readNumber 10 = .ok (.getfield 197, 3) := dk_180 0 197 (dk_at dksX4_readNumber_0 10 rfl rfl)
theorem dX4_readNumber_13 : decode cX4_readNumber 13 = .ok (.iconst 2, 1) := dk_5 (dk_at dksX4_readNumber_0 13 rfl rfl)
theorem dX4_readNumber_14 : decode cX4_readNumber 14 = .ok (.if_icmp .eq 11, 3) := dk_159 0 11 (dk_at dksX4_readNumber_0 14 rfl rfl)
theorem dX4_readNumber_17 : decode cX4_readNumber 17 = .ok (.aload_n 0, 1) := dk_42 (dk_at dksX4_readNumber_0 17 rfl rfl)
theorem dX4_readNumber_18 : decode cX4_readNumber 18 = .ok (.iconst 1, 1) := dk_4 (dk_at dksX4_readNumber_0 18 rfl rfl)
theorem dX4_readNumber_19 : decode cX4_readNumber 19 = .ok (.invokevirtual 241, 3) := dk_182 0 241 (dk_at dksX4_readNumber_0 19 rfl rfl)
theorem dX4_readNumber_22 : decode cX4_readNumber 22 = .ok (.goto 37, 3) := dk_167 0 37 (dk_at dksX4_readNumber_1 0 rfl rfl)
theorem dX4_readNumber_25 : decode cX4_readNumber 25 = .ok (.aload_n 0, 1) := dk_42 (dk_at dksX4_readNumber_1 3 rfl rfl)
theorem dX4_readNumber_26 : decode cX4_readNumber 26 = .ok (.getfield 217, 3) := dk_180 0 217 (dk_at dksX4_readNumber_1 4 rfl rfl)
theorem dX4_readNumber_29 : decode cX4_readNumber 29 = .ok (.aload_n 0, 1) := dk_42 (dk_at dksX4_readNumber_1 7 rfl rfl)
theorem dX4_readNumber_30 : decode cX4_readNumber 30 = .ok (.getfield 191, 3) := dk_180 0 191 (dk_at dksX4_readNumber_1 8 rfl rfl)
theorem dX4_readNumber_33 : decode cX4_readNumber 33 = .ok (.isub, 1) := dk_100 (dk_at dksX4_readNumber_1 11 rfl rfl)
theorem dX4_readNumber_34 : decode cX4_readNumber 34 = .ok (.iconst 4, 1) := dk_7 (dk_at dksX4_readNumber_1 12 rfl rfl)
theorem dX4_readNumber_35 : decode cX4_readNumber 35 = .ok (.if_icmp .gt 19, 3) := dk_163 0 19 (dk_at dksX4_readNumber_1 13 rfl rfl)
theorem dX4_readNumber_38 : decode cX4_readNumber 38 = .ok (.aload_n 0, 1) := dk_42 (dk_at dksX4_readNumber_1 16 rfl rfl)
theorem dX4_readNumber_39 : decode cX4_readNumber 39 = .ok (.getfield 207, 3) := dk_180 0 207 (dk_at dksX4_readNumber_1 17 rfl rfl)
theorem dX4_readNumber_42 : decode cX4_readNumber 42 = .ok (.iload_n 1, 1) := dk_27 (dk_at dksX4_readNumber_1 20 rfl rfl)
theorem dX4_readNumber_43 : decode cX4_readNumber 43 = .ok (.if_icmp .lt 11, 3) := dk_161 0 11 (dk_at dksX4_readNumber_1 21 rfl rfl)
theorem dX4_readNumber_46 : decode cX4_readNumber 46 = .ok (.aload_n 0, 1) := dk_42 (dk_at dksX4_readNumber_2 0 rfl rfl)
theorem dX4_readNumber_47 : decode cX4_readNumber 47 = .ok (.getfield 207, 3) := dk_180 0 207 (dk_at dksX4_readNumber_2 1 rfl rfl)
theorem dX4_readNumber_50 : decode cX4_readNumber 50 = .ok (.iload_n 2, 1) := dk_28 (dk_at dksX4_readNumber_2 4 rfl rfl)
theorem dX4_readNumber_51 : decode cX4_readNumber 51 = .ok (.if_icmp .le 8, 3) := dk_164 0 8 (dk_at dksX4_readNumber_2 5 rfl rfl)
theorem dX4_readNumber_54 : decode cX4_readNumber 54 = .ok (.aload_n 0, 1) := dk_42 (dk_at dksX4_readNumber_2 8 rfl rfl)
theorem dX4_readNumber_55 : decode cX4_readNumber 55 = .ok (.iconst 2, 1) := dk_5 (dk_at dksX4_readNumber_2 9 rfl rfl)
theorem dX4_readNumber_56 : decode cX4_readNumber 56 = .ok (.invokevirtual 241, 3) := dk_182 0 241 (dk_at dksX4_readNumber_2 10 rfl rfl)
theorem dX4_readNumber_59 : decode cX4_readNumber 59 = .ok (.aload_n 0, 1) := dk_42 (dk_at dksX4_readNumber_2 13 rfl rfl)
theorem dX4_readNumber_60 : decode cX4_readNumber 60 = .ok (.getfield 207, 3) := dk_180 0 207 (dk_at dksX4_readNumber_2 14 rfl rfl)
theorem dX4_readNumber_63 : decode cX4_readNumber 63 = .ok (.istore_n 3, 1) := dk_62 (dk_at dksX4_readNumber_2 17 rfl rfl)
theorem dX4_readNumber_64 : decode cX4_readNumber 64 = .ok (.aload_n 0, 1) := dk_42 (dk_at dksX4_readNumber_2 18 rfl rfl)
theorem dX4_readNumber_65 : decode cX4_readNumber 65 = .ok (.getfield 220, 3) := dk_180 0 220 (dk_at dksX4_readNumber_2 19 rfl rfl)
theorem dX4_readNumber_68 : decode cX4_readNumber 68 = .ok (.ifCond .ne 7, 3) := dk_154 0 7 (dk_at dksX4_readNumber_3 0 rfl rfl)
theorem dX4_readNumber_71 : decode cX4_readNumber 71 = .ok (.aload_n 0, 1) := dk_42 (dk_at dksX4_readNumber_3 3 rfl rfl)
theorem dX4_readNumber_72 : decode cX4_readNumber 72 = .ok (.invokevirtual 245, 3) := dk_182 0 245 (dk_at dksX4_readNumber_3 4 rfl rfl)
theorem dX4_readNumber_75 : decode cX4_readNumber 75 = .ok (.iload_n 3, 1) := dk_29 (dk_at dksX4_readNumber_3 7 rfl rfl)
theorem dX4_readNumber_76 : decode cX4_readNumber 76 = .ok (.ireturn, 1) := dk_172 (dk_at dksX4_readNumber_3 8 rfl rfl)
abbrev cX4_emit : ByteArray := prog_21_method_18_code
def yX4_emit : MethodName := ⟨RX4, "emit", "(I)V"⟩
def dkwX4_emit_1 : List UInt8 := [180, 0, 248, 4, 96, 181, 0, 248, 177]
abbrev dktX4_emit_1 : List UInt8 := dkwX4_emit_1 ++ []
def dkwX4_emit_0 : List UInt8 := [42, 180, 0, 220, 153, 0, 4, 177, 42, 180, 0, 68, 17, 4, 56, 42, 180, 0, 248, 96, 27, 79, 42, 89]
abbrev dktX4_emit_0 : List UInt8 := dkwX4_emit_0 ++ dktX4_emit_1
theorem dksX4_emit_0 : cX4_emit.data.toList.drop 0 = dktX4_emit_0 := by decide +kernel
theorem dksX4_emit_1 : cX4_emit.data.toList.drop 24 = dktX4_emit_1 := dk_seg dksX4_emit_0 24 rfl rfl
theorem dX4_emit_0 : decode cX4_emit 0 = .ok (.aload_n 0, 1) := dk_42 (dk_at dksX4_emit_0 0 rfl rfl)
theorem dX4_emit_1 : decode cX4_emit 1 = .ok (.getfield 220, 3) := dk_180 0 220 (dk_at dksX4_emit_0 1 rfl rfl)
theorem dX4_emit_4 : decode cX4_emit 4 = .ok (.ifCond .eq 4, 3) := dk_153 0 4 (dk_at dksX4_emit_0 4 rfl rfl)
theorem dX4_emit_7 : decode cX4_emit 7 = .ok (.return_, 1) := dk_177 (dk_at dksX4_emit_0 7 rfl rfl)
theorem dX4_emit_8 : decode cX4_emit 8 = .ok (.aload_n 0, 1) := dk_42 (dk_at dksX4_emit_0 8 rfl rfl)
theorem dX4_emit_9 : decode cX4_emit 9 = .ok (.getfield 68, 3) := dk_180 0 68 (dk_at dksX4_emit_0 9 rfl rfl)
theorem dX4_emit_12 : decode cX4_emit 12 = .ok (.sipush 1080, 3) := dk_17 4 56 (dk_at dksX4_emit_0 12 rfl rfl)
theorem dX4_emit_15 : decode cX4_emit 15 = .ok (.aload_n 0, 1) := dk_42 (dk_at dksX4_emit_0 15 rfl rfl)
theorem dX4_emit_16 : decode cX4_emit 16 = .ok (.getfield 248, 3) := dk_180 0 248 (dk_at dksX4_emit_0 16 rfl rfl)
theorem dX4_emit_19 : decode cX4_emit 19 = .ok (.iadd, 1) := dk_96 (dk_at dksX4_emit_0 19 rfl rfl)
theorem dX4_emit_20 : decode cX4_emit 20 = .ok (.iload_n 1, 1) := dk_27 (dk_at dksX4_emit_0 20 rfl rfl)
theorem dX4_emit_21 : decode cX4_emit 21 = .ok (.iastore, 1) := dk_79 (dk_at dksX4_emit_0 21 rfl rfl)
theorem dX4_emit_22 : decode cX4_emit 22 = .ok (.aload_n 0, 1) := dk_42 (dk_at dksX4_emit_0 22 rfl rfl)
theorem dX4_emit_23 : decode cX4_emit 23 = .ok (.dup, 1) := dk_89 (dk_at dksX4_emit_0 23 rfl rfl)
theorem dX4_emit_24 : decode cX4_emit 24 = .ok (.getfield 248, 3) := dk_180 0 248 (dk_at dksX4_emit_1 0 rfl rfl)
theorem dX4_emit_27 : decode cX4_emit 27 = .ok (.iconst 1, 1) := dk_4 (dk_at dksX4_emit_1 3 rfl rfl)
theorem dX4_emit_28 : decode cX4_emit 28 = .ok (.iadd, 1) := dk_96 (dk_at dksX4_emit_1 4 rfl rfl)
theorem dX4_emit_29 : decode cX4_emit 29 = .ok (.putfield 248, 3) := dk_181 0 248 (dk_at dksX4_emit_1 5 rfl rfl)
theorem dX4_emit_32 : decode cX4_emit 32 = .ok (.return_, 1) := dk_177 (dk_at dksX4_emit_1 8 rfl rfl)
abbrev cX4_need : ByteArray := prog_21_method_15_code
def yX4_need : MethodName := ⟨RX4, "need", "(I)V"⟩
def dkwX4_need_1 : List UInt8 := [154, 0, 7, 42, 182, 0, 245, 177]
abbrev dktX4_need_1 : List UInt8 := dkwX4_need_1 ++ []
def dkwX4_need_0 : List UInt8 := [42, 180, 0, 220, 154, 0, 16, 42, 27, 182, 0, 238, 154, 0, 8, 42, 4, 182, 0, 241, 42, 180, 0, 220]
abbrev dktX4_need_0 : List UInt8 := dkwX4_need_0 ++ dktX4_need_1
theorem dksX4_need_0 : cX4_need.data.toList.drop 0 = dktX4_need_0 := by decide +kernel
theorem dksX4_need_1 : cX4_need.data.toList.drop 24 = dktX4_need_1 := dk_seg dksX4_need_0 24 rfl rfl
theorem dX4_need_0 : decode cX4_need 0 = .ok (.aload_n 0, 1) := dk_42 (dk_at dksX4_need_0 0 rfl rfl)
theorem dX4_need_1 : decode cX4_need 1 = .ok (.getfield 220, 3) := dk_180 0 220 (dk_at dksX4_need_0 1 rfl rfl)
theorem dX4_need_4 : decode cX4_need 4 = .ok (.ifCond .ne 16, 3) := dk_154 0 16 (dk_at dksX4_need_0 4 rfl rfl)
theorem dX4_need_7 : decode cX4_need 7 = .ok (.aload_n 0, 1) := dk_42 (dk_at dksX4_need_0 7 rfl rfl)
theorem dX4_need_8 : decode cX4_need 8 = .ok (.iload_n 1, 1) := dk_27 (dk_at dksX4_need_0 8 rfl rfl)
theorem dX4_need_9 : decode cX4_need 9 = .ok (.invokevirtual 238, 3) := dk_182 0 238 (dk_at dksX4_need_0 9 rfl rfl)
theorem dX4_need_12 : decode cX4_need 12 = .ok (.ifCond .ne 8, 3) := dk_154 0 8 (dk_at dksX4_need_0 12 rfl rfl)
theorem dX4_need_15 : decode cX4_need 15 = .ok (.aload_n 0, 1) := dk_42 (dk_at dksX4_need_0 15 rfl rfl)
theorem dX4_need_16 : decode cX4_need 16 = .ok (.iconst 1, 1) := dk_4 (dk_at dksX4_need_0 16 rfl rfl)
theorem dX4_need_17 : decode cX4_need 17 = .ok (.invokevirtual 241, 3) := dk_182 0 241 (dk_at dksX4_need_0 17 rfl rfl)
theorem dX4_need_20 : decode cX4_need 20 = .ok (.aload_n 0, 1) := dk_42 (dk_at dksX4_need_0 20 rfl rfl)
theorem dX4_need_21 : decode cX4_need 21 = .ok (.getfield 220, 3) := dk_180 0 220 (dk_at dksX4_need_0 21 rfl rfl)
theorem dX4_need_24 : decode cX4_need 24 = .ok (.ifCond .ne 7, 3) := dk_154 0 7 (dk_at dksX4_need_1 0 rfl rfl)
theorem dX4_need_27 : decode cX4_need 27 = .ok (.aload_n 0, 1) := dk_42 (dk_at dksX4_need_1 3 rfl rfl)
theorem dX4_need_28 : decode cX4_need 28 = .ok (.invokevirtual 245, 3) := dk_182 0 245 (dk_at dksX4_need_1 4 rfl rfl)
theorem dX4_need_31 : decode cX4_need 31 = .ok (.return_, 1) := dk_177 (dk_at dksX4_need_1 7 rfl rfl)
abbrev cX4_word : ByteArray := prog_21_method_16_code
def yX4_word : MethodName := ⟨RX4, "word", "(Ljava/lang/String;)V"⟩
def dkwX4_word_1 : List UInt8 := [154, 0, 7, 42, 182, 0, 245, 177]
abbrev dktX4_word_1 : List UInt8 := dkwX4_word_1 ++ []
def dkwX4_word_0 : List UInt8 := [42, 180, 0, 220, 154, 0, 16, 42, 43, 182, 0, 234, 154, 0, 8, 42, 4, 182, 0, 241, 42, 180, 0, 220]
abbrev dktX4_word_0 : List UInt8 := dkwX4_word_0 ++ dktX4_word_1
theorem dksX4_word_0 : cX4_word.data.toList.drop 0 = dktX4_word_0 := by decide +kernel
theorem dksX4_word_1 : cX4_word.data.toList.drop 24 = dktX4_word_1 := dk_seg dksX4_word_0 24 rfl rfl
theorem dX4_word_0 : decode cX4_word 0 = .ok (.aload_n 0, 1) := dk_42 (dk_at dksX4_word_0 0 rfl rfl)
theorem dX4_word_1 : decode cX4_word 1 = .ok (.getfield 220, 3) := dk_180 0 220 (dk_at dksX4_word_0 1 rfl rfl)
theorem dX4_word_4 : decode cX4_word 4 = .ok (.ifCond .ne 16, 3) := dk_154 0 16 (dk_at dksX4_word_0 4 rfl rfl)
theorem dX4_word_7 : decode cX4_word 7 = .ok (.aload_n 0, 1) := dk_42 (dk_at dksX4_word_0 7 rfl rfl)
theorem dX4_word_8 : decode cX4_word 8 = .ok (.aload_n 1, 1) := dk_43 (dk_at dksX4_word_0 8 rfl rfl)
theorem dX4_word_9 : decode cX4_word 9 = .ok (.invokevirtual 234, 3) := dk_182 0 234 (dk_at dksX4_word_0 9 rfl rfl)
theorem dX4_word_12 : decode cX4_word 12 = .ok (.ifCond .ne 8, 3) := dk_154 0 8 (dk_at dksX4_word_0 12 rfl rfl)
theorem dX4_word_15 : decode cX4_word 15 = .ok (.aload_n 0, 1) := dk_42 (dk_at dksX4_word_0 15 rfl rfl)
theorem dX4_word_16 : decode cX4_word 16 = .ok (.iconst 1, 1) := dk_4 (dk_at dksX4_word_0 16 rfl rfl)
theorem dX4_word_17 : decode cX4_word 17 = .ok (.invokevirtual 241, 3) := dk_182 0 241 (dk_at dksX4_word_0 17 rfl rfl)
theorem dX4_word_20 : decode cX4_word 20 = .ok (.aload_n 0, 1) := dk_42 (dk_at dksX4_word_0 20 rfl rfl)
theorem dX4_word_21 : decode cX4_word 21 = .ok (.getfield 220, 3) := dk_180 0 220 (dk_at dksX4_word_0 21 rfl rfl)
theorem dX4_word_24 : decode cX4_word 24 = .ok (.ifCond .ne 7, 3) := dk_154 0 7 (dk_at dksX4_word_1 0 rfl rfl)
theorem dX4_word_27 : decode cX4_word 27 = .ok (.aload_n 0, 1) := dk_42 (dk_at dksX4_word_1 3 rfl rfl)
theorem dX4_word_28 : decode cX4_word 28 = .ok (.invokevirtual 245, 3) := dk_182 0 245 (dk_at dksX4_word_1 4 rfl rfl)
theorem dX4_word_31 : decode cX4_word 31 = .ok (.return_, 1) := dk_177 (dk_at dksX4_word_1 7 rfl rfl)
abbrev cX4_readVar : ByteArray := prog_21_method_24_code
def yX4_readVar : MethodName := ⟨RX4, "readVar", "()I"⟩
def dkwX4_readVar_3 : List UInt8 := [182, 0, 245, 27, 172]
abbrev dktX4_readVar_3 : List UInt8 := dkwX4_readVar_3 ++ []
def dkwX4_readVar_2 : List UInt8 := [27, 3, 6, 184, 1, 20, 154, 0, 8, 42, 6, 182, 0, 241, 42, 180, 0, 220, 154, 0, 7, 42]
abbrev dktX4_readVar_2 : List UInt8 := dkwX4_readVar_2 ++ dktX4_readVar_3
def dkwX4_readVar_1 : List UInt8 := [182, 1, 1, 167, 0, 4, 2, 60, 42, 180, 0, 197, 4, 159, 0, 11, 42, 4, 182, 0, 241, 167, 0, 17]
abbrev dktX4_readVar_1 : List UInt8 := dkwX4_readVar_1 ++ dktX4_readVar_2
def dkwX4_readVar_0 : List UInt8 := [42, 180, 0, 220, 153, 0, 5, 3, 172, 42, 180, 0, 197, 4, 160, 0, 14, 42, 42, 180, 0, 51]
abbrev dktX4_readVar_0 : List UInt8 := dkwX4_readVar_0 ++ dktX4_readVar_1
theorem dksX4_readVar_0 : cX4_readVar.data.toList.drop 0 = dktX4_readVar_0 := by decide +kernel
theorem dksX4_readVar_1 : cX4_readVar.data.toList.drop 22 = dktX4_readVar_1 := dk_seg dksX4_readVar_0 22 rfl rfl
theorem dksX4_readVar_2 : cX4_readVar.data.toList.drop 46 = dktX4_readVar_2 := dk_seg dksX4_readVar_1 24 rfl rfl
theorem dksX4_readVar_3 : cX4_readVar.data.toList.drop 68 = dktX4_readVar_3 := dk_seg dksX4_readVar_2 22 rfl rfl
theorem dX4_readVar_0 : decode cX4_readVar 0 = .ok (.aload_n 0, 1) := dk_42 (dk_at dksX4_readVar_0 0 rfl rfl)
theorem dX4_readVar_1 : decode cX4_readVar 1 = .ok (.getfield 220, 3) := dk_180 0 220 (dk_at dksX4_readVar_0 1 rfl rfl)
theorem dX4_readVar_4 : decode cX4_readVar 4 = .ok (.ifCond .eq 5, 3) := dk_153 0 5 (dk_at dksX4_readVar_0 4 rfl rfl)
theorem dX4_readVar_7 : decode cX4_readVar 7 = .ok (.iconst 0, 1) := dk_3 (dk_at dksX4_readVar_0 7 rfl rfl)
theorem dX4_readVar_8 : decode cX4_readVar 8 = .ok (.ireturn, 1) := dk_172 (dk_at dksX4_readVar_0 8 rfl rfl)
theorem dX4_readVar_9 : decode cX4_readVar 9 = .ok (.aload_n 0, 1) := dk_42 (dk_at dksX4_readVar_0 9 rfl rfl)
theorem dX4_readVar_10 : decode cX4_readVar 10 = .ok (.getfield 197, 3) := dk_180 0 197 (dk_at dksX4_readVar_0 10 rfl rfl)
theorem dX4_readVar_13 : decode cX4_readVar 13 = .ok (.iconst 1, 1) := dk_4 (dk_at dksX4_readVar_0 13 rfl rfl)
theorem dX4_readVar_14 : decode cX4_readVar 14 = .ok (.if_icmp .ne 14, 3) := dk_160 0 14 (dk_at dksX4_readVar_0 14 rfl rfl)
theorem dX4_readVar_17 : decode cX4_readVar 17 = .ok (.aload_n 0, 1) := dk_42 (dk_at dksX4_readVar_0 17 rfl rfl)
theorem dX4_readVar_18 : decode cX4_readVar 18 = .ok (.aload_n 0, 1) := dk_42 (dk_at dksX4_readVar_0 18 rfl rfl)
theorem dX4_readVar_19 : decode cX4_readVar 19 = .ok (.getfield 51, 3) := dk_180 0 51 (dk_at dksX4_readVar_0 19 rfl rfl)
theorem dX4_readVar_22 : decode cX4_readVar 22 = .ok (.invokevirtual 257, 3) := dk_182 1 1 (dk_at dksX4_readVar_1 0 rfl rfl)
theorem dX4_readVar_25 : decode cX4_readVar 25 = .ok (.goto 4, 3) := dk_167 0 4 (dk_at dksX4_readVar_1 3 rfl rfl)
theorem dX4_readVar_28 : decode cX4_readVar 28 = .ok (.iconst (-1), 1) := dk_2 (dk_at dksX4_readVar_1 6 rfl rfl)
theorem dX4_readVar_29 : decode cX4_readVar 29 = .ok (.istore_n 1, 1) := dk_60 (dk_at dksX4_readVar_1 7 rfl rfl)
theorem dX4_readVar_30 : decode cX4_readVar 30 = .ok (.aload_n 0, 1) := dk_42 (dk_at dksX4_readVar_1 8 rfl rfl)
theorem dX4_readVar_31 : decode cX4_readVar 31 = .ok (.getfield 197, 3) := dk_180 0 197 (dk_at dksX4_readVar_1 9 rfl rfl)
theorem dX4_readVar_34 : decode cX4_readVar 34 = .ok (.iconst 1, 1) := dk_4 (dk_at dksX4_readVar_1 12 rfl rfl)
theorem dX4_readVar_35 : decode cX4_readVar 35 = .ok (.if_icmp .eq 11, 3) := dk_159 0 11 (dk_at dksX4_readVar_1 13 rfl rfl)
theorem dX4_readVar_38 : decode cX4_readVar 38 = .ok (.aload_n 0, 1) := dk_42 (dk_at dksX4_readVar_1 16 rfl rfl)
theorem dX4_readVar_39 : decode cX4_readVar 39 = .ok (.iconst 1, 1) := dk_4 (dk_at dksX4_readVar_1 17 rfl rfl)
theorem dX4_readVar_40 : decode cX4_readVar 40 = .ok (.invokevirtual 241, 3) := dk_182 0 241 (dk_at dksX4_readVar_1 18 rfl rfl)
theorem dX4_readVar_43 : decode cX4_readVar 43 = .ok (.goto 17, 3) := dk_167 0 17 (dk_at dksX4_readVar_1 21 rfl rfl)
theorem dX4_readVar_46 : decode cX4_readVar 46 = .ok (.iload_n 1, 1) := dk_27 (dk_at dksX4_readVar_2 0 rfl rfl)
theorem dX4_readVar_47 : decode cX4_readVar 47 = .ok (.iconst 0, 1) := dk_3 (dk_at dksX4_readVar_2 1 rfl rfl)
theorem dX4_readVar_48 : decode cX4_readVar 48 = .ok (.iconst 3, 1) := dk_6 (dk_at dksX4_readVar_2 2 rfl rfl)
theorem dX4_readVar_49 : decode cX4_readVar 49 = .ok (.invokestatic 276, 3) := dk_184 1 20 (dk_at dksX4_readVar_2 3 rfl rfl)
theorem dX4_readVar_52 : decode cX4_readVar 52 = .ok (.ifCond .ne 8, 3) := dk_154 0 8 (dk_at dksX4_readVar_2 6 rfl rfl)
theorem dX4_readVar_55 : decode cX4_readVar 55 = .ok (.aload_n 0, 1) := dk_42 (dk_at dksX4_readVar_2 9 rfl rfl)
theorem dX4_readVar_56 : decode cX4_readVar 56 = .ok (.iconst 3, 1) := dk_6 (dk_at dksX4_readVar_2 10 rfl rfl)
theorem dX4_readVar_57 : decode cX4_readVar 57 = .ok (.invokevirtual 241, 3) := dk_182 0 241 (dk_at dksX4_readVar_2 11 rfl rfl)
theorem dX4_readVar_60 : decode cX4_readVar 60 = .ok (.aload_n 0, 1) := dk_42 (dk_at dksX4_readVar_2 14 rfl rfl)
theorem dX4_readVar_61 : decode cX4_readVar 61 = .ok (.getfield 220, 3) := dk_180 0 220 (dk_at dksX4_readVar_2 15 rfl rfl)
theorem dX4_readVar_64 : decode cX4_readVar 64 = .ok (.ifCond .ne 7, 3) := dk_154 0 7 (dk_at dksX4_readVar_2 18 rfl rfl)
theorem dX4_readVar_67 : decode cX4_readVar 67 = .ok (.aload_n 0, 1) := dk_42 (dk_at dksX4_readVar_2 21 rfl rfl)
theorem dX4_readVar_68 : decode cX4_readVar 68 = .ok (.invokevirtual 245, 3) := dk_182 0 245 (dk_at dksX4_readVar_3 0 rfl rfl)
theorem dX4_readVar_71 : decode cX4_readVar 71 = .ok (.iload_n 1, 1) := dk_27 (dk_at dksX4_readVar_3 3 rfl rfl)
theorem dX4_readVar_72 : decode cX4_readVar 72 = .ok (.ireturn, 1) := dk_172 (dk_at dksX4_readVar_3 4 rfl rfl)
abbrev cX4_isIn : ByteArray := prog_21_method_5_code
def yX4_isIn : MethodName := ⟨RX4, "isIn", "(III)Z"⟩
def dkwX4_isIn_0 : List UInt8 := [26, 27, 161, 0, 12, 26, 28, 163, 0, 7, 4, 167, 0, 4, 3, 172]
abbrev dktX4_isIn_0 : List UInt8 := dkwX4_isIn_0 ++ []
theorem dksX4_isIn_0 : cX4_isIn.data.toList.drop 0 = dktX4_isIn_0 := by decide +kernel
theorem dX4_isIn_0 : decode cX4_isIn 0 = .ok (.iload_n 0, 1) := dk_26 (dk_at dksX4_isIn_0 0 rfl rfl)
theorem dX4_isIn_1 : decode cX4_isIn 1 = .ok (.iload_n 1, 1) := dk_27 (dk_at dksX4_isIn_0 1 rfl rfl)
theorem dX4_isIn_2 : decode cX4_isIn 2 = .ok (.if_icmp .lt 12, 3) := dk_161 0 12 (dk_at dksX4_isIn_0 2 rfl rfl)
theorem dX4_isIn_5 : decode cX4_isIn 5 = .ok (.iload_n 0, 1) := dk_26 (dk_at dksX4_isIn_0 5 rfl rfl)
theorem dX4_isIn_6 : decode cX4_isIn 6 = .ok (.iload_n 2, 1) := dk_28 (dk_at dksX4_isIn_0 6 rfl rfl)
theorem dX4_isIn_7 : decode cX4_isIn 7 = .ok (.if_icmp .gt 7, 3) := dk_163 0 7 (dk_at dksX4_isIn_0 7 rfl rfl)
theorem dX4_isIn_10 : decode cX4_isIn 10 = .ok (.iconst 1, 1) := dk_4 (dk_at dksX4_isIn_0 10 rfl rfl)
theorem dX4_isIn_11 : decode cX4_isIn 11 = .ok (.goto 4, 3) := dk_167 0 4 (dk_at dksX4_isIn_0 11 rfl rfl)
theorem dX4_isIn_14 : decode cX4_isIn 14 = .ok (.iconst 0, 1) := dk_3 (dk_at dksX4_isIn_0 14 rfl rfl)
theorem dX4_isIn_15 : decode cX4_isIn 15 = .ok (.ireturn, 1) := dk_172 (dk_at dksX4_isIn_0 15 rfl rfl)
abbrev cX4_readBranches : ByteArray := prog_21_method_26_code
def yX4_readBranches : MethodName := ⟨RX4, "readBranches", "(II)V"⟩
def dkwX4_readBranches_2 : List UInt8 := [180, 0, 92, 16, 40, 27, 96, 42, 28, 4, 96, 27, 182, 1, 47, 79, 42, 19, 1, 52, 182, 1, 30, 177]
abbrev dktX4_readBranches_2 : List UInt8 := dkwX4_readBranches_2 ++ []
def dkwX4_readBranches_1 : List UInt8 := [4, 96, 27, 182, 1, 47, 79, 42, 19, 1, 50, 182, 0, 234, 153, 0, 24, 42, 182, 0, 245, 42]
abbrev dktX4_readBranches_1 : List UInt8 := dkwX4_readBranches_1 ++ dktX4_readBranches_2
def dkwX4_readBranches_0 : List UInt8 := [42, 27, 3, 4, 182, 1, 24, 42, 19, 1, 46, 182, 1, 30, 42, 180, 0, 89, 16, 40, 27, 96, 42, 28]
abbrev dktX4_readBranches_0 : List UInt8 := dkwX4_readBranches_0 ++ dktX4_readBranches_1
theorem dksX4_readBranches_0 : cX4_readBranches.data.toList.drop 0 = dktX4_readBranches_0 := by decide +kernel
theorem dksX4_readBranches_1 : cX4_readBranches.data.toList.drop 24 = dktX4_readBranches_1 := dk_seg dksX4_readBranches_0 24 rfl rfl
theorem dksX4_readBranches_2 : cX4_readBranches.data.toList.drop 46 = dktX4_readBranches_2 := dk_seg dksX4_readBranches_1 22 rfl rfl
theorem dX4_readBranches_0 : decode cX4_readBranches 0 = .ok (.aload_n 0, 1) := dk_42 (dk_at dksX4_readBranches_0 0 rfl rfl)
theorem dX4_readBranches_1 : decode cX4_readBranches 1 = .ok (.iload_n 1, 1) := dk_27 (dk_at dksX4_readBranches_0 1 rfl rfl)
theorem dX4_readBranches_2 : decode cX4_readBranches 2 = .ok (.iconst 0, 1) := dk_3 (dk_at dksX4_readBranches_0 2 rfl rfl)
theorem dX4_readBranches_3 : decode cX4_readBranches 3 = .ok (.iconst 1, 1) := dk_4 (dk_at dksX4_readBranches_0 3 rfl rfl)
theorem dX4_readBranches_4 : decode cX4_readBranches 4 = .ok (.invokevirtual 280, 3) := dk_182 1 24 (dk_at dksX4_readBranches_0 4 rfl rfl)
theorem dX4_readBranches_7 : decode cX4_readBranches 7 = .ok (.aload_n 0, 1) := dk_42 (dk_at dksX4_readBranches_0 7 rfl rfl)
theorem dX4_readBranches_8 : decode cX4_readBranches 8 = .ok (.ldc_w 302, 3) := dk_19 1 46 (dk_at dksX4_readBranches_0 8 rfl rfl)
theorem dX4_readBranches_11 : decode cX4_readBranches 11 = .ok (.invokevirtual 286, 3) := dk_182 1 30 (dk_at dksX4_readBranches_0 11 rfl rfl)
theorem dX4_readBranches_14 : decode cX4_readBranches 14 = .ok (.aload_n 0, 1) := dk_42 (dk_at dksX4_readBranches_0 14 rfl rfl)
theorem dX4_readBranches_15 : decode cX4_readBranches 15 = .ok (.getfield 89, 3) := dk_180 0 89 (dk_at dksX4_readBranches_0 15 rfl rfl)
theorem dX4_readBranches_18 : decode cX4_readBranches 18 = .ok (.bipush 40, 2) := dk_16 40 (dk_at dksX4_readBranches_0 18 rfl rfl)
theorem dX4_readBranches_20 : decode cX4_readBranches 20 = .ok (.iload_n 1, 1) := dk_27 (dk_at dksX4_readBranches_0 20 rfl rfl)
theorem dX4_readBranches_21 : decode cX4_readBranches 21 = .ok (.iadd, 1) := dk_96 (dk_at dksX4_readBranches_0 21 rfl rfl)
theorem dX4_readBranches_22 : decode cX4_readBranches 22 = .ok (.aload_n 0, 1) := dk_42 (dk_at dksX4_readBranches_0 22 rfl rfl)
theorem dX4_readBranches_23 : decode cX4_readBranches 23 = .ok (.iload_n 2, 1) := dk_28 (dk_at dksX4_readBranches_0 23 rfl rfl)
theorem dX4_readBranches_24 : decode cX4_readBranches 24 = .ok (.iconst 1, 1) := dk_4 (dk_at dksX4_readBranches_1 0 rfl rfl)
theorem dX4_readBranches_25 : decode cX4_readBranches 25 = .ok (.iadd, 1) := dk_96 (dk_at dksX4_readBranches_1 1 rfl rfl)
theorem dX4_readBranches_26 : decode cX4_readBranches 26 = .ok (.iload_n 1, 1) := dk_27 (dk_at dksX4_readBranches_1 2 rfl rfl)
theorem dX4_readBranches_27 : decode cX4_readBranches 27 = .ok (.invokevirtual 303, 3) := dk_182 1 47 (dk_at dksX4_readBranches_1 3 rfl rfl)
theorem dX4_readBranches_30 : decode cX4_readBranches 30 = .ok (.iastore, 1) := dk_79 (dk_at dksX4_readBranches_1 6 rfl rfl)
theorem dX4_readBranches_31 : decode cX4_readBranches 31 = .ok (.aload_n 0, 1) := dk_42 (dk_at dksX4_readBranches_1 7 rfl rfl)
theorem dX4_readBranches_32 : decode cX4_readBranches 32 = .ok (.ldc_w 306, 3) := dk_19 1 50 (dk_at dksX4_readBranches_1 8 rfl rfl)
theorem dX4_readBranches_35 : decode cX4_readBranches 35 = .ok (.invokevirtual 234, 3) := dk_182 0 234 (dk_at dksX4_readBranches_1 11 rfl rfl)
theorem dX4_readBranches_38 : decode cX4_readBranches 38 = .ok (.ifCond .eq 24, 3) := dk_153 0 24 (dk_at dksX4_readBranches_1 14 rfl rfl)
theorem dX4_readBranches_41 : decode cX4_readBranches 41 = .ok (.aload_n 0, 1) := dk_42 (dk_at dksX4_readBranches_1 17 rfl rfl)
theorem dX4_readBranches_42 : decode cX4_readBranches 42 = .ok (.invokevirtual 245, 3) := dk_182 0 245 (dk_at dksX4_readBranches_1 18 rfl rfl)
theorem dX4_readBranches_45 : decode cX4_readBranches 45 = .ok (.aload_n 0, 1) := dk_42 (dk_at dksX4_readBranches_1 21 rfl rfl)
theorem dX4_readBranches_46 : decode cX4_readBranches 46 = .ok (.getfield 92, 3) := dk_180 0 92 (dk_at dksX4_readBranches_2 0 rfl rfl)
theorem dX4_readBranches_49 : decode cX4_readBranches 49 = .ok (.bipush 40, 2) := dk_16 40 (dk_at dksX4_readBranches_2 3 rfl rfl)
theorem dX4_readBranches_51 : decode cX4_readBranches 51 = .ok (.iload_n 1, 1) := dk_27 (dk_at dksX4_readBranches_2 5 rfl rfl)
theorem dX4_readBranches_52 : decode cX4_readBranches 52 = .ok (.iadd, 1) := dk_96 (dk_at dksX4_readBranches_2 6 rfl rfl)
theorem dX4_readBranches_53 : decode cX4_readBranches 53 = .ok (.aload_n 0, 1) := dk_42 (dk_at dksX4_readBranches_2 7 rfl rfl)
theorem dX4_readBranches_54 : decode cX4_readBranches 54 = .ok (.iload_n 2, 1) := dk_28 (dk_at dksX4_readBranches_2 8 rfl rfl)
theorem dX4_readBranches_55 : decode cX4_readBranches 55 = .ok (.iconst 1, 1) := dk_4 (dk_at dksX4_readBranches_2 9 rfl rfl)
theorem dX4_readBranches_56 : decode cX4_readBranches 56 = .ok (.iadd, 1) := dk_96 (dk_at dksX4_readBranches_2 10 rfl rfl)
theorem dX4_readBranches_57 : decode cX4_readBranches 57 = .ok (.iload_n 1, 1) := dk_27 (dk_at dksX4_readBranches_2 11 rfl rfl)
theorem dX4_readBranches_58 : decode cX4_readBranches 58 = .ok (.invokevirtual 303, 3) := dk_182 1 47 (dk_at dksX4_readBranches_2 12 rfl rfl)
theorem dX4_readBranches_61 : decode cX4_readBranches 61 = .ok (.iastore, 1) := dk_79 (dk_at dksX4_readBranches_2 15 rfl rfl)
theorem dX4_readBranches_62 : decode cX4_readBranches 62 = .ok (.aload_n 0, 1) := dk_42 (dk_at dksX4_readBranches_2 16 rfl rfl)
theorem dX4_readBranches_63 : decode cX4_readBranches 63 = .ok (.ldc_w 308, 3) := dk_19 1 52 (dk_at dksX4_readBranches_2 17 rfl rfl)
theorem dX4_readBranches_66 : decode cX4_readBranches 66 = .ok (.invokevirtual 286, 3) := dk_182 1 30 (dk_at dksX4_readBranches_2 20 rfl rfl)
theorem dX4_readBranches_69 : decode cX4_readBranches 69 = .ok (.return_, 1) := dk_177 (dk_at dksX4_readBranches_2 23 rfl rfl)
abbrev cX4_fault : ByteArray := prog_21_method_29_code
def yX4_fault : MethodName := ⟨RX4, "fault", "()I"⟩
def dkwX4_fault_0 : List UInt8 := [42, 3, 181, 0, 175, 42, 180, 0, 62, 172]
abbrev dktX4_fault_0 : List UInt8 := dkwX4_fault_0 ++ []
theorem dksX4_fault_0 : cX4_fault.data.toList.drop 0 = dktX4_fault_0 := by decide +kernel
theorem dX4_fault_0 : decode cX4_fault 0 = .ok (.aload_n 0, 1) := dk_42 (dk_at dksX4_fault_0 0 rfl rfl)
theorem dX4_fault_1 : decode cX4_fault 1 = .ok (.iconst 0, 1) := dk_3 (dk_at dksX4_fault_0 1 rfl rfl)
theorem dX4_fault_2 : decode cX4_fault 2 = .ok (.putfield 175, 3) := dk_181 0 175 (dk_at dksX4_fault_0 2 rfl rfl)
theorem dX4_fault_5 : decode cX4_fault 5 = .ok (.aload_n 0, 1) := dk_42 (dk_at dksX4_fault_0 5 rfl rfl)
theorem dX4_fault_6 : decode cX4_fault 6 = .ok (.getfield 62, 3) := dk_180 0 62 (dk_at dksX4_fault_0 6 rfl rfl)
theorem dX4_fault_9 : decode cX4_fault 9 = .ok (.ireturn, 1) := dk_172 (dk_at dksX4_fault_0 9 rfl rfl)
abbrev cX4_world : ByteArray := prog_21_method_30_code
def yX4_world : MethodName := ⟨RX4, "world", "(IIII)Z"⟩
def dkwX4_world_3 : List UInt8 := [181, 1, 69, 42, 21, 4, 181, 1, 72, 42, 89, 180, 1, 60, 4, 96, 181, 1, 60, 4, 172]
abbrev dktX4_world_3 : List UInt8 := dkwX4_world_3 ++ []
def dkwX4_world_2 : List UInt8 := [42, 180, 0, 54, 159, 0, 8, 42, 2, 181, 0, 148, 42, 27, 181, 0, 54, 42, 28, 181, 1, 66, 42, 29]
abbrev dktX4_world_2 : List UInt8 := dkwX4_world_2 ++ dktX4_world_3
def dkwX4_world_1 : List UInt8 := [29, 3, 16, 99, 184, 1, 20, 153, 0, 14, 21, 4, 3, 16, 99, 184, 1, 20, 154, 0, 5, 3, 172, 27]
abbrev dktX4_world_1 : List UInt8 := dkwX4_world_1 ++ dktX4_world_2
def dkwX4_world_0 : List UInt8 := [42, 3, 181, 0, 175, 27, 5, 16, 8, 184, 1, 20, 153, 0, 33, 28, 3, 6, 184, 1, 20, 153, 0, 24]
abbrev dktX4_world_0 : List UInt8 := dkwX4_world_0 ++ dktX4_world_1
theorem dksX4_world_0 : cX4_world.data.toList.drop 0 = dktX4_world_0 := by decide +kernel
theorem dksX4_world_1 : cX4_world.data.toList.drop 24 = dktX4_world_1 := dk_seg dksX4_world_0 24 rfl rfl
theorem dksX4_world_2 : cX4_world.data.toList.drop 48 = dktX4_world_2 := dk_seg dksX4_world_1 24 rfl rfl
theorem dksX4_world_3 : cX4_world.data.toList.drop 72 = dktX4_world_3 := dk_seg dksX4_world_2 24 rfl rfl
theorem dX4_world_0 : decode cX4_world 0 = .ok (.aload_n 0, 1) := dk_42 (dk_at dksX4_world_0 0 rfl rfl)
theorem dX4_world_1 : decode cX4_world 1 = .ok (.iconst 0, 1) := dk_3 (dk_at dksX4_world_0 1 rfl rfl)
theorem dX4_world_2 : decode cX4_world 2 = .ok (.putfield 175, 3) := dk_181 0 175 (dk_at dksX4_world_0 2 rfl rfl)
theorem dX4_world_5 : decode cX4_world 5 = .ok (.iload_n 1, 1) := dk_27 (dk_at dksX4_world_0 5 rfl rfl)
theorem dX4_world_6 : decode cX4_world 6 = .ok (.iconst 2, 1) := dk_5 (dk_at dksX4_world_0 6 rfl rfl)
theorem dX4_world_7 : decode cX4_world 7 = .ok (.bipush 8, 2) := dk_16 8 (dk_at dksX4_world_0 7 rfl rfl)
theorem dX4_world_9 : decode cX4_world 9 = .ok (.invokestatic 276, 3) := dk_184 1 20 (dk_at dksX4_world_0 9 rfl rfl)
theorem dX4_world_12 : decode cX4_world 12 = .ok (.ifCond .eq 33, 3) := dk_153 0 33 (dk_at dksX4_world_0 12 rfl rfl)
theorem dX4_world_15 : decode cX4_world 15 = .ok (.iload_n 2, 1) := dk_28 (dk_at dksX4_world_0 15 rfl rfl)
theorem dX4_world_16 : decode cX4_world 16 = .ok (.iconst 0, 1) := dk_3 (dk_at dksX4_world_0 16 rfl rfl)
theorem dX4_world_17 : decode cX4_world 17 = .ok (.iconst 3, 1) := dk_6 (dk_at dksX4_world_0 17 rfl rfl)
theorem dX4_world_18 : decode cX4_world 18 = .ok (.invokestatic 276, 3) := dk_184 1 20 (dk_at dksX4_world_0 18 rfl rfl)
theorem dX4_world_21 : decode cX4_world 21 = .ok (.ifCond .eq 24, 3) := dk_153 0 24 (dk_at dksX4_world_0 21 rfl rfl)
theorem dX4_world_24 : decode cX4_world 24 = .ok (.iload_n 3, 1) := dk_29 (dk_at dksX4_world_1 0 rfl rfl)
theorem dX4_world_25 : decode cX4_world 25 = .ok (.iconst 0, 1) := dk_3 (dk_at dksX4_world_1 1 rfl rfl)
theorem dX4_world_26 : decode cX4_world 26 = .ok (.bipush 99, 2) := dk_16 99 (dk_at dksX4_world_1 2 rfl rfl)
theorem dX4_world_28 : decode cX4_world 28 = .ok (.invokestatic 276, 3) := dk_184 1 20 (dk_at dksX4_world_1 4 rfl rfl)
theorem dX4_world_31 : decode cX4_world 31 = .ok (.ifCond .eq 14, 3) := dk_153 0 14 (dk_at dksX4_world_1 7 rfl rfl)
theorem dX4_world_34 : decode cX4_world 34 = .ok (.iload 4, 2) := dk_21 4 (dk_at dksX4_world_1 10 rfl rfl)
theorem dX4_world_36 : decode cX4_world 36 = .ok (.iconst 0, 1) := dk_3 (dk_at dksX4_world_1 12 rfl rfl)
theorem dX4_world_37 : decode cX4_world 37 = .ok (.bipush 99, 2) := dk_16 99 (dk_at dksX4_world_1 13 rfl rfl)
theorem dX4_world_39 : decode cX4_world 39 = .ok (.invokestatic 276, 3) := dk_184 1 20 (dk_at dksX4_world_1 15 rfl rfl)
theorem dX4_world_42 : decode cX4_world 42 = .ok (.ifCond .ne 5, 3) := dk_154 0 5 (dk_at dksX4_world_1 18 rfl rfl)
theorem dX4_world_45 : decode cX4_world 45 = .ok (.iconst 0, 1) := dk_3 (dk_at dksX4_world_1 21 rfl rfl)
theorem dX4_world_46 : decode cX4_world 46 = .ok (.ireturn, 1) := dk_172 (dk_at dksX4_world_1 22 rfl rfl)
theorem dX4_world_47 : decode cX4_world 47 = .ok (.iload_n 1, 1) := dk_27 (dk_at dksX4_world_1 23 rfl rfl)
theorem dX4_world_48 : decode cX4_world 48 = .ok (.aload_n 0, 1) := dk_42 (dk_at dksX4_world_2 0 rfl rfl)
theorem dX4_world_49 : decode cX4_world 49 = .ok (.getfield 54, 3) := dk_180 0 54 (dk_at dksX4_world_2 1 rfl rfl)
theorem dX4_world_52 : decode cX4_world 52 = .ok (.if_icmp .eq 8, 3) := dk_159 0 8 (dk_at dksX4_world_2 4 rfl rfl)
theorem dX4_world_55 : decode cX4_world 55 = .ok (.aload_n 0, 1) := dk_42 (dk_at dksX4_world_2 7 rfl rfl)
theorem dX4_world_56 : decode cX4_world 56 = .ok (.iconst (-1), 1) := dk_2 (dk_at dksX4_world_2 8 rfl rfl)
theorem dX4_world_57 : decode cX4_world 57 = .ok (.putfield 148, 3) := dk_181 0 148 (dk_at dksX4_world_2 9 rfl rfl)
theorem dX4_world_60 : decode cX4_world 60 = .ok (.aload_n 0, 1) := dk_42 (dk_at dksX4_world_2 12 rfl rfl)
theorem dX4_world_61 : decode cX4_world 61 = .ok (.iload_n 1, 1) := dk_27 (dk_at dksX4_world_2 13 rfl rfl)
theorem dX4_world_62 : decode cX4_world 62 = .ok (.putfield 54, 3) := dk_181 0 54 (dk_at dksX4_world_2 14 rfl rfl)
theorem dX4_world_65 : decode cX4_world 65 = .ok (.aload_n 0, 1) := dk_42 (dk_at dksX4_world_2 17 rfl rfl)
theorem dX4_world_66 : decode cX4_world 66 = .ok (.iload_n 2, 1) := dk_28 (dk_at dksX4_world_2 18 rfl rfl)
theorem dX4_world_67 : decode cX4_world 67 = .ok (.putfield 322, 3) := dk_181 1 66 (dk_at dksX4_world_2 19 rfl rfl)
theorem dX4_world_70 : decode cX4_world 70 = .ok (.aload_n 0, 1) := dk_42 (dk_at dksX4_world_2 22 rfl rfl)
theorem dX4_world_71 : decode cX4_world 71 = .ok (.iload_n 3, 1) := dk_29 (dk_at dksX4_world_2 23 rfl rfl)
theorem dX4_world_72 : decode cX4_world 72 = .ok (.putfield 325, 3) := dk_181 1 69 (dk_at dksX4_world_3 0 rfl rfl)
theorem dX4_world_75 : decode cX4_world 75 = .ok (.aload_n 0, 1) := dk_42 (dk_at dksX4_world_3 3 rfl rfl)
theorem dX4_world_76 : decode cX4_world 76 = .ok (.iload 4, 2) := dk_21 4 (dk_at dksX4_world_3 4 rfl rfl)
theorem dX4_world_78 : decode cX4_world 78 = .ok (.putfield 328, 3) := dk_181 1 72 (dk_at dksX4_world_3 6 rfl rfl)
theorem dX4_world_81 : decode cX4_world 81 = .ok (.aload_n 0, 1) := dk_42 (dk_at dksX4_world_3 9 rfl rfl)
theorem dX4_world_82 : decode cX4_world 82 = .ok (.dup, 1) := dk_89 (dk_at dksX4_world_3 10 rfl rfl)
theorem dX4_world_83 : decode cX4_world 83 = .ok (.getfield 316, 3) := dk_180 1 60 (dk_at dksX4_world_3 11 rfl rfl)
theorem dX4_world_86 : decode cX4_world 86 = .ok (.iconst 1, 1) := dk_4 (dk_at dksX4_world_3 14 rfl rfl)
theorem dX4_world_87 : decode cX4_world 87 = .ok (.iadd, 1) := dk_96 (dk_at dksX4_world_3 15 rfl rfl)
theorem dX4_world_88 : decode cX4_world 88 = .ok (.putfield 316, 3) := dk_181 1 60 (dk_at dksX4_world_3 16 rfl rfl)
theorem dX4_world_91 : decode cX4_world 91 = .ok (.iconst 1, 1) := dk_4 (dk_at dksX4_world_3 19 rfl rfl)
theorem dX4_world_92 : decode cX4_world 92 = .ok (.ireturn, 1) := dk_172 (dk_at dksX4_world_3 20 rfl rfl)
abbrev cX4_count : ByteArray := prog_21_method_32_code
def yX4_count : MethodName := ⟨RX4, "count", "(I)I"⟩
def dkwX4_count_3 : List UInt8 := [180, 1, 69, 172, 42, 180, 1, 72, 172, 42, 180, 0, 178, 172, 42, 4, 182, 1, 57, 172]
abbrev dktX4_count_3 : List UInt8 := dkwX4_count_3 ++ []
def dkwX4_count_2 : List UInt8 := [42, 180, 0, 65, 3, 46, 172, 42, 182, 1, 75, 172, 42, 180, 0, 54, 172, 42, 180, 1, 66, 172, 42]
abbrev dktX4_count_2 : List UInt8 := dkwX4_count_2 ++ dktX4_count_3
def dkwX4_count_1 : List UInt8 := [170, 0, 0, 0, 0, 79, 0, 0, 0, 0, 0, 0, 0, 6, 0, 0, 0, 42, 0, 0, 0, 49, 0, 0, 0, 54, 0, 0, 0, 59, 0, 0, 0, 64, 0, 0, 0, 69, 0, 0, 0, 74]
abbrev dktX4_count_1 : List UInt8 := dkwX4_count_1 ++ dktX4_count_2
def dkwX4_count_0 : List UInt8 := [42, 3, 181, 0, 175, 27]
abbrev dktX4_count_0 : List UInt8 := dkwX4_count_0 ++ dktX4_count_1
theorem dksX4_count_0 : cX4_count.data.toList.drop 0 = dktX4_count_0 := by decide +kernel
theorem dksX4_count_1 : cX4_count.data.toList.drop 6 = dktX4_count_1 := dk_seg dksX4_count_0 6 rfl rfl
theorem dksX4_count_2 : cX4_count.data.toList.drop 48 = dktX4_count_2 := dk_seg dksX4_count_1 42 rfl rfl
theorem dksX4_count_3 : cX4_count.data.toList.drop 71 = dktX4_count_3 := dk_seg dksX4_count_2 23 rfl rfl
theorem dX4_count_0 : decode cX4_count 0 = .ok (.aload_n 0, 1) := dk_42 (dk_at dksX4_count_0 0 rfl rfl)
theorem dX4_count_1 : decode cX4_count 1 = .ok (.iconst 0, 1) := dk_3 (dk_at dksX4_count_0 1 rfl rfl)
theorem dX4_count_2 : decode cX4_count 2 = .ok (.putfield 175, 3) := dk_181 0 175 (dk_at dksX4_count_0 2 rfl rfl)
theorem dX4_count_5 : decode cX4_count 5 = .ok (.iload_n 1, 1) := dk_27 (dk_at dksX4_count_0 5 rfl rfl)
theorem dX4_count_6 : decode cX4_count 6 = .ok (.tableswitch 79 0 6 #[42, 49, 54, 59, 64, 69, 74], 42) := by decide +kernel
theorem dX4_count_48 : decode cX4_count 48 = .ok (.aload_n 0, 1) := dk_42 (dk_at dksX4_count_2 0 rfl rfl)
theorem dX4_count_49 : decode cX4_count 49 = .ok (.getfield 65, 3) := dk_180 0 65 (dk_at dksX4_count_2 1 rfl rfl)
theorem dX4_count_52 : decode cX4_count 52 = .ok (.iconst 0, 1) := dk_3 (dk_at dksX4_count_2 4 rfl rfl)
theorem dX4_count_53 : decode cX4_count 53 = .ok (.iaload, 1) := dk_46 (dk_at dksX4_count_2 5 rfl rfl)
theorem dX4_count_54 : decode cX4_count 54 = .ok (.ireturn, 1) := dk_172 (dk_at dksX4_count_2 6 rfl rfl)
theorem dX4_count_55 : decode cX4_count 55 = .ok (.aload_n 0, 1) := dk_42 (dk_at dksX4_count_2 7 rfl rfl)
theorem dX4_count_56 : decode cX4_count 56 = .ok (.invokevirtual 331, 3) := dk_182 1 75 (dk_at dksX4_count_2 8 rfl rfl)
theorem dX4_count_59 : decode cX4_count 59 = .ok (.ireturn, 1) := dk_172 (dk_at dksX4_count_2 11 rfl rfl)
theorem dX4_count_60 : decode cX4_count 60 = .ok (.aload_n 0, 1) := dk_42 (dk_at dksX4_count_2 12 rfl rfl)
theorem dX4_count_61 : decode cX4_count 61 = .ok (.getfield 54, 3) := dk_180 0 54 (dk_at dksX4_count_2 13 rfl rfl)
theorem dX4_count_64 : decode cX4_count 64 = .ok (.ireturn, 1) := dk_172 (dk_at dksX4_count_2 16 rfl rfl)
theorem dX4_count_65 : decode cX4_count 65 = .ok (.aload_n 0, 1) := dk_42 (dk_at dksX4_count_2 17 rfl rfl)
theorem dX4_count_66 : decode cX4_count 66 = .ok (.getfield 322, 3) := dk_180 1 66 (dk_at dksX4_count_2 18 rfl rfl)
theorem dX4_count_69 : decode cX4_count 69 = .ok (.ireturn, 1) := dk_172 (dk_at dksX4_count_2 21 rfl rfl)
theorem dX4_count_70 : decode cX4_count 70 = .ok (.aload_n 0, 1) := dk_42 (dk_at dksX4_count_2 22 rfl rfl)
theorem dX4_count_71 : decode cX4_count 71 = .ok (.getfield 325, 3) := dk_180 1 69 (dk_at dksX4_count_3 0 rfl rfl)
theorem dX4_count_74 : decode cX4_count 74 = .ok (.ireturn, 1) := dk_172 (dk_at dksX4_count_3 3 rfl rfl)
theorem dX4_count_75 : decode cX4_count 75 = .ok (.aload_n 0, 1) := dk_42 (dk_at dksX4_count_3 4 rfl rfl)
theorem dX4_count_76 : decode cX4_count 76 = .ok (.getfield 328, 3) := dk_180 1 72 (dk_at dksX4_count_3 5 rfl rfl)
theorem dX4_count_79 : decode cX4_count 79 = .ok (.ireturn, 1) := dk_172 (dk_at dksX4_count_3 8 rfl rfl)
theorem dX4_count_80 : decode cX4_count 80 = .ok (.aload_n 0, 1) := dk_42 (dk_at dksX4_count_3 9 rfl rfl)
theorem dX4_count_81 : decode cX4_count 81 = .ok (.getfield 178, 3) := dk_180 0 178 (dk_at dksX4_count_3 10 rfl rfl)
theorem dX4_count_84 : decode cX4_count 84 = .ok (.ireturn, 1) := dk_172 (dk_at dksX4_count_3 13 rfl rfl)
theorem dX4_count_85 : decode cX4_count 85 = .ok (.aload_n 0, 1) := dk_42 (dk_at dksX4_count_3 14 rfl rfl)
theorem dX4_count_86 : decode cX4_count 86 = .ok (.iconst 1, 1) := dk_4 (dk_at dksX4_count_3 15 rfl rfl)
theorem dX4_count_87 : decode cX4_count 87 = .ok (.invokevirtual 313, 3) := dk_182 1 57 (dk_at dksX4_count_3 16 rfl rfl)
theorem dX4_count_90 : decode cX4_count 90 = .ok (.ireturn, 1) := dk_172 (dk_at dksX4_count_3 19 rfl rfl)
abbrev cX4_anySteps : ByteArray := prog_21_method_31_code
def yX4_anySteps : MethodName := ⟨RX4, "anySteps", "()I"⟩
def dkwX4_anySteps_1 : List UInt8 := [160, 0, 7, 4, 167, 0, 4, 3, 96, 60, 132, 2, 1, 167, 255, 225, 27, 172]
abbrev dktX4_anySteps_1 : List UInt8 := dkwX4_anySteps_1 ++ []
def dkwX4_anySteps_0 : List UInt8 := [3, 60, 3, 61, 28, 42, 180, 0, 65, 3, 46, 162, 0, 27, 27, 42, 180, 0, 71, 28, 46, 7]
abbrev dktX4_anySteps_0 : List UInt8 := dkwX4_anySteps_0 ++ dktX4_anySteps_1
theorem dksX4_anySteps_0 : cX4_anySteps.data.toList.drop 0 = dktX4_anySteps_0 := by decide +kernel
theorem dksX4_anySteps_1 : cX4_anySteps.data.toList.drop 22 = dktX4_anySteps_1 := dk_seg dksX4_anySteps_0 22 rfl rfl
theorem dX4_anySteps_0 : decode cX4_anySteps 0 = .ok (.iconst 0, 1) := dk_3 (dk_at dksX4_anySteps_0 0 rfl rfl)
theorem dX4_anySteps_1 : decode cX4_anySteps 1 = .ok (.istore_n 1, 1) := dk_60 (dk_at dksX4_anySteps_0 1 rfl rfl)
theorem dX4_anySteps_2 : decode cX4_anySteps 2 = .ok (.iconst 0, 1) := dk_3 (dk_at dksX4_anySteps_0 2 rfl rfl)
theorem dX4_anySteps_3 : decode cX4_anySteps 3 = .ok (.istore_n 2, 1) := dk_61 (dk_at dksX4_anySteps_0 3 rfl rfl)
theorem dX4_anySteps_4 : decode cX4_anySteps 4 = .ok (.iload_n 2, 1) := dk_28 (dk_at dksX4_anySteps_0 4 rfl rfl)
theorem dX4_anySteps_5 : decode cX4_anySteps 5 = .ok (.aload_n 0, 1) := dk_42 (dk_at dksX4_anySteps_0 5 rfl rfl)
theorem dX4_anySteps_6 : decode cX4_anySteps 6 = .ok (.getfield 65, 3) := dk_180 0 65 (dk_at dksX4_anySteps_0 6 rfl rfl)
theorem dX4_anySteps_9 : decode cX4_anySteps 9 = .ok (.iconst 0, 1) := dk_3 (dk_at dksX4_anySteps_0 9 rfl rfl)
theorem dX4_anySteps_10 : decode cX4_anySteps 10 = .ok (.iaload, 1) := dk_46 (dk_at dksX4_anySteps_0 10 rfl rfl)
theorem dX4_anySteps_11 : decode cX4_anySteps 11 = .ok (.if_icmp .ge 27, 3) := dk_162 0 27 (dk_at dksX4_anySteps_0 11 rfl rfl)
theorem dX4_anySteps_14 : decode cX4_anySteps 14 = .ok (.iload_n 1, 1) := dk_27 (dk_at dksX4_anySteps_0 14 rfl rfl)
theorem dX4_anySteps_15 : decode cX4_anySteps 15 = .ok (.aload_n 0, 1) := dk_42 (dk_at dksX4_anySteps_0 15 rfl rfl)
theorem dX4_anySteps_16 : decode cX4_anySteps 16 = .ok (.getfield 71, 3) := dk_180 0 71 (dk_at dksX4_anySteps_0 16 rfl rfl)
theorem dX4_anySteps_19 : decode cX4_anySteps 19 = .ok (.iload_n 2, 1) := dk_28 (dk_at dksX4_anySteps_0 19 rfl rfl)
theorem dX4_anySteps_20 : decode cX4_anySteps 20 = .ok (.iaload, 1) := dk_46 (dk_at dksX4_anySteps_0 20 rfl rfl)
theorem dX4_anySteps_21 : decode cX4_anySteps 21 = .ok (.iconst 4, 1) := dk_7 (dk_at dksX4_anySteps_0 21 rfl rfl)
theorem dX4_anySteps_22 : decode cX4_anySteps 22 = .ok (.if_icmp .ne 7, 3) := dk_160 0 7 (dk_at dksX4_anySteps_1 0 rfl rfl)
theorem dX4_anySteps_25 : decode cX4_anySteps 25 = .ok (.iconst 1, 1) := dk_4 (dk_at dksX4_anySteps_1 3 rfl rfl)
theorem dX4_anySteps_26 : decode cX4_anySteps 26 = .ok (.goto 4, 3) := dk_167 0 4 (dk_at dksX4_anySteps_1 4 rfl rfl)
theorem dX4_anySteps_29 : decode cX4_anySteps 29 = .ok (.iconst 0, 1) := dk_3 (dk_at dksX4_anySteps_1 7 rfl rfl)
theorem dX4_anySteps_30 : decode cX4_anySteps 30 = .ok (.iadd, 1) := dk_96 (dk_at dksX4_anySteps_1 8 rfl rfl)
theorem dX4_anySteps_31 : decode cX4_anySteps 31 = .ok (.istore_n 1, 1) := dk_60 (dk_at dksX4_anySteps_1 9 rfl rfl)
theorem dX4_anySteps_32 : decode cX4_anySteps 32 = .ok (.iinc 2 1, 3) := dk_132 2 1 (dk_at dksX4_anySteps_1 10 rfl rfl)
theorem dX4_anySteps_35 : decode cX4_anySteps 35 = .ok (.goto (-31), 3) := dk_167 255 225 (dk_at dksX4_anySteps_1 13 rfl rfl)
theorem dX4_anySteps_38 : decode cX4_anySteps 38 = .ok (.iload_n 1, 1) := dk_27 (dk_at dksX4_anySteps_1 16 rfl rfl)
theorem dX4_anySteps_39 : decode cX4_anySteps 39 = .ok (.ireturn, 1) := dk_172 (dk_at dksX4_anySteps_1 17 rfl rfl)
abbrev cX4_step : ByteArray := prog_21_method_34_code
def yX4_step : MethodName := ⟨RX4, "step", "(I)I"⟩
def dkwX4_step_1 : List UInt8 := [182, 1, 57, 172]
abbrev dktX4_step_1 : List UInt8 := dkwX4_step_1 ++ []
def dkwX4_step_0 : List UInt8 := [42, 3, 181, 0, 175, 42, 27, 182, 1, 78, 153, 0, 12, 42, 180, 0, 71, 27, 46, 167, 0, 8, 42, 4]
abbrev dktX4_step_0 : List UInt8 := dkwX4_step_0 ++ dktX4_step_1
theorem dksX4_step_0 : cX4_step.data.toList.drop 0 = dktX4_step_0 := by decide +kernel
theorem dksX4_step_1 : cX4_step.data.toList.drop 24 = dktX4_step_1 := dk_seg dksX4_step_0 24 rfl rfl
theorem dX4_step_0 : decode cX4_step 0 = .ok (.aload_n 0, 1) := dk_42 (dk_at dksX4_step_0 0 rfl rfl)
theorem dX4_step_1 : decode cX4_step 1 = .ok (.iconst 0, 1) := dk_3 (dk_at dksX4_step_0 1 rfl rfl)
theorem dX4_step_2 : decode cX4_step 2 = .ok (.putfield 175, 3) := dk_181 0 175 (dk_at dksX4_step_0 2 rfl rfl)
theorem dX4_step_5 : decode cX4_step 5 = .ok (.aload_n 0, 1) := dk_42 (dk_at dksX4_step_0 5 rfl rfl)
theorem dX4_step_6 : decode cX4_step 6 = .ok (.iload_n 1, 1) := dk_27 (dk_at dksX4_step_0 6 rfl rfl)
theorem dX4_step_7 : decode cX4_step 7 = .ok (.invokevirtual 334, 3) := dk_182 1 78 (dk_at dksX4_step_0 7 rfl rfl)
theorem dX4_step_10 : decode cX4_step 10 = .ok (.ifCond .eq 12, 3) := dk_153 0 12 (dk_at dksX4_step_0 10 rfl rfl)
theorem dX4_step_13 : decode cX4_step 13 = .ok (.aload_n 0, 1) := dk_42 (dk_at dksX4_step_0 13 rfl rfl)
theorem dX4_step_14 : decode cX4_step 14 = .ok (.getfield 71, 3) := dk_180 0 71 (dk_at dksX4_step_0 14 rfl rfl)
theorem dX4_step_17 : decode cX4_step 17 = .ok (.iload_n 1, 1) := dk_27 (dk_at dksX4_step_0 17 rfl rfl)
theorem dX4_step_18 : decode cX4_step 18 = .ok (.iaload, 1) := dk_46 (dk_at dksX4_step_0 18 rfl rfl)
theorem dX4_step_19 : decode cX4_step 19 = .ok (.goto 8, 3) := dk_167 0 8 (dk_at dksX4_step_0 19 rfl rfl)
theorem dX4_step_22 : decode cX4_step 22 = .ok (.aload_n 0, 1) := dk_42 (dk_at dksX4_step_0 22 rfl rfl)
theorem dX4_step_23 : decode cX4_step 23 = .ok (.iconst 1, 1) := dk_4 (dk_at dksX4_step_0 23 rfl rfl)
theorem dX4_step_24 : decode cX4_step 24 = .ok (.invokevirtual 313, 3) := dk_182 1 57 (dk_at dksX4_step_1 0 rfl rfl)
theorem dX4_step_27 : decode cX4_step 27 = .ok (.ireturn, 1) := dk_172 (dk_at dksX4_step_1 3 rfl rfl)
abbrev cX4_isStep : ByteArray := prog_21_method_33_code
def yX4_isStep : MethodName := ⟨RX4, "isStep", "(I)Z"⟩
def dkwX4_isStep_0 : List UInt8 := [27, 3, 42, 180, 0, 65, 3, 46, 4, 100, 184, 1, 20, 172]
abbrev dktX4_isStep_0 : List UInt8 := dkwX4_isStep_0 ++ []
theorem dksX4_isStep_0 : cX4_isStep.data.toList.drop 0 = dktX4_isStep_0 := by decide +kernel
theorem dX4_isStep_0 : decode cX4_isStep 0 = .ok (.iload_n 1, 1) := dk_27 (dk_at dksX4_isStep_0 0 rfl rfl)
theorem dX4_isStep_1 : decode cX4_isStep 1 = .ok (.iconst 0, 1) := dk_3 (dk_at dksX4_isStep_0 1 rfl rfl)
theorem dX4_isStep_2 : decode cX4_isStep 2 = .ok (.aload_n 0, 1) := dk_42 (dk_at dksX4_isStep_0 2 rfl rfl)
theorem dX4_isStep_3 : decode cX4_isStep 3 = .ok (.getfield 65, 3) := dk_180 0 65 (dk_at dksX4_isStep_0 3 rfl rfl)
theorem dX4_isStep_6 : decode cX4_isStep 6 = .ok (.iconst 0, 1) := dk_3 (dk_at dksX4_isStep_0 6 rfl rfl)
theorem dX4_isStep_7 : decode cX4_isStep 7 = .ok (.iaload, 1) := dk_46 (dk_at dksX4_isStep_0 7 rfl rfl)
theorem dX4_isStep_8 : decode cX4_isStep 8 = .ok (.iconst 1, 1) := dk_4 (dk_at dksX4_isStep_0 8 rfl rfl)
theorem dX4_isStep_9 : decode cX4_isStep 9 = .ok (.isub, 1) := dk_100 (dk_at dksX4_isStep_0 9 rfl rfl)
theorem dX4_isStep_10 : decode cX4_isStep 10 = .ok (.invokestatic 276, 3) := dk_184 1 20 (dk_at dksX4_isStep_0 10 rfl rfl)
theorem dX4_isStep_13 : decode cX4_isStep 13 = .ok (.ireturn, 1) := dk_172 (dk_at dksX4_isStep_0 13 rfl rfl)
abbrev cX4_reached : ByteArray := prog_21_method_74_code
def yX4_reached : MethodName := ⟨RX4, "reached", "()I"⟩
def dkwX4_reached_0 : List UInt8 := [42, 3, 181, 0, 175, 42, 182, 1, 227, 153, 0, 10, 42, 180, 1, 224, 167, 0, 4, 2, 172]
abbrev dktX4_reached_0 : List UInt8 := dkwX4_reached_0 ++ []
theorem dksX4_reached_0 : cX4_reached.data.toList.drop 0 = dktX4_reached_0 := by decide +kernel
theorem dX4_reached_0 : decode cX4_reached 0 = .ok (.aload_n 0, 1) := dk_42 (dk_at dksX4_reached_0 0 rfl rfl)
theorem dX4_reached_1 : decode cX4_reached 1 = .ok (.iconst 0, 1) := dk_3 (dk_at dksX4_reached_0 1 rfl rfl)
theorem dX4_reached_2 : decode cX4_reached 2 = .ok (.putfield 175, 3) := dk_181 0 175 (dk_at dksX4_reached_0 2 rfl rfl)
theorem dX4_reached_5 : decode cX4_reached 5 = .ok (.aload_n 0, 1) := dk_42 (dk_at dksX4_reached_0 5 rfl rfl)
theorem dX4_reached_6 : decode cX4_reached 6 = .ok (.invokevirtual 483, 3) := dk_182 1 227 (dk_at dksX4_reached_0 6 rfl rfl)
theorem dX4_reached_9 : decode cX4_reached 9 = .ok (.ifCond .eq 10, 3) := dk_153 0 10 (dk_at dksX4_reached_0 9 rfl rfl)
theorem dX4_reached_12 : decode cX4_reached 12 = .ok (.aload_n 0, 1) := dk_42 (dk_at dksX4_reached_0 12 rfl rfl)
theorem dX4_reached_13 : decode cX4_reached 13 = .ok (.getfield 480, 3) := dk_180 1 224 (dk_at dksX4_reached_0 13 rfl rfl)
theorem dX4_reached_16 : decode cX4_reached 16 = .ok (.goto 4, 3) := dk_167 0 4 (dk_at dksX4_reached_0 16 rfl rfl)
theorem dX4_reached_19 : decode cX4_reached 19 = .ok (.iconst (-1), 1) := dk_2 (dk_at dksX4_reached_0 19 rfl rfl)
theorem dX4_reached_20 : decode cX4_reached 20 = .ok (.ireturn, 1) := dk_172 (dk_at dksX4_reached_0 20 rfl rfl)
abbrev cX4_tell : ByteArray := prog_21_method_73_code
def yX4_tell : MethodName := ⟨RX4, "tell", "()Z"⟩
def dkwX4_tell_5 : List UInt8 := [42, 180, 1, 221, 154, 0, 7, 4, 167, 0, 4, 3, 172]
abbrev dktX4_tell_5 : List UInt8 := dkwX4_tell_5 ++ []
def dkwX4_tell_4 : List UInt8 := [17, 1, 64, 162, 0, 21, 42, 180, 0, 139, 27, 42, 180, 0, 133, 27, 46, 79, 132, 1, 1, 167, 255, 234]
abbrev dktX4_tell_4 : List UInt8 := dkwX4_tell_4 ++ dktX4_tell_5
def dkwX4_tell_3 : List UInt8 := [167, 255, 217, 42, 42, 180, 1, 184, 181, 1, 221, 42, 42, 180, 1, 178, 181, 1, 224, 3, 60, 27]
abbrev dktX4_tell_3 : List UInt8 := dkwX4_tell_3 ++ dktX4_tell_4
def dkwX4_tell_2 : List UInt8 := [180, 0, 127, 27, 51, 154, 0, 6, 167, 0, 12, 42, 27, 182, 1, 188, 42, 182, 1, 218, 132, 1, 1]
abbrev dktX4_tell_2 : List UInt8 := dkwX4_tell_2 ++ dktX4_tell_3
def dkwX4_tell_1 : List UInt8 := [42, 3, 181, 1, 207, 3, 60, 27, 42, 180, 1, 178, 162, 0, 37, 42, 180, 1, 184, 154, 0, 30, 42]
abbrev dktX4_tell_1 : List UInt8 := dkwX4_tell_1 ++ dktX4_tell_2
def dkwX4_tell_0 : List UInt8 := [42, 180, 0, 130, 42, 180, 1, 60, 159, 0, 108, 42, 42, 180, 1, 60, 181, 0, 130, 42, 182, 1, 214, 87]
abbrev dktX4_tell_0 : List UInt8 := dkwX4_tell_0 ++ dktX4_tell_1
theorem dksX4_tell_0 : cX4_tell.data.toList.drop 0 = dktX4_tell_0 := by decide +kernel
theorem dksX4_tell_1 : cX4_tell.data.toList.drop 24 = dktX4_tell_1 := dk_seg dksX4_tell_0 24 rfl rfl
theorem dksX4_tell_2 : cX4_tell.data.toList.drop 47 = dktX4_tell_2 := dk_seg dksX4_tell_1 23 rfl rfl
theorem dksX4_tell_3 : cX4_tell.data.toList.drop 70 = dktX4_tell_3 := dk_seg dksX4_tell_2 23 rfl rfl
theorem dksX4_tell_4 : cX4_tell.data.toList.drop 92 = dktX4_tell_4 := dk_seg dksX4_tell_3 22 rfl rfl
theorem dksX4_tell_5 : cX4_tell.data.toList.drop 116 = dktX4_tell_5 := dk_seg dksX4_tell_4 24 rfl rfl
theorem dX4_tell_0 : decode cX4_tell 0 = .ok (.aload_n 0, 1) := dk_42 (dk_at dksX4_tell_0 0 rfl rfl)
theorem dX4_tell_1 : decode cX4_tell 1 = .ok (.getfield 130, 3) := dk_180 0 130 (dk_at dksX4_tell_0 1 rfl rfl)
theorem dX4_tell_4 : decode cX4_tell 4 = .ok (.aload_n 0, 1) := dk_42 (dk_at dksX4_tell_0 4 rfl rfl)
theorem dX4_tell_5 : decode cX4_tell 5 = .ok (.getfield 316, 3) := dk_180 1 60 (dk_at dksX4_tell_0 5 rfl rfl)
theorem dX4_tell_8 : decode cX4_tell 8 = .ok (.if_icmp .eq 108, 3) := dk_159 0 108 (dk_at dksX4_tell_0 8 rfl rfl)
theorem dX4_tell_11 : decode cX4_tell 11 = .ok (.aload_n 0, 1) := dk_42 (dk_at dksX4_tell_0 11 rfl rfl)
theorem dX4_tell_12 : decode cX4_tell 12 = .ok (.aload_n 0, 1) := dk_42 (dk_at dksX4_tell_0 12 rfl rfl)
theorem dX4_tell_13 : decode cX4_tell 13 = .ok (.getfield 316, 3) := dk_180 1 60 (dk_at dksX4_tell_0 13 rfl rfl)
theorem dX4_tell_16 : decode cX4_tell 16 = .ok (.putfield 130, 3) := dk_181 0 130 (dk_at dksX4_tell_0 16 rfl rfl)
theorem dX4_tell_19 : decode cX4_tell 19 = .ok (.aload_n 0, 1) := dk_42 (dk_at dksX4_tell_0 19 rfl rfl)
theorem dX4_tell_20 : decode cX4_tell 20 = .ok (.invokevirtual 470, 3) := dk_182 1 214 (dk_at dksX4_tell_0 20 rfl rfl)
theorem dX4_tell_23 : decode cX4_tell 23 = .ok (.pop, 1) := dk_87 (dk_at dksX4_tell_0 23 rfl rfl)
theorem dX4_tell_24 : decode cX4_tell 24 = .ok (.aload_n 0, 1) := dk_42 (dk_at dksX4_tell_1 0 rfl rfl)
theorem dX4_tell_25 : decode cX4_tell 25 = .ok (.iconst 0, 1) := dk_3 (dk_at dksX4_tell_1 1 rfl rfl)
theorem dX4_tell_26 : decode cX4_tell 26 = .ok (.putfield 463, 3) := dk_181 1 207 (dk_at dksX4_tell_1 2 rfl rfl)
theorem dX4_tell_29 : decode cX4_tell 29 = .ok (.iconst 0, 1) := dk_3 (dk_at dksX4_tell_1 5 rfl rfl)
theorem dX4_tell_30 : decode cX4_tell 30 = .ok (.istore_n 1, 1) := dk_60 (dk_at dksX4_tell_1 6 rfl rfl)
theorem dX4_tell_31 : decode cX4_tell 31 = .ok (.iload_n 1, 1) := dk_27 (dk_at dksX4_tell_1 7 rfl rfl)
theorem dX4_tell_32 : decode cX4_tell 32 = .ok (.aload_n 0, 1) := dk_42 (dk_at dksX4_tell_1 8 rfl rfl)
theorem dX4_tell_33 : decode cX4_tell 33 = .ok (.getfield 434, 3) := dk_180 1 178 (dk_at dksX4_tell_1 9 rfl rfl)
theorem dX4_tell_36 : decode cX4_tell 36 = .ok (.if_icmp .ge 37, 3) := dk_162 0 37 (dk_at dksX4_tell_1 12 rfl rfl)
theorem dX4_tell_39 : decode cX4_tell 39 = .ok (.aload_n 0, 1) := dk_42 (dk_at dksX4_tell_1 15 rfl rfl)
theorem dX4_tell_40 : decode cX4_tell 40 = .ok (.getfield 440, 3) := dk_180 1 184 (dk_at dksX4_tell_1 16 rfl rfl)
theorem dX4_tell_43 : decode cX4_tell 43 = .ok (.ifCond .ne 30, 3) := dk_154 0 30 (dk_at dksX4_tell_1 19 rfl rfl)
theorem dX4_tell_46 : decode cX4_tell 46 = .ok (.aload_n 0, 1) := dk_42 (dk_at dksX4_tell_1 22 rfl rfl)
theorem dX4_tell_47 : decode cX4_tell 47 = .ok (.getfield 127, 3) := dk_180 0 127 (dk_at dksX4_tell_2 0 rfl rfl)
theorem dX4_tell_50 : decode cX4_tell 50 = .ok (.iload_n 1, 1) := dk_27 (dk_at dksX4_tell_2 3 rfl rfl)
theorem dX4_tell_51 : decode cX4_tell 51 = .ok (.baload, 1) := dk_51 (dk_at dksX4_tell_2 4 rfl rfl)
theorem dX4_tell_52 : decode cX4_tell 52 = .ok (.ifCond .ne 6, 3) := dk_154 0 6 (dk_at dksX4_tell_2 5 rfl rfl)
theorem dX4_tell_55 : decode cX4_tell 55 = .ok (.goto 12, 3) := dk_167 0 12 (dk_at dksX4_tell_2 8 rfl rfl)
theorem dX4_tell_58 : decode cX4_tell 58 = .ok (.aload_n 0, 1) := dk_42 (dk_at dksX4_tell_2 11 rfl rfl)
theorem dX4_tell_59 : decode cX4_tell 59 = .ok (.iload_n 1, 1) := dk_27 (dk_at dksX4_tell_2 12 rfl rfl)
theorem dX4_tell_60 : decode cX4_tell 60 = .ok (.invokevirtual 444, 3) := dk_182 1 188 (dk_at dksX4_tell_2 13 rfl rfl)
theorem dX4_tell_63 : decode cX4_tell 63 = .ok (.aload_n 0, 1) := dk_42 (dk_at dksX4_tell_2 16 rfl rfl)
theorem dX4_tell_64 : decode cX4_tell 64 = .ok (.invokevirtual 474, 3) := dk_182 1 218 (dk_at dksX4_tell_2 17 rfl rfl)
theorem dX4_tell_67 : decode cX4_tell 67 = .ok (.iinc 1 1, 3) := dk_132 1 1 (dk_at dksX4_tell_2 20 rfl rfl)
theorem dX4_tell_70 : decode cX4_tell 70 = .ok (.goto (-39), 3) := dk_167 255 217 (dk_at dksX4_tell_3 0 rfl rfl)
theorem dX4_tell_73 : decode cX4_tell 73 = .ok (.aload_n 0, 1) := dk_42 (dk_at dksX4_tell_3 3 rfl rfl)
theorem dX4_tell_74 : decode cX4_tell 74 = .ok (.aload_n 0, 1) := dk_42 (dk_at dksX4_tell_3 4 rfl rfl)
theorem dX4_tell_75 : decode cX4_tell 75 = .ok (.getfield 440, 3) := dk_180 1 184 (dk_at dksX4_tell_3 5 rfl rfl)
theorem dX4_tell_78 : decode cX4_tell 78 = .ok (.putfield 477, 3) := dk_181 1 221 (dk_at dksX4_tell_3 8 rfl rfl)
theorem dX4_tell_81 : decode cX4_tell 81 = .ok (.aload_n 0, 1) := dk_42 (dk_at dksX4_tell_3 11 rfl rfl)
theorem dX4_tell_82 : decode cX4_tell 82 = .ok (.aload_n 0, 1) := dk_42 (dk_at dksX4_tell_3 12 rfl rfl)
theorem dX4_tell_83 : decode cX4_tell 83 = .ok (.getfield 434, 3) := dk_180 1 178 (dk_at dksX4_tell_3 13 rfl rfl)
theorem dX4_tell_86 : decode cX4_tell 86 = .ok (.putfield 480, 3) := dk_181 1 224 (dk_at dksX4_tell_3 16 rfl rfl)
theorem dX4_tell_89 : decode cX4_tell 89 = .ok (.iconst 0, 1) := dk_3 (dk_at dksX4_tell_3 19 rfl rfl)
theorem dX4_tell_90 : decode cX4_tell 90 = .ok (.istore_n 1, 1) := dk_60 (dk_at dksX4_tell_3 20 rfl rfl)
theorem dX4_tell_91 : decode cX4_tell 91 = .ok (.iload_n 1, 1) := dk_27 (dk_at dksX4_tell_3 21 rfl rfl)
theorem dX4_tell_92 : decode cX4_tell 92 = .ok (.sipush 320, 3) := dk_17 1 64 (dk_at dksX4_tell_4 0 rfl rfl)
theorem dX4_tell_95 : decode cX4_tell 95 = .ok (.if_icmp .ge 21, 3) := dk_162 0 21 (dk_at dksX4_tell_4 3 rfl rfl)
theorem dX4_tell_98 : decode cX4_tell 98 = .ok (.aload_n 0, 1) := dk_42 (dk_at dksX4_tell_4 6 rfl rfl)
theorem dX4_tell_99 : decode cX4_tell 99 = .ok (.getfield 139, 3) := dk_180 0 139 (dk_at dksX4_tell_4 7 rfl rfl)
theorem dX4_tell_102 : decode cX4_tell 102 = .ok (.iload_n 1, 1) := dk_27 (dk_at dksX4_tell_4 10 rfl rfl)
theorem dX4_tell_103 : decode cX4_tell 103 = .ok (.aload_n 0, 1) := dk_42 (dk_at dksX4_tell_4 11 rfl rfl)
theorem dX4_tell_104 : decode cX4_tell 104 = .ok (.getfield 133, 3) := dk_180 0 133 (dk_at dksX4_tell_4 12 rfl rfl)
theorem dX4_tell_107 : decode cX4_tell 107 = .ok (.iload_n 1, 1) := dk_27 (dk_at dksX4_tell_4 15 rfl rfl)
theorem dX4_tell_108 : decode cX4_tell 108 = .ok (.iaload, 1) := dk_46 (dk_at dksX4_tell_4 16 rfl rfl)
theorem dX4_tell_109 : decode cX4_tell 109 = .ok (.iastore, 1) := dk_79 (dk_at dksX4_tell_4 17 rfl rfl)
theorem dX4_tell_110 : decode cX4_tell 110 = .ok (.iinc 1 1, 3) := dk_132 1 1 (dk_at dksX4_tell_4 18 rfl rfl)
theorem dX4_tell_113 : decode cX4_tell 113 = .ok (.goto (-22), 3) := dk_167 255 234 (dk_at dksX4_tell_4 21 rfl rfl)
theorem dX4_tell_116 : decode cX4_tell 116 = .ok (.aload_n 0, 1) := dk_42 (dk_at dksX4_tell_5 0 rfl rfl)
theorem dX4_tell_117 : decode cX4_tell 117 = .ok (.getfield 477, 3) := dk_180 1 221 (dk_at dksX4_tell_5 1 rfl rfl)
theorem dX4_tell_120 : decode cX4_tell 120 = .ok (.ifCond .ne 7, 3) := dk_154 0 7 (dk_at dksX4_tell_5 4 rfl rfl)
theorem dX4_tell_123 : decode cX4_tell 123 = .ok (.iconst 1, 1) := dk_4 (dk_at dksX4_tell_5 7 rfl rfl)
theorem dX4_tell_124 : decode cX4_tell 124 = .ok (.goto 4, 3) := dk_167 0 4 (dk_at dksX4_tell_5 8 rfl rfl)
theorem dX4_tell_127 : decode cX4_tell 127 = .ok (.iconst 0, 1) := dk_3 (dk_at dksX4_tell_5 11 rfl rfl)
theorem dX4_tell_128 : decode cX4_tell 128 = .ok (.ireturn, 1) := dk_172 (dk_at dksX4_tell_5 12 rfl rfl)
abbrev cX4_go : ByteArray := prog_21_method_68_code
def yX4_go : MethodName := ⟨RX4, "go", "()Z"⟩
def dkwX4_go_3 : List UInt8 := [167, 255, 233, 42, 180, 1, 184, 154, 0, 7, 4, 167, 0, 4, 3, 172]
abbrev dktX4_go_3 : List UInt8 := dkwX4_go_3 ++ []
def dkwX4_go_2 : List UInt8 := [42, 180, 1, 178, 162, 0, 21, 42, 180, 1, 184, 154, 0, 14, 42, 27, 182, 1, 202, 132, 1, 1]
abbrev dktX4_go_2 : List UInt8 := dkwX4_go_2 ++ dktX4_go_3
def dkwX4_go_1 : List UInt8 := [42, 180, 0, 133, 27, 3, 79, 132, 1, 1, 167, 255, 239, 42, 182, 1, 200, 42, 182, 1, 197, 3, 60, 27]
abbrev dktX4_go_1 : List UInt8 := dkwX4_go_1 ++ dktX4_go_2
def dkwX4_go_0 : List UInt8 := [42, 3, 181, 1, 178, 42, 3, 181, 1, 184, 42, 2, 181, 0, 105, 3, 60, 27, 17, 1, 64, 162, 0, 16]
abbrev dktX4_go_0 : List UInt8 := dkwX4_go_0 ++ dktX4_go_1
theorem dksX4_go_0 : cX4_go.data.toList.drop 0 = dktX4_go_0 := by decide +kernel
theorem dksX4_go_1 : cX4_go.data.toList.drop 24 = dktX4_go_1 := dk_seg dksX4_go_0 24 rfl rfl
theorem dksX4_go_2 : cX4_go.data.toList.drop 48 = dktX4_go_2 := dk_seg dksX4_go_1 24 rfl rfl
theorem dksX4_go_3 : cX4_go.data.toList.drop 70 = dktX4_go_3 := dk_seg dksX4_go_2 22 rfl rfl
theorem dX4_go_0 : decode cX4_go 0 = .ok (.aload_n 0, 1) := dk_42 (dk_at dksX4_go_0 0 rfl rfl)
theorem dX4_go_1 : decode cX4_go 1 = .ok (.iconst 0, 1) := dk_3 (dk_at dksX4_go_0 1 rfl rfl)
theorem dX4_go_2 : decode cX4_go 2 = .ok (.putfield 434, 3) := dk_181 1 178 (dk_at dksX4_go_0 2 rfl rfl)
theorem dX4_go_5 : decode cX4_go 5 = .ok (.aload_n 0, 1) := dk_42 (dk_at dksX4_go_0 5 rfl rfl)
theorem dX4_go_6 : decode cX4_go 6 = .ok (.iconst 0, 1) := dk_3 (dk_at dksX4_go_0 6 rfl rfl)
theorem dX4_go_7 : decode cX4_go 7 = .ok (.putfield 440, 3) := dk_181 1 184 (dk_at dksX4_go_0 7 rfl rfl)
theorem dX4_go_10 : decode cX4_go 10 = .ok (.aload_n 0, 1) := dk_42 (dk_at dksX4_go_0 10 rfl rfl)
theorem dX4_go_11 : decode cX4_go 11 = .ok (.iconst (-1), 1) := dk_2 (dk_at dksX4_go_0 11 rfl rfl)
theorem dX4_go_12 : decode cX4_go 12 = .ok (.putfield 105, 3) := dk_181 0 105 (dk_at dksX4_go_0 12 rfl rfl)
theorem dX4_go_15 : decode cX4_go 15 = .ok (.iconst 0, 1) := dk_3 (dk_at dksX4_go_0 15 rfl rfl)
theorem dX4_go_16 : decode cX4_go 16 = .ok (.istore_n 1, 1) := dk_60 (dk_at dksX4_go_0 16 rfl rfl)
theorem dX4_go_17 : decode cX4_go 17 = .ok (.iload_n 1, 1) := dk_27 (dk_at dksX4_go_0 17 rfl rfl)
theorem dX4_go_18 : decode cX4_go 18 = .ok (.sipush 320, 3) := dk_17 1 64 (dk_at dksX4_go_0 18 rfl rfl)
theorem dX4_go_21 : decode cX4_go 21 = .ok (.if_icmp .ge 16, 3) := dk_162 0 16 (dk_at dksX4_go_0 21 rfl rfl)
theorem dX4_go_24 : decode cX4_go 24 = .ok (.aload_n 0, 1) := dk_42 (dk_at dksX4_go_1 0 rfl rfl)
theorem dX4_go_25 : decode cX4_go 25 = .ok (.getfield 133, 3) := dk_180 0 133 (dk_at dksX4_go_1 1 rfl rfl)
theorem dX4_go_28 : decode cX4_go 28 = .ok (.iload_n 1, 1) := dk_27 (dk_at dksX4_go_1 4 rfl rfl)
theorem dX4_go_29 : decode cX4_go 29 = .ok (.iconst 0, 1) := dk_3 (dk_at dksX4_go_1 5 rfl rfl)
theorem dX4_go_30 : decode cX4_go 30 = .ok (.iastore, 1) := dk_79 (dk_at dksX4_go_1 6 rfl rfl)
theorem dX4_go_31 : decode cX4_go 31 = .ok (.iinc 1 1, 3) := dk_132 1 1 (dk_at dksX4_go_1 7 rfl rfl)
theorem dX4_go_34 : decode cX4_go 34 = .ok (.goto (-17), 3) := dk_167 255 239 (dk_at dksX4_go_1 10 rfl rfl)
theorem dX4_go_37 : decode cX4_go 37 = .ok (.aload_n 0, 1) := dk_42 (dk_at dksX4_go_1 13 rfl rfl)
theorem dX4_go_38 : decode cX4_go 38 = .ok (.invokevirtual 456, 3) := dk_182 1 200 (dk_at dksX4_go_1 14 rfl rfl)
theorem dX4_go_41 : decode cX4_go 41 = .ok (.aload_n 0, 1) := dk_42 (dk_at dksX4_go_1 17 rfl rfl)
theorem dX4_go_42 : decode cX4_go 42 = .ok (.invokevirtual 453, 3) := dk_182 1 197 (dk_at dksX4_go_1 18 rfl rfl)
theorem dX4_go_45 : decode cX4_go 45 = .ok (.iconst 0, 1) := dk_3 (dk_at dksX4_go_1 21 rfl rfl)
theorem dX4_go_46 : decode cX4_go 46 = .ok (.istore_n 1, 1) := dk_60 (dk_at dksX4_go_1 22 rfl rfl)
theorem dX4_go_47 : decode cX4_go 47 = .ok (.iload_n 1, 1) := dk_27 (dk_at dksX4_go_1 23 rfl rfl)
theorem dX4_go_48 : decode cX4_go 48 = .ok (.aload_n 0, 1) := dk_42 (dk_at dksX4_go_2 0 rfl rfl)
theorem dX4_go_49 : decode cX4_go 49 = .ok (.getfield 434, 3) := dk_180 1 178 (dk_at dksX4_go_2 1 rfl rfl)
theorem dX4_go_52 : decode cX4_go 52 = .ok (.if_icmp .ge 21, 3) := dk_162 0 21 (dk_at dksX4_go_2 4 rfl rfl)
theorem dX4_go_55 : decode cX4_go 55 = .ok (.aload_n 0, 1) := dk_42 (dk_at dksX4_go_2 7 rfl rfl)
theorem dX4_go_56 : decode cX4_go 56 = .ok (.getfield 440, 3) := dk_180 1 184 (dk_at dksX4_go_2 8 rfl rfl)
theorem dX4_go_59 : decode cX4_go 59 = .ok (.ifCond .ne 14, 3) := dk_154 0 14 (dk_at dksX4_go_2 11 rfl rfl)
theorem dX4_go_62 : decode cX4_go 62 = .ok (.aload_n 0, 1) := dk_42 (dk_at dksX4_go_2 14 rfl rfl)
theorem dX4_go_63 : decode cX4_go 63 = .ok (.iload_n 1, 1) := dk_27 (dk_at dksX4_go_2 15 rfl rfl)
theorem dX4_go_64 : decode cX4_go 64 = .ok (.invokevirtual 458, 3) := dk_182 1 202 (dk_at dksX4_go_2 16 rfl rfl)
theorem dX4_go_67 : decode cX4_go 67 = .ok (.iinc 1 1, 3) := dk_132 1 1 (dk_at dksX4_go_2 19 rfl rfl)
theorem dX4_go_70 : decode cX4_go 70 = .ok (.goto (-23), 3) := dk_167 255 233 (dk_at dksX4_go_3 0 rfl rfl)
theorem dX4_go_73 : decode cX4_go 73 = .ok (.aload_n 0, 1) := dk_42 (dk_at dksX4_go_3 3 rfl rfl)
theorem dX4_go_74 : decode cX4_go 74 = .ok (.getfield 440, 3) := dk_180 1 184 (dk_at dksX4_go_3 4 rfl rfl)
theorem dX4_go_77 : decode cX4_go 77 = .ok (.ifCond .ne 7, 3) := dk_154 0 7 (dk_at dksX4_go_3 7 rfl rfl)
theorem dX4_go_80 : decode cX4_go 80 = .ok (.iconst 1, 1) := dk_4 (dk_at dksX4_go_3 10 rfl rfl)
theorem dX4_go_81 : decode cX4_go 81 = .ok (.goto 4, 3) := dk_167 0 4 (dk_at dksX4_go_3 11 rfl rfl)
theorem dX4_go_84 : decode cX4_go 84 = .ok (.iconst 0, 1) := dk_3 (dk_at dksX4_go_3 14 rfl rfl)
theorem dX4_go_85 : decode cX4_go 85 = .ok (.ireturn, 1) := dk_172 (dk_at dksX4_go_3 15 rfl rfl)
abbrev cX4_begin : ByteArray := prog_21_method_46_code
def yX4_begin : MethodName := ⟨RX4, "begin", "()V"⟩
def dkwX4_begin_2 : List UInt8 := [182, 1, 104, 132, 1, 1, 167, 255, 226, 177]
abbrev dktX4_begin_2 : List UInt8 := dkwX4_begin_2 ++ []
def dkwX4_begin_1 : List UInt8 := [27, 42, 180, 0, 54, 162, 0, 28, 42, 27, 42, 180, 0, 65, 3, 46, 154, 0, 7, 2, 167, 0, 4, 3]
abbrev dktX4_begin_1 : List UInt8 := dkwX4_begin_1 ++ dktX4_begin_2
def dkwX4_begin_0 : List UInt8 := [3, 60, 27, 17, 7, 193, 162, 0, 16, 42, 180, 0, 99, 27, 3, 79, 132, 1, 1, 167, 255, 239, 3, 60]
abbrev dktX4_begin_0 : List UInt8 := dkwX4_begin_0 ++ dktX4_begin_1
theorem dksX4_begin_0 : cX4_begin.data.toList.drop 0 = dktX4_begin_0 := by decide +kernel
theorem dksX4_begin_1 : cX4_begin.data.toList.drop 24 = dktX4_begin_1 := dk_seg dksX4_begin_0 24 rfl rfl
theorem dksX4_begin_2 : cX4_begin.data.toList.drop 48 = dktX4_begin_2 := dk_seg dksX4_begin_1 24 rfl rfl
theorem dX4_begin_0 : decode cX4_begin 0 = .ok (.iconst 0, 1) := dk_3 (dk_at dksX4_begin_0 0 rfl rfl)
theorem dX4_begin_1 : decode cX4_begin 1 = .ok (.istore_n 1, 1) := dk_60 (dk_at dksX4_begin_0 1 rfl rfl)
theorem dX4_begin_2 : decode cX4_begin 2 = .ok (.iload_n 1, 1) := dk_27 (dk_at dksX4_begin_0 2 rfl rfl)
theorem dX4_begin_3 : decode cX4_begin 3 = .ok (.sipush 1985, 3) := dk_17 7 193 (dk_at dksX4_begin_0 3 rfl rfl)
theorem dX4_begin_6 : decode cX4_begin 6 = .ok (.if_icmp .ge 16, 3) := dk_162 0 16 (dk_at dksX4_begin_0 6 rfl rfl)
theorem dX4_begin_9 : decode cX4_begin 9 = .ok (.aload_n 0, 1) := dk_42 (dk_at dksX4_begin_0 9 rfl rfl)
theorem dX4_begin_10 : decode cX4_begin 10 = .ok (.getfield 99, 3) := dk_180 0 99 (dk_at dksX4_begin_0 10 rfl rfl)
theorem dX4_begin_13 : decode cX4_begin 13 = .ok (.iload_n 1, 1) := dk_27 (dk_at dksX4_begin_0 13 rfl rfl)
theorem dX4_begin_14 : decode cX4_begin 14 = .ok (.iconst 0, 1) := dk_3 (dk_at dksX4_begin_0 14 rfl rfl)
theorem dX4_begin_15 : decode cX4_begin 15 = .ok (.iastore, 1) := dk_79 (dk_at dksX4_begin_0 15 rfl rfl)
theorem dX4_begin_16 : decode cX4_begin 16 = .ok (.iinc 1 1, 3) := dk_132 1 1 (dk_at dksX4_begin_0 16 rfl rfl)
theorem dX4_begin_19 : decode cX4_begin 19 = .ok (.goto (-17), 3) := dk_167 255 239 (dk_at dksX4_begin_0 19 rfl rfl)
theorem dX4_begin_22 : decode cX4_begin 22 = .ok (.iconst 0, 1) := dk_3 (dk_at dksX4_begin_0 22 rfl rfl)
theorem dX4_begin_23 : decode cX4_begin 23 = .ok (.istore_n 1, 1) := dk_60 (dk_at dksX4_begin_0 23 rfl rfl)
theorem dX4_begin_24 : decode cX4_begin 24 = .ok (.iload_n 1, 1) := dk_27 (dk_at dksX4_begin_1 0 rfl rfl)
theorem dX4_begin_25 : decode cX4_begin 25 = .ok (.aload_n 0, 1) := dk_42 (dk_at dksX4_begin_1 1 rfl rfl)
theorem dX4_begin_26 : decode cX4_begin 26 = .ok (.getfield 54, 3) := dk_180 0 54 (dk_at dksX4_begin_1 2 rfl rfl)
theorem dX4_begin_29 : decode cX4_begin 29 = .ok (.if_icmp .ge 28, 3) := dk_162 0 28 (dk_at dksX4_begin_1 5 rfl rfl)
theorem dX4_begin_32 : decode cX4_begin 32 = .ok (.aload_n 0, 1) := dk_42 (dk_at dksX4_begin_1 8 rfl rfl)
theorem dX4_begin_33 : decode cX4_begin 33 = .ok (.iload_n 1, 1) := dk_27 (dk_at dksX4_begin_1 9 rfl rfl)
theorem dX4_begin_34 : decode cX4_begin 34 = .ok (.aload_n 0, 1) := dk_42 (dk_at dksX4_begin_1 10 rfl rfl)
theorem dX4_begin_35 : decode cX4_begin 35 = .ok (.getfield 65, 3) := dk_180 0 65 (dk_at dksX4_begin_1 11 rfl rfl)
theorem dX4_begin_38 : decode cX4_begin 38 = .ok (.iconst 0, 1) := dk_3 (dk_at dksX4_begin_1 14 rfl rfl)
theorem dX4_begin_39 : decode cX4_begin 39 = .ok (.iaload, 1) := dk_46 (dk_at dksX4_begin_1 15 rfl rfl)
theorem dX4_begin_40 : decode cX4_begin 40 = .ok (.ifCond .ne 7, 3) := dk_154 0 7 (dk_at dksX4_begin_1 16 rfl rfl)
theorem dX4_begin_43 : decode cX4_begin 43 = .ok (.iconst (-1), 1) := dk_2 (dk_at dksX4_begin_1 19 rfl rfl)
theorem dX4_begin_44 : decode cX4_begin 44 = .ok (.goto 4, 3) := dk_167 0 4 (dk_at dksX4_begin_1 20 rfl rfl)
theorem dX4_begin_47 : decode cX4_begin 47 = .ok (.iconst 0, 1) := dk_3 (dk_at dksX4_begin_1 23 rfl rfl)
theorem dX4_begin_48 : decode cX4_begin 48 = .ok (.invokevirtual 360, 3) := dk_182 1 104 (dk_at dksX4_begin_2 0 rfl rfl)
theorem dX4_begin_51 : decode cX4_begin 51 = .ok (.iinc 1 1, 3) := dk_132 1 1 (dk_at dksX4_begin_2 3 rfl rfl)
theorem dX4_begin_54 : decode cX4_begin 54 = .ok (.goto (-30), 3) := dk_167 255 226 (dk_at dksX4_begin_2 6 rfl rfl)
theorem dX4_begin_57 : decode cX4_begin 57 = .ok (.return_, 1) := dk_177 (dk_at dksX4_begin_2 9 rfl rfl)
abbrev cX4_come : ByteArray := prog_21_method_44_code
def yX4_come : MethodName := ⟨RX4, "come", "(II)V"⟩
def dkwX4_come_9 : List UInt8 := [154, 0, 10, 42, 27, 4, 4, 182, 1, 94, 177]
abbrev dktX4_come_9 : List UInt8 := dkwX4_come_9 ++ []
def dkwX4_come_8 : List UInt8 := [62, 167, 255, 72, 29, 2, 159, 0, 28, 42, 180, 0, 71, 29, 46, 6, 163, 0, 18, 42, 27, 182, 1, 101]
abbrev dktX4_come_8 : List UInt8 := dkwX4_come_8 ++ dktX4_come_9
def dkwX4_come_7 : List UInt8 := [180, 0, 92, 29, 46, 54, 7, 21, 7, 2, 160, 0, 8, 21, 5, 167, 0, 5, 21, 7, 54, 5, 21, 5]
abbrev dktX4_come_7 : List UInt8 := dkwX4_come_7 ++ dktX4_come_8
def dkwX4_come_6 : List UInt8 := [29, 46, 16, 10, 160, 0, 40, 21, 6, 153, 0, 12, 42, 180, 0, 89, 29, 46, 167, 0, 9, 42]
abbrev dktX4_come_6 : List UInt8 := dkwX4_come_6 ++ dktX4_come_7
def dkwX4_come_5 : List UInt8 := [42, 27, 16, 7, 16, 31, 42, 27, 16, 7, 182, 1, 81, 104, 21, 6, 96, 182, 1, 94, 42, 180, 0, 71]
abbrev dktX4_come_5 : List UInt8 := dkwX4_come_5 ++ dktX4_come_6
def dkwX4_come_4 : List UInt8 := [5, 42, 180, 0, 80, 29, 46, 96, 21, 6, 182, 1, 94, 42, 180, 0, 71, 29, 46, 16, 9, 160, 0, 23]
abbrev dktX4_come_4 : List UInt8 := dkwX4_come_4 ++ dktX4_come_5
def dkwX4_come_3 : List UInt8 := [154, 0, 116, 42, 27, 3, 182, 1, 91, 54, 6, 42, 180, 0, 71, 29, 46, 16, 8, 160, 0, 18, 42, 27]
abbrev dktX4_come_3 : List UInt8 := dkwX4_come_3 ++ dktX4_come_4
def dkwX4_come_2 : List UInt8 := [54, 4, 21, 4, 154, 0, 6, 167, 255, 207, 42, 29, 182, 1, 98, 54, 5, 42, 180, 0, 95, 29, 51]
abbrev dktX4_come_2 : List UInt8 := dkwX4_come_2 ++ dktX4_come_3
def dkwX4_come_1 : List UInt8 := [180, 0, 95, 29, 51, 154, 0, 14, 42, 180, 0, 71, 29, 46, 16, 8, 161, 0, 7, 4, 167, 0, 4, 3]
abbrev dktX4_come_1 : List UInt8 := dkwX4_come_1 ++ dktX4_come_2
def dkwX4_come_0 : List UInt8 := [28, 62, 4, 54, 4, 21, 4, 153, 0, 185, 42, 27, 3, 29, 182, 1, 94, 29, 2, 159, 0, 27, 42]
abbrev dktX4_come_0 : List UInt8 := dkwX4_come_0 ++ dktX4_come_1
theorem dksX4_come_0 : cX4_come.data.toList.drop 0 = dktX4_come_0 := by decide +kernel
theorem dksX4_come_1 : cX4_come.data.toList.drop 23 = dktX4_come_1 := dk_seg dksX4_come_0 23 rfl rfl
theorem dksX4_come_2 : cX4_come.data.toList.drop 47 = dktX4_come_2 := dk_seg dksX4_come_1 24 rfl rfl
theorem dksX4_come_3 : cX4_come.data.toList.drop 70 = dktX4_come_3 := dk_seg dksX4_come_2 23 rfl rfl
theorem dksX4_come_4 : cX4_come.data.toList.drop 94 = dktX4_come_4 := dk_seg dksX4_come_3 24 rfl rfl
theorem dksX4_come_5 : cX4_come.data.toList.drop 118 = dktX4_come_5 := dk_seg dksX4_come_4 24 rfl rfl
theorem dksX4_come_6 : cX4_come.data.toList.drop 142 = dktX4_come_6 := dk_seg dksX4_come_5 24 rfl rfl
theorem dksX4_come_7 : cX4_come.data.toList.drop 164 = dktX4_come_7 := dk_seg dksX4_come_6 22 rfl rfl
theorem dksX4_come_8 : cX4_come.data.toList.drop 188 = dktX4_come_8 := dk_seg dksX4_come_7 24 rfl rfl
theorem dksX4_come_9 : cX4_come.data.toList.drop 212 = dktX4_come_9 := dk_seg dksX4_come_8 24 rfl rfl
theorem dX4_come_0 : decode cX4_come 0 = .ok (.iload_n 2, 1) := dk_28 (dk_at dksX4_come_0 0 rfl rfl)
theorem dX4_come_1 : decode cX4_come 1 = .ok (.istore_n 3, 1) := dk_62 (dk_at dksX4_come_0 1 rfl rfl)
theorem dX4_come_2 : decode cX4_come 2 = .ok (.iconst 1, 1) := dk_4 (dk_at dksX4_come_0 2 rfl rfl)
theorem dX4_come_3 : decode cX4_come 3 = .ok (.istore 4, 2) := dk_54 4 (dk_at dksX4_come_0 3 rfl rfl)
theorem dX4_come_5 : decode cX4_come 5 = .ok (.iload 4, 2) := dk_21 4 (dk_at dksX4_come_0 5 rfl rfl)
theorem dX4_come_7 : decode cX4_come 7 = .ok (.ifCond .eq 185, 3) := dk_153 0 185 (dk_at dksX4_come_0 7 rfl rfl)
theorem dX4_come_10 : decode cX4_come 10 = .ok (.aload_n 0, 1) := dk_42 (dk_at dksX4_come_0 10 rfl rfl)
theorem dX4_come_11 : decode cX4_come 11 = .ok (.iload_n 1, 1) := dk_27 (dk_at dksX4_come_0 11 rfl rfl)
theorem dX4_come_12 : decode cX4_come 12 = .ok (.iconst 0, 1) := dk_3 (dk_at dksX4_come_0 12 rfl rfl)
theorem dX4_come_13 : decode cX4_come 13 = .ok (.iload_n 3, 1) := dk_29 (dk_at dksX4_come_0 13 rfl rfl)
theorem dX4_come_14 : decode cX4_come 14 = .ok (.invokevirtual 350, 3) := dk_182 1 94 (dk_at dksX4_come_0 14 rfl rfl)
theorem dX4_come_17 : decode cX4_come 17 = .ok (.iload_n 3, 1) := dk_29 (dk_at dksX4_come_0 17 rfl rfl)
theorem dX4_come_18 : decode cX4_come 18 = .ok (.iconst (-1), 1) := dk_2 (dk_at dksX4_come_0 18 rfl rfl)
theorem dX4_come_19 : decode cX4_come 19 = .ok (.if_icmp .eq 27, 3) := dk_159 0 27 (dk_at dksX4_come_0 19 rfl rfl)
theorem dX4_come_22 : decode cX4_come 22 = .ok (.aload_n 0, 1) := dk_42 (dk_at dksX4_come_0 22 rfl rfl)
theorem dX4_come_23 : decode cX4_come 23 = .ok (.getfield 95, 3) := dk_180 0 95 (dk_at dksX4_come_1 0 rfl rfl)
theorem dX4_come_26 : decode cX4_come 26 = .ok (.iload_n 3, 1) := dk_29 (dk_at dksX4_come_1 3 rfl rfl)
theorem dX4_come_27 : decode cX4_come 27 = .ok (.baload, 1) := dk_51 (dk_at dksX4_come_1 4 rfl rfl)
theorem dX4_come_28 : decode cX4_come 28 = .ok (.ifCond .ne 14, 3) := dk_154 0 14 (dk_at dksX4_come_1 5 rfl rfl)
theorem dX4_come_31 : decode cX4_come 31 = .ok (.aload_n 0, 1) := dk_42 (dk_at dksX4_come_1 8 rfl rfl)
theorem dX4_come_32 : decode cX4_come 32 = .ok (.getfield 71, 3) := dk_180 0 71 (dk_at dksX4_come_1 9 rfl rfl)
theorem dX4_come_35 : decode cX4_come 35 = .ok (.iload_n 3, 1) := dk_29 (dk_at dksX4_come_1 12 rfl rfl)
theorem dX4_come_36 : decode cX4_come 36 = .ok (.iaload, 1) := dk_46 (dk_at dksX4_come_1 13 rfl rfl)
theorem dX4_come_37 : decode cX4_come 37 = .ok (.bipush 8, 2) := dk_16 8 (dk_at dksX4_come_1 14 rfl rfl)
theorem dX4_come_39 : decode cX4_come 39 = .ok (.if_icmp .lt 7, 3) := dk_161 0 7 (dk_at dksX4_come_1 16 rfl rfl)
theorem dX4_come_42 : decode cX4_come 42 = .ok (.iconst 1, 1) := dk_4 (dk_at dksX4_come_1 19 rfl rfl)
theorem dX4_come_43 : decode cX4_come 43 = .ok (.goto 4, 3) := dk_167 0 4 (dk_at dksX4_come_1 20 rfl rfl)
theorem dX4_come_46 : decode cX4_come 46 = .ok (.iconst 0, 1) := dk_3 (dk_at dksX4_come_1 23 rfl rfl)
theorem dX4_come_47 : decode cX4_come 47 = .ok (.istore 4, 2) := dk_54 4 (dk_at dksX4_come_2 0 rfl rfl)
theorem dX4_come_49 : decode cX4_come 49 = .ok (.iload 4, 2) := dk_21 4 (dk_at dksX4_come_2 2 rfl rfl)
theorem dX4_come_51 : decode cX4_come 51 = .ok (.ifCond .ne 6, 3) := dk_154 0 6 (dk_at dksX4_come_2 4 rfl rfl)
theorem dX4_come_54 : decode cX4_come 54 = .ok (.goto (-49), 3) := dk_167 255 207 (dk_at dksX4_come_2 7 rfl rfl)
theorem dX4_come_57 : decode cX4_come 57 = .ok (.aload_n 0, 1) := dk_42 (dk_at dksX4_come_2 10 rfl rfl)
theorem dX4_come_58 : decode cX4_come 58 = .ok (.iload_n 3, 1) := dk_29 (dk_at dksX4_come_2 11 rfl rfl)
theorem dX4_come_59 : decode cX4_come 59 = .ok (.invokevirtual 354, 3) := dk_182 1 98 (dk_at dksX4_come_2 12 rfl rfl)
theorem dX4_come_62 : decode cX4_come 62 = .ok (.istore 5, 2) := dk_54 5 (dk_at dksX4_come_2 15 rfl rfl)
theorem dX4_come_64 : decode cX4_come 64 = .ok (.aload_n 0, 1) := dk_42 (dk_at dksX4_come_2 17 rfl rfl)
theorem dX4_come_65 : decode cX4_come 65 = .ok (.getfield 95, 3) := dk_180 0 95 (dk_at dksX4_come_2 18 rfl rfl)
theorem dX4_come_68 : decode cX4_come 68 = .ok (.iload_n 3, 1) := dk_29 (dk_at dksX4_come_2 21 rfl rfl)
theorem dX4_come_69 : decode cX4_come 69 = .ok (.baload, 1) := dk_51 (dk_at dksX4_come_2 22 rfl rfl)
theorem dX4_come_70 : decode cX4_come 70 = .ok (.ifCond .ne 116, 3) := dk_154 0 116 (dk_at dksX4_come_3 0 rfl rfl)
theorem dX4_come_73 : decode cX4_come 73 = .ok (.aload_n 0, 1) := dk_42 (dk_at dksX4_come_3 3 rfl rfl)
theorem dX4_come_74 : decode cX4_come 74 = .ok (.iload_n 1, 1) := dk_27 (dk_at dksX4_come_3 4 rfl rfl)
theorem dX4_come_75 : decode cX4_come 75 = .ok (.iconst 0, 1) := dk_3 (dk_at dksX4_come_3 5 rfl rfl)
theorem dX4_come_76 : decode cX4_come 76 = .ok (.invokevirtual 347, 3) := dk_182 1 91 (dk_at dksX4_come_3 6 rfl rfl)
theorem dX4_come_79 : decode cX4_come 79 = .ok (.istore 6, 2) := dk_54 6 (dk_at dksX4_come_3 9 rfl rfl)
theorem dX4_come_81 : decode cX4_come 81 = .ok (.aload_n 0, 1) := dk_42 (dk_at dksX4_come_3 11 rfl rfl)
theorem dX4_come_82 : decode cX4_come 82 = .ok (.getfield 71, 3) := dk_180 0 71 (dk_at dksX4_come_3 12 rfl rfl)
theorem dX4_come_85 : decode cX4_come 85 = .ok (.iload_n 3, 1) := dk_29 (dk_at dksX4_come_3 15 rfl rfl)
theorem dX4_come_86 : decode cX4_come 86 = .ok (.iaload, 1) := dk_46 (dk_at dksX4_come_3 16 rfl rfl)
theorem dX4_come_87 : decode cX4_come 87 = .ok (.bipush 8, 2) := dk_16 8 (dk_at dksX4_come_3 17 rfl rfl)
theorem dX4_come_89 : decode cX4_come 89 = .ok (.if_icmp .ne 18, 3) := dk_160 0 18 (dk_at dksX4_come_3 19 rfl rfl)
theorem dX4_come_92 : decode cX4_come 92 = .ok (.aload_n 0, 1) := dk_42 (dk_at dksX4_come_3 22 rfl rfl)
theorem dX4_come_93 : decode cX4_come 93 = .ok (.iload_n 1, 1) := dk_27 (dk_at dksX4_come_3 23 rfl rfl)
theorem dX4_come_94 : decode cX4_come 94 = .ok (.iconst 2, 1) := dk_5 (dk_at dksX4_come_4 0 rfl rfl)
theorem dX4_come_95 : decode cX4_come 95 = .ok (.aload_n 0, 1) := dk_42 (dk_at dksX4_come_4 1 rfl rfl)
theorem dX4_come_96 : decode cX4_come 96 = .ok (.getfield 80, 3) := dk_180 0 80 (dk_at dksX4_come_4 2 rfl rfl)
theorem dX4_come_99 : decode cX4_come 99 = .ok (.iload_n 3, 1) := dk_29 (dk_at dksX4_come_4 5 rfl rfl)
theorem dX4_come_100 : decode cX4_come 100 = .ok (.iaload, 1) := dk_46 (dk_at dksX4_come_4 6 rfl rfl)
theorem dX4_come_101 : decode cX4_come 101 = .ok (.iadd, 1) := dk_96 (dk_at dksX4_come_4 7 rfl rfl)
theorem dX4_come_102 : decode cX4_come 102 = .ok (.iload 6, 2) := dk_21 6 (dk_at dksX4_come_4 8 rfl rfl)
theorem dX4_come_104 : decode cX4_come 104 = .ok (.invokevirtual 350, 3) := dk_182 1 94 (dk_at dksX4_come_4 10 rfl rfl)
theorem dX4_come_107 : decode cX4_come 107 = .ok (.aload_n 0, 1) := dk_42 (dk_at dksX4_come_4 13 rfl rfl)
theorem dX4_come_108 : decode cX4_come 108 = .ok (.getfield 71, 3) := dk_180 0 71 (dk_at dksX4_come_4 14 rfl rfl)
theorem dX4_come_111 : decode cX4_come 111 = .ok (.iload_n 3, 1) := dk_29 (dk_at dksX4_come_4 17 rfl rfl)
theorem dX4_come_112 : decode cX4_come 112 = .ok (.iaload, 1) := dk_46 (dk_at dksX4_come_4 18 rfl rfl)
theorem dX4_come_113 : decode cX4_come 113 = .ok (.bipush 9, 2) := dk_16 9 (dk_at dksX4_come_4 19 rfl rfl)
theorem dX4_come_115 : decode cX4_come 115 = .ok (.if_icmp .ne 23, 3) := dk_160 0 23 (dk_at dksX4_come_4 21 rfl rfl)
theorem dX4_come_118 : decode cX4_come 118 = .ok (.aload_n 0, 1) := dk_42 (dk_at dksX4_come_5 0 rfl rfl)
theorem dX4_come_119 : decode cX4_come 119 = .ok (.iload_n 1, 1) := dk_27 (dk_at dksX4_come_5 1 rfl rfl)
theorem dX4_come_120 : decode cX4_come 120 = .ok (.bipush 7, 2) := dk_16 7 (dk_at dksX4_come_5 2 rfl rfl)
theorem dX4_come_122 : decode cX4_come 122 = .ok (.bipush 31, 2) := dk_16 31 (dk_at dksX4_come_5 4 rfl rfl)
theorem dX4_come_124 : decode cX4_come 124 = .ok (.aload_n 0, 1) := dk_42 (dk_at dksX4_come_5 6 rfl rfl)
theorem dX4_come_125 : decode cX4_come 125 = .ok (.iload_n 1, 1) := dk_27 (dk_at dksX4_come_5 7 rfl rfl)
theorem dX4_come_126 : decode cX4_come 126 = .ok (.bipush 7, 2) := dk_16 7 (dk_at dksX4_come_5 8 rfl rfl)
theorem dX4_come_128 : decode cX4_come 128 = .ok (.invokevirtual 337, 3) := dk_182 1 81 (dk_at dksX4_come_5 10 rfl rfl)
theorem dX4_come_131 : decode cX4_come 131 = .ok (.imul, 1) := dk_104 (dk_at dksX4_come_5 13 rfl rfl)
theorem dX4_come_132 : decode cX4_come 132 = .ok (.iload 6, 2) := dk_21 6 (dk_at dksX4_come_5 14 rfl rfl)
theorem dX4_come_134 : decode cX4_come 134 = .ok (.iadd, 1) := dk_96 (dk_at dksX4_come_5 16 rfl rfl)
theorem dX4_come_135 : decode cX4_come 135 = .ok (.invokevirtual 350, 3) := dk_182 1 94 (dk_at dksX4_come_5 17 rfl rfl)
theorem dX4_come_138 : decode cX4_come 138 = .ok (.aload_n 0, 1) := dk_42 (dk_at dksX4_come_5 20 rfl rfl)
theorem dX4_come_139 : decode cX4_come 139 = .ok (.getfield 71, 3) := dk_180 0 71 (dk_at dksX4_come_5 21 rfl rfl)
theorem dX4_come_142 : decode cX4_come 142 = .ok (.iload_n 3, 1) := dk_29 (dk_at dksX4_come_6 0 rfl rfl)
theorem dX4_come_143 : decode cX4_come 143 = .ok (.iaload, 1) := dk_46 (dk_at dksX4_come_6 1 rfl rfl)
theorem dX4_come_144 : decode cX4_come 144 = .ok (.bipush 10, 2) := dk_16 10 (dk_at dksX4_come_6 2 rfl rfl)
theorem dX4_come_146 : decode cX4_come 146 = .ok (.if_icmp .ne 40, 3) := dk_160 0 40 (dk_at dksX4_come_6 4 rfl rfl)
theorem dX4_come_149 : decode cX4_come 149 = .ok (.iload 6, 2) := dk_21 6 (dk_at dksX4_come_6 7 rfl rfl)
theorem dX4_come_151 : decode cX4_come 151 = .ok (.ifCond .eq 12, 3) := dk_153 0 12 (dk_at dksX4_come_6 9 rfl rfl)
theorem dX4_come_154 : decode cX4_come 154 = .ok (.aload_n 0, 1) := dk_42 (dk_at dksX4_come_6 12 rfl rfl)
theorem dX4_come_155 : decode cX4_come 155 = .ok (.getfield 89, 3) := dk_180 0 89 (dk_at dksX4_come_6 13 rfl rfl)
theorem dX4_come_158 : decode cX4_come 158 = .ok (.iload_n 3, 1) := dk_29 (dk_at dksX4_come_6 16 rfl rfl)
theorem dX4_come_159 : decode cX4_come 159 = .ok (.iaload, 1) := dk_46 (dk_at dksX4_come_6 17 rfl rfl)
theorem dX4_come_160 : decode cX4_come 160 = .ok (.goto 9, 3) := dk_167 0 9 (dk_at dksX4_come_6 18 rfl rfl)
theorem dX4_come_163 : decode cX4_come 163 = .ok (.aload_n 0, 1) := dk_42 (dk_at dksX4_come_6 21 rfl rfl)
theorem dX4_come_164 : decode cX4_come 164 = .ok (.getfield 92, 3) := dk_180 0 92 (dk_at dksX4_come_7 0 rfl rfl)
theorem dX4_come_167 : decode cX4_come 167 = .ok (.iload_n 3, 1) := dk_29 (dk_at dksX4_come_7 3 rfl rfl)
theorem dX4_come_168 : decode cX4_come 168 = .ok (.iaload, 1) := dk_46 (dk_at dksX4_come_7 4 rfl rfl)
theorem dX4_come_169 : decode cX4_come 169 = .ok (.istore 7, 2) := dk_54 7 (dk_at dksX4_come_7 5 rfl rfl)
theorem dX4_come_171 : decode cX4_come 171 = .ok (.iload 7, 2) := dk_21 7 (dk_at dksX4_come_7 7 rfl rfl)
theorem dX4_come_173 : decode cX4_come 173 = .ok (.iconst (-1), 1) := dk_2 (dk_at dksX4_come_7 9 rfl rfl)
theorem dX4_come_174 : decode cX4_come 174 = .ok (.if_icmp .ne 8, 3) := dk_160 0 8 (dk_at dksX4_come_7 10 rfl rfl)
theorem dX4_come_177 : decode cX4_come 177 = .ok (.iload 5, 2) := dk_21 5 (dk_at dksX4_come_7 13 rfl rfl)
theorem dX4_come_179 : decode cX4_come 179 = .ok (.goto 5, 3) := dk_167 0 5 (dk_at dksX4_come_7 15 rfl rfl)
theorem dX4_come_182 : decode cX4_come 182 = .ok (.iload 7, 2) := dk_21 7 (dk_at dksX4_come_7 18 rfl rfl)
theorem dX4_come_184 : decode cX4_come 184 = .ok (.istore 5, 2) := dk_54 5 (dk_at dksX4_come_7 20 rfl rfl)
theorem dX4_come_186 : decode cX4_come 186 = .ok (.iload 5, 2) := dk_21 5 (dk_at dksX4_come_7 22 rfl rfl)
theorem dX4_come_188 : decode cX4_come 188 = .ok (.istore_n 3, 1) := dk_62 (dk_at dksX4_come_8 0 rfl rfl)
theorem dX4_come_189 : decode cX4_come 189 = .ok (.goto (-184), 3) := dk_167 255 72 (dk_at dksX4_come_8 1 rfl rfl)
theorem dX4_come_192 : decode cX4_come 192 = .ok (.iload_n 3, 1) := dk_29 (dk_at dksX4_come_8 4 rfl rfl)
theorem dX4_come_193 : decode cX4_come 193 = .ok (.iconst (-1), 1) := dk_2 (dk_at dksX4_come_8 5 rfl rfl)
theorem dX4_come_194 : decode cX4_come 194 = .ok (.if_icmp .eq 28, 3) := dk_159 0 28 (dk_at dksX4_come_8 6 rfl rfl)
theorem dX4_come_197 : decode cX4_come 197 = .ok (.aload_n 0, 1) := dk_42 (dk_at dksX4_come_8 9 rfl rfl)
theorem dX4_come_198 : decode cX4_come 198 = .ok (.getfield 71, 3) := dk_180 0 71 (dk_at dksX4_come_8 10 rfl rfl)
theorem dX4_come_201 : decode cX4_come 201 = .ok (.iload_n 3, 1) := dk_29 (dk_at dksX4_come_8 13 rfl rfl)
theorem dX4_come_202 : decode cX4_come 202 = .ok (.iaload, 1) := dk_46 (dk_at dksX4_come_8 14 rfl rfl)
theorem dX4_come_203 : decode cX4_come 203 = .ok (.iconst 3, 1) := dk_6 (dk_at dksX4_come_8 15 rfl rfl)
theorem dX4_come_204 : decode cX4_come 204 = .ok (.if_icmp .gt 18, 3) := dk_163 0 18 (dk_at dksX4_come_8 16 rfl rfl)
theorem dX4_come_207 : decode cX4_come 207 = .ok (.aload_n 0, 1) := dk_42 (dk_at dksX4_come_8 19 rfl rfl)
theorem dX4_come_208 : decode cX4_come 208 = .ok (.iload_n 1, 1) := dk_27 (dk_at dksX4_come_8 20 rfl rfl)
theorem dX4_come_209 : decode cX4_come 209 = .ok (.invokevirtual 357, 3) := dk_182 1 101 (dk_at dksX4_come_8 21 rfl rfl)
theorem dX4_come_212 : decode cX4_come 212 = .ok (.ifCond .ne 10, 3) := dk_154 0 10 (dk_at dksX4_come_9 0 rfl rfl)
theorem dX4_come_215 : decode cX4_come 215 = .ok (.aload_n 0, 1) := dk_42 (dk_at dksX4_come_9 3 rfl rfl)
theorem dX4_come_216 : decode cX4_come 216 = .ok (.iload_n 1, 1) := dk_27 (dk_at dksX4_come_9 4 rfl rfl)
theorem dX4_come_217 : decode cX4_come 217 = .ok (.iconst 1, 1) := dk_4 (dk_at dksX4_come_9 5 rfl rfl)
theorem dX4_come_218 : decode cX4_come 218 = .ok (.iconst 1, 1) := dk_4 (dk_at dksX4_come_9 6 rfl rfl)
theorem dX4_come_219 : decode cX4_come 219 = .ok (.invokevirtual 350, 3) := dk_182 1 94 (dk_at dksX4_come_9 7 rfl rfl)
theorem dX4_come_222 : decode cX4_come 222 = .ok (.return_, 1) := dk_177 (dk_at dksX4_come_9 10 rfl rfl)
abbrev cX4_put : ByteArray := prog_21_method_36_code
def yX4_put : MethodName := ⟨RX4, "put", "(III)V"⟩
def dkwX4_put_0 : List UInt8 := [42, 180, 0, 99, 16, 8, 27, 104, 28, 96, 29, 79, 177]
abbrev dktX4_put_0 : List UInt8 := dkwX4_put_0 ++ []
theorem dksX4_put_0 : cX4_put.data.toList.drop 0 = dktX4_put_0 := by decide +kernel
theorem dX4_put_0 : decode cX4_put 0 = .ok (.aload_n 0, 1) := dk_42 (dk_at dksX4_put_0 0 rfl rfl)
theorem dX4_put_1 : decode cX4_put 1 = .ok (.getfield 99, 3) := dk_180 0 99 (dk_at dksX4_put_0 1 rfl rfl)
theorem dX4_put_4 : decode cX4_put 4 = .ok (.bipush 8, 2) := dk_16 8 (dk_at dksX4_put_0 4 rfl rfl)
theorem dX4_put_6 : decode cX4_put 6 = .ok (.iload_n 1, 1) := dk_27 (dk_at dksX4_put_0 6 rfl rfl)
theorem dX4_put_7 : decode cX4_put 7 = .ok (.imul, 1) := dk_104 (dk_at dksX4_put_0 7 rfl rfl)
theorem dX4_put_8 : decode cX4_put 8 = .ok (.iload_n 2, 1) := dk_28 (dk_at dksX4_put_0 8 rfl rfl)
theorem dX4_put_9 : decode cX4_put 9 = .ok (.iadd, 1) := dk_96 (dk_at dksX4_put_0 9 rfl rfl)
theorem dX4_put_10 : decode cX4_put 10 = .ok (.iload_n 3, 1) := dk_29 (dk_at dksX4_put_0 10 rfl rfl)
theorem dX4_put_11 : decode cX4_put 11 = .ok (.iastore, 1) := dk_79 (dk_at dksX4_put_0 11 rfl rfl)
theorem dX4_put_12 : decode cX4_put 12 = .ok (.return_, 1) := dk_177 (dk_at dksX4_put_0 12 rfl rfl)
abbrev cX4_following : ByteArray := prog_21_method_42_code
def yX4_following : MethodName := ⟨RX4, "following", "(I)I"⟩
def dkwX4_following_1 : List UInt8 := [167, 255, 240, 28, 172]
abbrev dktX4_following_1 : List UInt8 := dkwX4_following_1 ++ []
def dkwX4_following_0 : List UInt8 := [42, 180, 0, 86, 27, 46, 61, 28, 16, 254, 163, 0, 16, 42, 180, 0, 86, 16, 254, 28, 100, 46, 61]
abbrev dktX4_following_0 : List UInt8 := dkwX4_following_0 ++ dktX4_following_1
theorem dksX4_following_0 : cX4_following.data.toList.drop 0 = dktX4_following_0 := by decide +kernel
theorem dksX4_following_1 : cX4_following.data.toList.drop 23 = dktX4_following_1 := dk_seg dksX4_following_0 23 rfl rfl
theorem dX4_following_0 : decode cX4_following 0 = .ok (.aload_n 0, 1) := dk_42 (dk_at dksX4_following_0 0 rfl rfl)
theorem dX4_following_1 : decode cX4_following 1 = .ok (.getfield 86, 3) := dk_180 0 86 (dk_at dksX4_following_0 1 rfl rfl)
theorem dX4_following_4 : decode cX4_following 4 = .ok (.iload_n 1, 1) := dk_27 (dk_at dksX4_following_0 4 rfl rfl)
theorem dX4_following_5 : decode cX4_following 5 = .ok (.iaload, 1) := dk_46 (dk_at dksX4_following_0 5 rfl rfl)
theorem dX4_following_6 : decode cX4_following 6 = .ok (.istore_n 2, 1) := dk_61 (dk_at dksX4_following_0 6 rfl rfl)
theorem dX4_following_7 : decode cX4_following 7 = .ok (.iload_n 2, 1) := dk_28 (dk_at dksX4_following_0 7 rfl rfl)
theorem dX4_following_8 : decode cX4_following 8 = .ok (.bipush (-2), 2) := dk_16 254 (dk_at dksX4_following_0 8 rfl rfl)
theorem dX4_following_10 : decode cX4_following 10 = .ok (.if_icmp .gt 16, 3) := dk_163 0 16 (dk_at dksX4_following_0 10 rfl rfl)
theorem dX4_following_13 : decode cX4_following 13 = .ok (.aload_n 0, 1) := dk_42 (dk_at dksX4_following_0 13 rfl rfl)
theorem dX4_following_14 : decode cX4_following 14 = .ok (.getfield 86, 3) := dk_180 0 86 (dk_at dksX4_following_0 14 rfl rfl)
theorem dX4_following_17 : decode cX4_following 17 = .ok (.bipush (-2), 2) := dk_16 254 (dk_at dksX4_following_0 17 rfl rfl)
theorem dX4_following_19 : decode cX4_following 19 = .ok (.iload_n 2, 1) := dk_28 (dk_at dksX4_following_0 19 rfl rfl)
theorem dX4_following_20 : decode cX4_following 20 = .ok (.isub, 1) := dk_100 (dk_at dksX4_following_0 20 rfl rfl)
theorem dX4_following_21 : decode cX4_following 21 = .ok (.iaload, 1) := dk_46 (dk_at dksX4_following_0 21 rfl rfl)
theorem dX4_following_22 : decode cX4_following 22 = .ok (.istore_n 2, 1) := dk_61 (dk_at dksX4_following_0 22 rfl rfl)
theorem dX4_following_23 : decode cX4_following 23 = .ok (.goto (-16), 3) := dk_167 255 240 (dk_at dksX4_following_1 0 rfl rfl)
theorem dX4_following_26 : decode cX4_following 26 = .ok (.iload_n 2, 1) := dk_28 (dk_at dksX4_following_1 3 rfl rfl)
theorem dX4_following_27 : decode cX4_following 27 = .ok (.ireturn, 1) := dk_172 (dk_at dksX4_following_1 4 rfl rfl)
abbrev cX4_asked : ByteArray := prog_21_method_41_code
def yX4_asked : MethodName := ⟨RX4, "asked", "(II)I"⟩
def dkwX4_asked_6 : List UInt8 := [180, 0, 102, 3, 46, 172]
abbrev dktX4_asked_6 : List UInt8 := dkwX4_asked_6 ++ []
def dkwX4_asked_5 : List UInt8 := [21, 4, 4, 100, 46, 42, 180, 0, 102, 21, 4, 46, 184, 1, 87, 79, 132, 5, 1, 167, 255, 142, 42]
abbrev dktX4_asked_5 : List UInt8 := dkwX4_asked_5 ++ dktX4_asked_6
def dkwX4_asked_4 : List UInt8 := [132, 4, 1, 167, 0, 36, 132, 4, 255, 42, 180, 0, 102, 21, 4, 4, 100, 21, 6, 42, 180, 0, 102]
abbrev dktX4_asked_4 : List UInt8 := dkwX4_asked_4 ++ dktX4_asked_5
def dkwX4_asked_3 : List UInt8 := [21, 6, 16, 20, 161, 0, 26, 42, 180, 0, 102, 21, 4, 42, 27, 21, 6, 16, 20, 100, 182, 1, 84, 79]
abbrev dktX4_asked_3 : List UInt8 := dkwX4_asked_3 ++ dktX4_asked_4
def dkwX4_asked_2 : List UInt8 := [132, 5, 1, 42, 180, 0, 102, 21, 4, 42, 180, 0, 68, 21, 5, 46, 79, 132, 4, 1, 167, 0, 66]
abbrev dktX4_asked_2 : List UInt8 := dkwX4_asked_2 ++ dktX4_asked_3
def dkwX4_asked_1 : List UInt8 := [42, 180, 0, 77, 29, 46, 162, 0, 109, 42, 180, 0, 68, 21, 5, 46, 54, 6, 21, 6, 154, 0, 26]
abbrev dktX4_asked_1 : List UInt8 := dkwX4_asked_1 ++ dktX4_asked_2
def dkwX4_asked_0 : List UInt8 := [6, 42, 27, 3, 182, 1, 81, 104, 28, 96, 62, 3, 54, 4, 42, 180, 0, 74, 29, 46, 54, 5, 21, 5]
abbrev dktX4_asked_0 : List UInt8 := dkwX4_asked_0 ++ dktX4_asked_1
theorem dksX4_asked_0 : cX4_asked.data.toList.drop 0 = dktX4_asked_0 := by decide +kernel
theorem dksX4_asked_1 : cX4_asked.data.toList.drop 24 = dktX4_asked_1 := dk_seg dksX4_asked_0 24 rfl rfl
theorem dksX4_asked_2 : cX4_asked.data.toList.drop 47 = dktX4_asked_2 := dk_seg dksX4_asked_1 23 rfl rfl
theorem dksX4_asked_3 : cX4_asked.data.toList.drop 70 = dktX4_asked_3 := dk_seg dksX4_asked_2 23 rfl rfl
theorem dksX4_asked_4 : cX4_asked.data.toList.drop 94 = dktX4_asked_4 := dk_seg dksX4_asked_3 24 rfl rfl
theorem dksX4_asked_5 : cX4_asked.data.toList.drop 117 = dktX4_asked_5 := dk_seg dksX4_asked_4 23 rfl rfl
theorem dksX4_asked_6 : cX4_asked.data.toList.drop 140 = dktX4_asked_6 := dk_seg dksX4_asked_5 23 rfl rfl
theorem dX4_asked_0 : decode cX4_asked 0 = .ok (.iconst 3, 1) := dk_6 (dk_at dksX4_asked_0 0 rfl rfl)
theorem dX4_asked_1 : decode cX4_asked 1 = .ok (.aload_n 0, 1) := dk_42 (dk_at dksX4_asked_0 1 rfl rfl)
theorem dX4_asked_2 : decode cX4_asked 2 = .ok (.iload_n 1, 1) := dk_27 (dk_at dksX4_asked_0 2 rfl rfl)
theorem dX4_asked_3 : decode cX4_asked 3 = .ok (.iconst 0, 1) := dk_3 (dk_at dksX4_asked_0 3 rfl rfl)
theorem dX4_asked_4 : decode cX4_asked 4 = .ok (.invokevirtual 337, 3) := dk_182 1 81 (dk_at dksX4_asked_0 4 rfl rfl)
theorem dX4_asked_7 : decode cX4_asked 7 = .ok (.imul, 1) := dk_104 (dk_at dksX4_asked_0 7 rfl rfl)
theorem dX4_asked_8 : decode cX4_asked 8 = .ok (.iload_n 2, 1) := dk_28 (dk_at dksX4_asked_0 8 rfl rfl)
theorem dX4_asked_9 : decode cX4_asked 9 = .ok (.iadd, 1) := dk_96 (dk_at dksX4_asked_0 9 rfl rfl)
theorem dX4_asked_10 : decode cX4_asked 10 = .ok (.istore_n 3, 1) := dk_62 (dk_at dksX4_asked_0 10 rfl rfl)
theorem dX4_asked_11 : decode cX4_asked 11 = .ok (.iconst 0, 1) := dk_3 (dk_at dksX4_asked_0 11 rfl rfl)
theorem dX4_asked_12 : decode cX4_asked 12 = .ok (.istore 4, 2) := dk_54 4 (dk_at dksX4_asked_0 12 rfl rfl)
theorem dX4_asked_14 : decode cX4_asked 14 = .ok (.aload_n 0, 1) := dk_42 (dk_at dksX4_asked_0 14 rfl rfl)
theorem dX4_asked_15 : decode cX4_asked 15 = .ok (.getfield 74, 3) := dk_180 0 74 (dk_at dksX4_asked_0 15 rfl rfl)
theorem dX4_asked_18 : decode cX4_asked 18 = .ok (.iload_n 3, 1) := dk_29 (dk_at dksX4_asked_0 18 rfl rfl)
theorem dX4_asked_19 : decode cX4_asked 19 = .ok (.iaload, 1) := dk_46 (dk_at dksX4_asked_0 19 rfl rfl)
theorem dX4_asked_20 : decode cX4_asked 20 = .ok (.istore 5, 2) := dk_54 5 (dk_at dksX4_asked_0 20 rfl rfl)
theorem dX4_asked_22 : decode cX4_asked 22 = .ok (.iload 5, 2) := dk_21 5 (dk_at dksX4_asked_0 22 rfl rfl)
theorem dX4_asked_24 : decode cX4_asked 24 = .ok (.aload_n 0, 1) := dk_42 (dk_at dksX4_asked_1 0 rfl rfl)
theorem dX4_asked_25 : decode cX4_asked 25 = .ok (.getfield 77, 3) := dk_180 0 77 (dk_at dksX4_asked_1 1 rfl rfl)
theorem dX4_asked_28 : decode cX4_asked 28 = .ok (.iload_n 3, 1) := dk_29 (dk_at dksX4_asked_1 4 rfl rfl)
theorem dX4_asked_29 : decode cX4_asked 29 = .ok (.iaload, 1) := dk_46 (dk_at dksX4_asked_1 5 rfl rfl)
theorem dX4_asked_30 : decode cX4_asked 30 = .ok (.if_icmp .ge 109, 3) := dk_162 0 109 (dk_at dksX4_asked_1 6 rfl rfl)
theorem dX4_asked_33 : decode cX4_asked 33 = .ok (.aload_n 0, 1) := dk_42 (dk_at dksX4_asked_1 9 rfl rfl)
theorem dX4_asked_34 : decode cX4_asked 34 = .ok (.getfield 68, 3) := dk_180 0 68 (dk_at dksX4_asked_1 10 rfl rfl)
theorem dX4_asked_37 : decode cX4_asked 37 = .ok (.iload 5, 2) := dk_21 5 (dk_at dksX4_asked_1 13 rfl rfl)
theorem dX4_asked_39 : decode cX4_asked 39 = .ok (.iaload, 1) := dk_46 (dk_at dksX4_asked_1 15 rfl rfl)
theorem dX4_asked_40 : decode cX4_asked 40 = .ok (.istore 6, 2) := dk_54 6 (dk_at dksX4_asked_1 16 rfl rfl)
theorem dX4_asked_42 : decode cX4_asked 42 = .ok (.iload 6, 2) := dk_21 6 (dk_at dksX4_asked_1 18 rfl rfl)
theorem dX4_asked_44 : decode cX4_asked 44 = .ok (.ifCond .ne 26, 3) := dk_154 0 26 (dk_at dksX4_asked_1 20 rfl rfl)
theorem dX4_asked_47 : decode cX4_asked 47 = .ok (.iinc 5 1, 3) := dk_132 5 1 (dk_at dksX4_asked_2 0 rfl rfl)
theorem dX4_asked_50 : decode cX4_asked 50 = .ok (.aload_n 0, 1) := dk_42 (dk_at dksX4_asked_2 3 rfl rfl)
theorem dX4_asked_51 : decode cX4_asked 51 = .ok (.getfield 102, 3) := dk_180 0 102 (dk_at dksX4_asked_2 4 rfl rfl)
theorem dX4_asked_54 : decode cX4_asked 54 = .ok (.iload 4, 2) := dk_21 4 (dk_at dksX4_asked_2 7 rfl rfl)
theorem dX4_asked_56 : decode cX4_asked 56 = .ok (.aload_n 0, 1) := dk_42 (dk_at dksX4_asked_2 9 rfl rfl)
theorem dX4_asked_57 : decode cX4_asked 57 = .ok (.getfield 68, 3) := dk_180 0 68 (dk_at dksX4_asked_2 10 rfl rfl)
theorem dX4_asked_60 : decode cX4_asked 60 = .ok (.iload 5, 2) := dk_21 5 (dk_at dksX4_asked_2 13 rfl rfl)
theorem dX4_asked_62 : decode cX4_asked 62 = .ok (.iaload, 1) := dk_46 (dk_at dksX4_asked_2 15 rfl rfl)
theorem dX4_asked_63 : decode cX4_asked 63 = .ok (.iastore, 1) := dk_79 (dk_at dksX4_asked_2 16 rfl rfl)
theorem dX4_asked_64 : decode cX4_asked 64 = .ok (.iinc 4 1, 3) := dk_132 4 1 (dk_at dksX4_asked_2 17 rfl rfl)
theorem dX4_asked_67 : decode cX4_asked 67 = .ok (.goto 66, 3) := dk_167 0 66 (dk_at dksX4_asked_2 20 rfl rfl)
theorem dX4_asked_70 : decode cX4_asked 70 = .ok (.iload 6, 2) := dk_21 6 (dk_at dksX4_asked_3 0 rfl rfl)
theorem dX4_asked_72 : decode cX4_asked 72 = .ok (.bipush 20, 2) := dk_16 20 (dk_at dksX4_asked_3 2 rfl rfl)
theorem dX4_asked_74 : decode cX4_asked 74 = .ok (.if_icmp .lt 26, 3) := dk_161 0 26 (dk_at dksX4_asked_3 4 rfl rfl)
theorem dX4_asked_77 : decode cX4_asked 77 = .ok (.aload_n 0, 1) := dk_42 (dk_at dksX4_asked_3 7 rfl rfl)
theorem dX4_asked_78 : decode cX4_asked 78 = .ok (.getfield 102, 3) := dk_180 0 102 (dk_at dksX4_asked_3 8 rfl rfl)
theorem dX4_asked_81 : decode cX4_asked 81 = .ok (.iload 4, 2) := dk_21 4 (dk_at dksX4_asked_3 11 rfl rfl)
theorem dX4_asked_83 : decode cX4_asked 83 = .ok (.aload_n 0, 1) := dk_42 (dk_at dksX4_asked_3 13 rfl rfl)
theorem dX4_asked_84 : decode cX4_asked 84 = .ok (.iload_n 1, 1) := dk_27 (dk_at dksX4_asked_3 14 rfl rfl)
theorem dX4_asked_85 : decode cX4_asked 85 = .ok (.iload 6, 2) := dk_21 6 (dk_at dksX4_asked_3 15 rfl rfl)
theorem dX4_asked_87 : decode cX4_asked 87 = .ok (.bipush 20, 2) := dk_16 20 (dk_at dksX4_asked_3 17 rfl rfl)
theorem dX4_asked_89 : decode cX4_asked 89 = .ok (.isub, 1) := dk_100 (dk_at dksX4_asked_3 19 rfl rfl)
theorem dX4_asked_90 : decode cX4_asked 90 = .ok (.invokevirtual 340, 3) := dk_182 1 84 (dk_at dksX4_asked_3 20 rfl rfl)
theorem dX4_asked_93 : decode cX4_asked 93 = .ok (.iastore, 1) := dk_79 (dk_at dksX4_asked_3 23 rfl rfl)
theorem dX4_asked_94 : decode cX4_asked 94 = .ok (.iinc 4 1, 3) := dk_132 4 1 (dk_at dksX4_asked_4 0 rfl rfl)
theorem dX4_asked_97 : decode cX4_asked 97 = .ok (.goto 36, 3) := dk_167 0 36 (dk_at dksX4_asked_4 3 rfl rfl)
theorem dX4_asked_100 : decode cX4_asked 100 = .ok (.iinc 4 (-1), 3) := dk_132 4 255 (dk_at dksX4_asked_4 6 rfl rfl)
theorem dX4_asked_103 : decode cX4_asked 103 = .ok (.aload_n 0, 1) := dk_42 (dk_at dksX4_asked_4 9 rfl rfl)
theorem dX4_asked_104 : decode cX4_asked 104 = .ok (.getfield 102, 3) := dk_180 0 102 (dk_at dksX4_asked_4 10 rfl rfl)
theorem dX4_asked_107 : decode cX4_asked 107 = .ok (.iload 4, 2) := dk_21 4 (dk_at dksX4_asked_4 13 rfl rfl)
theorem dX4_asked_109 : decode cX4_asked 109 = .ok (.iconst 1, 1) := dk_4 (dk_at dksX4_asked_4 15 rfl rfl)
theorem dX4_asked_110 : decode cX4_asked 110 = .ok (.isub, 1) := dk_100 (dk_at dksX4_asked_4 16 rfl rfl)
theorem dX4_asked_111 : decode cX4_asked 111 = .ok (.iload 6, 2) := dk_21 6 (dk_at dksX4_asked_4 17 rfl rfl)
theorem dX4_asked_113 : decode cX4_asked 113 = .ok (.aload_n 0, 1) := dk_42 (dk_at dksX4_asked_4 19 rfl rfl)
theorem dX4_asked_114 : decode cX4_asked 114 = .ok (.getfield 102, 3) := dk_180 0 102 (dk_at dksX4_asked_4 20 rfl rfl)
theorem dX4_asked_117 : decode cX4_asked 117 = .ok (.iload 4, 2) := dk_21 4 (dk_at dksX4_asked_5 0 rfl rfl)
theorem dX4_asked_119 : decode cX4_asked 119 = .ok (.iconst 1, 1) := dk_4 (dk_at dksX4_asked_5 2 rfl rfl)
theorem dX4_asked_120 : decode cX4_asked 120 = .ok (.isub, 1) := dk_100 (dk_at dksX4_asked_5 3 rfl rfl)
theorem dX4_asked_121 : decode cX4_asked 121 = .ok (.iaload, 1) := dk_46 (dk_at dksX4_asked_5 4 rfl rfl)
theorem dX4_asked_122 : decode cX4_asked 122 = .ok (.aload_n 0, 1) := dk_42 (dk_at dksX4_asked_5 5 rfl rfl)
theorem dX4_asked_123 : decode cX4_asked 123 = .ok (.getfield 102, 3) := dk_180 0 102 (dk_at dksX4_asked_5 6 rfl rfl)
theorem dX4_asked_126 : decode cX4_asked 126 = .ok (.iload 4, 2) := dk_21 4 (dk_at dksX4_asked_5 9 rfl rfl)
theorem dX4_asked_128 : decode cX4_asked 128 = .ok (.iaload, 1) := dk_46 (dk_at dksX4_asked_5 11 rfl rfl)
theorem dX4_asked_129 : decode cX4_asked 129 = .ok (.invokestatic 343, 3) := dk_184 1 87 (dk_at dksX4_asked_5 12 rfl rfl)
theorem dX4_asked_132 : decode cX4_asked 132 = .ok (.iastore, 1) := dk_79 (dk_at dksX4_asked_5 15 rfl rfl)
theorem dX4_asked_133 : decode cX4_asked 133 = .ok (.iinc 5 1, 3) := dk_132 5 1 (dk_at dksX4_asked_5 16 rfl rfl)
theorem dX4_asked_136 : decode cX4_asked 136 = .ok (.goto (-114), 3) := dk_167 255 142 (dk_at dksX4_asked_5 19 rfl rfl)
theorem dX4_asked_139 : decode cX4_asked 139 = .ok (.aload_n 0, 1) := dk_42 (dk_at dksX4_asked_5 22 rfl rfl)
theorem dX4_asked_140 : decode cX4_asked 140 = .ok (.getfield 102, 3) := dk_180 0 102 (dk_at dksX4_asked_6 0 rfl rfl)
theorem dX4_asked_143 : decode cX4_asked 143 = .ok (.iconst 0, 1) := dk_3 (dk_at dksX4_asked_6 3 rfl rfl)
theorem dX4_asked_144 : decode cX4_asked 144 = .ok (.iaload, 1) := dk_46 (dk_at dksX4_asked_6 4 rfl rfl)
theorem dX4_asked_145 : decode cX4_asked 145 = .ok (.ireturn, 1) := dk_172 (dk_at dksX4_asked_6 5 rfl rfl)
abbrev cX4_own : ByteArray := prog_21_method_35_code
def yX4_own : MethodName := ⟨RX4, "own", "(II)I"⟩
def dkwX4_own_0 : List UInt8 := [42, 180, 0, 99, 16, 8, 27, 104, 28, 96, 46, 172]
abbrev dktX4_own_0 : List UInt8 := dkwX4_own_0 ++ []
theorem dksX4_own_0 : cX4_own.data.toList.drop 0 = dktX4_own_0 := by decide +kernel
theorem dX4_own_0 : decode cX4_own 0 = .ok (.aload_n 0, 1) := dk_42 (dk_at dksX4_own_0 0 rfl rfl)
theorem dX4_own_1 : decode cX4_own 1 = .ok (.getfield 99, 3) := dk_180 0 99 (dk_at dksX4_own_0 1 rfl rfl)
theorem dX4_own_4 : decode cX4_own 4 = .ok (.bipush 8, 2) := dk_16 8 (dk_at dksX4_own_0 4 rfl rfl)
theorem dX4_own_6 : decode cX4_own 6 = .ok (.iload_n 1, 1) := dk_27 (dk_at dksX4_own_0 6 rfl rfl)
theorem dX4_own_7 : decode cX4_own 7 = .ok (.imul, 1) := dk_104 (dk_at dksX4_own_0 7 rfl rfl)
theorem dX4_own_8 : decode cX4_own 8 = .ok (.iload_n 2, 1) := dk_28 (dk_at dksX4_own_0 8 rfl rfl)
theorem dX4_own_9 : decode cX4_own 9 = .ok (.iadd, 1) := dk_96 (dk_at dksX4_own_0 9 rfl rfl)
theorem dX4_own_10 : decode cX4_own 10 = .ok (.iaload, 1) := dk_46 (dk_at dksX4_own_0 10 rfl rfl)
theorem dX4_own_11 : decode cX4_own 11 = .ok (.ireturn, 1) := dk_172 (dk_at dksX4_own_0 11 rfl rfl)
abbrev cX4_valueOf : ByteArray := prog_21_method_39_code
def yX4_valueOf : MethodName := ⟨RX4, "valueOf", "(II)I"⟩
def dkwX4_valueOf_1 : List UInt8 := [167, 0, 22, 28, 8, 160, 0, 10, 42, 180, 0, 54, 167, 0, 10, 42, 27, 16, 6, 182, 1, 81, 172]
abbrev dktX4_valueOf_1 : List UInt8 := dkwX4_valueOf_1 ++ []
def dkwX4_valueOf_0 : List UInt8 := [28, 7, 162, 0, 14, 42, 27, 5, 28, 96, 182, 1, 81, 167, 0, 31, 28, 7, 160, 0, 7, 27]
abbrev dktX4_valueOf_0 : List UInt8 := dkwX4_valueOf_0 ++ dktX4_valueOf_1
theorem dksX4_valueOf_0 : cX4_valueOf.data.toList.drop 0 = dktX4_valueOf_0 := by decide +kernel
theorem dksX4_valueOf_1 : cX4_valueOf.data.toList.drop 22 = dktX4_valueOf_1 := dk_seg dksX4_valueOf_0 22 rfl rfl
theorem dX4_valueOf_0 : decode cX4_valueOf 0 = .ok (.iload_n 2, 1) := dk_28 (dk_at dksX4_valueOf_0 0 rfl rfl)
theorem dX4_valueOf_1 : decode cX4_valueOf 1 = .ok (.iconst 4, 1) := dk_7 (dk_at dksX4_valueOf_0 1 rfl rfl)
theorem dX4_valueOf_2 : decode cX4_valueOf 2 = .ok (.if_icmp .ge 14, 3) := dk_162 0 14 (dk_at dksX4_valueOf_0 2 rfl rfl)
theorem dX4_valueOf_5 : decode cX4_valueOf 5 = .ok (.aload_n 0, 1) := dk_42 (dk_at dksX4_valueOf_0 5 rfl rfl)
theorem dX4_valueOf_6 : decode cX4_valueOf 6 = .ok (.iload_n 1, 1) := dk_27 (dk_at dksX4_valueOf_0 6 rfl rfl)
theorem dX4_valueOf_7 : decode cX4_valueOf 7 = .ok (.iconst 2, 1) := dk_5 (dk_at dksX4_valueOf_0 7 rfl rfl)
theorem dX4_valueOf_8 : decode cX4_valueOf 8 = .ok (.iload_n 2, 1) := dk_28 (dk_at dksX4_valueOf_0 8 rfl rfl)
theorem dX4_valueOf_9 : decode cX4_valueOf 9 = .ok (.iadd, 1) := dk_96 (dk_at dksX4_valueOf_0 9 rfl rfl)
theorem dX4_valueOf_10 : decode cX4_valueOf 10 = .ok (.invokevirtual 337, 3) := dk_182 1 81 (dk_at dksX4_valueOf_0 10 rfl rfl)
theorem dX4_valueOf_13 : decode cX4_valueOf 13 = .ok (.goto 31, 3) := dk_167 0 31 (dk_at dksX4_valueOf_0 13 rfl rfl)
theorem dX4_valueOf_16 : decode cX4_valueOf 16 = .ok (.iload_n 2, 1) := dk_28 (dk_at dksX4_valueOf_0 16 rfl rfl)
theorem dX4_valueOf_17 : decode cX4_valueOf 17 = .ok (.iconst 4, 1) := dk_7 (dk_at dksX4_valueOf_0 17 rfl rfl)
theorem dX4_valueOf_18 : decode cX4_valueOf 18 = .ok (.if_icmp .ne 7, 3) := dk_160 0 7 (dk_at dksX4_valueOf_0 18 rfl rfl)
theorem dX4_valueOf_21 : decode cX4_valueOf 21 = .ok (.iload_n 1, 1) := dk_27 (dk_at dksX4_valueOf_0 21 rfl rfl)
theorem dX4_valueOf_22 : decode cX4_valueOf 22 = .ok (.goto 22, 3) := dk_167 0 22 (dk_at dksX4_valueOf_1 0 rfl rfl)
theorem dX4_valueOf_25 : decode cX4_valueOf 25 = .ok (.iload_n 2, 1) := dk_28 (dk_at dksX4_valueOf_1 3 rfl rfl)
theorem dX4_valueOf_26 : decode cX4_valueOf 26 = .ok (.iconst 5, 1) := dk_8 (dk_at dksX4_valueOf_1 4 rfl rfl)
theorem dX4_valueOf_27 : decode cX4_valueOf 27 = .ok (.if_icmp .ne 10, 3) := dk_160 0 10 (dk_at dksX4_valueOf_1 5 rfl rfl)
theorem dX4_valueOf_30 : decode cX4_valueOf 30 = .ok (.aload_n 0, 1) := dk_42 (dk_at dksX4_valueOf_1 8 rfl rfl)
theorem dX4_valueOf_31 : decode cX4_valueOf 31 = .ok (.getfield 54, 3) := dk_180 0 54 (dk_at dksX4_valueOf_1 9 rfl rfl)
theorem dX4_valueOf_34 : decode cX4_valueOf 34 = .ok (.goto 10, 3) := dk_167 0 10 (dk_at dksX4_valueOf_1 12 rfl rfl)
theorem dX4_valueOf_37 : decode cX4_valueOf 37 = .ok (.aload_n 0, 1) := dk_42 (dk_at dksX4_valueOf_1 15 rfl rfl)
theorem dX4_valueOf_38 : decode cX4_valueOf 38 = .ok (.iload_n 1, 1) := dk_27 (dk_at dksX4_valueOf_1 16 rfl rfl)
theorem dX4_valueOf_39 : decode cX4_valueOf 39 = .ok (.bipush 6, 2) := dk_16 6 (dk_at dksX4_valueOf_1 17 rfl rfl)
theorem dX4_valueOf_41 : decode cX4_valueOf 41 = .ok (.invokevirtual 337, 3) := dk_182 1 81 (dk_at dksX4_valueOf_1 19 rfl rfl)
theorem dX4_valueOf_44 : decode cX4_valueOf 44 = .ok (.ireturn, 1) := dk_172 (dk_at dksX4_valueOf_1 22 rfl rfl)
abbrev cX4_two : ByteArray := prog_21_method_40_code
def yX4_two : MethodName := ⟨RX4, "two", "(III)I"⟩
def dkwX4_two_3 : List UInt8 := [27, 28, 162, 0, 7, 4, 167, 0, 4, 3, 172, 27, 28, 160, 0, 7, 4, 167, 0, 4, 3, 172]
abbrev dktX4_two_3 : List UInt8 := dkwX4_two_3 ++ []
def dkwX4_two_2 : List UInt8 := [27, 28, 96, 172, 27, 28, 100, 172, 27, 28, 104, 172, 28, 154, 0, 7, 3, 167, 0, 6, 27, 28, 108, 172]
abbrev dktX4_two_2 : List UInt8 := dkwX4_two_2 ++ dktX4_two_3
def dkwX4_two_1 : List UInt8 := [170, 0, 0, 0, 0, 0, 70, 0, 0, 0, 1, 0, 0, 0, 5, 0, 0, 0, 35, 0, 0, 0, 39, 0, 0, 0, 43, 0, 0, 0, 47, 0, 0, 0, 59]
abbrev dktX4_two_1 : List UInt8 := dkwX4_two_1 ++ dktX4_two_2
def dkwX4_two_0 : List UInt8 := [26]
abbrev dktX4_two_0 : List UInt8 := dkwX4_two_0 ++ dktX4_two_1
theorem dksX4_two_0 : cX4_two.data.toList.drop 0 = dktX4_two_0 := by decide +kernel
theorem dksX4_two_1 : cX4_two.data.toList.drop 1 = dktX4_two_1 := dk_seg dksX4_two_0 1 rfl rfl
theorem dksX4_two_2 : cX4_two.data.toList.drop 36 = dktX4_two_2 := dk_seg dksX4_two_1 35 rfl rfl
theorem dksX4_two_3 : cX4_two.data.toList.drop 60 = dktX4_two_3 := dk_seg dksX4_two_2 24 rfl rfl
theorem dX4_two_0 : decode cX4_two 0 = .ok (.iload_n 0, 1) := dk_26 (dk_at dksX4_two_0 0 rfl rfl)
theorem dX4_two_1 : decode cX4_two 1 = .ok (.tableswitch 70 1 5 #[35, 39, 43, 47, 59], 35) := by decide +kernel
theorem dX4_two_36 : decode cX4_two 36 = .ok (.iload_n 1, 1) := dk_27 (dk_at dksX4_two_2 0 rfl rfl)
theorem dX4_two_37 : decode cX4_two 37 = .ok (.iload_n 2, 1) := dk_28 (dk_at dksX4_two_2 1 rfl rfl)
theorem dX4_two_38 : decode cX4_two 38 = .ok (.iadd, 1) := dk_96 (dk_at dksX4_two_2 2 rfl rfl)
theorem dX4_two_39 : decode cX4_two 39 = .ok (.ireturn, 1) := dk_172 (dk_at dksX4_two_2 3 rfl rfl)
theorem dX4_two_40 : decode cX4_two 40 = .ok (.iload_n 1, 1) := dk_27 (dk_at dksX4_two_2 4 rfl rfl)
theorem dX4_two_41 : decode cX4_two 41 = .ok (.iload_n 2, 1) := dk_28 (dk_at dksX4_two_2 5 rfl rfl)
theorem dX4_two_42 : decode cX4_two 42 = .ok (.isub, 1) := dk_100 (dk_at dksX4_two_2 6 rfl rfl)
theorem dX4_two_43 : decode cX4_two 43 = .ok (.ireturn, 1) := dk_172 (dk_at dksX4_two_2 7 rfl rfl)
theorem dX4_two_44 : decode cX4_two 44 = .ok (.iload_n 1, 1) := dk_27 (dk_at dksX4_two_2 8 rfl rfl)
theorem dX4_two_45 : decode cX4_two 45 = .ok (.iload_n 2, 1) := dk_28 (dk_at dksX4_two_2 9 rfl rfl)
theorem dX4_two_46 : decode cX4_two 46 = .ok (.imul, 1) := dk_104 (dk_at dksX4_two_2 10 rfl rfl)
theorem dX4_two_47 : decode cX4_two 47 = .ok (.ireturn, 1) := dk_172 (dk_at dksX4_two_2 11 rfl rfl)
theorem dX4_two_48 : decode cX4_two 48 = .ok (.iload_n 2, 1) := dk_28 (dk_at dksX4_two_2 12 rfl rfl)
theorem dX4_two_49 : decode cX4_two 49 = .ok (.ifCond .ne 7, 3) := dk_154 0 7 (dk_at dksX4_two_2 13 rfl rfl)
theorem dX4_two_52 : decode cX4_two 52 = .ok (.iconst 0, 1) := dk_3 (dk_at dksX4_two_2 16 rfl rfl)
theorem dX4_two_53 : decode cX4_two 53 = .ok (.goto 6, 3) := dk_167 0 6 (dk_at dksX4_two_2 17 rfl rfl)
theorem dX4_two_56 : decode cX4_two 56 = .ok (.iload_n 1, 1) := dk_27 (dk_at dksX4_two_2 20 rfl rfl)
theorem dX4_two_57 : decode cX4_two 57 = .ok (.iload_n 2, 1) := dk_28 (dk_at dksX4_two_2 21 rfl rfl)
theorem dX4_two_58 : decode cX4_two 58 = .ok (.idiv, 1) := dk_108 (dk_at dksX4_two_2 22 rfl rfl)
theorem dX4_two_59 : decode cX4_two 59 = .ok (.ireturn, 1) := dk_172 (dk_at dksX4_two_2 23 rfl rfl)
theorem dX4_two_60 : decode cX4_two 60 = .ok (.iload_n 1, 1) := dk_27 (dk_at dksX4_two_3 0 rfl rfl)
theorem dX4_two_61 : decode cX4_two 61 = .ok (.iload_n 2, 1) := dk_28 (dk_at dksX4_two_3 1 rfl rfl)
theorem dX4_two_62 : decode cX4_two 62 = .ok (.if_icmp .ge 7, 3) := dk_162 0 7 (dk_at dksX4_two_3 2 rfl rfl)
theorem dX4_two_65 : decode cX4_two 65 = .ok (.iconst 1, 1) := dk_4 (dk_at dksX4_two_3 5 rfl rfl)
theorem dX4_two_66 : decode cX4_two 66 = .ok (.goto 4, 3) := dk_167 0 4 (dk_at dksX4_two_3 6 rfl rfl)
theorem dX4_two_69 : decode cX4_two 69 = .ok (.iconst 0, 1) := dk_3 (dk_at dksX4_two_3 9 rfl rfl)
theorem dX4_two_70 : decode cX4_two 70 = .ok (.ireturn, 1) := dk_172 (dk_at dksX4_two_3 10 rfl rfl)
theorem dX4_two_71 : decode cX4_two 71 = .ok (.iload_n 1, 1) := dk_27 (dk_at dksX4_two_3 11 rfl rfl)
theorem dX4_two_72 : decode cX4_two 72 = .ok (.iload_n 2, 1) := dk_28 (dk_at dksX4_two_3 12 rfl rfl)
theorem dX4_two_73 : decode cX4_two 73 = .ok (.if_icmp .ne 7, 3) := dk_160 0 7 (dk_at dksX4_two_3 13 rfl rfl)
theorem dX4_two_76 : decode cX4_two 76 = .ok (.iconst 1, 1) := dk_4 (dk_at dksX4_two_3 16 rfl rfl)
theorem dX4_two_77 : decode cX4_two 77 = .ok (.goto 4, 3) := dk_167 0 4 (dk_at dksX4_two_3 17 rfl rfl)
theorem dX4_two_80 : decode cX4_two 80 = .ok (.iconst 0, 1) := dk_3 (dk_at dksX4_two_3 20 rfl rfl)
theorem dX4_two_81 : decode cX4_two 81 = .ok (.ireturn, 1) := dk_172 (dk_at dksX4_two_3 21 rfl rfl)
abbrev cX4_hasOther : ByteArray := prog_21_method_43_code
def yX4_hasOther : MethodName := ⟨RX4, "hasOther", "(I)Z"⟩
def dkwX4_hasOther_1 : List UInt8 := [159, 0, 7, 4, 167, 0, 4, 3, 172]
abbrev dktX4_hasOther_1 : List UInt8 := dkwX4_hasOther_1 ++ []
def dkwX4_hasOther_0 : List UInt8 := [42, 27, 3, 182, 1, 91, 61, 28, 3, 42, 180, 0, 54, 4, 100, 184, 1, 20, 153, 0, 12, 28, 27]
abbrev dktX4_hasOther_0 : List UInt8 := dkwX4_hasOther_0 ++ dktX4_hasOther_1
theorem dksX4_hasOther_0 : cX4_hasOther.data.toList.drop 0 = dktX4_hasOther_0 := by decide +kernel
theorem dksX4_hasOther_1 : cX4_hasOther.data.toList.drop 23 = dktX4_hasOther_1 := dk_seg dksX4_hasOther_0 23 rfl rfl
theorem dX4_hasOther_0 : decode cX4_hasOther 0 = .ok (.aload_n 0, 1) := dk_42 (dk_at dksX4_hasOther_0 0 rfl rfl)
theorem dX4_hasOther_1 : decode cX4_hasOther 1 = .ok (.iload_n 1, 1) := dk_27 (dk_at dksX4_hasOther_0 1 rfl rfl)
theorem dX4_hasOther_2 : decode cX4_hasOther 2 = .ok (.iconst 0, 1) := dk_3 (dk_at dksX4_hasOther_0 2 rfl rfl)
theorem dX4_hasOther_3 : decode cX4_hasOther 3 = .ok (.invokevirtual 347, 3) := dk_182 1 91 (dk_at dksX4_hasOther_0 3 rfl rfl)
theorem dX4_hasOther_6 : decode cX4_hasOther 6 = .ok (.istore_n 2, 1) := dk_61 (dk_at dksX4_hasOther_0 6 rfl rfl)
theorem dX4_hasOther_7 : decode cX4_hasOther 7 = .ok (.iload_n 2, 1) := dk_28 (dk_at dksX4_hasOther_0 7 rfl rfl)
theorem dX4_hasOther_8 : decode cX4_hasOther 8 = .ok (.iconst 0, 1) := dk_3 (dk_at dksX4_hasOther_0 8 rfl rfl)
theorem dX4_hasOther_9 : decode cX4_hasOther 9 = .ok (.aload_n 0, 1) := dk_42 (dk_at dksX4_hasOther_0 9 rfl rfl)
theorem dX4_hasOther_10 : decode cX4_hasOther 10 = .ok (.getfield 54, 3) := dk_180 0 54 (dk_at dksX4_hasOther_0 10 rfl rfl)
theorem dX4_hasOther_13 : decode cX4_hasOther 13 = .ok (.iconst 1, 1) := dk_4 (dk_at dksX4_hasOther_0 13 rfl rfl)
theorem dX4_hasOther_14 : decode cX4_hasOther 14 = .ok (.isub, 1) := dk_100 (dk_at dksX4_hasOther_0 14 rfl rfl)
theorem dX4_hasOther_15 : decode cX4_hasOther 15 = .ok (.invokestatic 276, 3) := dk_184 1 20 (dk_at dksX4_hasOther_0 15 rfl rfl)
theorem dX4_hasOther_18 : decode cX4_hasOther 18 = .ok (.ifCond .eq 12, 3) := dk_153 0 12 (dk_at dksX4_hasOther_0 18 rfl rfl)
theorem dX4_hasOther_21 : decode cX4_hasOther 21 = .ok (.iload_n 2, 1) := dk_28 (dk_at dksX4_hasOther_0 21 rfl rfl)
theorem dX4_hasOther_22 : decode cX4_hasOther 22 = .ok (.iload_n 1, 1) := dk_27 (dk_at dksX4_hasOther_0 22 rfl rfl)
theorem dX4_hasOther_23 : decode cX4_hasOther 23 = .ok (.if_icmp .eq 7, 3) := dk_159 0 7 (dk_at dksX4_hasOther_1 0 rfl rfl)
theorem dX4_hasOther_26 : decode cX4_hasOther 26 = .ok (.iconst 1, 1) := dk_4 (dk_at dksX4_hasOther_1 3 rfl rfl)
theorem dX4_hasOther_27 : decode cX4_hasOther 27 = .ok (.goto 4, 3) := dk_167 0 4 (dk_at dksX4_hasOther_1 4 rfl rfl)
theorem dX4_hasOther_30 : decode cX4_hasOther 30 = .ok (.iconst 0, 1) := dk_3 (dk_at dksX4_hasOther_1 7 rfl rfl)
theorem dX4_hasOther_31 : decode cX4_hasOther 31 = .ok (.ireturn, 1) := dk_172 (dk_at dksX4_hasOther_1 8 rfl rfl)
abbrev cX4_keep : ByteArray := prog_21_method_65_code
def yX4_keep : MethodName := ⟨RX4, "keep", "()V"⟩
def dkwX4_keep_8 : List UInt8 := [180, 0, 124, 42, 180, 1, 178, 28, 79, 42, 89, 180, 1, 178, 4, 96, 181, 1, 178, 177]
abbrev dktX4_keep_8 : List UInt8 := dkwX4_keep_8 ++ []
def dkwX4_keep_7 : List UInt8 := [17, 7, 193, 42, 180, 1, 178, 104, 29, 96, 42, 180, 0, 99, 29, 46, 79, 132, 3, 1, 167, 255, 227, 42]
abbrev dktX4_keep_7 : List UInt8 := dkwX4_keep_7 ++ dktX4_keep_8
def dkwX4_keep_6 : List UInt8 := [17, 0, 200, 160, 0, 9, 42, 4, 181, 1, 184, 177, 3, 62, 29, 27, 162, 0, 30, 42, 180, 0, 121]
abbrev dktX4_keep_6 : List UInt8 := dkwX4_keep_6 ++ dktX4_keep_7
def dkwX4_keep_5 : List UInt8 := [54, 4, 132, 5, 1, 167, 255, 212, 21, 4, 153, 0, 4, 177, 132, 3, 1, 167, 255, 164, 42, 180, 1, 178]
abbrev dktX4_keep_5 : List UInt8 := dkwX4_keep_5 ++ dktX4_keep_6
def dkwX4_keep_4 : List UInt8 := [17, 7, 193, 29, 104, 21, 5, 96, 46, 42, 180, 0, 99, 21, 5, 46, 160, 0, 7, 4, 167, 0, 4, 3]
abbrev dktX4_keep_4 : List UInt8 := dkwX4_keep_4 ++ dktX4_keep_5
def dkwX4_keep_3 : List UInt8 := [167, 0, 62, 4, 54, 4, 3, 54, 5, 21, 5, 27, 162, 0, 44, 21, 4, 153, 0, 39, 42, 180, 0, 121]
abbrev dktX4_keep_3 : List UInt8 := dkwX4_keep_3 ++ dktX4_keep_4
def dkwX4_keep_2 : List UInt8 := [162, 0, 90, 42, 180, 0, 124, 29, 46, 28, 160, 0, 74, 42, 29, 182, 1, 181, 27, 159, 0, 6]
abbrev dktX4_keep_2 : List UInt8 := dkwX4_keep_2 ++ dktX4_keep_3
def dkwX4_keep_1 : List UInt8 := [104, 42, 180, 0, 99, 29, 46, 96, 61, 132, 3, 1, 167, 255, 236, 3, 62, 29, 42, 180, 1, 178]
abbrev dktX4_keep_1 : List UInt8 := dkwX4_keep_1 ++ dktX4_keep_2
def dkwX4_keep_0 : List UInt8 := [16, 65, 16, 6, 42, 182, 1, 107, 104, 96, 60, 16, 7, 61, 3, 62, 29, 27, 162, 0, 21, 16, 31, 28]
abbrev dktX4_keep_0 : List UInt8 := dkwX4_keep_0 ++ dktX4_keep_1
theorem dksX4_keep_0 : cX4_keep.data.toList.drop 0 = dktX4_keep_0 := by decide +kernel
theorem dksX4_keep_1 : cX4_keep.data.toList.drop 24 = dktX4_keep_1 := dk_seg dksX4_keep_0 24 rfl rfl
theorem dksX4_keep_2 : cX4_keep.data.toList.drop 46 = dktX4_keep_2 := dk_seg dksX4_keep_1 22 rfl rfl
theorem dksX4_keep_3 : cX4_keep.data.toList.drop 68 = dktX4_keep_3 := dk_seg dksX4_keep_2 22 rfl rfl
theorem dksX4_keep_4 : cX4_keep.data.toList.drop 92 = dktX4_keep_4 := dk_seg dksX4_keep_3 24 rfl rfl
theorem dksX4_keep_5 : cX4_keep.data.toList.drop 116 = dktX4_keep_5 := dk_seg dksX4_keep_4 24 rfl rfl
theorem dksX4_keep_6 : cX4_keep.data.toList.drop 140 = dktX4_keep_6 := dk_seg dksX4_keep_5 24 rfl rfl
theorem dksX4_keep_7 : cX4_keep.data.toList.drop 163 = dktX4_keep_7 := dk_seg dksX4_keep_6 23 rfl rfl
theorem dksX4_keep_8 : cX4_keep.data.toList.drop 187 = dktX4_keep_8 := dk_seg dksX4_keep_7 24 rfl rfl
theorem dX4_keep_0 : decode cX4_keep 0 = .ok (.bipush 65, 2) := dk_16 65 (dk_at dksX4_keep_0 0 rfl rfl)
theorem dX4_keep_2 : decode cX4_keep 2 = .ok (.bipush 6, 2) := dk_16 6 (dk_at dksX4_keep_0 2 rfl rfl)
theorem dX4_keep_4 : decode cX4_keep 4 = .ok (.aload_n 0, 1) := dk_42 (dk_at dksX4_keep_0 4 rfl rfl)
theorem dX4_keep_5 : decode cX4_keep 5 = .ok (.invokevirtual 363, 3) := dk_182 1 107 (dk_at dksX4_keep_0 5 rfl rfl)
theorem dX4_keep_8 : decode cX4_keep 8 = .ok (.imul, 1) := dk_104 (dk_at dksX4_keep_0 8 rfl rfl)
theorem dX4_keep_9 : decode cX4_keep 9 = .ok (.iadd, 1) := dk_96 (dk_at dksX4_keep_0 9 rfl rfl)
theorem dX4_keep_10 : decode cX4_keep 10 = .ok (.istore_n 1, 1) := dk_60 (dk_at dksX4_keep_0 10 rfl rfl)
theorem dX4_keep_11 : decode cX4_keep 11 = .ok (.bipush 7, 2) := dk_16 7 (dk_at dksX4_keep_0 11 rfl rfl)
theorem dX4_keep_13 : decode cX4_keep 13 = .ok (.istore_n 2, 1) := dk_61 (dk_at dksX4_keep_0 13 rfl rfl)
theorem dX4_keep_14 : decode cX4_keep 14 = .ok (.iconst 0, 1) := dk_3 (dk_at dksX4_keep_0 14 rfl rfl)
theorem dX4_keep_15 : decode cX4_keep 15 = .ok (.istore_n 3, 1) := dk_62 (dk_at dksX4_keep_0 15 rfl rfl)
theorem dX4_keep_16 : decode cX4_keep 16 = .ok (.iload_n 3, 1) := dk_29 (dk_at dksX4_keep_0 16 rfl rfl)
theorem dX4_keep_17 : decode cX4_keep 17 = .ok (.iload_n 1, 1) := dk_27 (dk_at dksX4_keep_0 17 rfl rfl)
theorem dX4_keep_18 : decode cX4_keep 18 = .ok (.if_icmp .ge 21, 3) := dk_162 0 21 (dk_at dksX4_keep_0 18 rfl rfl)
theorem dX4_keep_21 : decode cX4_keep 21 = .ok (.bipush 31, 2) := dk_16 31 (dk_at dksX4_keep_0 21 rfl rfl)
theorem dX4_keep_23 : decode cX4_keep 23 = .ok (.iload_n 2, 1) := dk_28 (dk_at dksX4_keep_0 23 rfl rfl)
theorem dX4_keep_24 : decode cX4_keep 24 = .ok (.imul, 1) := dk_104 (dk_at dksX4_keep_1 0 rfl rfl)
theorem dX4_keep_25 : decode cX4_keep 25 = .ok (.aload_n 0, 1) := dk_42 (dk_at dksX4_keep_1 1 rfl rfl)
theorem dX4_keep_26 : decode cX4_keep 26 = .ok (.getfield 99, 3) := dk_180 0 99 (dk_at dksX4_keep_1 2 rfl rfl)
theorem dX4_keep_29 : decode cX4_keep 29 = .ok (.iload_n 3, 1) := dk_29 (dk_at dksX4_keep_1 5 rfl rfl)
theorem dX4_keep_30 : decode cX4_keep 30 = .ok (.iaload, 1) := dk_46 (dk_at dksX4_keep_1 6 rfl rfl)
theorem dX4_keep_31 : decode cX4_keep 31 = .ok (.iadd, 1) := dk_96 (dk_at dksX4_keep_1 7 rfl rfl)
theorem dX4_keep_32 : decode cX4_keep 32 = .ok (.istore_n 2, 1) := dk_61 (dk_at dksX4_keep_1 8 rfl rfl)
theorem dX4_keep_33 : decode cX4_keep 33 = .ok (.iinc 3 1, 3) := dk_132 3 1 (dk_at dksX4_keep_1 9 rfl rfl)
theorem dX4_keep_36 : decode cX4_keep 36 = .ok (.goto (-20), 3) := dk_167 255 236 (dk_at dksX4_keep_1 12 rfl rfl)
theorem dX4_keep_39 : decode cX4_keep 39 = .ok (.iconst 0, 1) := dk_3 (dk_at dksX4_keep_1 15 rfl rfl)
theorem dX4_keep_40 : decode cX4_keep 40 = .ok (.istore_n 3, 1) := dk_62 (dk_at dksX4_keep_1 16 rfl rfl)
theorem dX4_keep_41 : decode cX4_keep 41 = .ok (.iload_n 3, 1) := dk_29 (dk_at dksX4_keep_1 17 rfl rfl)
theorem dX4_keep_42 : decode cX4_keep 42 = .ok (.aload_n 0, 1) := dk_42 (dk_at dksX4_keep_1 18 rfl rfl)
theorem dX4_keep_43 : decode cX4_keep 43 = .ok (.getfield 434, 3) := dk_180 1 178 (dk_at dksX4_keep_1 19 rfl rfl)
theorem dX4_keep_46 : decode cX4_keep 46 = .ok (.if_icmp .ge 90, 3) := dk_162 0 90 (dk_at dksX4_keep_2 0 rfl rfl)
theorem dX4_keep_49 : decode cX4_keep 49 = .ok (.aload_n 0, 1) := dk_42 (dk_at dksX4_keep_2 3 rfl rfl)
theorem dX4_keep_50 : decode cX4_keep 50 = .ok (.getfield 124, 3) := dk_180 0 124 (dk_at dksX4_keep_2 4 rfl rfl)
theorem dX4_keep_53 : decode cX4_keep 53 = .ok (.iload_n 3, 1) := dk_29 (dk_at dksX4_keep_2 7 rfl rfl)
theorem dX4_keep_54 : decode cX4_keep 54 = .ok (.iaload, 1) := dk_46 (dk_at dksX4_keep_2 8 rfl rfl)
theorem dX4_keep_55 : decode cX4_keep 55 = .ok (.iload_n 2, 1) := dk_28 (dk_at dksX4_keep_2 9 rfl rfl)
theorem dX4_keep_56 : decode cX4_keep 56 = .ok (.if_icmp .ne 74, 3) := dk_160 0 74 (dk_at dksX4_keep_2 10 rfl rfl)
theorem dX4_keep_59 : decode cX4_keep 59 = .ok (.aload_n 0, 1) := dk_42 (dk_at dksX4_keep_2 13 rfl rfl)
theorem dX4_keep_60 : decode cX4_keep 60 = .ok (.iload_n 3, 1) := dk_29 (dk_at dksX4_keep_2 14 rfl rfl)
theorem dX4_keep_61 : decode cX4_keep 61 = .ok (.invokevirtual 437, 3) := dk_182 1 181 (dk_at dksX4_keep_2 15 rfl rfl)
theorem dX4_keep_64 : decode cX4_keep 64 = .ok (.iload_n 1, 1) := dk_27 (dk_at dksX4_keep_2 18 rfl rfl)
theorem dX4_keep_65 : decode cX4_keep 65 = .ok (.if_icmp .eq 6, 3) := dk_159 0 6 (dk_at dksX4_keep_2 19 rfl rfl)
theorem dX4_keep_68 : decode cX4_keep 68 = .ok (.goto 62, 3) := dk_167 0 62 (dk_at dksX4_keep_3 0 rfl rfl)
theorem dX4_keep_71 : decode cX4_keep 71 = .ok (.iconst 1, 1) := dk_4 (dk_at dksX4_keep_3 3 rfl rfl)
theorem dX4_keep_72 : decode cX4_keep 72 = .ok (.istore 4, 2) := dk_54 4 (dk_at dksX4_keep_3 4 rfl rfl)
theorem dX4_keep_74 : decode cX4_keep 74 = .ok (.iconst 0, 1) := dk_3 (dk_at dksX4_keep_3 6 rfl rfl)
theorem dX4_keep_75 : decode cX4_keep 75 = .ok (.istore 5, 2) := dk_54 5 (dk_at dksX4_keep_3 7 rfl rfl)
theorem dX4_keep_77 : decode cX4_keep 77 = .ok (.iload 5, 2) := dk_21 5 (dk_at dksX4_keep_3 9 rfl rfl)
theorem dX4_keep_79 : decode cX4_keep 79 = .ok (.iload_n 1, 1) := dk_27 (dk_at dksX4_keep_3 11 rfl rfl)
theorem dX4_keep_80 : decode cX4_keep 80 = .ok (.if_icmp .ge 44, 3) := dk_162 0 44 (dk_at dksX4_keep_3 12 rfl rfl)
theorem dX4_keep_83 : decode cX4_keep 83 = .ok (.iload 4, 2) := dk_21 4 (dk_at dksX4_keep_3 15 rfl rfl)
theorem dX4_keep_85 : decode cX4_keep 85 = .ok (.ifCond .eq 39, 3) := dk_153 0 39 (dk_at dksX4_keep_3 17 rfl rfl)
theorem dX4_keep_88 : decode cX4_keep 88 = .ok (.aload_n 0, 1) := dk_42 (dk_at dksX4_keep_3 20 rfl rfl)
theorem dX4_keep_89 : decode cX4_keep 89 = .ok (.getfield 121, 3) := dk_180 0 121 (dk_at dksX4_keep_3 21 rfl rfl)
theorem dX4_keep_92 : decode cX4_keep 92 = .ok (.sipush 1985, 3) := dk_17 7 193 (dk_at dksX4_keep_4 0 rfl rfl)
theorem dX4_keep_95 : decode cX4_keep 95 = .ok (.iload_n 3, 1) := dk_29 (dk_at dksX4_keep_4 3 rfl rfl)
theorem dX4_keep_96 : decode cX4_keep 96 = .ok (.imul, 1) := dk_104 (dk_at dksX4_keep_4 4 rfl rfl)
theorem dX4_keep_97 : decode cX4_keep 97 = .ok (.iload 5, 2) := dk_21 5 (dk_at dksX4_keep_4 5 rfl rfl)
theorem dX4_keep_99 : decode cX4_keep 99 = .ok (.iadd, 1) := dk_96 (dk_at dksX4_keep_4 7 rfl rfl)
theorem dX4_keep_100 : decode cX4_keep 100 = .ok (.iaload, 1) := dk_46 (dk_at dksX4_keep_4 8 rfl rfl)
theorem dX4_keep_101 : decode cX4_keep 101 = .ok (.aload_n 0, 1) := dk_42 (dk_at dksX4_keep_4 9 rfl rfl)
theorem dX4_keep_102 : decode cX4_keep 102 = .ok (.getfield 99, 3) := dk_180 0 99 (dk_at dksX4_keep_4 10 rfl rfl)
theorem dX4_keep_105 : decode cX4_keep 105 = .ok (.iload 5, 2) := dk_21 5 (dk_at dksX4_keep_4 13 rfl rfl)
theorem dX4_keep_107 : decode cX4_keep 107 = .ok (.iaload, 1) := dk_46 (dk_at dksX4_keep_4 15 rfl rfl)
theorem dX4_keep_108 : decode cX4_keep 108 = .ok (.if_icmp .ne 7, 3) := dk_160 0 7 (dk_at dksX4_keep_4 16 rfl rfl)
theorem dX4_keep_111 : decode cX4_keep 111 = .ok (.iconst 1, 1) := dk_4 (dk_at dksX4_keep_4 19 rfl rfl)
theorem dX4_keep_112 : decode cX4_keep 112 = .ok (.goto 4, 3) := dk_167 0 4 (dk_at dksX4_keep_4 20 rfl rfl)
theorem dX4_keep_115 : decode cX4_keep 115 = .ok (.iconst 0, 1) := dk_3 (dk_at dksX4_keep_4 23 rfl rfl)
theorem dX4_keep_116 : decode cX4_keep 116 = .ok (.istore 4, 2) := dk_54 4 (dk_at dksX4_keep_5 0 rfl rfl)
theorem dX4_keep_118 : decode cX4_keep 118 = .ok (.iinc 5 1, 3) := dk_132 5 1 (dk_at dksX4_keep_5 2 rfl rfl)
theorem dX4_keep_121 : decode cX4_keep 121 = .ok (.goto (-44), 3) := dk_167 255 212 (dk_at dksX4_keep_5 5 rfl rfl)
theorem dX4_keep_124 : decode cX4_keep 124 = .ok (.iload 4, 2) := dk_21 4 (dk_at dksX4_keep_5 8 rfl rfl)
theorem dX4_keep_126 : decode cX4_keep 126 = .ok (.ifCond .eq 4, 3) := dk_153 0 4 (dk_at dksX4_keep_5 10 rfl rfl)
theorem dX4_keep_129 : decode cX4_keep 129 = .ok (.return_, 1) := dk_177 (dk_at dksX4_keep_5 13 rfl rfl)
theorem dX4_keep_130 : decode cX4_keep 130 = .ok (.iinc 3 1, 3) := dk_132 3 1 (dk_at dksX4_keep_5 14 rfl rfl)
theorem dX4_keep_133 : decode cX4_keep 133 = .ok (.goto (-92), 3) := dk_167 255 164 (dk_at dksX4_keep_5 17 rfl rfl)
theorem dX4_keep_136 : decode cX4_keep 136 = .ok (.aload_n 0, 1) := dk_42 (dk_at dksX4_keep_5 20 rfl rfl)
theorem dX4_keep_137 : decode cX4_keep 137 = .ok (.getfield 434, 3) := dk_180 1 178 (dk_at dksX4_keep_5 21 rfl rfl)
theorem dX4_keep_140 : decode cX4_keep 140 = .ok (.sipush 200, 3) := dk_17 0 200 (dk_at dksX4_keep_6 0 rfl rfl)
theorem dX4_keep_143 : decode cX4_keep 143 = .ok (.if_icmp .ne 9, 3) := dk_160 0 9 (dk_at dksX4_keep_6 3 rfl rfl)
theorem dX4_keep_146 : decode cX4_keep 146 = .ok (.aload_n 0, 1) := dk_42 (dk_at dksX4_keep_6 6 rfl rfl)
theorem dX4_keep_147 : decode cX4_keep 147 = .ok (.iconst 1, 1) := dk_4 (dk_at dksX4_keep_6 7 rfl rfl)
theorem dX4_keep_148 : decode cX4_keep 148 = .ok (.putfield 440, 3) := dk_181 1 184 (dk_at dksX4_keep_6 8 rfl rfl)
theorem dX4_keep_151 : decode cX4_keep 151 = .ok (.return_, 1) := dk_177 (dk_at dksX4_keep_6 11 rfl rfl)
theorem dX4_keep_152 : decode cX4_keep 152 = .ok (.iconst 0, 1) := dk_3 (dk_at dksX4_keep_6 12 rfl rfl)
theorem dX4_keep_153 : decode cX4_keep 153 = .ok (.istore_n 3, 1) := dk_62 (dk_at dksX4_keep_6 13 rfl rfl)
theorem dX4_keep_154 : decode cX4_keep 154 = .ok (.iload_n 3, 1) := dk_29 (dk_at dksX4_keep_6 14 rfl rfl)
theorem dX4_keep_155 : decode cX4_keep 155 = .ok (.iload_n 1, 1) := dk_27 (dk_at dksX4_keep_6 15 rfl rfl)
theorem dX4_keep_156 : decode cX4_keep 156 = .ok (.if_icmp .ge 30, 3) := dk_162 0 30 (dk_at dksX4_keep_6 16 rfl rfl)
theorem dX4_keep_159 : decode cX4_keep 159 = .ok (.aload_n 0, 1) := dk_42 (dk_at dksX4_keep_6 19 rfl rfl)
theorem dX4_keep_160 : decode cX4_keep 160 = .ok (.getfield 121, 3) := dk_180 0 121 (dk_at dksX4_keep_6 20 rfl rfl)
theorem dX4_keep_163 : decode cX4_keep 163 = .ok (.sipush 1985, 3) := dk_17 7 193 (dk_at dksX4_keep_7 0 rfl rfl)
theorem dX4_keep_166 : decode cX4_keep 166 = .ok (.aload_n 0, 1) := dk_42 (dk_at dksX4_keep_7 3 rfl rfl)
theorem dX4_keep_167 : decode cX4_keep 167 = .ok (.getfield 434, 3) := dk_180 1 178 (dk_at dksX4_keep_7 4 rfl rfl)
theorem dX4_keep_170 : decode cX4_keep 170 = .ok (.imul, 1) := dk_104 (dk_at dksX4_keep_7 7 rfl rfl)
theorem dX4_keep_171 : decode cX4_keep 171 = .ok (.iload_n 3, 1) := dk_29 (dk_at dksX4_keep_7 8 rfl rfl)
theorem dX4_keep_172 : decode cX4_keep 172 = .ok (.iadd, 1) := dk_96 (dk_at dksX4_keep_7 9 rfl rfl)
theorem dX4_keep_173 : decode cX4_keep 173 = .ok (.aload_n 0, 1) := dk_42 (dk_at dksX4_keep_7 10 rfl rfl)
theorem dX4_keep_174 : decode cX4_keep 174 = .ok (.getfield 99, 3) := dk_180 0 99 (dk_at dksX4_keep_7 11 rfl rfl)
theorem dX4_keep_177 : decode cX4_keep 177 = .ok (.iload_n 3, 1) := dk_29 (dk_at dksX4_keep_7 14 rfl rfl)
theorem dX4_keep_178 : decode cX4_keep 178 = .ok (.iaload, 1) := dk_46 (dk_at dksX4_keep_7 15 rfl rfl)
theorem dX4_keep_179 : decode cX4_keep 179 = .ok (.iastore, 1) := dk_79 (dk_at dksX4_keep_7 16 rfl rfl)
theorem dX4_keep_180 : decode cX4_keep 180 = .ok (.iinc 3 1, 3) := dk_132 3 1 (dk_at dksX4_keep_7 17 rfl rfl)
theorem dX4_keep_183 : decode cX4_keep 183 = .ok (.goto (-29), 3) := dk_167 255 227 (dk_at dksX4_keep_7 20 rfl rfl)
theorem dX4_keep_186 : decode cX4_keep 186 = .ok (.aload_n 0, 1) := dk_42 (dk_at dksX4_keep_7 23 rfl rfl)
theorem dX4_keep_187 : decode cX4_keep 187 = .ok (.getfield 124, 3) := dk_180 0 124 (dk_at dksX4_keep_8 0 rfl rfl)
theorem dX4_keep_190 : decode cX4_keep 190 = .ok (.aload_n 0, 1) := dk_42 (dk_at dksX4_keep_8 3 rfl rfl)
theorem dX4_keep_191 : decode cX4_keep 191 = .ok (.getfield 434, 3) := dk_180 1 178 (dk_at dksX4_keep_8 4 rfl rfl)
theorem dX4_keep_194 : decode cX4_keep 194 = .ok (.iload_n 2, 1) := dk_28 (dk_at dksX4_keep_8 7 rfl rfl)
theorem dX4_keep_195 : decode cX4_keep 195 = .ok (.iastore, 1) := dk_79 (dk_at dksX4_keep_8 8 rfl rfl)
theorem dX4_keep_196 : decode cX4_keep 196 = .ok (.aload_n 0, 1) := dk_42 (dk_at dksX4_keep_8 9 rfl rfl)
theorem dX4_keep_197 : decode cX4_keep 197 = .ok (.dup, 1) := dk_89 (dk_at dksX4_keep_8 10 rfl rfl)
theorem dX4_keep_198 : decode cX4_keep 198 = .ok (.getfield 434, 3) := dk_180 1 178 (dk_at dksX4_keep_8 11 rfl rfl)
theorem dX4_keep_201 : decode cX4_keep 201 = .ok (.iconst 1, 1) := dk_4 (dk_at dksX4_keep_8 14 rfl rfl)
theorem dX4_keep_202 : decode cX4_keep 202 = .ok (.iadd, 1) := dk_96 (dk_at dksX4_keep_8 15 rfl rfl)
theorem dX4_keep_203 : decode cX4_keep 203 = .ok (.putfield 434, 3) := dk_181 1 178 (dk_at dksX4_keep_8 16 rfl rfl)
theorem dX4_keep_206 : decode cX4_keep 206 = .ok (.return_, 1) := dk_177 (dk_at dksX4_keep_8 19 rfl rfl)
abbrev cX4_words : ByteArray := prog_21_method_38_code
def yX4_words : MethodName := ⟨RX4, "words", "()I"⟩
def dkwX4_words_0 : List UInt8 := [42, 180, 0, 99, 16, 64, 46, 172]
abbrev dktX4_words_0 : List UInt8 := dkwX4_words_0 ++ []
theorem dksX4_words_0 : cX4_words.data.toList.drop 0 = dktX4_words_0 := by decide +kernel
theorem dX4_words_0 : decode cX4_words 0 = .ok (.aload_n 0, 1) := dk_42 (dk_at dksX4_words_0 0 rfl rfl)
theorem dX4_words_1 : decode cX4_words 1 = .ok (.getfield 99, 3) := dk_180 0 99 (dk_at dksX4_words_0 1 rfl rfl)
theorem dX4_words_4 : decode cX4_words 4 = .ok (.bipush 64, 2) := dk_16 64 (dk_at dksX4_words_0 4 rfl rfl)
theorem dX4_words_6 : decode cX4_words 6 = .ok (.iaload, 1) := dk_46 (dk_at dksX4_words_0 6 rfl rfl)
theorem dX4_words_7 : decode cX4_words 7 = .ok (.ireturn, 1) := dk_172 (dk_at dksX4_words_0 7 rfl rfl)
abbrev cX4_used : ByteArray := prog_21_method_64_code
def yX4_used : MethodName := ⟨RX4, "used", "(I)I"⟩
def dkwX4_used_0 : List UInt8 := [16, 65, 16, 6, 42, 180, 0, 121, 17, 7, 193, 27, 104, 16, 64, 96, 46, 104, 96, 172]
abbrev dktX4_used_0 : List UInt8 := dkwX4_used_0 ++ []
theorem dksX4_used_0 : cX4_used.data.toList.drop 0 = dktX4_used_0 := by decide +kernel
theorem dX4_used_0 : decode cX4_used 0 = .ok (.bipush 65, 2) := dk_16 65 (dk_at dksX4_used_0 0 rfl rfl)
theorem dX4_used_2 : decode cX4_used 2 = .ok (.bipush 6, 2) := dk_16 6 (dk_at dksX4_used_0 2 rfl rfl)
theorem dX4_used_4 : decode cX4_used 4 = .ok (.aload_n 0, 1) := dk_42 (dk_at dksX4_used_0 4 rfl rfl)
theorem dX4_used_5 : decode cX4_used 5 = .ok (.getfield 121, 3) := dk_180 0 121 (dk_at dksX4_used_0 5 rfl rfl)
theorem dX4_used_8 : decode cX4_used 8 = .ok (.sipush 1985, 3) := dk_17 7 193 (dk_at dksX4_used_0 8 rfl rfl)
theorem dX4_used_11 : decode cX4_used 11 = .ok (.iload_n 1, 1) := dk_27 (dk_at dksX4_used_0 11 rfl rfl)
theorem dX4_used_12 : decode cX4_used 12 = .ok (.imul, 1) := dk_104 (dk_at dksX4_used_0 12 rfl rfl)
theorem dX4_used_13 : decode cX4_used 13 = .ok (.bipush 64, 2) := dk_16 64 (dk_at dksX4_used_0 13 rfl rfl)
theorem dX4_used_15 : decode cX4_used 15 = .ok (.iadd, 1) := dk_96 (dk_at dksX4_used_0 15 rfl rfl)
theorem dX4_used_16 : decode cX4_used 16 = .ok (.iaload, 1) := dk_46 (dk_at dksX4_used_0 16 rfl rfl)
theorem dX4_used_17 : decode cX4_used 17 = .ok (.imul, 1) := dk_104 (dk_at dksX4_used_0 17 rfl rfl)
theorem dX4_used_18 : decode cX4_used 18 = .ok (.iadd, 1) := dk_96 (dk_at dksX4_used_0 18 rfl rfl)
theorem dX4_used_19 : decode cX4_used 19 = .ok (.ireturn, 1) := dk_172 (dk_at dksX4_used_0 19 rfl rfl)
abbrev cX4_from : ByteArray := prog_21_method_67_code
def yX4_from : MethodName := ⟨RX4, "from", "(I)V"⟩
def dkwX4_from_6 : List UInt8 := [132, 2, 1, 167, 255, 123, 177]
abbrev dktX4_from_6 : List UInt8 := dkwX4_from_6 ++ []
def dkwX4_from_5 : List UInt8 := [180, 1, 162, 96, 92, 46, 4, 42, 180, 1, 159, 120, 128, 79, 42, 182, 1, 197, 132, 4, 1, 167, 255, 159]
abbrev dktX4_from_5 : List UInt8 := dkwX4_from_5 ++ dktX4_from_6
def dkwX4_from_4 : List UInt8 := [182, 1, 194, 42, 180, 1, 156, 2, 159, 0, 29, 42, 180, 0, 133, 16, 40, 42, 180, 1, 156, 104, 42]
abbrev dktX4_from_4 : List UInt8 := dkwX4_from_4 ++ dktX4_from_5
def dkwX4_from_3 : List UInt8 := [21, 4, 182, 1, 191, 154, 0, 6, 167, 0, 55, 42, 180, 0, 127, 27, 3, 84, 42, 28, 21, 4]
abbrev dktX4_from_3 : List UInt8 := dkwX4_from_3 ++ dktX4_from_4
def dkwX4_from_2 : List UInt8 := [180, 0, 54, 167, 0, 4, 4, 162, 0, 86, 42, 180, 1, 184, 154, 0, 79, 42, 27, 182, 1, 188, 42, 28]
abbrev dktX4_from_2 : List UInt8 := dkwX4_from_2 ++ dktX4_from_3
def dkwX4_from_1 : List UInt8 := [42, 27, 182, 1, 188, 42, 28, 7, 182, 1, 119, 62, 3, 54, 4, 21, 4, 29, 153, 0, 10, 42]
abbrev dktX4_from_1 : List UInt8 := dkwX4_from_1 ++ dktX4_from_2
def dkwX4_from_0 : List UInt8 := [42, 180, 0, 127, 27, 4, 84, 3, 61, 28, 42, 180, 0, 54, 162, 0, 131, 42, 180, 1, 184, 154, 0, 124]
abbrev dktX4_from_0 : List UInt8 := dkwX4_from_0 ++ dktX4_from_1
theorem dksX4_from_0 : cX4_from.data.toList.drop 0 = dktX4_from_0 := by decide +kernel
theorem dksX4_from_1 : cX4_from.data.toList.drop 24 = dktX4_from_1 := dk_seg dksX4_from_0 24 rfl rfl
theorem dksX4_from_2 : cX4_from.data.toList.drop 46 = dktX4_from_2 := dk_seg dksX4_from_1 22 rfl rfl
theorem dksX4_from_3 : cX4_from.data.toList.drop 70 = dktX4_from_3 := dk_seg dksX4_from_2 24 rfl rfl
theorem dksX4_from_4 : cX4_from.data.toList.drop 92 = dktX4_from_4 := dk_seg dksX4_from_3 22 rfl rfl
theorem dksX4_from_5 : cX4_from.data.toList.drop 115 = dktX4_from_5 := dk_seg dksX4_from_4 23 rfl rfl
theorem dksX4_from_6 : cX4_from.data.toList.drop 139 = dktX4_from_6 := dk_seg dksX4_from_5 24 rfl rfl
theorem dX4_from_0 : decode cX4_from 0 = .ok (.aload_n 0, 1) := dk_42 (dk_at dksX4_from_0 0 rfl rfl)
theorem dX4_from_1 : decode cX4_from 1 = .ok (.getfield 127, 3) := dk_180 0 127 (dk_at dksX4_from_0 1 rfl rfl)
theorem dX4_from_4 : decode cX4_from 4 = .ok (.iload_n 1, 1) := dk_27 (dk_at dksX4_from_0 4 rfl rfl)
theorem dX4_from_5 : decode cX4_from 5 = .ok (.iconst 1, 1) := dk_4 (dk_at dksX4_from_0 5 rfl rfl)
theorem dX4_from_6 : decode cX4_from 6 = .ok (.bastore, 1) := dk_84 (dk_at dksX4_from_0 6 rfl rfl)
theorem dX4_from_7 : decode cX4_from 7 = .ok (.iconst 0, 1) := dk_3 (dk_at dksX4_from_0 7 rfl rfl)
theorem dX4_from_8 : decode cX4_from 8 = .ok (.istore_n 2, 1) := dk_61 (dk_at dksX4_from_0 8 rfl rfl)
theorem dX4_from_9 : decode cX4_from 9 = .ok (.iload_n 2, 1) := dk_28 (dk_at dksX4_from_0 9 rfl rfl)
theorem dX4_from_10 : decode cX4_from 10 = .ok (.aload_n 0, 1) := dk_42 (dk_at dksX4_from_0 10 rfl rfl)
theorem dX4_from_11 : decode cX4_from 11 = .ok (.getfield 54, 3) := dk_180 0 54 (dk_at dksX4_from_0 11 rfl rfl)
theorem dX4_from_14 : decode cX4_from 14 = .ok (.if_icmp .ge 131, 3) := dk_162 0 131 (dk_at dksX4_from_0 14 rfl rfl)
theorem dX4_from_17 : decode cX4_from 17 = .ok (.aload_n 0, 1) := dk_42 (dk_at dksX4_from_0 17 rfl rfl)
theorem dX4_from_18 : decode cX4_from 18 = .ok (.getfield 440, 3) := dk_180 1 184 (dk_at dksX4_from_0 18 rfl rfl)
theorem dX4_from_21 : decode cX4_from 21 = .ok (.ifCond .ne 124, 3) := dk_154 0 124 (dk_at dksX4_from_0 21 rfl rfl)
theorem dX4_from_24 : decode cX4_from 24 = .ok (.aload_n 0, 1) := dk_42 (dk_at dksX4_from_1 0 rfl rfl)
theorem dX4_from_25 : decode cX4_from 25 = .ok (.iload_n 1, 1) := dk_27 (dk_at dksX4_from_1 1 rfl rfl)
theorem dX4_from_26 : decode cX4_from 26 = .ok (.invokevirtual 444, 3) := dk_182 1 188 (dk_at dksX4_from_1 2 rfl rfl)
theorem dX4_from_29 : decode cX4_from 29 = .ok (.aload_n 0, 1) := dk_42 (dk_at dksX4_from_1 5 rfl rfl)
theorem dX4_from_30 : decode cX4_from 30 = .ok (.iload_n 2, 1) := dk_28 (dk_at dksX4_from_1 6 rfl rfl)
theorem dX4_from_31 : decode cX4_from 31 = .ok (.iconst 4, 1) := dk_7 (dk_at dksX4_from_1 7 rfl rfl)
theorem dX4_from_32 : decode cX4_from 32 = .ok (.invokevirtual 375, 3) := dk_182 1 119 (dk_at dksX4_from_1 8 rfl rfl)
theorem dX4_from_35 : decode cX4_from 35 = .ok (.istore_n 3, 1) := dk_62 (dk_at dksX4_from_1 11 rfl rfl)
theorem dX4_from_36 : decode cX4_from 36 = .ok (.iconst 0, 1) := dk_3 (dk_at dksX4_from_1 12 rfl rfl)
theorem dX4_from_37 : decode cX4_from 37 = .ok (.istore 4, 2) := dk_54 4 (dk_at dksX4_from_1 13 rfl rfl)
theorem dX4_from_39 : decode cX4_from 39 = .ok (.iload 4, 2) := dk_21 4 (dk_at dksX4_from_1 15 rfl rfl)
theorem dX4_from_41 : decode cX4_from 41 = .ok (.iload_n 3, 1) := dk_29 (dk_at dksX4_from_1 17 rfl rfl)
theorem dX4_from_42 : decode cX4_from 42 = .ok (.ifCond .eq 10, 3) := dk_153 0 10 (dk_at dksX4_from_1 18 rfl rfl)
theorem dX4_from_45 : decode cX4_from 45 = .ok (.aload_n 0, 1) := dk_42 (dk_at dksX4_from_1 21 rfl rfl)
theorem dX4_from_46 : decode cX4_from 46 = .ok (.getfield 54, 3) := dk_180 0 54 (dk_at dksX4_from_2 0 rfl rfl)
theorem dX4_from_49 : decode cX4_from 49 = .ok (.goto 4, 3) := dk_167 0 4 (dk_at dksX4_from_2 3 rfl rfl)
theorem dX4_from_52 : decode cX4_from 52 = .ok (.iconst 1, 1) := dk_4 (dk_at dksX4_from_2 6 rfl rfl)
theorem dX4_from_53 : decode cX4_from 53 = .ok (.if_icmp .ge 86, 3) := dk_162 0 86 (dk_at dksX4_from_2 7 rfl rfl)
theorem dX4_from_56 : decode cX4_from 56 = .ok (.aload_n 0, 1) := dk_42 (dk_at dksX4_from_2 10 rfl rfl)
theorem dX4_from_57 : decode cX4_from 57 = .ok (.getfield 440, 3) := dk_180 1 184 (dk_at dksX4_from_2 11 rfl rfl)
theorem dX4_from_60 : decode cX4_from 60 = .ok (.ifCond .ne 79, 3) := dk_154 0 79 (dk_at dksX4_from_2 14 rfl rfl)
theorem dX4_from_63 : decode cX4_from 63 = .ok (.aload_n 0, 1) := dk_42 (dk_at dksX4_from_2 17 rfl rfl)
theorem dX4_from_64 : decode cX4_from 64 = .ok (.iload_n 1, 1) := dk_27 (dk_at dksX4_from_2 18 rfl rfl)
theorem dX4_from_65 : decode cX4_from 65 = .ok (.invokevirtual 444, 3) := dk_182 1 188 (dk_at dksX4_from_2 19 rfl rfl)
theorem dX4_from_68 : decode cX4_from 68 = .ok (.aload_n 0, 1) := dk_42 (dk_at dksX4_from_2 22 rfl rfl)
theorem dX4_from_69 : decode cX4_from 69 = .ok (.iload_n 2, 1) := dk_28 (dk_at dksX4_from_2 23 rfl rfl)
theorem dX4_from_70 : decode cX4_from 70 = .ok (.iload 4, 2) := dk_21 4 (dk_at dksX4_from_3 0 rfl rfl)
theorem dX4_from_72 : decode cX4_from 72 = .ok (.invokevirtual 447, 3) := dk_182 1 191 (dk_at dksX4_from_3 2 rfl rfl)
theorem dX4_from_75 : decode cX4_from 75 = .ok (.ifCond .ne 6, 3) := dk_154 0 6 (dk_at dksX4_from_3 5 rfl rfl)
theorem dX4_from_78 : decode cX4_from 78 = .ok (.goto 55, 3) := dk_167 0 55 (dk_at dksX4_from_3 8 rfl rfl)
theorem dX4_from_81 : decode cX4_from 81 = .ok (.aload_n 0, 1) := dk_42 (dk_at dksX4_from_3 11 rfl rfl)
theorem dX4_from_82 : decode cX4_from 82 = .ok (.getfield 127, 3) := dk_180 0 127 (dk_at dksX4_from_3 12 rfl rfl)
theorem dX4_from_85 : decode cX4_from 85 = .ok (.iload_n 1, 1) := dk_27 (dk_at dksX4_from_3 15 rfl rfl)
theorem dX4_from_86 : decode cX4_from 86 = .ok (.iconst 0, 1) := dk_3 (dk_at dksX4_from_3 16 rfl rfl)
theorem dX4_from_87 : decode cX4_from 87 = .ok (.bastore, 1) := dk_84 (dk_at dksX4_from_3 17 rfl rfl)
theorem dX4_from_88 : decode cX4_from 88 = .ok (.aload_n 0, 1) := dk_42 (dk_at dksX4_from_3 18 rfl rfl)
theorem dX4_from_89 : decode cX4_from 89 = .ok (.iload_n 2, 1) := dk_28 (dk_at dksX4_from_3 19 rfl rfl)
theorem dX4_from_90 : decode cX4_from 90 = .ok (.iload 4, 2) := dk_21 4 (dk_at dksX4_from_3 20 rfl rfl)
theorem dX4_from_92 : decode cX4_from 92 = .ok (.invokevirtual 450, 3) := dk_182 1 194 (dk_at dksX4_from_4 0 rfl rfl)
theorem dX4_from_95 : decode cX4_from 95 = .ok (.aload_n 0, 1) := dk_42 (dk_at dksX4_from_4 3 rfl rfl)
theorem dX4_from_96 : decode cX4_from 96 = .ok (.getfield 412, 3) := dk_180 1 156 (dk_at dksX4_from_4 4 rfl rfl)
theorem dX4_from_99 : decode cX4_from 99 = .ok (.iconst (-1), 1) := dk_2 (dk_at dksX4_from_4 7 rfl rfl)
theorem dX4_from_100 : decode cX4_from 100 = .ok (.if_icmp .eq 29, 3) := dk_159 0 29 (dk_at dksX4_from_4 8 rfl rfl)
theorem dX4_from_103 : decode cX4_from 103 = .ok (.aload_n 0, 1) := dk_42 (dk_at dksX4_from_4 11 rfl rfl)
theorem dX4_from_104 : decode cX4_from 104 = .ok (.getfield 133, 3) := dk_180 0 133 (dk_at dksX4_from_4 12 rfl rfl)
theorem dX4_from_107 : decode cX4_from 107 = .ok (.bipush 40, 2) := dk_16 40 (dk_at dksX4_from_4 15 rfl rfl)
theorem dX4_from_109 : decode cX4_from 109 = .ok (.aload_n 0, 1) := dk_42 (dk_at dksX4_from_4 17 rfl rfl)
theorem dX4_from_110 : decode cX4_from 110 = .ok (.getfield 412, 3) := dk_180 1 156 (dk_at dksX4_from_4 18 rfl rfl)
theorem dX4_from_113 : decode cX4_from 113 = .ok (.imul, 1) := dk_104 (dk_at dksX4_from_4 21 rfl rfl)
theorem dX4_from_114 : decode cX4_from 114 = .ok (.aload_n 0, 1) := dk_42 (dk_at dksX4_from_4 22 rfl rfl)
theorem dX4_from_115 : decode cX4_from 115 = .ok (.getfield 418, 3) := dk_180 1 162 (dk_at dksX4_from_5 0 rfl rfl)
theorem dX4_from_118 : decode cX4_from 118 = .ok (.iadd, 1) := dk_96 (dk_at dksX4_from_5 3 rfl rfl)
theorem dX4_from_119 : decode cX4_from 119 = .ok (.dup2, 1) := dk_92 (dk_at dksX4_from_5 4 rfl rfl)
theorem dX4_from_120 : decode cX4_from 120 = .ok (.iaload, 1) := dk_46 (dk_at dksX4_from_5 5 rfl rfl)
theorem dX4_from_121 : decode cX4_from 121 = .ok (.iconst 1, 1) := dk_4 (dk_at dksX4_from_5 6 rfl rfl)
theorem dX4_from_122 : decode cX4_from 122 = .ok (.aload_n 0, 1) := dk_42 (dk_at dksX4_from_5 7 rfl rfl)
theorem dX4_from_123 : decode cX4_from 123 = .ok (.getfield 415, 3) := dk_180 1 159 (dk_at dksX4_from_5 8 rfl rfl)
theorem dX4_from_126 : decode cX4_from 126 = .ok (.ishl, 1) := dk_120 (dk_at dksX4_from_5 11 rfl rfl)
theorem dX4_from_127 : decode cX4_from 127 = .ok (.ior, 1) := dk_128 (dk_at dksX4_from_5 12 rfl rfl)
theorem dX4_from_128 : decode cX4_from 128 = .ok (.iastore, 1) := dk_79 (dk_at dksX4_from_5 13 rfl rfl)
theorem dX4_from_129 : decode cX4_from 129 = .ok (.aload_n 0, 1) := dk_42 (dk_at dksX4_from_5 14 rfl rfl)
theorem dX4_from_130 : decode cX4_from 130 = .ok (.invokevirtual 453, 3) := dk_182 1 197 (dk_at dksX4_from_5 15 rfl rfl)
theorem dX4_from_133 : decode cX4_from 133 = .ok (.iinc 4 1, 3) := dk_132 4 1 (dk_at dksX4_from_5 18 rfl rfl)
theorem dX4_from_136 : decode cX4_from 136 = .ok (.goto (-97), 3) := dk_167 255 159 (dk_at dksX4_from_5 21 rfl rfl)
theorem dX4_from_139 : decode cX4_from 139 = .ok (.iinc 2 1, 3) := dk_132 2 1 (dk_at dksX4_from_6 0 rfl rfl)
theorem dX4_from_142 : decode cX4_from 142 = .ok (.goto (-133), 3) := dk_167 255 123 (dk_at dksX4_from_6 3 rfl rfl)
theorem dX4_from_145 : decode cX4_from 145 = .ok (.return_, 1) := dk_177 (dk_at dksX4_from_6 6 rfl rfl)
abbrev cX4_bring : ByteArray := prog_21_method_66_code
def yX4_bring : MethodName := ⟨RX4, "bring", "(I)V"⟩
def dkwX4_bring_3 : List UInt8 := [132, 4, 1, 167, 255, 239, 177]
abbrev dktX4_bring_3 : List UInt8 := dkwX4_bring_3 ++ []
def dkwX4_bring_2 : List UInt8 := [132, 4, 1, 167, 255, 227, 28, 54, 4, 21, 4, 29, 162, 0, 17, 42, 180, 0, 99, 21, 4, 3, 79]
abbrev dktX4_bring_2 : List UInt8 := dkwX4_bring_2 ++ dktX4_bring_3
def dkwX4_bring_1 : List UInt8 := [162, 0, 29, 42, 180, 0, 99, 21, 4, 42, 180, 0, 121, 17, 7, 193, 27, 104, 21, 4, 96, 46, 79]
abbrev dktX4_bring_1 : List UInt8 := dkwX4_bring_1 ++ dktX4_bring_2
def dkwX4_bring_0 : List UInt8 := [42, 27, 182, 1, 181, 61, 16, 65, 16, 6, 42, 182, 1, 107, 104, 96, 62, 3, 54, 4, 21, 4, 28]
abbrev dktX4_bring_0 : List UInt8 := dkwX4_bring_0 ++ dktX4_bring_1
theorem dksX4_bring_0 : cX4_bring.data.toList.drop 0 = dktX4_bring_0 := by decide +kernel
theorem dksX4_bring_1 : cX4_bring.data.toList.drop 23 = dktX4_bring_1 := dk_seg dksX4_bring_0 23 rfl rfl
theorem dksX4_bring_2 : cX4_bring.data.toList.drop 46 = dktX4_bring_2 := dk_seg dksX4_bring_1 23 rfl rfl
theorem dksX4_bring_3 : cX4_bring.data.toList.drop 69 = dktX4_bring_3 := dk_seg dksX4_bring_2 23 rfl rfl
theorem dX4_bring_0 : decode cX4_bring 0 = .ok (.aload_n 0, 1) := dk_42 (dk_at dksX4_bring_0 0 rfl rfl)
theorem dX4_bring_1 : decode cX4_bring 1 = .ok (.iload_n 1, 1) := dk_27 (dk_at dksX4_bring_0 1 rfl rfl)
theorem dX4_bring_2 : decode cX4_bring 2 = .ok (.invokevirtual 437, 3) := dk_182 1 181 (dk_at dksX4_bring_0 2 rfl rfl)
theorem dX4_bring_5 : decode cX4_bring 5 = .ok (.istore_n 2, 1) := dk_61 (dk_at dksX4_bring_0 5 rfl rfl)
theorem dX4_bring_6 : decode cX4_bring 6 = .ok (.bipush 65, 2) := dk_16 65 (dk_at dksX4_bring_0 6 rfl rfl)
theorem dX4_bring_8 : decode cX4_bring 8 = .ok (.bipush 6, 2) := dk_16 6 (dk_at dksX4_bring_0 8 rfl rfl)
theorem dX4_bring_10 : decode cX4_bring 10 = .ok (.aload_n 0, 1) := dk_42 (dk_at dksX4_bring_0 10 rfl rfl)
theorem dX4_bring_11 : decode cX4_bring 11 = .ok (.invokevirtual 363, 3) := dk_182 1 107 (dk_at dksX4_bring_0 11 rfl rfl)
theorem dX4_bring_14 : decode cX4_bring 14 = .ok (.imul, 1) := dk_104 (dk_at dksX4_bring_0 14 rfl rfl)
theorem dX4_bring_15 : decode cX4_bring 15 = .ok (.iadd, 1) := dk_96 (dk_at dksX4_bring_0 15 rfl rfl)
theorem dX4_bring_16 : decode cX4_bring 16 = .ok (.istore_n 3, 1) := dk_62 (dk_at dksX4_bring_0 16 rfl rfl)
theorem dX4_bring_17 : decode cX4_bring 17 = .ok (.iconst 0, 1) := dk_3 (dk_at dksX4_bring_0 17 rfl rfl)
theorem dX4_bring_18 : decode cX4_bring 18 = .ok (.istore 4, 2) := dk_54 4 (dk_at dksX4_bring_0 18 rfl rfl)
theorem dX4_bring_20 : decode cX4_bring 20 = .ok (.iload 4, 2) := dk_21 4 (dk_at dksX4_bring_0 20 rfl rfl)
theorem dX4_bring_22 : decode cX4_bring 22 = .ok (.iload_n 2, 1) := dk_28 (dk_at dksX4_bring_0 22 rfl rfl)
theorem dX4_bring_23 : decode cX4_bring 23 = .ok (.if_icmp .ge 29, 3) := dk_162 0 29 (dk_at dksX4_bring_1 0 rfl rfl)
theorem dX4_bring_26 : decode cX4_bring 26 = .ok (.aload_n 0, 1) := dk_42 (dk_at dksX4_bring_1 3 rfl rfl)
theorem dX4_bring_27 : decode cX4_bring 27 = .ok (.getfield 99, 3) := dk_180 0 99 (dk_at dksX4_bring_1 4 rfl rfl)
theorem dX4_bring_30 : decode cX4_bring 30 = .ok (.iload 4, 2) := dk_21 4 (dk_at dksX4_bring_1 7 rfl rfl)
theorem dX4_bring_32 : decode cX4_bring 32 = .ok (.aload_n 0, 1) := dk_42 (dk_at dksX4_bring_1 9 rfl rfl)
theorem dX4_bring_33 : decode cX4_bring 33 = .ok (.getfield 121, 3) := dk_180 0 121 (dk_at dksX4_bring_1 10 rfl rfl)
theorem dX4_bring_36 : decode cX4_bring 36 = .ok (.sipush 1985, 3) := dk_17 7 193 (dk_at dksX4_bring_1 13 rfl rfl)
theorem dX4_bring_39 : decode cX4_bring 39 = .ok (.iload_n 1, 1) := dk_27 (dk_at dksX4_bring_1 16 rfl rfl)
theorem dX4_bring_40 : decode cX4_bring 40 = .ok (.imul, 1) := dk_104 (dk_at dksX4_bring_1 17 rfl rfl)
theorem dX4_bring_41 : decode cX4_bring 41 = .ok (.iload 4, 2) := dk_21 4 (dk_at dksX4_bring_1 18 rfl rfl)
theorem dX4_bring_43 : decode cX4_bring 43 = .ok (.iadd, 1) := dk_96 (dk_at dksX4_bring_1 20 rfl rfl)
theorem dX4_bring_44 : decode cX4_bring 44 = .ok (.iaload, 1) := dk_46 (dk_at dksX4_bring_1 21 rfl rfl)
theorem dX4_bring_45 : decode cX4_bring 45 = .ok (.iastore, 1) := dk_79 (dk_at dksX4_bring_1 22 rfl rfl)
theorem dX4_bring_46 : decode cX4_bring 46 = .ok (.iinc 4 1, 3) := dk_132 4 1 (dk_at dksX4_bring_2 0 rfl rfl)
theorem dX4_bring_49 : decode cX4_bring 49 = .ok (.goto (-29), 3) := dk_167 255 227 (dk_at dksX4_bring_2 3 rfl rfl)
theorem dX4_bring_52 : decode cX4_bring 52 = .ok (.iload_n 2, 1) := dk_28 (dk_at dksX4_bring_2 6 rfl rfl)
theorem dX4_bring_53 : decode cX4_bring 53 = .ok (.istore 4, 2) := dk_54 4 (dk_at dksX4_bring_2 7 rfl rfl)
theorem dX4_bring_55 : decode cX4_bring 55 = .ok (.iload 4, 2) := dk_21 4 (dk_at dksX4_bring_2 9 rfl rfl)
theorem dX4_bring_57 : decode cX4_bring 57 = .ok (.iload_n 3, 1) := dk_29 (dk_at dksX4_bring_2 11 rfl rfl)
theorem dX4_bring_58 : decode cX4_bring 58 = .ok (.if_icmp .ge 17, 3) := dk_162 0 17 (dk_at dksX4_bring_2 12 rfl rfl)
theorem dX4_bring_61 : decode cX4_bring 61 = .ok (.aload_n 0, 1) := dk_42 (dk_at dksX4_bring_2 15 rfl rfl)
theorem dX4_bring_62 : decode cX4_bring 62 = .ok (.getfield 99, 3) := dk_180 0 99 (dk_at dksX4_bring_2 16 rfl rfl)
theorem dX4_bring_65 : decode cX4_bring 65 = .ok (.iload 4, 2) := dk_21 4 (dk_at dksX4_bring_2 19 rfl rfl)
theorem dX4_bring_67 : decode cX4_bring 67 = .ok (.iconst 0, 1) := dk_3 (dk_at dksX4_bring_2 21 rfl rfl)
theorem dX4_bring_68 : decode cX4_bring 68 = .ok (.iastore, 1) := dk_79 (dk_at dksX4_bring_2 22 rfl rfl)
theorem dX4_bring_69 : decode cX4_bring 69 = .ok (.iinc 4 1, 3) := dk_132 4 1 (dk_at dksX4_bring_3 0 rfl rfl)
theorem dX4_bring_72 : decode cX4_bring 72 = .ok (.goto (-17), 3) := dk_167 255 239 (dk_at dksX4_bring_3 3 rfl rfl)
theorem dX4_bring_75 : decode cX4_bring 75 = .ok (.return_, 1) := dk_177 (dk_at dksX4_bring_3 6 rfl rfl)
abbrev cX4_isAt : ByteArray := prog_21_method_47_code
def yX4_isAt : MethodName := ⟨RX4, "isAt", "(II)Z"⟩
def dkwX4_isAt_1 : List UInt8 := [180, 0, 71, 29, 46, 28, 160, 0, 7, 4, 167, 0, 4, 3, 172]
abbrev dktX4_isAt_1 : List UInt8 := dkwX4_isAt_1 ++ []
def dkwX4_isAt_0 : List UInt8 := [42, 27, 3, 182, 1, 81, 62, 29, 2, 159, 0, 26, 42, 27, 4, 182, 1, 81, 154, 0, 17, 42]
abbrev dktX4_isAt_0 : List UInt8 := dkwX4_isAt_0 ++ dktX4_isAt_1
theorem dksX4_isAt_0 : cX4_isAt.data.toList.drop 0 = dktX4_isAt_0 := by decide +kernel
theorem dksX4_isAt_1 : cX4_isAt.data.toList.drop 22 = dktX4_isAt_1 := dk_seg dksX4_isAt_0 22 rfl rfl
theorem dX4_isAt_0 : decode cX4_isAt 0 = .ok (.aload_n 0, 1) := dk_42 (dk_at dksX4_isAt_0 0 rfl rfl)
theorem dX4_isAt_1 : decode cX4_isAt 1 = .ok (.iload_n 1, 1) := dk_27 (dk_at dksX4_isAt_0 1 rfl rfl)
theorem dX4_isAt_2 : decode cX4_isAt 2 = .ok (.iconst 0, 1) := dk_3 (dk_at dksX4_isAt_0 2 rfl rfl)
theorem dX4_isAt_3 : decode cX4_isAt 3 = .ok (.invokevirtual 337, 3) := dk_182 1 81 (dk_at dksX4_isAt_0 3 rfl rfl)
theorem dX4_isAt_6 : decode cX4_isAt 6 = .ok (.istore_n 3, 1) := dk_62 (dk_at dksX4_isAt_0 6 rfl rfl)
theorem dX4_isAt_7 : decode cX4_isAt 7 = .ok (.iload_n 3, 1) := dk_29 (dk_at dksX4_isAt_0 7 rfl rfl)
theorem dX4_isAt_8 : decode cX4_isAt 8 = .ok (.iconst (-1), 1) := dk_2 (dk_at dksX4_isAt_0 8 rfl rfl)
theorem dX4_isAt_9 : decode cX4_isAt 9 = .ok (.if_icmp .eq 26, 3) := dk_159 0 26 (dk_at dksX4_isAt_0 9 rfl rfl)
theorem dX4_isAt_12 : decode cX4_isAt 12 = .ok (.aload_n 0, 1) := dk_42 (dk_at dksX4_isAt_0 12 rfl rfl)
theorem dX4_isAt_13 : decode cX4_isAt 13 = .ok (.iload_n 1, 1) := dk_27 (dk_at dksX4_isAt_0 13 rfl rfl)
theorem dX4_isAt_14 : decode cX4_isAt 14 = .ok (.iconst 1, 1) := dk_4 (dk_at dksX4_isAt_0 14 rfl rfl)
theorem dX4_isAt_15 : decode cX4_isAt 15 = .ok (.invokevirtual 337, 3) := dk_182 1 81 (dk_at dksX4_isAt_0 15 rfl rfl)
theorem dX4_isAt_18 : decode cX4_isAt 18 = .ok (.ifCond .ne 17, 3) := dk_154 0 17 (dk_at dksX4_isAt_0 18 rfl rfl)
theorem dX4_isAt_21 : decode cX4_isAt 21 = .ok (.aload_n 0, 1) := dk_42 (dk_at dksX4_isAt_0 21 rfl rfl)
theorem dX4_isAt_22 : decode cX4_isAt 22 = .ok (.getfield 71, 3) := dk_180 0 71 (dk_at dksX4_isAt_1 0 rfl rfl)
theorem dX4_isAt_25 : decode cX4_isAt 25 = .ok (.iload_n 3, 1) := dk_29 (dk_at dksX4_isAt_1 3 rfl rfl)
theorem dX4_isAt_26 : decode cX4_isAt 26 = .ok (.iaload, 1) := dk_46 (dk_at dksX4_isAt_1 4 rfl rfl)
theorem dX4_isAt_27 : decode cX4_isAt 27 = .ok (.iload_n 2, 1) := dk_28 (dk_at dksX4_isAt_1 5 rfl rfl)
theorem dX4_isAt_28 : decode cX4_isAt 28 = .ok (.if_icmp .ne 7, 3) := dk_160 0 7 (dk_at dksX4_isAt_1 6 rfl rfl)
theorem dX4_isAt_31 : decode cX4_isAt 31 = .ok (.iconst 1, 1) := dk_4 (dk_at dksX4_isAt_1 9 rfl rfl)
theorem dX4_isAt_32 : decode cX4_isAt 32 = .ok (.goto 4, 3) := dk_167 0 4 (dk_at dksX4_isAt_1 10 rfl rfl)
theorem dX4_isAt_35 : decode cX4_isAt 35 = .ok (.iconst 0, 1) := dk_3 (dk_at dksX4_isAt_1 13 rfl rfl)
theorem dX4_isAt_36 : decode cX4_isAt 36 = .ok (.ireturn, 1) := dk_172 (dk_at dksX4_isAt_1 14 rfl rfl)
abbrev cX4_can : ByteArray := prog_21_method_56_code
def yX4_can : MethodName := ⟨RX4, "can", "(II)Z"⟩
def dkwX4_can_9 : List UInt8 := [153, 0, 7, 4, 167, 0, 4, 3, 172, 3, 172]
abbrev dktX4_can_9 : List UInt8 := dkwX4_can_9 ++ []
def dkwX4_can_8 : List UInt8 := [154, 0, 7, 4, 167, 0, 4, 3, 172, 27, 154, 0, 20, 42, 42, 180, 0, 71, 29, 46, 182, 1, 134]
abbrev dktX4_can_8 : List UInt8 := dkwX4_can_8 ++ dktX4_can_9
def dkwX4_can_7 : List UInt8 := [27, 4, 182, 1, 91, 182, 1, 123, 2, 159, 0, 7, 4, 167, 0, 4, 3, 172, 42, 27, 182, 1, 131]
abbrev dktX4_can_7 : List UInt8 := dkwX4_can_7 ++ dktX4_can_8
def dkwX4_can_6 : List UInt8 := [27, 159, 0, 39, 42, 180, 0, 105, 2, 159, 0, 11, 42, 180, 0, 105, 28, 160, 0, 23, 42, 28, 27, 42]
abbrev dktX4_can_6 : List UInt8 := dkwX4_can_6 ++ dktX4_can_7
def dkwX4_can_5 : List UInt8 := [182, 1, 91, 27, 42, 27, 4, 182, 1, 91, 182, 1, 123, 2, 159, 0, 7, 4, 167, 0, 4, 3, 172, 28]
abbrev dktX4_can_5 : List UInt8 := dkwX4_can_5 ++ dktX4_can_6
def dkwX4_can_4 : List UInt8 := [182, 1, 129, 153, 0, 7, 4, 167, 0, 4, 3, 172, 42, 27, 182, 1, 129, 172, 42, 42, 27, 3]
abbrev dktX4_can_4 : List UInt8 := dkwX4_can_4 ++ dktX4_can_5
def dkwX4_can_3 : List UInt8 := [4, 172, 42, 27, 42, 27, 3, 182, 1, 91, 182, 1, 126, 42, 180, 1, 66, 161, 0, 11, 42, 27]
abbrev dktX4_can_3 : List UInt8 := dkwX4_can_3 ++ dktX4_can_4
def dkwX4_can_2 : List UInt8 := [170, 0, 0, 0, 0, 193, 0, 0, 0, 0, 0, 0, 0, 7, 0, 0, 0, 48, 0, 0, 0, 80, 0, 0, 0, 46, 0, 0, 0, 86, 0, 0, 0, 113, 0, 0, 0, 156, 0, 0, 0, 170, 0, 0, 0, 170]
abbrev dktX4_can_2 : List UInt8 := dkwX4_can_2 ++ dktX4_can_3
def dkwX4_can_1 : List UInt8 := [42, 180, 0, 71, 29, 46]
abbrev dktX4_can_1 : List UInt8 := dkwX4_can_1 ++ dktX4_can_2
def dkwX4_can_0 : List UInt8 := [42, 27, 3, 182, 1, 81, 62, 29, 2, 159, 0, 13, 42, 27, 4, 182, 1, 81, 4, 160, 0, 5, 3, 172]
abbrev dktX4_can_0 : List UInt8 := dkwX4_can_0 ++ dktX4_can_1
theorem dksX4_can_0 : cX4_can.data.toList.drop 0 = dktX4_can_0 := by decide +kernel
theorem dksX4_can_1 : cX4_can.data.toList.drop 24 = dktX4_can_1 := dk_seg dksX4_can_0 24 rfl rfl
theorem dksX4_can_2 : cX4_can.data.toList.drop 30 = dktX4_can_2 := dk_seg dksX4_can_1 6 rfl rfl
theorem dksX4_can_3 : cX4_can.data.toList.drop 76 = dktX4_can_3 := dk_seg dksX4_can_2 46 rfl rfl
theorem dksX4_can_4 : cX4_can.data.toList.drop 98 = dktX4_can_4 := dk_seg dksX4_can_3 22 rfl rfl
theorem dksX4_can_5 : cX4_can.data.toList.drop 120 = dktX4_can_5 := dk_seg dksX4_can_4 22 rfl rfl
theorem dksX4_can_6 : cX4_can.data.toList.drop 144 = dktX4_can_6 := dk_seg dksX4_can_5 24 rfl rfl
theorem dksX4_can_7 : cX4_can.data.toList.drop 168 = dktX4_can_7 := dk_seg dksX4_can_6 24 rfl rfl
theorem dksX4_can_8 : cX4_can.data.toList.drop 191 = dktX4_can_8 := dk_seg dksX4_can_7 23 rfl rfl
theorem dksX4_can_9 : cX4_can.data.toList.drop 214 = dktX4_can_9 := dk_seg dksX4_can_8 23 rfl rfl
theorem dX4_can_0 : decode cX4_can 0 = .ok (.aload_n 0, 1) := dk_42 (dk_at dksX4_can_0 0 rfl rfl)
theorem dX4_can_1 : decode cX4_can 1 = .ok (.iload_n 1, 1) := dk_27 (dk_at dksX4_can_0 1 rfl rfl)
theorem dX4_can_2 : decode cX4_can 2 = .ok (.iconst 0, 1) := dk_3 (dk_at dksX4_can_0 2 rfl rfl)
theorem dX4_can_3 : decode cX4_can 3 = .ok (.invokevirtual 337, 3) := dk_182 1 81 (dk_at dksX4_can_0 3 rfl rfl)
theorem dX4_can_6 : decode cX4_can 6 = .ok (.istore_n 3, 1) := dk_62 (dk_at dksX4_can_0 6 rfl rfl)
theorem dX4_can_7 : decode cX4_can 7 = .ok (.iload_n 3, 1) := dk_29 (dk_at dksX4_can_0 7 rfl rfl)
theorem dX4_can_8 : decode cX4_can 8 = .ok (.iconst (-1), 1) := dk_2 (dk_at dksX4_can_0 8 rfl rfl)
theorem dX4_can_9 : decode cX4_can 9 = .ok (.if_icmp .eq 13, 3) := dk_159 0 13 (dk_at dksX4_can_0 9 rfl rfl)
theorem dX4_can_12 : decode cX4_can 12 = .ok (.aload_n 0, 1) := dk_42 (dk_at dksX4_can_0 12 rfl rfl)
theorem dX4_can_13 : decode cX4_can 13 = .ok (.iload_n 1, 1) := dk_27 (dk_at dksX4_can_0 13 rfl rfl)
theorem dX4_can_14 : decode cX4_can 14 = .ok (.iconst 1, 1) := dk_4 (dk_at dksX4_can_0 14 rfl rfl)
theorem dX4_can_15 : decode cX4_can 15 = .ok (.invokevirtual 337, 3) := dk_182 1 81 (dk_at dksX4_can_0 15 rfl rfl)
theorem dX4_can_18 : decode cX4_can 18 = .ok (.iconst 1, 1) := dk_4 (dk_at dksX4_can_0 18 rfl rfl)
theorem dX4_can_19 : decode cX4_can 19 = .ok (.if_icmp .ne 5, 3) := dk_160 0 5 (dk_at dksX4_can_0 19 rfl rfl)
theorem dX4_can_22 : decode cX4_can 22 = .ok (.iconst 0, 1) := dk_3 (dk_at dksX4_can_0 22 rfl rfl)
theorem dX4_can_23 : decode cX4_can 23 = .ok (.ireturn, 1) := dk_172 (dk_at dksX4_can_0 23 rfl rfl)
theorem dX4_can_24 : decode cX4_can 24 = .ok (.aload_n 0, 1) := dk_42 (dk_at dksX4_can_1 0 rfl rfl)
theorem dX4_can_25 : decode cX4_can 25 = .ok (.getfield 71, 3) := dk_180 0 71 (dk_at dksX4_can_1 1 rfl rfl)
theorem dX4_can_28 : decode cX4_can 28 = .ok (.iload_n 3, 1) := dk_29 (dk_at dksX4_can_1 4 rfl rfl)
theorem dX4_can_29 : decode cX4_can 29 = .ok (.iaload, 1) := dk_46 (dk_at dksX4_can_1 5 rfl rfl)
theorem dX4_can_30 : decode cX4_can 30 = .ok (.tableswitch 193 0 7 #[48, 80, 46, 86, 113, 156, 170, 170], 46) := by decide +kernel
theorem dX4_can_76 : decode cX4_can 76 = .ok (.iconst 1, 1) := dk_4 (dk_at dksX4_can_3 0 rfl rfl)
theorem dX4_can_77 : decode cX4_can 77 = .ok (.ireturn, 1) := dk_172 (dk_at dksX4_can_3 1 rfl rfl)
theorem dX4_can_78 : decode cX4_can 78 = .ok (.aload_n 0, 1) := dk_42 (dk_at dksX4_can_3 2 rfl rfl)
theorem dX4_can_79 : decode cX4_can 79 = .ok (.iload_n 1, 1) := dk_27 (dk_at dksX4_can_3 3 rfl rfl)
theorem dX4_can_80 : decode cX4_can 80 = .ok (.aload_n 0, 1) := dk_42 (dk_at dksX4_can_3 4 rfl rfl)
theorem dX4_can_81 : decode cX4_can 81 = .ok (.iload_n 1, 1) := dk_27 (dk_at dksX4_can_3 5 rfl rfl)
theorem dX4_can_82 : decode cX4_can 82 = .ok (.iconst 0, 1) := dk_3 (dk_at dksX4_can_3 6 rfl rfl)
theorem dX4_can_83 : decode cX4_can 83 = .ok (.invokevirtual 347, 3) := dk_182 1 91 (dk_at dksX4_can_3 7 rfl rfl)
theorem dX4_can_86 : decode cX4_can 86 = .ok (.invokevirtual 382, 3) := dk_182 1 126 (dk_at dksX4_can_3 10 rfl rfl)
theorem dX4_can_89 : decode cX4_can 89 = .ok (.aload_n 0, 1) := dk_42 (dk_at dksX4_can_3 13 rfl rfl)
theorem dX4_can_90 : decode cX4_can 90 = .ok (.getfield 322, 3) := dk_180 1 66 (dk_at dksX4_can_3 14 rfl rfl)
theorem dX4_can_93 : decode cX4_can 93 = .ok (.if_icmp .lt 11, 3) := dk_161 0 11 (dk_at dksX4_can_3 17 rfl rfl)
theorem dX4_can_96 : decode cX4_can 96 = .ok (.aload_n 0, 1) := dk_42 (dk_at dksX4_can_3 20 rfl rfl)
theorem dX4_can_97 : decode cX4_can 97 = .ok (.iload_n 1, 1) := dk_27 (dk_at dksX4_can_3 21 rfl rfl)
theorem dX4_can_98 : decode cX4_can 98 = .ok (.invokevirtual 385, 3) := dk_182 1 129 (dk_at dksX4_can_4 0 rfl rfl)
theorem dX4_can_101 : decode cX4_can 101 = .ok (.ifCond .eq 7, 3) := dk_153 0 7 (dk_at dksX4_can_4 3 rfl rfl)
theorem dX4_can_104 : decode cX4_can 104 = .ok (.iconst 1, 1) := dk_4 (dk_at dksX4_can_4 6 rfl rfl)
theorem dX4_can_105 : decode cX4_can 105 = .ok (.goto 4, 3) := dk_167 0 4 (dk_at dksX4_can_4 7 rfl rfl)
theorem dX4_can_108 : decode cX4_can 108 = .ok (.iconst 0, 1) := dk_3 (dk_at dksX4_can_4 10 rfl rfl)
theorem dX4_can_109 : decode cX4_can 109 = .ok (.ireturn, 1) := dk_172 (dk_at dksX4_can_4 11 rfl rfl)
theorem dX4_can_110 : decode cX4_can 110 = .ok (.aload_n 0, 1) := dk_42 (dk_at dksX4_can_4 12 rfl rfl)
theorem dX4_can_111 : decode cX4_can 111 = .ok (.iload_n 1, 1) := dk_27 (dk_at dksX4_can_4 13 rfl rfl)
theorem dX4_can_112 : decode cX4_can 112 = .ok (.invokevirtual 385, 3) := dk_182 1 129 (dk_at dksX4_can_4 14 rfl rfl)
theorem dX4_can_115 : decode cX4_can 115 = .ok (.ireturn, 1) := dk_172 (dk_at dksX4_can_4 17 rfl rfl)
theorem dX4_can_116 : decode cX4_can 116 = .ok (.aload_n 0, 1) := dk_42 (dk_at dksX4_can_4 18 rfl rfl)
theorem dX4_can_117 : decode cX4_can 117 = .ok (.aload_n 0, 1) := dk_42 (dk_at dksX4_can_4 19 rfl rfl)
theorem dX4_can_118 : decode cX4_can 118 = .ok (.iload_n 1, 1) := dk_27 (dk_at dksX4_can_4 20 rfl rfl)
theorem dX4_can_119 : decode cX4_can 119 = .ok (.iconst 0, 1) := dk_3 (dk_at dksX4_can_4 21 rfl rfl)
theorem dX4_can_120 : decode cX4_can 120 = .ok (.invokevirtual 347, 3) := dk_182 1 91 (dk_at dksX4_can_5 0 rfl rfl)
theorem dX4_can_123 : decode cX4_can 123 = .ok (.iload_n 1, 1) := dk_27 (dk_at dksX4_can_5 3 rfl rfl)
theorem dX4_can_124 : decode cX4_can 124 = .ok (.aload_n 0, 1) := dk_42 (dk_at dksX4_can_5 4 rfl rfl)
theorem dX4_can_125 : decode cX4_can 125 = .ok (.iload_n 1, 1) := dk_27 (dk_at dksX4_can_5 5 rfl rfl)
theorem dX4_can_126 : decode cX4_can 126 = .ok (.iconst 1, 1) := dk_4 (dk_at dksX4_can_5 6 rfl rfl)
theorem dX4_can_127 : decode cX4_can 127 = .ok (.invokevirtual 347, 3) := dk_182 1 91 (dk_at dksX4_can_5 7 rfl rfl)
theorem dX4_can_130 : decode cX4_can 130 = .ok (.invokevirtual 379, 3) := dk_182 1 123 (dk_at dksX4_can_5 10 rfl rfl)
theorem dX4_can_133 : decode cX4_can 133 = .ok (.iconst (-1), 1) := dk_2 (dk_at dksX4_can_5 13 rfl rfl)
theorem dX4_can_134 : decode cX4_can 134 = .ok (.if_icmp .eq 7, 3) := dk_159 0 7 (dk_at dksX4_can_5 14 rfl rfl)
theorem dX4_can_137 : decode cX4_can 137 = .ok (.iconst 1, 1) := dk_4 (dk_at dksX4_can_5 17 rfl rfl)
theorem dX4_can_138 : decode cX4_can 138 = .ok (.goto 4, 3) := dk_167 0 4 (dk_at dksX4_can_5 18 rfl rfl)
theorem dX4_can_141 : decode cX4_can 141 = .ok (.iconst 0, 1) := dk_3 (dk_at dksX4_can_5 21 rfl rfl)
theorem dX4_can_142 : decode cX4_can 142 = .ok (.ireturn, 1) := dk_172 (dk_at dksX4_can_5 22 rfl rfl)
theorem dX4_can_143 : decode cX4_can 143 = .ok (.iload_n 2, 1) := dk_28 (dk_at dksX4_can_5 23 rfl rfl)
theorem dX4_can_144 : decode cX4_can 144 = .ok (.iload_n 1, 1) := dk_27 (dk_at dksX4_can_6 0 rfl rfl)
theorem dX4_can_145 : decode cX4_can 145 = .ok (.if_icmp .eq 39, 3) := dk_159 0 39 (dk_at dksX4_can_6 1 rfl rfl)
theorem dX4_can_148 : decode cX4_can 148 = .ok (.aload_n 0, 1) := dk_42 (dk_at dksX4_can_6 4 rfl rfl)
theorem dX4_can_149 : decode cX4_can 149 = .ok (.getfield 105, 3) := dk_180 0 105 (dk_at dksX4_can_6 5 rfl rfl)
theorem dX4_can_152 : decode cX4_can 152 = .ok (.iconst (-1), 1) := dk_2 (dk_at dksX4_can_6 8 rfl rfl)
theorem dX4_can_153 : decode cX4_can 153 = .ok (.if_icmp .eq 11, 3) := dk_159 0 11 (dk_at dksX4_can_6 9 rfl rfl)
theorem dX4_can_156 : decode cX4_can 156 = .ok (.aload_n 0, 1) := dk_42 (dk_at dksX4_can_6 12 rfl rfl)
theorem dX4_can_157 : decode cX4_can 157 = .ok (.getfield 105, 3) := dk_180 0 105 (dk_at dksX4_can_6 13 rfl rfl)
theorem dX4_can_160 : decode cX4_can 160 = .ok (.iload_n 2, 1) := dk_28 (dk_at dksX4_can_6 16 rfl rfl)
theorem dX4_can_161 : decode cX4_can 161 = .ok (.if_icmp .ne 23, 3) := dk_160 0 23 (dk_at dksX4_can_6 17 rfl rfl)
theorem dX4_can_164 : decode cX4_can 164 = .ok (.aload_n 0, 1) := dk_42 (dk_at dksX4_can_6 20 rfl rfl)
theorem dX4_can_165 : decode cX4_can 165 = .ok (.iload_n 2, 1) := dk_28 (dk_at dksX4_can_6 21 rfl rfl)
theorem dX4_can_166 : decode cX4_can 166 = .ok (.iload_n 1, 1) := dk_27 (dk_at dksX4_can_6 22 rfl rfl)
theorem dX4_can_167 : decode cX4_can 167 = .ok (.aload_n 0, 1) := dk_42 (dk_at dksX4_can_6 23 rfl rfl)
theorem dX4_can_168 : decode cX4_can 168 = .ok (.iload_n 1, 1) := dk_27 (dk_at dksX4_can_7 0 rfl rfl)
theorem dX4_can_169 : decode cX4_can 169 = .ok (.iconst 1, 1) := dk_4 (dk_at dksX4_can_7 1 rfl rfl)
theorem dX4_can_170 : decode cX4_can 170 = .ok (.invokevirtual 347, 3) := dk_182 1 91 (dk_at dksX4_can_7 2 rfl rfl)
theorem dX4_can_173 : decode cX4_can 173 = .ok (.invokevirtual 379, 3) := dk_182 1 123 (dk_at dksX4_can_7 5 rfl rfl)
theorem dX4_can_176 : decode cX4_can 176 = .ok (.iconst (-1), 1) := dk_2 (dk_at dksX4_can_7 8 rfl rfl)
theorem dX4_can_177 : decode cX4_can 177 = .ok (.if_icmp .eq 7, 3) := dk_159 0 7 (dk_at dksX4_can_7 9 rfl rfl)
theorem dX4_can_180 : decode cX4_can 180 = .ok (.iconst 1, 1) := dk_4 (dk_at dksX4_can_7 12 rfl rfl)
theorem dX4_can_181 : decode cX4_can 181 = .ok (.goto 4, 3) := dk_167 0 4 (dk_at dksX4_can_7 13 rfl rfl)
theorem dX4_can_184 : decode cX4_can 184 = .ok (.iconst 0, 1) := dk_3 (dk_at dksX4_can_7 16 rfl rfl)
theorem dX4_can_185 : decode cX4_can 185 = .ok (.ireturn, 1) := dk_172 (dk_at dksX4_can_7 17 rfl rfl)
theorem dX4_can_186 : decode cX4_can 186 = .ok (.aload_n 0, 1) := dk_42 (dk_at dksX4_can_7 18 rfl rfl)
theorem dX4_can_187 : decode cX4_can 187 = .ok (.iload_n 1, 1) := dk_27 (dk_at dksX4_can_7 19 rfl rfl)
theorem dX4_can_188 : decode cX4_can 188 = .ok (.invokevirtual 387, 3) := dk_182 1 131 (dk_at dksX4_can_7 20 rfl rfl)
theorem dX4_can_191 : decode cX4_can 191 = .ok (.ifCond .ne 7, 3) := dk_154 0 7 (dk_at dksX4_can_8 0 rfl rfl)
theorem dX4_can_194 : decode cX4_can 194 = .ok (.iconst 1, 1) := dk_4 (dk_at dksX4_can_8 3 rfl rfl)
theorem dX4_can_195 : decode cX4_can 195 = .ok (.goto 4, 3) := dk_167 0 4 (dk_at dksX4_can_8 4 rfl rfl)
theorem dX4_can_198 : decode cX4_can 198 = .ok (.iconst 0, 1) := dk_3 (dk_at dksX4_can_8 7 rfl rfl)
theorem dX4_can_199 : decode cX4_can 199 = .ok (.ireturn, 1) := dk_172 (dk_at dksX4_can_8 8 rfl rfl)
theorem dX4_can_200 : decode cX4_can 200 = .ok (.iload_n 1, 1) := dk_27 (dk_at dksX4_can_8 9 rfl rfl)
theorem dX4_can_201 : decode cX4_can 201 = .ok (.ifCond .ne 20, 3) := dk_154 0 20 (dk_at dksX4_can_8 10 rfl rfl)
theorem dX4_can_204 : decode cX4_can 204 = .ok (.aload_n 0, 1) := dk_42 (dk_at dksX4_can_8 13 rfl rfl)
theorem dX4_can_205 : decode cX4_can 205 = .ok (.aload_n 0, 1) := dk_42 (dk_at dksX4_can_8 14 rfl rfl)
theorem dX4_can_206 : decode cX4_can 206 = .ok (.getfield 71, 3) := dk_180 0 71 (dk_at dksX4_can_8 15 rfl rfl)
theorem dX4_can_209 : decode cX4_can 209 = .ok (.iload_n 3, 1) := dk_29 (dk_at dksX4_can_8 18 rfl rfl)
theorem dX4_can_210 : decode cX4_can 210 = .ok (.iaload, 1) := dk_46 (dk_at dksX4_can_8 19 rfl rfl)
theorem dX4_can_211 : decode cX4_can 211 = .ok (.invokevirtual 390, 3) := dk_182 1 134 (dk_at dksX4_can_8 20 rfl rfl)
theorem dX4_can_214 : decode cX4_can 214 = .ok (.ifCond .eq 7, 3) := dk_153 0 7 (dk_at dksX4_can_9 0 rfl rfl)
theorem dX4_can_217 : decode cX4_can 217 = .ok (.iconst 1, 1) := dk_4 (dk_at dksX4_can_9 3 rfl rfl)
theorem dX4_can_218 : decode cX4_can 218 = .ok (.goto 4, 3) := dk_167 0 4 (dk_at dksX4_can_9 4 rfl rfl)
theorem dX4_can_221 : decode cX4_can 221 = .ok (.iconst 0, 1) := dk_3 (dk_at dksX4_can_9 7 rfl rfl)
theorem dX4_can_222 : decode cX4_can 222 = .ok (.ireturn, 1) := dk_172 (dk_at dksX4_can_9 8 rfl rfl)
theorem dX4_can_223 : decode cX4_can 223 = .ok (.iconst 0, 1) := dk_3 (dk_at dksX4_can_9 9 rfl rfl)
theorem dX4_can_224 : decode cX4_can 224 = .ok (.ireturn, 1) := dk_172 (dk_at dksX4_can_9 10 rfl rfl)
abbrev cX4_sent : ByteArray := prog_21_method_49_code
def yX4_sent : MethodName := ⟨RX4, "sent", "(II)I"⟩
def dkwX4_sent_3 : List UInt8 := [132, 4, 1, 167, 255, 191, 29, 172]
abbrev dktX4_sent_3 : List UInt8 := dkwX4_sent_3 ++ []
def dkwX4_sent_2 : List UInt8 := [160, 0, 19, 42, 180, 0, 99, 21, 5, 8, 96, 46, 154, 0, 7, 4, 167, 0, 4, 3, 96, 62]
abbrev dktX4_sent_2 : List UInt8 := dkwX4_sent_2 ++ dktX4_sent_3
def dkwX4_sent_1 : List UInt8 := [180, 0, 99, 21, 5, 3, 96, 46, 27, 160, 0, 32, 42, 180, 0, 99, 21, 5, 4, 96, 46, 28]
abbrev dktX4_sent_1 : List UInt8 := dkwX4_sent_1 ++ dktX4_sent_2
def dkwX4_sent_0 : List UInt8 := [3, 62, 3, 54, 4, 21, 4, 42, 182, 1, 107, 162, 0, 62, 21, 4, 184, 1, 110, 54, 5, 29, 42]
abbrev dktX4_sent_0 : List UInt8 := dkwX4_sent_0 ++ dktX4_sent_1
theorem dksX4_sent_0 : cX4_sent.data.toList.drop 0 = dktX4_sent_0 := by decide +kernel
theorem dksX4_sent_1 : cX4_sent.data.toList.drop 23 = dktX4_sent_1 := dk_seg dksX4_sent_0 23 rfl rfl
theorem dksX4_sent_2 : cX4_sent.data.toList.drop 45 = dktX4_sent_2 := dk_seg dksX4_sent_1 22 rfl rfl
theorem dksX4_sent_3 : cX4_sent.data.toList.drop 67 = dktX4_sent_3 := dk_seg dksX4_sent_2 22 rfl rfl
theorem dX4_sent_0 : decode cX4_sent 0 = .ok (.iconst 0, 1) := dk_3 (dk_at dksX4_sent_0 0 rfl rfl)
theorem dX4_sent_1 : decode cX4_sent 1 = .ok (.istore_n 3, 1) := dk_62 (dk_at dksX4_sent_0 1 rfl rfl)
theorem dX4_sent_2 : decode cX4_sent 2 = .ok (.iconst 0, 1) := dk_3 (dk_at dksX4_sent_0 2 rfl rfl)
theorem dX4_sent_3 : decode cX4_sent 3 = .ok (.istore 4, 2) := dk_54 4 (dk_at dksX4_sent_0 3 rfl rfl)
theorem dX4_sent_5 : decode cX4_sent 5 = .ok (.iload 4, 2) := dk_21 4 (dk_at dksX4_sent_0 5 rfl rfl)
theorem dX4_sent_7 : decode cX4_sent 7 = .ok (.aload_n 0, 1) := dk_42 (dk_at dksX4_sent_0 7 rfl rfl)
theorem dX4_sent_8 : decode cX4_sent 8 = .ok (.invokevirtual 363, 3) := dk_182 1 107 (dk_at dksX4_sent_0 8 rfl rfl)
theorem dX4_sent_11 : decode cX4_sent 11 = .ok (.if_icmp .ge 62, 3) := dk_162 0 62 (dk_at dksX4_sent_0 11 rfl rfl)
theorem dX4_sent_14 : decode cX4_sent 14 = .ok (.iload 4, 2) := dk_21 4 (dk_at dksX4_sent_0 14 rfl rfl)
theorem dX4_sent_16 : decode cX4_sent 16 = .ok (.invokestatic 366, 3) := dk_184 1 110 (dk_at dksX4_sent_0 16 rfl rfl)
theorem dX4_sent_19 : decode cX4_sent 19 = .ok (.istore 5, 2) := dk_54 5 (dk_at dksX4_sent_0 19 rfl rfl)
theorem dX4_sent_21 : decode cX4_sent 21 = .ok (.iload_n 3, 1) := dk_29 (dk_at dksX4_sent_0 21 rfl rfl)
theorem dX4_sent_22 : decode cX4_sent 22 = .ok (.aload_n 0, 1) := dk_42 (dk_at dksX4_sent_0 22 rfl rfl)
theorem dX4_sent_23 : decode cX4_sent 23 = .ok (.getfield 99, 3) := dk_180 0 99 (dk_at dksX4_sent_1 0 rfl rfl)
theorem dX4_sent_26 : decode cX4_sent 26 = .ok (.iload 5, 2) := dk_21 5 (dk_at dksX4_sent_1 3 rfl rfl)
theorem dX4_sent_28 : decode cX4_sent 28 = .ok (.iconst 0, 1) := dk_3 (dk_at dksX4_sent_1 5 rfl rfl)
theorem dX4_sent_29 : decode cX4_sent 29 = .ok (.iadd, 1) := dk_96 (dk_at dksX4_sent_1 6 rfl rfl)
theorem dX4_sent_30 : decode cX4_sent 30 = .ok (.iaload, 1) := dk_46 (dk_at dksX4_sent_1 7 rfl rfl)
theorem dX4_sent_31 : decode cX4_sent 31 = .ok (.iload_n 1, 1) := dk_27 (dk_at dksX4_sent_1 8 rfl rfl)
theorem dX4_sent_32 : decode cX4_sent 32 = .ok (.if_icmp .ne 32, 3) := dk_160 0 32 (dk_at dksX4_sent_1 9 rfl rfl)
theorem dX4_sent_35 : decode cX4_sent 35 = .ok (.aload_n 0, 1) := dk_42 (dk_at dksX4_sent_1 12 rfl rfl)
theorem dX4_sent_36 : decode cX4_sent 36 = .ok (.getfield 99, 3) := dk_180 0 99 (dk_at dksX4_sent_1 13 rfl rfl)
theorem dX4_sent_39 : decode cX4_sent 39 = .ok (.iload 5, 2) := dk_21 5 (dk_at dksX4_sent_1 16 rfl rfl)
theorem dX4_sent_41 : decode cX4_sent 41 = .ok (.iconst 1, 1) := dk_4 (dk_at dksX4_sent_1 18 rfl rfl)
theorem dX4_sent_42 : decode cX4_sent 42 = .ok (.iadd, 1) := dk_96 (dk_at dksX4_sent_1 19 rfl rfl)
theorem dX4_sent_43 : decode cX4_sent 43 = .ok (.iaload, 1) := dk_46 (dk_at dksX4_sent_1 20 rfl rfl)
theorem dX4_sent_44 : decode cX4_sent 44 = .ok (.iload_n 2, 1) := dk_28 (dk_at dksX4_sent_1 21 rfl rfl)
theorem dX4_sent_45 : decode cX4_sent 45 = .ok (.if_icmp .ne 19, 3) := dk_160 0 19 (dk_at dksX4_sent_2 0 rfl rfl)
theorem dX4_sent_48 : decode cX4_sent 48 = .ok (.aload_n 0, 1) := dk_42 (dk_at dksX4_sent_2 3 rfl rfl)
theorem dX4_sent_49 : decode cX4_sent 49 = .ok (.getfield 99, 3) := dk_180 0 99 (dk_at dksX4_sent_2 4 rfl rfl)
theorem dX4_sent_52 : decode cX4_sent 52 = .ok (.iload 5, 2) := dk_21 5 (dk_at dksX4_sent_2 7 rfl rfl)
theorem dX4_sent_54 : decode cX4_sent 54 = .ok (.iconst 5, 1) := dk_8 (dk_at dksX4_sent_2 9 rfl rfl)
theorem dX4_sent_55 : decode cX4_sent 55 = .ok (.iadd, 1) := dk_96 (dk_at dksX4_sent_2 10 rfl rfl)
theorem dX4_sent_56 : decode cX4_sent 56 = .ok (.iaload, 1) := dk_46 (dk_at dksX4_sent_2 11 rfl rfl)
theorem dX4_sent_57 : decode cX4_sent 57 = .ok (.ifCond .ne 7, 3) := dk_154 0 7 (dk_at dksX4_sent_2 12 rfl rfl)
theorem dX4_sent_60 : decode cX4_sent 60 = .ok (.iconst 1, 1) := dk_4 (dk_at dksX4_sent_2 15 rfl rfl)
theorem dX4_sent_61 : decode cX4_sent 61 = .ok (.goto 4, 3) := dk_167 0 4 (dk_at dksX4_sent_2 16 rfl rfl)
theorem dX4_sent_64 : decode cX4_sent 64 = .ok (.iconst 0, 1) := dk_3 (dk_at dksX4_sent_2 19 rfl rfl)
theorem dX4_sent_65 : decode cX4_sent 65 = .ok (.iadd, 1) := dk_96 (dk_at dksX4_sent_2 20 rfl rfl)
theorem dX4_sent_66 : decode cX4_sent 66 = .ok (.istore_n 3, 1) := dk_62 (dk_at dksX4_sent_2 21 rfl rfl)
theorem dX4_sent_67 : decode cX4_sent 67 = .ok (.iinc 4 1, 3) := dk_132 4 1 (dk_at dksX4_sent_3 0 rfl rfl)
theorem dX4_sent_70 : decode cX4_sent 70 = .ok (.goto (-65), 3) := dk_167 255 191 (dk_at dksX4_sent_3 3 rfl rfl)
theorem dX4_sent_73 : decode cX4_sent 73 = .ok (.iload_n 3, 1) := dk_29 (dk_at dksX4_sent_3 6 rfl rfl)
theorem dX4_sent_74 : decode cX4_sent 74 = .ok (.ireturn, 1) := dk_172 (dk_at dksX4_sent_3 7 rfl rfl)
abbrev cX4_wordAt : ByteArray := prog_21_method_37_code
def yX4_wordAt : MethodName := ⟨RX4, "wordAt", "(I)I"⟩
def dkwX4_wordAt_0 : List UInt8 := [16, 65, 16, 6, 26, 104, 96, 172]
abbrev dktX4_wordAt_0 : List UInt8 := dkwX4_wordAt_0 ++ []
theorem dksX4_wordAt_0 : cX4_wordAt.data.toList.drop 0 = dktX4_wordAt_0 := by decide +kernel
theorem dX4_wordAt_0 : decode cX4_wordAt 0 = .ok (.bipush 65, 2) := dk_16 65 (dk_at dksX4_wordAt_0 0 rfl rfl)
theorem dX4_wordAt_2 : decode cX4_wordAt 2 = .ok (.bipush 6, 2) := dk_16 6 (dk_at dksX4_wordAt_0 2 rfl rfl)
theorem dX4_wordAt_4 : decode cX4_wordAt 4 = .ok (.iload_n 0, 1) := dk_26 (dk_at dksX4_wordAt_0 4 rfl rfl)
theorem dX4_wordAt_5 : decode cX4_wordAt 5 = .ok (.imul, 1) := dk_104 (dk_at dksX4_wordAt_0 5 rfl rfl)
theorem dX4_wordAt_6 : decode cX4_wordAt 6 = .ok (.iadd, 1) := dk_96 (dk_at dksX4_wordAt_0 6 rfl rfl)
theorem dX4_wordAt_7 : decode cX4_wordAt 7 = .ok (.ireturn, 1) := dk_172 (dk_at dksX4_wordAt_0 7 rfl rfl)
abbrev cX4_hands : ByteArray := prog_21_method_54_code
def yX4_hands : MethodName := ⟨RX4, "hands", "(I)Z"⟩
def dkwX4_hands_4 : List UInt8 := [3, 172]
abbrev dktX4_hands_4 : List UInt8 := dkwX4_hands_4 ++ []
def dkwX4_hands_3 : List UInt8 := [28, 4, 182, 1, 91, 29, 160, 0, 18, 42, 27, 28, 29, 182, 1, 123, 2, 160, 0, 7, 4, 167, 0, 4]
abbrev dktX4_hands_3 : List UInt8 := dkwX4_hands_3 ++ dktX4_hands_4
def dkwX4_hands_2 : List UInt8 := [159, 0, 11, 42, 180, 0, 105, 27, 160, 0, 7, 4, 167, 0, 4, 3, 54, 4, 21, 4, 153, 0, 28, 42]
abbrev dktX4_hands_2 : List UInt8 := dkwX4_hands_2 ++ dktX4_hands_3
def dkwX4_hands_1 : List UInt8 := [28, 3, 182, 1, 91, 27, 159, 0, 28, 42, 28, 7, 182, 1, 119, 153, 0, 23, 42, 180, 0, 105, 2]
abbrev dktX4_hands_1 : List UInt8 := dkwX4_hands_1 ++ dktX4_hands_2
def dkwX4_hands_0 : List UInt8 := [42, 27, 3, 182, 1, 91, 61, 42, 27, 4, 182, 1, 91, 62, 42, 28, 6, 182, 1, 119, 153, 0, 13, 42]
abbrev dktX4_hands_0 : List UInt8 := dkwX4_hands_0 ++ dktX4_hands_1
theorem dksX4_hands_0 : cX4_hands.data.toList.drop 0 = dktX4_hands_0 := by decide +kernel
theorem dksX4_hands_1 : cX4_hands.data.toList.drop 24 = dktX4_hands_1 := dk_seg dksX4_hands_0 24 rfl rfl
theorem dksX4_hands_2 : cX4_hands.data.toList.drop 47 = dktX4_hands_2 := dk_seg dksX4_hands_1 23 rfl rfl
theorem dksX4_hands_3 : cX4_hands.data.toList.drop 71 = dktX4_hands_3 := dk_seg dksX4_hands_2 24 rfl rfl
theorem dksX4_hands_4 : cX4_hands.data.toList.drop 95 = dktX4_hands_4 := dk_seg dksX4_hands_3 24 rfl rfl
theorem dX4_hands_0 : decode cX4_hands 0 = .ok (.aload_n 0, 1) := dk_42 (dk_at dksX4_hands_0 0 rfl rfl)
theorem dX4_hands_1 : decode cX4_hands 1 = .ok (.iload_n 1, 1) := dk_27 (dk_at dksX4_hands_0 1 rfl rfl)
theorem dX4_hands_2 : decode cX4_hands 2 = .ok (.iconst 0, 1) := dk_3 (dk_at dksX4_hands_0 2 rfl rfl)
theorem dX4_hands_3 : decode cX4_hands 3 = .ok (.invokevirtual 347, 3) := dk_182 1 91 (dk_at dksX4_hands_0 3 rfl rfl)
theorem dX4_hands_6 : decode cX4_hands 6 = .ok (.istore_n 2, 1) := dk_61 (dk_at dksX4_hands_0 6 rfl rfl)
theorem dX4_hands_7 : decode cX4_hands 7 = .ok (.aload_n 0, 1) := dk_42 (dk_at dksX4_hands_0 7 rfl rfl)
theorem dX4_hands_8 : decode cX4_hands 8 = .ok (.iload_n 1, 1) := dk_27 (dk_at dksX4_hands_0 8 rfl rfl)
theorem dX4_hands_9 : decode cX4_hands 9 = .ok (.iconst 1, 1) := dk_4 (dk_at dksX4_hands_0 9 rfl rfl)
theorem dX4_hands_10 : decode cX4_hands 10 = .ok (.invokevirtual 347, 3) := dk_182 1 91 (dk_at dksX4_hands_0 10 rfl rfl)
theorem dX4_hands_13 : decode cX4_hands 13 = .ok (.istore_n 3, 1) := dk_62 (dk_at dksX4_hands_0 13 rfl rfl)
theorem dX4_hands_14 : decode cX4_hands 14 = .ok (.aload_n 0, 1) := dk_42 (dk_at dksX4_hands_0 14 rfl rfl)
theorem dX4_hands_15 : decode cX4_hands 15 = .ok (.iload_n 2, 1) := dk_28 (dk_at dksX4_hands_0 15 rfl rfl)
theorem dX4_hands_16 : decode cX4_hands 16 = .ok (.iconst 3, 1) := dk_6 (dk_at dksX4_hands_0 16 rfl rfl)
theorem dX4_hands_17 : decode cX4_hands 17 = .ok (.invokevirtual 375, 3) := dk_182 1 119 (dk_at dksX4_hands_0 17 rfl rfl)
theorem dX4_hands_20 : decode cX4_hands 20 = .ok (.ifCond .eq 13, 3) := dk_153 0 13 (dk_at dksX4_hands_0 20 rfl rfl)
theorem dX4_hands_23 : decode cX4_hands 23 = .ok (.aload_n 0, 1) := dk_42 (dk_at dksX4_hands_0 23 rfl rfl)
theorem dX4_hands_24 : decode cX4_hands 24 = .ok (.iload_n 2, 1) := dk_28 (dk_at dksX4_hands_1 0 rfl rfl)
theorem dX4_hands_25 : decode cX4_hands 25 = .ok (.iconst 0, 1) := dk_3 (dk_at dksX4_hands_1 1 rfl rfl)
theorem dX4_hands_26 : decode cX4_hands 26 = .ok (.invokevirtual 347, 3) := dk_182 1 91 (dk_at dksX4_hands_1 2 rfl rfl)
theorem dX4_hands_29 : decode cX4_hands 29 = .ok (.iload_n 1, 1) := dk_27 (dk_at dksX4_hands_1 5 rfl rfl)
theorem dX4_hands_30 : decode cX4_hands 30 = .ok (.if_icmp .eq 28, 3) := dk_159 0 28 (dk_at dksX4_hands_1 6 rfl rfl)
theorem dX4_hands_33 : decode cX4_hands 33 = .ok (.aload_n 0, 1) := dk_42 (dk_at dksX4_hands_1 9 rfl rfl)
theorem dX4_hands_34 : decode cX4_hands 34 = .ok (.iload_n 2, 1) := dk_28 (dk_at dksX4_hands_1 10 rfl rfl)
theorem dX4_hands_35 : decode cX4_hands 35 = .ok (.iconst 4, 1) := dk_7 (dk_at dksX4_hands_1 11 rfl rfl)
theorem dX4_hands_36 : decode cX4_hands 36 = .ok (.invokevirtual 375, 3) := dk_182 1 119 (dk_at dksX4_hands_1 12 rfl rfl)
theorem dX4_hands_39 : decode cX4_hands 39 = .ok (.ifCond .eq 23, 3) := dk_153 0 23 (dk_at dksX4_hands_1 15 rfl rfl)
theorem dX4_hands_42 : decode cX4_hands 42 = .ok (.aload_n 0, 1) := dk_42 (dk_at dksX4_hands_1 18 rfl rfl)
theorem dX4_hands_43 : decode cX4_hands 43 = .ok (.getfield 105, 3) := dk_180 0 105 (dk_at dksX4_hands_1 19 rfl rfl)
theorem dX4_hands_46 : decode cX4_hands 46 = .ok (.iconst (-1), 1) := dk_2 (dk_at dksX4_hands_1 22 rfl rfl)
theorem dX4_hands_47 : decode cX4_hands 47 = .ok (.if_icmp .eq 11, 3) := dk_159 0 11 (dk_at dksX4_hands_2 0 rfl rfl)
theorem dX4_hands_50 : decode cX4_hands 50 = .ok (.aload_n 0, 1) := dk_42 (dk_at dksX4_hands_2 3 rfl rfl)
theorem dX4_hands_51 : decode cX4_hands 51 = .ok (.getfield 105, 3) := dk_180 0 105 (dk_at dksX4_hands_2 4 rfl rfl)
theorem dX4_hands_54 : decode cX4_hands 54 = .ok (.iload_n 1, 1) := dk_27 (dk_at dksX4_hands_2 7 rfl rfl)
theorem dX4_hands_55 : decode cX4_hands 55 = .ok (.if_icmp .ne 7, 3) := dk_160 0 7 (dk_at dksX4_hands_2 8 rfl rfl)
theorem dX4_hands_58 : decode cX4_hands 58 = .ok (.iconst 1, 1) := dk_4 (dk_at dksX4_hands_2 11 rfl rfl)
theorem dX4_hands_59 : decode cX4_hands 59 = .ok (.goto 4, 3) := dk_167 0 4 (dk_at dksX4_hands_2 12 rfl rfl)
theorem dX4_hands_62 : decode cX4_hands 62 = .ok (.iconst 0, 1) := dk_3 (dk_at dksX4_hands_2 15 rfl rfl)
theorem dX4_hands_63 : decode cX4_hands 63 = .ok (.istore 4, 2) := dk_54 4 (dk_at dksX4_hands_2 16 rfl rfl)
theorem dX4_hands_65 : decode cX4_hands 65 = .ok (.iload 4, 2) := dk_21 4 (dk_at dksX4_hands_2 18 rfl rfl)
theorem dX4_hands_67 : decode cX4_hands 67 = .ok (.ifCond .eq 28, 3) := dk_153 0 28 (dk_at dksX4_hands_2 20 rfl rfl)
theorem dX4_hands_70 : decode cX4_hands 70 = .ok (.aload_n 0, 1) := dk_42 (dk_at dksX4_hands_2 23 rfl rfl)
theorem dX4_hands_71 : decode cX4_hands 71 = .ok (.iload_n 2, 1) := dk_28 (dk_at dksX4_hands_3 0 rfl rfl)
theorem dX4_hands_72 : decode cX4_hands 72 = .ok (.iconst 1, 1) := dk_4 (dk_at dksX4_hands_3 1 rfl rfl)
theorem dX4_hands_73 : decode cX4_hands 73 = .ok (.invokevirtual 347, 3) := dk_182 1 91 (dk_at dksX4_hands_3 2 rfl rfl)
theorem dX4_hands_76 : decode cX4_hands 76 = .ok (.iload_n 3, 1) := dk_29 (dk_at dksX4_hands_3 5 rfl rfl)
theorem dX4_hands_77 : decode cX4_hands 77 = .ok (.if_icmp .ne 18, 3) := dk_160 0 18 (dk_at dksX4_hands_3 6 rfl rfl)
theorem dX4_hands_80 : decode cX4_hands 80 = .ok (.aload_n 0, 1) := dk_42 (dk_at dksX4_hands_3 9 rfl rfl)
theorem dX4_hands_81 : decode cX4_hands 81 = .ok (.iload_n 1, 1) := dk_27 (dk_at dksX4_hands_3 10 rfl rfl)
theorem dX4_hands_82 : decode cX4_hands 82 = .ok (.iload_n 2, 1) := dk_28 (dk_at dksX4_hands_3 11 rfl rfl)
theorem dX4_hands_83 : decode cX4_hands 83 = .ok (.iload_n 3, 1) := dk_29 (dk_at dksX4_hands_3 12 rfl rfl)
theorem dX4_hands_84 : decode cX4_hands 84 = .ok (.invokevirtual 379, 3) := dk_182 1 123 (dk_at dksX4_hands_3 13 rfl rfl)
theorem dX4_hands_87 : decode cX4_hands 87 = .ok (.iconst (-1), 1) := dk_2 (dk_at dksX4_hands_3 16 rfl rfl)
theorem dX4_hands_88 : decode cX4_hands 88 = .ok (.if_icmp .ne 7, 3) := dk_160 0 7 (dk_at dksX4_hands_3 17 rfl rfl)
theorem dX4_hands_91 : decode cX4_hands 91 = .ok (.iconst 1, 1) := dk_4 (dk_at dksX4_hands_3 20 rfl rfl)
theorem dX4_hands_92 : decode cX4_hands 92 = .ok (.goto 4, 3) := dk_167 0 4 (dk_at dksX4_hands_3 21 rfl rfl)
theorem dX4_hands_95 : decode cX4_hands 95 = .ok (.iconst 0, 1) := dk_3 (dk_at dksX4_hands_4 0 rfl rfl)
theorem dX4_hands_96 : decode cX4_hands 96 = .ok (.ireturn, 1) := dk_172 (dk_at dksX4_hands_4 1 rfl rfl)
abbrev cX4_lying : ByteArray := prog_21_method_48_code
def yX4_lying : MethodName := ⟨RX4, "lying", "(III)I"⟩
def dkwX4_lying_2 : List UInt8 := [180, 0, 99, 21, 5, 5, 96, 46, 29, 160, 0, 6, 21, 4, 172, 132, 4, 1, 167, 255, 195, 2, 172]
abbrev dktX4_lying_2 : List UInt8 := dkwX4_lying_2 ++ []
def dkwX4_lying_1 : List UInt8 := [21, 5, 3, 96, 46, 27, 160, 0, 32, 42, 180, 0, 99, 21, 5, 4, 96, 46, 28, 160, 0, 19, 42]
abbrev dktX4_lying_1 : List UInt8 := dkwX4_lying_1 ++ dktX4_lying_2
def dkwX4_lying_0 : List UInt8 := [3, 54, 4, 21, 4, 42, 182, 1, 107, 162, 0, 58, 21, 4, 184, 1, 110, 54, 5, 42, 180, 0, 99]
abbrev dktX4_lying_0 : List UInt8 := dkwX4_lying_0 ++ dktX4_lying_1
theorem dksX4_lying_0 : cX4_lying.data.toList.drop 0 = dktX4_lying_0 := by decide +kernel
theorem dksX4_lying_1 : cX4_lying.data.toList.drop 23 = dktX4_lying_1 := dk_seg dksX4_lying_0 23 rfl rfl
theorem dksX4_lying_2 : cX4_lying.data.toList.drop 46 = dktX4_lying_2 := dk_seg dksX4_lying_1 23 rfl rfl
theorem dX4_lying_0 : decode cX4_lying 0 = .ok (.iconst 0, 1) := dk_3 (dk_at dksX4_lying_0 0 rfl rfl)
theorem dX4_lying_1 : decode cX4_lying 1 = .ok (.istore 4, 2) := dk_54 4 (dk_at dksX4_lying_0 1 rfl rfl)
theorem dX4_lying_3 : decode cX4_lying 3 = .ok (.iload 4, 2) := dk_21 4 (dk_at dksX4_lying_0 3 rfl rfl)
theorem dX4_lying_5 : decode cX4_lying 5 = .ok (.aload_n 0, 1) := dk_42 (dk_at dksX4_lying_0 5 rfl rfl)
theorem dX4_lying_6 : decode cX4_lying 6 = .ok (.invokevirtual 363, 3) := dk_182 1 107 (dk_at dksX4_lying_0 6 rfl rfl)
theorem dX4_lying_9 : decode cX4_lying 9 = .ok (.if_icmp .ge 58, 3) := dk_162 0 58 (dk_at dksX4_lying_0 9 rfl rfl)
theorem dX4_lying_12 : decode cX4_lying 12 = .ok (.iload 4, 2) := dk_21 4 (dk_at dksX4_lying_0 12 rfl rfl)
theorem dX4_lying_14 : decode cX4_lying 14 = .ok (.invokestatic 366, 3) := dk_184 1 110 (dk_at dksX4_lying_0 14 rfl rfl)
theorem dX4_lying_17 : decode cX4_lying 17 = .ok (.istore 5, 2) := dk_54 5 (dk_at dksX4_lying_0 17 rfl rfl)
theorem dX4_lying_19 : decode cX4_lying 19 = .ok (.aload_n 0, 1) := dk_42 (dk_at dksX4_lying_0 19 rfl rfl)
theorem dX4_lying_20 : decode cX4_lying 20 = .ok (.getfield 99, 3) := dk_180 0 99 (dk_at dksX4_lying_0 20 rfl rfl)
theorem dX4_lying_23 : decode cX4_lying 23 = .ok (.iload 5, 2) := dk_21 5 (dk_at dksX4_lying_1 0 rfl rfl)
theorem dX4_lying_25 : decode cX4_lying 25 = .ok (.iconst 0, 1) := dk_3 (dk_at dksX4_lying_1 2 rfl rfl)
theorem dX4_lying_26 : decode cX4_lying 26 = .ok (.iadd, 1) := dk_96 (dk_at dksX4_lying_1 3 rfl rfl)
theorem dX4_lying_27 : decode cX4_lying 27 = .ok (.iaload, 1) := dk_46 (dk_at dksX4_lying_1 4 rfl rfl)
theorem dX4_lying_28 : decode cX4_lying 28 = .ok (.iload_n 1, 1) := dk_27 (dk_at dksX4_lying_1 5 rfl rfl)
theorem dX4_lying_29 : decode cX4_lying 29 = .ok (.if_icmp .ne 32, 3) := dk_160 0 32 (dk_at dksX4_lying_1 6 rfl rfl)
theorem dX4_lying_32 : decode cX4_lying 32 = .ok (.aload_n 0, 1) := dk_42 (dk_at dksX4_lying_1 9 rfl rfl)
theorem dX4_lying_33 : decode cX4_lying 33 = .ok (.getfield 99, 3) := dk_180 0 99 (dk_at dksX4_lying_1 10 rfl rfl)
theorem dX4_lying_36 : decode cX4_lying 36 = .ok (.iload 5, 2) := dk_21 5 (dk_at dksX4_lying_1 13 rfl rfl)
theorem dX4_lying_38 : decode cX4_lying 38 = .ok (.iconst 1, 1) := dk_4 (dk_at dksX4_lying_1 15 rfl rfl)
theorem dX4_lying_39 : decode cX4_lying 39 = .ok (.iadd, 1) := dk_96 (dk_at dksX4_lying_1 16 rfl rfl)
theorem dX4_lying_40 : decode cX4_lying 40 = .ok (.iaload, 1) := dk_46 (dk_at dksX4_lying_1 17 rfl rfl)
theorem dX4_lying_41 : decode cX4_lying 41 = .ok (.iload_n 2, 1) := dk_28 (dk_at dksX4_lying_1 18 rfl rfl)
theorem dX4_lying_42 : decode cX4_lying 42 = .ok (.if_icmp .ne 19, 3) := dk_160 0 19 (dk_at dksX4_lying_1 19 rfl rfl)
theorem dX4_lying_45 : decode cX4_lying 45 = .ok (.aload_n 0, 1) := dk_42 (dk_at dksX4_lying_1 22 rfl rfl)
theorem dX4_lying_46 : decode cX4_lying 46 = .ok (.getfield 99, 3) := dk_180 0 99 (dk_at dksX4_lying_2 0 rfl rfl)
theorem dX4_lying_49 : decode cX4_lying 49 = .ok (.iload 5, 2) := dk_21 5 (dk_at dksX4_lying_2 3 rfl rfl)
theorem dX4_lying_51 : decode cX4_lying 51 = .ok (.iconst 2, 1) := dk_5 (dk_at dksX4_lying_2 5 rfl rfl)
theorem dX4_lying_52 : decode cX4_lying 52 = .ok (.iadd, 1) := dk_96 (dk_at dksX4_lying_2 6 rfl rfl)
theorem dX4_lying_53 : decode cX4_lying 53 = .ok (.iaload, 1) := dk_46 (dk_at dksX4_lying_2 7 rfl rfl)
theorem dX4_lying_54 : decode cX4_lying 54 = .ok (.iload_n 3, 1) := dk_29 (dk_at dksX4_lying_2 8 rfl rfl)
theorem dX4_lying_55 : decode cX4_lying 55 = .ok (.if_icmp .ne 6, 3) := dk_160 0 6 (dk_at dksX4_lying_2 9 rfl rfl)
theorem dX4_lying_58 : decode cX4_lying 58 = .ok (.iload 4, 2) := dk_21 4 (dk_at dksX4_lying_2 12 rfl rfl)
theorem dX4_lying_60 : decode cX4_lying 60 = .ok (.ireturn, 1) := dk_172 (dk_at dksX4_lying_2 14 rfl rfl)
theorem dX4_lying_61 : decode cX4_lying 61 = .ok (.iinc 4 1, 3) := dk_132 4 1 (dk_at dksX4_lying_2 15 rfl rfl)
theorem dX4_lying_64 : decode cX4_lying 64 = .ok (.goto (-61), 3) := dk_167 255 195 (dk_at dksX4_lying_2 18 rfl rfl)
theorem dX4_lying_67 : decode cX4_lying 67 = .ok (.iconst (-1), 1) := dk_2 (dk_at dksX4_lying_2 21 rfl rfl)
theorem dX4_lying_68 : decode cX4_lying 68 = .ok (.ireturn, 1) := dk_172 (dk_at dksX4_lying_2 22 rfl rfl)
abbrev cX4_begun : ByteArray := prog_21_method_50_code
def yX4_begun : MethodName := ⟨RX4, "begun", "(I)I"⟩
def dkwX4_begun_2 : List UInt8 := [180, 0, 99, 21, 4, 4, 96, 46, 120, 167, 0, 4, 3, 128, 61, 132, 3, 1, 167, 255, 195, 28, 172]
abbrev dktX4_begun_2 : List UInt8 := dkwX4_begun_2 ++ []
def dkwX4_begun_1 : List UInt8 := [21, 4, 3, 96, 46, 27, 160, 0, 30, 42, 180, 0, 99, 21, 4, 8, 96, 46, 4, 160, 0, 17, 4, 42]
abbrev dktX4_begun_1 : List UInt8 := dkwX4_begun_1 ++ dktX4_begun_2
def dkwX4_begun_0 : List UInt8 := [3, 61, 3, 62, 29, 42, 182, 1, 107, 162, 0, 59, 29, 184, 1, 110, 54, 4, 28, 42, 180, 0, 99]
abbrev dktX4_begun_0 : List UInt8 := dkwX4_begun_0 ++ dktX4_begun_1
theorem dksX4_begun_0 : cX4_begun.data.toList.drop 0 = dktX4_begun_0 := by decide +kernel
theorem dksX4_begun_1 : cX4_begun.data.toList.drop 23 = dktX4_begun_1 := dk_seg dksX4_begun_0 23 rfl rfl
theorem dksX4_begun_2 : cX4_begun.data.toList.drop 47 = dktX4_begun_2 := dk_seg dksX4_begun_1 24 rfl rfl
theorem dX4_begun_0 : decode cX4_begun 0 = .ok (.iconst 0, 1) := dk_3 (dk_at dksX4_begun_0 0 rfl rfl)
theorem dX4_begun_1 : decode cX4_begun 1 = .ok (.istore_n 2, 1) := dk_61 (dk_at dksX4_begun_0 1 rfl rfl)
theorem dX4_begun_2 : decode cX4_begun 2 = .ok (.iconst 0, 1) := dk_3 (dk_at dksX4_begun_0 2 rfl rfl)
theorem dX4_begun_3 : decode cX4_begun 3 = .ok (.istore_n 3, 1) := dk_62 (dk_at dksX4_begun_0 3 rfl rfl)
theorem dX4_begun_4 : decode cX4_begun 4 = .ok (.iload_n 3, 1) := dk_29 (dk_at dksX4_begun_0 4 rfl rfl)
theorem dX4_begun_5 : decode cX4_begun 5 = .ok (.aload_n 0, 1) := dk_42 (dk_at dksX4_begun_0 5 rfl rfl)
theorem dX4_begun_6 : decode cX4_begun 6 = .ok (.invokevirtual 363, 3) := dk_182 1 107 (dk_at dksX4_begun_0 6 rfl rfl)
theorem dX4_begun_9 : decode cX4_begun 9 = .ok (.if_icmp .ge 59, 3) := dk_162 0 59 (dk_at dksX4_begun_0 9 rfl rfl)
theorem dX4_begun_12 : decode cX4_begun 12 = .ok (.iload_n 3, 1) := dk_29 (dk_at dksX4_begun_0 12 rfl rfl)
theorem dX4_begun_13 : decode cX4_begun 13 = .ok (.invokestatic 366, 3) := dk_184 1 110 (dk_at dksX4_begun_0 13 rfl rfl)
theorem dX4_begun_16 : decode cX4_begun 16 = .ok (.istore 4, 2) := dk_54 4 (dk_at dksX4_begun_0 16 rfl rfl)
theorem dX4_begun_18 : decode cX4_begun 18 = .ok (.iload_n 2, 1) := dk_28 (dk_at dksX4_begun_0 18 rfl rfl)
theorem dX4_begun_19 : decode cX4_begun 19 = .ok (.aload_n 0, 1) := dk_42 (dk_at dksX4_begun_0 19 rfl rfl)
theorem dX4_begun_20 : decode cX4_begun 20 = .ok (.getfield 99, 3) := dk_180 0 99 (dk_at dksX4_begun_0 20 rfl rfl)
theorem dX4_begun_23 : decode cX4_begun 23 = .ok (.iload 4, 2) := dk_21 4 (dk_at dksX4_begun_1 0 rfl rfl)
theorem dX4_begun_25 : decode cX4_begun 25 = .ok (.iconst 0, 1) := dk_3 (dk_at dksX4_begun_1 2 rfl rfl)
theorem dX4_begun_26 : decode cX4_begun 26 = .ok (.iadd, 1) := dk_96 (dk_at dksX4_begun_1 3 rfl rfl)
theorem dX4_begun_27 : decode cX4_begun 27 = .ok (.iaload, 1) := dk_46 (dk_at dksX4_begun_1 4 rfl rfl)
theorem dX4_begun_28 : decode cX4_begun 28 = .ok (.iload_n 1, 1) := dk_27 (dk_at dksX4_begun_1 5 rfl rfl)
theorem dX4_begun_29 : decode cX4_begun 29 = .ok (.if_icmp .ne 30, 3) := dk_160 0 30 (dk_at dksX4_begun_1 6 rfl rfl)
theorem dX4_begun_32 : decode cX4_begun 32 = .ok (.aload_n 0, 1) := dk_42 (dk_at dksX4_begun_1 9 rfl rfl)
theorem dX4_begun_33 : decode cX4_begun 33 = .ok (.getfield 99, 3) := dk_180 0 99 (dk_at dksX4_begun_1 10 rfl rfl)
theorem dX4_begun_36 : decode cX4_begun 36 = .ok (.iload 4, 2) := dk_21 4 (dk_at dksX4_begun_1 13 rfl rfl)
theorem dX4_begun_38 : decode cX4_begun 38 = .ok (.iconst 5, 1) := dk_8 (dk_at dksX4_begun_1 15 rfl rfl)
theorem dX4_begun_39 : decode cX4_begun 39 = .ok (.iadd, 1) := dk_96 (dk_at dksX4_begun_1 16 rfl rfl)
theorem dX4_begun_40 : decode cX4_begun 40 = .ok (.iaload, 1) := dk_46 (dk_at dksX4_begun_1 17 rfl rfl)
theorem dX4_begun_41 : decode cX4_begun 41 = .ok (.iconst 1, 1) := dk_4 (dk_at dksX4_begun_1 18 rfl rfl)
theorem dX4_begun_42 : decode cX4_begun 42 = .ok (.if_icmp .ne 17, 3) := dk_160 0 17 (dk_at dksX4_begun_1 19 rfl rfl)
theorem dX4_begun_45 : decode cX4_begun 45 = .ok (.iconst 1, 1) := dk_4 (dk_at dksX4_begun_1 22 rfl rfl)
theorem dX4_begun_46 : decode cX4_begun 46 = .ok (.aload_n 0, 1) := dk_42 (dk_at dksX4_begun_1 23 rfl rfl)
theorem dX4_begun_47 : decode cX4_begun 47 = .ok (.getfield 99, 3) := dk_180 0 99 (dk_at dksX4_begun_2 0 rfl rfl)
theorem dX4_begun_50 : decode cX4_begun 50 = .ok (.iload 4, 2) := dk_21 4 (dk_at dksX4_begun_2 3 rfl rfl)
theorem dX4_begun_52 : decode cX4_begun 52 = .ok (.iconst 1, 1) := dk_4 (dk_at dksX4_begun_2 5 rfl rfl)
theorem dX4_begun_53 : decode cX4_begun 53 = .ok (.iadd, 1) := dk_96 (dk_at dksX4_begun_2 6 rfl rfl)
theorem dX4_begun_54 : decode cX4_begun 54 = .ok (.iaload, 1) := dk_46 (dk_at dksX4_begun_2 7 rfl rfl)
theorem dX4_begun_55 : decode cX4_begun 55 = .ok (.ishl, 1) := dk_120 (dk_at dksX4_begun_2 8 rfl rfl)
theorem dX4_begun_56 : decode cX4_begun 56 = .ok (.goto 4, 3) := dk_167 0 4 (dk_at dksX4_begun_2 9 rfl rfl)
theorem dX4_begun_59 : decode cX4_begun 59 = .ok (.iconst 0, 1) := dk_3 (dk_at dksX4_begun_2 12 rfl rfl)
theorem dX4_begun_60 : decode cX4_begun 60 = .ok (.ior, 1) := dk_128 (dk_at dksX4_begun_2 13 rfl rfl)
theorem dX4_begun_61 : decode cX4_begun 61 = .ok (.istore_n 2, 1) := dk_61 (dk_at dksX4_begun_2 14 rfl rfl)
theorem dX4_begun_62 : decode cX4_begun 62 = .ok (.iinc 3 1, 3) := dk_132 3 1 (dk_at dksX4_begun_2 15 rfl rfl)
theorem dX4_begun_65 : decode cX4_begun 65 = .ok (.goto (-61), 3) := dk_167 255 195 (dk_at dksX4_begun_2 18 rfl rfl)
theorem dX4_begun_68 : decode cX4_begun 68 = .ok (.iload_n 2, 1) := dk_28 (dk_at dksX4_begun_2 21 rfl rfl)
theorem dX4_begun_69 : decode cX4_begun 69 = .ok (.ireturn, 1) := dk_172 (dk_at dksX4_begun_2 22 rfl rfl)
abbrev cX4_areAll : ByteArray := prog_21_method_55_code
def yX4_areAll : MethodName := ⟨RX4, "areAll", "(I)Z"⟩
def dkwX4_areAll_1 : List UInt8 := [167, 255, 234, 4, 172]
abbrev dktX4_areAll_1 : List UInt8 := dkwX4_areAll_1 ++ []
def dkwX4_areAll_0 : List UInt8 := [3, 61, 28, 42, 180, 0, 54, 162, 0, 20, 42, 28, 27, 182, 1, 119, 154, 0, 5, 3, 172, 132, 2, 1]
abbrev dktX4_areAll_0 : List UInt8 := dkwX4_areAll_0 ++ dktX4_areAll_1
theorem dksX4_areAll_0 : cX4_areAll.data.toList.drop 0 = dktX4_areAll_0 := by decide +kernel
theorem dksX4_areAll_1 : cX4_areAll.data.toList.drop 24 = dktX4_areAll_1 := dk_seg dksX4_areAll_0 24 rfl rfl
theorem dX4_areAll_0 : decode cX4_areAll 0 = .ok (.iconst 0, 1) := dk_3 (dk_at dksX4_areAll_0 0 rfl rfl)
theorem dX4_areAll_1 : decode cX4_areAll 1 = .ok (.istore_n 2, 1) := dk_61 (dk_at dksX4_areAll_0 1 rfl rfl)
theorem dX4_areAll_2 : decode cX4_areAll 2 = .ok (.iload_n 2, 1) := dk_28 (dk_at dksX4_areAll_0 2 rfl rfl)
theorem dX4_areAll_3 : decode cX4_areAll 3 = .ok (.aload_n 0, 1) := dk_42 (dk_at dksX4_areAll_0 3 rfl rfl)
theorem dX4_areAll_4 : decode cX4_areAll 4 = .ok (.getfield 54, 3) := dk_180 0 54 (dk_at dksX4_areAll_0 4 rfl rfl)
theorem dX4_areAll_7 : decode cX4_areAll 7 = .ok (.if_icmp .ge 20, 3) := dk_162 0 20 (dk_at dksX4_areAll_0 7 rfl rfl)
theorem dX4_areAll_10 : decode cX4_areAll 10 = .ok (.aload_n 0, 1) := dk_42 (dk_at dksX4_areAll_0 10 rfl rfl)
theorem dX4_areAll_11 : decode cX4_areAll 11 = .ok (.iload_n 2, 1) := dk_28 (dk_at dksX4_areAll_0 11 rfl rfl)
theorem dX4_areAll_12 : decode cX4_areAll 12 = .ok (.iload_n 1, 1) := dk_27 (dk_at dksX4_areAll_0 12 rfl rfl)
theorem dX4_areAll_13 : decode cX4_areAll 13 = .ok (.invokevirtual 375, 3) := dk_182 1 119 (dk_at dksX4_areAll_0 13 rfl rfl)
theorem dX4_areAll_16 : decode cX4_areAll 16 = .ok (.ifCond .ne 5, 3) := dk_154 0 5 (dk_at dksX4_areAll_0 16 rfl rfl)
theorem dX4_areAll_19 : decode cX4_areAll 19 = .ok (.iconst 0, 1) := dk_3 (dk_at dksX4_areAll_0 19 rfl rfl)
theorem dX4_areAll_20 : decode cX4_areAll 20 = .ok (.ireturn, 1) := dk_172 (dk_at dksX4_areAll_0 20 rfl rfl)
theorem dX4_areAll_21 : decode cX4_areAll 21 = .ok (.iinc 2 1, 3) := dk_132 2 1 (dk_at dksX4_areAll_0 21 rfl rfl)
theorem dX4_areAll_24 : decode cX4_areAll 24 = .ok (.goto (-22), 3) := dk_167 255 234 (dk_at dksX4_areAll_1 0 rfl rfl)
theorem dX4_areAll_27 : decode cX4_areAll 27 = .ok (.iconst 1, 1) := dk_4 (dk_at dksX4_areAll_1 3 rfl rfl)
theorem dX4_areAll_28 : decode cX4_areAll 28 = .ok (.ireturn, 1) := dk_172 (dk_at dksX4_areAll_1 4 rfl rfl)
abbrev cX4_move : ByteArray := prog_21_method_63_code
def yX4_move : MethodName := ⟨RX4, "move", "(II)V"⟩
def dkwX4_move_9 : List UInt8 := [4, 96, 79, 42, 27, 182, 1, 116, 167, 0, 13, 42, 42, 180, 0, 71, 29, 46, 182, 1, 175, 177]
abbrev dktX4_move_9 : List UInt8 := dkwX4_move_9 ++ []
def dkwX4_move_8 : List UInt8 := [182, 1, 172, 167, 0, 42, 42, 27, 42, 180, 0, 114, 27, 46, 182, 1, 143, 42, 180, 0, 108, 27, 92, 46]
abbrev dktX4_move_8 : List UInt8 := dkwX4_move_8 ++ dktX4_move_9
def dkwX4_move_7 : List UInt8 := [27, 42, 27, 4, 182, 1, 91, 182, 1, 123, 54, 4, 42, 27, 28, 182, 1, 153, 42, 27, 28, 21, 4]
abbrev dktX4_move_7 : List UInt8 := dkwX4_move_7 ++ dktX4_move_8
def dkwX4_move_6 : List UInt8 := [27, 4, 182, 1, 91, 182, 1, 123, 54, 5, 42, 27, 21, 4, 21, 5, 182, 1, 172, 167, 0, 73, 42, 28]
abbrev dktX4_move_6 : List UInt8 := dkwX4_move_6 ++ dktX4_move_7
def dkwX4_move_5 : List UInt8 := [167, 0, 116, 42, 27, 182, 1, 169, 167, 0, 108, 42, 27, 3, 182, 1, 91, 54, 4, 42, 21, 4, 27, 42]
abbrev dktX4_move_5 : List UInt8 := dkwX4_move_5 ++ dktX4_move_6
def dkwX4_move_4 : List UInt8 := [42, 180, 0, 108, 27, 92, 46, 4, 96, 79, 42, 27, 182, 1, 116, 167, 0, 124, 42, 27, 182, 1, 169]
abbrev dktX4_move_4 : List UInt8 := dkwX4_move_4 ++ dktX4_move_5
def dkwX4_move_3 : List UInt8 := [42, 27, 42, 27, 3, 182, 1, 91, 182, 1, 126, 42, 180, 1, 66, 162, 0, 27, 42, 27, 3, 182, 1, 165]
abbrev dktX4_move_3 : List UInt8 := dkwX4_move_3 ++ dktX4_move_4
def dkwX4_move_2 : List UInt8 := [42, 27, 4, 182, 1, 165, 42, 180, 0, 108, 27, 92, 46, 4, 96, 79, 42, 27, 182, 1, 116, 167, 0, 166]
abbrev dktX4_move_2 : List UInt8 := dkwX4_move_2 ++ dktX4_move_3
def dkwX4_move_1 : List UInt8 := [170, 0, 0, 0, 0, 215, 0, 0, 0, 0, 0, 0, 0, 5, 0, 0, 0, 62, 0, 0, 0, 112, 0, 0, 0, 38, 0, 0, 0, 120, 0, 0, 0, 155, 0, 0, 0, 186]
abbrev dktX4_move_1 : List UInt8 := dkwX4_move_1 ++ dktX4_move_2
def dkwX4_move_0 : List UInt8 := [42, 27, 3, 182, 1, 81, 62, 42, 2, 181, 1, 156, 42, 180, 0, 71, 29, 46]
abbrev dktX4_move_0 : List UInt8 := dkwX4_move_0 ++ dktX4_move_1
theorem dksX4_move_0 : cX4_move.data.toList.drop 0 = dktX4_move_0 := by decide +kernel
theorem dksX4_move_1 : cX4_move.data.toList.drop 18 = dktX4_move_1 := dk_seg dksX4_move_0 18 rfl rfl
theorem dksX4_move_2 : cX4_move.data.toList.drop 56 = dktX4_move_2 := dk_seg dksX4_move_1 38 rfl rfl
theorem dksX4_move_3 : cX4_move.data.toList.drop 80 = dktX4_move_3 := dk_seg dksX4_move_2 24 rfl rfl
theorem dksX4_move_4 : cX4_move.data.toList.drop 104 = dktX4_move_4 := dk_seg dksX4_move_3 24 rfl rfl
theorem dksX4_move_5 : cX4_move.data.toList.drop 127 = dktX4_move_5 := dk_seg dksX4_move_4 23 rfl rfl
theorem dksX4_move_6 : cX4_move.data.toList.drop 151 = dktX4_move_6 := dk_seg dksX4_move_5 24 rfl rfl
theorem dksX4_move_7 : cX4_move.data.toList.drop 175 = dktX4_move_7 := dk_seg dksX4_move_6 24 rfl rfl
theorem dksX4_move_8 : cX4_move.data.toList.drop 198 = dktX4_move_8 := dk_seg dksX4_move_7 23 rfl rfl
theorem dksX4_move_9 : cX4_move.data.toList.drop 222 = dktX4_move_9 := dk_seg dksX4_move_8 24 rfl rfl
theorem dX4_move_0 : decode cX4_move 0 = .ok (.aload_n 0, 1) := dk_42 (dk_at dksX4_move_0 0 rfl rfl)
theorem dX4_move_1 : decode cX4_move 1 = .ok (.iload_n 1, 1) := dk_27 (dk_at dksX4_move_0 1 rfl rfl)
theorem dX4_move_2 : decode cX4_move 2 = .ok (.iconst 0, 1) := dk_3 (dk_at dksX4_move_0 2 rfl rfl)
theorem dX4_move_3 : decode cX4_move 3 = .ok (.invokevirtual 337, 3) := dk_182 1 81 (dk_at dksX4_move_0 3 rfl rfl)
theorem dX4_move_6 : decode cX4_move 6 = .ok (.istore_n 3, 1) := dk_62 (dk_at dksX4_move_0 6 rfl rfl)
theorem dX4_move_7 : decode cX4_move 7 = .ok (.aload_n 0, 1) := dk_42 (dk_at dksX4_move_0 7 rfl rfl)
theorem dX4_move_8 : decode cX4_move 8 = .ok (.iconst (-1), 1) := dk_2 (dk_at dksX4_move_0 8 rfl rfl)
theorem dX4_move_9 : decode cX4_move 9 = .ok (.putfield 412, 3) := dk_181 1 156 (dk_at dksX4_move_0 9 rfl rfl)
theorem dX4_move_12 : decode cX4_move 12 = .ok (.aload_n 0, 1) := dk_42 (dk_at dksX4_move_0 12 rfl rfl)
theorem dX4_move_13 : decode cX4_move 13 = .ok (.getfield 71, 3) := dk_180 0 71 (dk_at dksX4_move_0 13 rfl rfl)
theorem dX4_move_16 : decode cX4_move 16 = .ok (.iload_n 3, 1) := dk_29 (dk_at dksX4_move_0 16 rfl rfl)
theorem dX4_move_17 : decode cX4_move 17 = .ok (.iaload, 1) := dk_46 (dk_at dksX4_move_0 17 rfl rfl)
theorem dX4_move_18 : decode cX4_move 18 = .ok (.tableswitch 215 0 5 #[62, 112, 38, 120, 155, 186], 38) := by decide +kernel
theorem dX4_move_56 : decode cX4_move 56 = .ok (.aload_n 0, 1) := dk_42 (dk_at dksX4_move_2 0 rfl rfl)
theorem dX4_move_57 : decode cX4_move 57 = .ok (.iload_n 1, 1) := dk_27 (dk_at dksX4_move_2 1 rfl rfl)
theorem dX4_move_58 : decode cX4_move 58 = .ok (.iconst 1, 1) := dk_4 (dk_at dksX4_move_2 2 rfl rfl)
theorem dX4_move_59 : decode cX4_move 59 = .ok (.invokevirtual 421, 3) := dk_182 1 165 (dk_at dksX4_move_2 3 rfl rfl)
theorem dX4_move_62 : decode cX4_move 62 = .ok (.aload_n 0, 1) := dk_42 (dk_at dksX4_move_2 6 rfl rfl)
theorem dX4_move_63 : decode cX4_move 63 = .ok (.getfield 108, 3) := dk_180 0 108 (dk_at dksX4_move_2 7 rfl rfl)
theorem dX4_move_66 : decode cX4_move 66 = .ok (.iload_n 1, 1) := dk_27 (dk_at dksX4_move_2 10 rfl rfl)
theorem dX4_move_67 : decode cX4_move 67 = .ok (.dup2, 1) := dk_92 (dk_at dksX4_move_2 11 rfl rfl)
theorem dX4_move_68 : decode cX4_move 68 = .ok (.iaload, 1) := dk_46 (dk_at dksX4_move_2 12 rfl rfl)
theorem dX4_move_69 : decode cX4_move 69 = .ok (.iconst 1, 1) := dk_4 (dk_at dksX4_move_2 13 rfl rfl)
theorem dX4_move_70 : decode cX4_move 70 = .ok (.iadd, 1) := dk_96 (dk_at dksX4_move_2 14 rfl rfl)
theorem dX4_move_71 : decode cX4_move 71 = .ok (.iastore, 1) := dk_79 (dk_at dksX4_move_2 15 rfl rfl)
theorem dX4_move_72 : decode cX4_move 72 = .ok (.aload_n 0, 1) := dk_42 (dk_at dksX4_move_2 16 rfl rfl)
theorem dX4_move_73 : decode cX4_move 73 = .ok (.iload_n 1, 1) := dk_27 (dk_at dksX4_move_2 17 rfl rfl)
theorem dX4_move_74 : decode cX4_move 74 = .ok (.invokevirtual 372, 3) := dk_182 1 116 (dk_at dksX4_move_2 18 rfl rfl)
theorem dX4_move_77 : decode cX4_move 77 = .ok (.goto 166, 3) := dk_167 0 166 (dk_at dksX4_move_2 21 rfl rfl)
theorem dX4_move_80 : decode cX4_move 80 = .ok (.aload_n 0, 1) := dk_42 (dk_at dksX4_move_3 0 rfl rfl)
theorem dX4_move_81 : decode cX4_move 81 = .ok (.iload_n 1, 1) := dk_27 (dk_at dksX4_move_3 1 rfl rfl)
theorem dX4_move_82 : decode cX4_move 82 = .ok (.aload_n 0, 1) := dk_42 (dk_at dksX4_move_3 2 rfl rfl)
theorem dX4_move_83 : decode cX4_move 83 = .ok (.iload_n 1, 1) := dk_27 (dk_at dksX4_move_3 3 rfl rfl)
theorem dX4_move_84 : decode cX4_move 84 = .ok (.iconst 0, 1) := dk_3 (dk_at dksX4_move_3 4 rfl rfl)
theorem dX4_move_85 : decode cX4_move 85 = .ok (.invokevirtual 347, 3) := dk_182 1 91 (dk_at dksX4_move_3 5 rfl rfl)
theorem dX4_move_88 : decode cX4_move 88 = .ok (.invokevirtual 382, 3) := dk_182 1 126 (dk_at dksX4_move_3 8 rfl rfl)
theorem dX4_move_91 : decode cX4_move 91 = .ok (.aload_n 0, 1) := dk_42 (dk_at dksX4_move_3 11 rfl rfl)
theorem dX4_move_92 : decode cX4_move 92 = .ok (.getfield 322, 3) := dk_180 1 66 (dk_at dksX4_move_3 12 rfl rfl)
theorem dX4_move_95 : decode cX4_move 95 = .ok (.if_icmp .ge 27, 3) := dk_162 0 27 (dk_at dksX4_move_3 15 rfl rfl)
theorem dX4_move_98 : decode cX4_move 98 = .ok (.aload_n 0, 1) := dk_42 (dk_at dksX4_move_3 18 rfl rfl)
theorem dX4_move_99 : decode cX4_move 99 = .ok (.iload_n 1, 1) := dk_27 (dk_at dksX4_move_3 19 rfl rfl)
theorem dX4_move_100 : decode cX4_move 100 = .ok (.iconst 0, 1) := dk_3 (dk_at dksX4_move_3 20 rfl rfl)
theorem dX4_move_101 : decode cX4_move 101 = .ok (.invokevirtual 421, 3) := dk_182 1 165 (dk_at dksX4_move_3 21 rfl rfl)
theorem dX4_move_104 : decode cX4_move 104 = .ok (.aload_n 0, 1) := dk_42 (dk_at dksX4_move_4 0 rfl rfl)
theorem dX4_move_105 : decode cX4_move 105 = .ok (.getfield 108, 3) := dk_180 0 108 (dk_at dksX4_move_4 1 rfl rfl)
theorem dX4_move_108 : decode cX4_move 108 = .ok (.iload_n 1, 1) := dk_27 (dk_at dksX4_move_4 4 rfl rfl)
theorem dX4_move_109 : decode cX4_move 109 = .ok (.dup2, 1) := dk_92 (dk_at dksX4_move_4 5 rfl rfl)
theorem dX4_move_110 : decode cX4_move 110 = .ok (.iaload, 1) := dk_46 (dk_at dksX4_move_4 6 rfl rfl)
theorem dX4_move_111 : decode cX4_move 111 = .ok (.iconst 1, 1) := dk_4 (dk_at dksX4_move_4 7 rfl rfl)
theorem dX4_move_112 : decode cX4_move 112 = .ok (.iadd, 1) := dk_96 (dk_at dksX4_move_4 8 rfl rfl)
theorem dX4_move_113 : decode cX4_move 113 = .ok (.iastore, 1) := dk_79 (dk_at dksX4_move_4 9 rfl rfl)
theorem dX4_move_114 : decode cX4_move 114 = .ok (.aload_n 0, 1) := dk_42 (dk_at dksX4_move_4 10 rfl rfl)
theorem dX4_move_115 : decode cX4_move 115 = .ok (.iload_n 1, 1) := dk_27 (dk_at dksX4_move_4 11 rfl rfl)
theorem dX4_move_116 : decode cX4_move 116 = .ok (.invokevirtual 372, 3) := dk_182 1 116 (dk_at dksX4_move_4 12 rfl rfl)
theorem dX4_move_119 : decode cX4_move 119 = .ok (.goto 124, 3) := dk_167 0 124 (dk_at dksX4_move_4 15 rfl rfl)
theorem dX4_move_122 : decode cX4_move 122 = .ok (.aload_n 0, 1) := dk_42 (dk_at dksX4_move_4 18 rfl rfl)
theorem dX4_move_123 : decode cX4_move 123 = .ok (.iload_n 1, 1) := dk_27 (dk_at dksX4_move_4 19 rfl rfl)
theorem dX4_move_124 : decode cX4_move 124 = .ok (.invokevirtual 425, 3) := dk_182 1 169 (dk_at dksX4_move_4 20 rfl rfl)
theorem dX4_move_127 : decode cX4_move 127 = .ok (.goto 116, 3) := dk_167 0 116 (dk_at dksX4_move_5 0 rfl rfl)
theorem dX4_move_130 : decode cX4_move 130 = .ok (.aload_n 0, 1) := dk_42 (dk_at dksX4_move_5 3 rfl rfl)
theorem dX4_move_131 : decode cX4_move 131 = .ok (.iload_n 1, 1) := dk_27 (dk_at dksX4_move_5 4 rfl rfl)
theorem dX4_move_132 : decode cX4_move 132 = .ok (.invokevirtual 425, 3) := dk_182 1 169 (dk_at dksX4_move_5 5 rfl rfl)
theorem dX4_move_135 : decode cX4_move 135 = .ok (.goto 108, 3) := dk_167 0 108 (dk_at dksX4_move_5 8 rfl rfl)
theorem dX4_move_138 : decode cX4_move 138 = .ok (.aload_n 0, 1) := dk_42 (dk_at dksX4_move_5 11 rfl rfl)
theorem dX4_move_139 : decode cX4_move 139 = .ok (.iload_n 1, 1) := dk_27 (dk_at dksX4_move_5 12 rfl rfl)
theorem dX4_move_140 : decode cX4_move 140 = .ok (.iconst 0, 1) := dk_3 (dk_at dksX4_move_5 13 rfl rfl)
theorem dX4_move_141 : decode cX4_move 141 = .ok (.invokevirtual 347, 3) := dk_182 1 91 (dk_at dksX4_move_5 14 rfl rfl)
theorem dX4_move_144 : decode cX4_move 144 = .ok (.istore 4, 2) := dk_54 4 (dk_at dksX4_move_5 17 rfl rfl)
theorem dX4_move_146 : decode cX4_move 146 = .ok (.aload_n 0, 1) := dk_42 (dk_at dksX4_move_5 19 rfl rfl)
theorem dX4_move_147 : decode cX4_move 147 = .ok (.iload 4, 2) := dk_21 4 (dk_at dksX4_move_5 20 rfl rfl)
theorem dX4_move_149 : decode cX4_move 149 = .ok (.iload_n 1, 1) := dk_27 (dk_at dksX4_move_5 22 rfl rfl)
theorem dX4_move_150 : decode cX4_move 150 = .ok (.aload_n 0, 1) := dk_42 (dk_at dksX4_move_5 23 rfl rfl)
theorem dX4_move_151 : decode cX4_move 151 = .ok (.iload_n 1, 1) := dk_27 (dk_at dksX4_move_6 0 rfl rfl)
theorem dX4_move_152 : decode cX4_move 152 = .ok (.iconst 1, 1) := dk_4 (dk_at dksX4_move_6 1 rfl rfl)
theorem dX4_move_153 : decode cX4_move 153 = .ok (.invokevirtual 347, 3) := dk_182 1 91 (dk_at dksX4_move_6 2 rfl rfl)
theorem dX4_move_156 : decode cX4_move 156 = .ok (.invokevirtual 379, 3) := dk_182 1 123 (dk_at dksX4_move_6 5 rfl rfl)
theorem dX4_move_159 : decode cX4_move 159 = .ok (.istore 5, 2) := dk_54 5 (dk_at dksX4_move_6 8 rfl rfl)
theorem dX4_move_161 : decode cX4_move 161 = .ok (.aload_n 0, 1) := dk_42 (dk_at dksX4_move_6 10 rfl rfl)
theorem dX4_move_162 : decode cX4_move 162 = .ok (.iload_n 1, 1) := dk_27 (dk_at dksX4_move_6 11 rfl rfl)
theorem dX4_move_163 : decode cX4_move 163 = .ok (.iload 4, 2) := dk_21 4 (dk_at dksX4_move_6 12 rfl rfl)
theorem dX4_move_165 : decode cX4_move 165 = .ok (.iload 5, 2) := dk_21 5 (dk_at dksX4_move_6 14 rfl rfl)
theorem dX4_move_167 : decode cX4_move 167 = .ok (.invokevirtual 428, 3) := dk_182 1 172 (dk_at dksX4_move_6 16 rfl rfl)
theorem dX4_move_170 : decode cX4_move 170 = .ok (.goto 73, 3) := dk_167 0 73 (dk_at dksX4_move_6 19 rfl rfl)
theorem dX4_move_173 : decode cX4_move 173 = .ok (.aload_n 0, 1) := dk_42 (dk_at dksX4_move_6 22 rfl rfl)
theorem dX4_move_174 : decode cX4_move 174 = .ok (.iload_n 2, 1) := dk_28 (dk_at dksX4_move_6 23 rfl rfl)
theorem dX4_move_175 : decode cX4_move 175 = .ok (.iload_n 1, 1) := dk_27 (dk_at dksX4_move_7 0 rfl rfl)
theorem dX4_move_176 : decode cX4_move 176 = .ok (.aload_n 0, 1) := dk_42 (dk_at dksX4_move_7 1 rfl rfl)
theorem dX4_move_177 : decode cX4_move 177 = .ok (.iload_n 1, 1) := dk_27 (dk_at dksX4_move_7 2 rfl rfl)
theorem dX4_move_178 : decode cX4_move 178 = .ok (.iconst 1, 1) := dk_4 (dk_at dksX4_move_7 3 rfl rfl)
theorem dX4_move_179 : decode cX4_move 179 = .ok (.invokevirtual 347, 3) := dk_182 1 91 (dk_at dksX4_move_7 4 rfl rfl)
theorem dX4_move_182 : decode cX4_move 182 = .ok (.invokevirtual 379, 3) := dk_182 1 123 (dk_at dksX4_move_7 7 rfl rfl)
theorem dX4_move_185 : decode cX4_move 185 = .ok (.istore 4, 2) := dk_54 4 (dk_at dksX4_move_7 10 rfl rfl)
theorem dX4_move_187 : decode cX4_move 187 = .ok (.aload_n 0, 1) := dk_42 (dk_at dksX4_move_7 12 rfl rfl)
theorem dX4_move_188 : decode cX4_move 188 = .ok (.iload_n 1, 1) := dk_27 (dk_at dksX4_move_7 13 rfl rfl)
theorem dX4_move_189 : decode cX4_move 189 = .ok (.iload_n 2, 1) := dk_28 (dk_at dksX4_move_7 14 rfl rfl)
theorem dX4_move_190 : decode cX4_move 190 = .ok (.invokevirtual 409, 3) := dk_182 1 153 (dk_at dksX4_move_7 15 rfl rfl)
theorem dX4_move_193 : decode cX4_move 193 = .ok (.aload_n 0, 1) := dk_42 (dk_at dksX4_move_7 18 rfl rfl)
theorem dX4_move_194 : decode cX4_move 194 = .ok (.iload_n 1, 1) := dk_27 (dk_at dksX4_move_7 19 rfl rfl)
theorem dX4_move_195 : decode cX4_move 195 = .ok (.iload_n 2, 1) := dk_28 (dk_at dksX4_move_7 20 rfl rfl)
theorem dX4_move_196 : decode cX4_move 196 = .ok (.iload 4, 2) := dk_21 4 (dk_at dksX4_move_7 21 rfl rfl)
theorem dX4_move_198 : decode cX4_move 198 = .ok (.invokevirtual 428, 3) := dk_182 1 172 (dk_at dksX4_move_8 0 rfl rfl)
theorem dX4_move_201 : decode cX4_move 201 = .ok (.goto 42, 3) := dk_167 0 42 (dk_at dksX4_move_8 3 rfl rfl)
theorem dX4_move_204 : decode cX4_move 204 = .ok (.aload_n 0, 1) := dk_42 (dk_at dksX4_move_8 6 rfl rfl)
theorem dX4_move_205 : decode cX4_move 205 = .ok (.iload_n 1, 1) := dk_27 (dk_at dksX4_move_8 7 rfl rfl)
theorem dX4_move_206 : decode cX4_move 206 = .ok (.aload_n 0, 1) := dk_42 (dk_at dksX4_move_8 8 rfl rfl)
theorem dX4_move_207 : decode cX4_move 207 = .ok (.getfield 114, 3) := dk_180 0 114 (dk_at dksX4_move_8 9 rfl rfl)
theorem dX4_move_210 : decode cX4_move 210 = .ok (.iload_n 1, 1) := dk_27 (dk_at dksX4_move_8 12 rfl rfl)
theorem dX4_move_211 : decode cX4_move 211 = .ok (.iaload, 1) := dk_46 (dk_at dksX4_move_8 13 rfl rfl)
theorem dX4_move_212 : decode cX4_move 212 = .ok (.invokevirtual 399, 3) := dk_182 1 143 (dk_at dksX4_move_8 14 rfl rfl)
theorem dX4_move_215 : decode cX4_move 215 = .ok (.aload_n 0, 1) := dk_42 (dk_at dksX4_move_8 17 rfl rfl)
theorem dX4_move_216 : decode cX4_move 216 = .ok (.getfield 108, 3) := dk_180 0 108 (dk_at dksX4_move_8 18 rfl rfl)
theorem dX4_move_219 : decode cX4_move 219 = .ok (.iload_n 1, 1) := dk_27 (dk_at dksX4_move_8 21 rfl rfl)
theorem dX4_move_220 : decode cX4_move 220 = .ok (.dup2, 1) := dk_92 (dk_at dksX4_move_8 22 rfl rfl)
theorem dX4_move_221 : decode cX4_move 221 = .ok (.iaload, 1) := dk_46 (dk_at dksX4_move_8 23 rfl rfl)
theorem dX4_move_222 : decode cX4_move 222 = .ok (.iconst 1, 1) := dk_4 (dk_at dksX4_move_9 0 rfl rfl)
theorem dX4_move_223 : decode cX4_move 223 = .ok (.iadd, 1) := dk_96 (dk_at dksX4_move_9 1 rfl rfl)
theorem dX4_move_224 : decode cX4_move 224 = .ok (.iastore, 1) := dk_79 (dk_at dksX4_move_9 2 rfl rfl)
theorem dX4_move_225 : decode cX4_move 225 = .ok (.aload_n 0, 1) := dk_42 (dk_at dksX4_move_9 3 rfl rfl)
theorem dX4_move_226 : decode cX4_move 226 = .ok (.iload_n 1, 1) := dk_27 (dk_at dksX4_move_9 4 rfl rfl)
theorem dX4_move_227 : decode cX4_move 227 = .ok (.invokevirtual 372, 3) := dk_182 1 116 (dk_at dksX4_move_9 5 rfl rfl)
theorem dX4_move_230 : decode cX4_move 230 = .ok (.goto 13, 3) := dk_167 0 13 (dk_at dksX4_move_9 8 rfl rfl)
theorem dX4_move_233 : decode cX4_move 233 = .ok (.aload_n 0, 1) := dk_42 (dk_at dksX4_move_9 11 rfl rfl)
theorem dX4_move_234 : decode cX4_move 234 = .ok (.aload_n 0, 1) := dk_42 (dk_at dksX4_move_9 12 rfl rfl)
theorem dX4_move_235 : decode cX4_move 235 = .ok (.getfield 71, 3) := dk_180 0 71 (dk_at dksX4_move_9 13 rfl rfl)
theorem dX4_move_238 : decode cX4_move 238 = .ok (.iload_n 3, 1) := dk_29 (dk_at dksX4_move_9 16 rfl rfl)
theorem dX4_move_239 : decode cX4_move 239 = .ok (.iaload, 1) := dk_46 (dk_at dksX4_move_9 17 rfl rfl)
theorem dX4_move_240 : decode cX4_move 240 = .ok (.invokevirtual 431, 3) := dk_182 1 175 (dk_at dksX4_move_9 18 rfl rfl)
theorem dX4_move_243 : decode cX4_move 243 = .ok (.return_, 1) := dk_177 (dk_at dksX4_move_9 21 rfl rfl)
abbrev cX4_lay : ByteArray := prog_21_method_51_code
def yX4_lay : MethodName := ⟨RX4, "lay", "(IZ)V"⟩
def dkwX4_lay_10 : List UInt8 := [42, 27, 29, 182, 1, 113, 96, 79, 42, 180, 0, 99, 16, 64, 92, 46, 4, 96, 79, 177]
abbrev dktX4_lay_10 : List UInt8 := dkwX4_lay_10 ++ []
def dkwX4_lay_9 : List UInt8 := [28, 153, 0, 7, 4, 167, 0, 4, 3, 79, 42, 180, 0, 117, 21, 4, 42, 180, 0, 108, 27, 46, 4, 96]
abbrev dktX4_lay_9 : List UInt8 := dkwX4_lay_9 ++ dktX4_lay_10
def dkwX4_lay_8 : List UInt8 := [21, 5, 7, 96, 42, 180, 0, 83, 42, 27, 3, 182, 1, 81, 46, 79, 42, 180, 0, 99, 21, 5, 8, 96]
abbrev dktX4_lay_8 : List UInt8 := dkwX4_lay_8 ++ dktX4_lay_9
def dkwX4_lay_7 : List UInt8 := [182, 1, 91, 79, 42, 180, 0, 99, 21, 5, 6, 96, 42, 27, 5, 182, 1, 91, 79, 42, 180, 0, 99]
abbrev dktX4_lay_7 : List UInt8 := dkwX4_lay_7 ++ dktX4_lay_8
def dkwX4_lay_6 : List UInt8 := [27, 79, 42, 180, 0, 99, 21, 5, 4, 96, 29, 79, 42, 180, 0, 99, 21, 5, 5, 96, 42, 27, 4]
abbrev dktX4_lay_6 : List UInt8 := dkwX4_lay_6 ++ dktX4_lay_7
def dkwX4_lay_5 : List UInt8 := [100, 46, 79, 132, 4, 255, 167, 255, 146, 21, 4, 184, 1, 110, 54, 5, 42, 180, 0, 99, 21, 5, 3, 96]
abbrev dktX4_lay_5 : List UInt8 := dkwX4_lay_5 ++ dktX4_lay_6
def dkwX4_lay_4 : List UInt8 := [21, 7, 96, 46, 79, 132, 7, 1, 167, 255, 223, 42, 180, 0, 117, 21, 4, 42, 180, 0, 117, 21, 4, 4]
abbrev dktX4_lay_4 : List UInt8 := dkwX4_lay_4 ++ dktX4_lay_5
def dkwX4_lay_3 : List UInt8 := [16, 6, 162, 0, 32, 42, 180, 0, 99, 21, 5, 16, 6, 96, 21, 7, 96, 42, 180, 0, 99, 21, 5]
abbrev dktX4_lay_3 : List UInt8 := dkwX4_lay_3 ++ dktX4_lay_4
def dkwX4_lay_2 : List UInt8 := [96, 46, 96, 54, 6, 21, 6, 16, 8, 27, 104, 29, 96, 163, 0, 6, 167, 0, 64, 3, 54, 7, 21, 7]
abbrev dktX4_lay_2 : List UInt8 := dkwX4_lay_2 ++ dktX4_lay_3
def dkwX4_lay_1 : List UInt8 := [184, 1, 110, 54, 5, 16, 8, 42, 180, 0, 99, 21, 5, 3, 96, 46, 104, 42, 180, 0, 99, 21, 5, 4]
abbrev dktX4_lay_1 : List UInt8 := dkwX4_lay_1 ++ dktX4_lay_2
def dkwX4_lay_0 : List UInt8 := [42, 27, 3, 182, 1, 91, 62, 42, 182, 1, 107, 54, 4, 21, 4, 158, 0, 111, 21, 4, 4, 100]
abbrev dktX4_lay_0 : List UInt8 := dkwX4_lay_0 ++ dktX4_lay_1
theorem dksX4_lay_0 : cX4_lay.data.toList.drop 0 = dktX4_lay_0 := by decide +kernel
theorem dksX4_lay_1 : cX4_lay.data.toList.drop 22 = dktX4_lay_1 := dk_seg dksX4_lay_0 22 rfl rfl
theorem dksX4_lay_2 : cX4_lay.data.toList.drop 46 = dktX4_lay_2 := dk_seg dksX4_lay_1 24 rfl rfl
theorem dksX4_lay_3 : cX4_lay.data.toList.drop 70 = dktX4_lay_3 := dk_seg dksX4_lay_2 24 rfl rfl
theorem dksX4_lay_4 : cX4_lay.data.toList.drop 93 = dktX4_lay_4 := dk_seg dksX4_lay_3 23 rfl rfl
theorem dksX4_lay_5 : cX4_lay.data.toList.drop 117 = dktX4_lay_5 := dk_seg dksX4_lay_4 24 rfl rfl
theorem dksX4_lay_6 : cX4_lay.data.toList.drop 141 = dktX4_lay_6 := dk_seg dksX4_lay_5 24 rfl rfl
theorem dksX4_lay_7 : cX4_lay.data.toList.drop 164 = dktX4_lay_7 := dk_seg dksX4_lay_6 23 rfl rfl
theorem dksX4_lay_8 : cX4_lay.data.toList.drop 187 = dktX4_lay_8 := dk_seg dksX4_lay_7 23 rfl rfl
theorem dksX4_lay_9 : cX4_lay.data.toList.drop 211 = dktX4_lay_9 := dk_seg dksX4_lay_8 24 rfl rfl
theorem dksX4_lay_10 : cX4_lay.data.toList.drop 235 = dktX4_lay_10 := dk_seg dksX4_lay_9 24 rfl rfl
theorem dX4_lay_0 : decode cX4_lay 0 = .ok (.aload_n 0, 1) := dk_42 (dk_at dksX4_lay_0 0 rfl rfl)
theorem dX4_lay_1 : decode cX4_lay 1 = .ok (.iload_n 1, 1) := dk_27 (dk_at dksX4_lay_0 1 rfl rfl)
theorem dX4_lay_2 : decode cX4_lay 2 = .ok (.iconst 0, 1) := dk_3 (dk_at dksX4_lay_0 2 rfl rfl)
theorem dX4_lay_3 : decode cX4_lay 3 = .ok (.invokevirtual 347, 3) := dk_182 1 91 (dk_at dksX4_lay_0 3 rfl rfl)
theorem dX4_lay_6 : decode cX4_lay 6 = .ok (.istore_n 3, 1) := dk_62 (dk_at dksX4_lay_0 6 rfl rfl)
theorem dX4_lay_7 : decode cX4_lay 7 = .ok (.aload_n 0, 1) := dk_42 (dk_at dksX4_lay_0 7 rfl rfl)
theorem dX4_lay_8 : decode cX4_lay 8 = .ok (.invokevirtual 363, 3) := dk_182 1 107 (dk_at dksX4_lay_0 8 rfl rfl)
theorem dX4_lay_11 : decode cX4_lay 11 = .ok (.istore 4, 2) := dk_54 4 (dk_at dksX4_lay_0 11 rfl rfl)
theorem dX4_lay_13 : decode cX4_lay 13 = .ok (.iload 4, 2) := dk_21 4 (dk_at dksX4_lay_0 13 rfl rfl)
theorem dX4_lay_15 : decode cX4_lay 15 = .ok (.ifCond .le 111, 3) := dk_158 0 111 (dk_at dksX4_lay_0 15 rfl rfl)
theorem dX4_lay_18 : decode cX4_lay 18 = .ok (.iload 4, 2) := dk_21 4 (dk_at dksX4_lay_0 18 rfl rfl)
theorem dX4_lay_20 : decode cX4_lay 20 = .ok (.iconst 1, 1) := dk_4 (dk_at dksX4_lay_0 20 rfl rfl)
theorem dX4_lay_21 : decode cX4_lay 21 = .ok (.isub, 1) := dk_100 (dk_at dksX4_lay_0 21 rfl rfl)
theorem dX4_lay_22 : decode cX4_lay 22 = .ok (.invokestatic 366, 3) := dk_184 1 110 (dk_at dksX4_lay_1 0 rfl rfl)
theorem dX4_lay_25 : decode cX4_lay 25 = .ok (.istore 5, 2) := dk_54 5 (dk_at dksX4_lay_1 3 rfl rfl)
theorem dX4_lay_27 : decode cX4_lay 27 = .ok (.bipush 8, 2) := dk_16 8 (dk_at dksX4_lay_1 5 rfl rfl)
theorem dX4_lay_29 : decode cX4_lay 29 = .ok (.aload_n 0, 1) := dk_42 (dk_at dksX4_lay_1 7 rfl rfl)
theorem dX4_lay_30 : decode cX4_lay 30 = .ok (.getfield 99, 3) := dk_180 0 99 (dk_at dksX4_lay_1 8 rfl rfl)
theorem dX4_lay_33 : decode cX4_lay 33 = .ok (.iload 5, 2) := dk_21 5 (dk_at dksX4_lay_1 11 rfl rfl)
theorem dX4_lay_35 : decode cX4_lay 35 = .ok (.iconst 0, 1) := dk_3 (dk_at dksX4_lay_1 13 rfl rfl)
theorem dX4_lay_36 : decode cX4_lay 36 = .ok (.iadd, 1) := dk_96 (dk_at dksX4_lay_1 14 rfl rfl)
theorem dX4_lay_37 : decode cX4_lay 37 = .ok (.iaload, 1) := dk_46 (dk_at dksX4_lay_1 15 rfl rfl)
theorem dX4_lay_38 : decode cX4_lay 38 = .ok (.imul, 1) := dk_104 (dk_at dksX4_lay_1 16 rfl rfl)
theorem dX4_lay_39 : decode cX4_lay 39 = .ok (.aload_n 0, 1) := dk_42 (dk_at dksX4_lay_1 17 rfl rfl)
theorem dX4_lay_40 : decode cX4_lay 40 = .ok (.getfield 99, 3) := dk_180 0 99 (dk_at dksX4_lay_1 18 rfl rfl)
theorem dX4_lay_43 : decode cX4_lay 43 = .ok (.iload 5, 2) := dk_21 5 (dk_at dksX4_lay_1 21 rfl rfl)
theorem dX4_lay_45 : decode cX4_lay 45 = .ok (.iconst 1, 1) := dk_4 (dk_at dksX4_lay_1 23 rfl rfl)
theorem dX4_lay_46 : decode cX4_lay 46 = .ok (.iadd, 1) := dk_96 (dk_at dksX4_lay_2 0 rfl rfl)
theorem dX4_lay_47 : decode cX4_lay 47 = .ok (.iaload, 1) := dk_46 (dk_at dksX4_lay_2 1 rfl rfl)
theorem dX4_lay_48 : decode cX4_lay 48 = .ok (.iadd, 1) := dk_96 (dk_at dksX4_lay_2 2 rfl rfl)
theorem dX4_lay_49 : decode cX4_lay 49 = .ok (.istore 6, 2) := dk_54 6 (dk_at dksX4_lay_2 3 rfl rfl)
theorem dX4_lay_51 : decode cX4_lay 51 = .ok (.iload 6, 2) := dk_21 6 (dk_at dksX4_lay_2 5 rfl rfl)
theorem dX4_lay_53 : decode cX4_lay 53 = .ok (.bipush 8, 2) := dk_16 8 (dk_at dksX4_lay_2 7 rfl rfl)
theorem dX4_lay_55 : decode cX4_lay 55 = .ok (.iload_n 1, 1) := dk_27 (dk_at dksX4_lay_2 9 rfl rfl)
theorem dX4_lay_56 : decode cX4_lay 56 = .ok (.imul, 1) := dk_104 (dk_at dksX4_lay_2 10 rfl rfl)
theorem dX4_lay_57 : decode cX4_lay 57 = .ok (.iload_n 3, 1) := dk_29 (dk_at dksX4_lay_2 11 rfl rfl)
theorem dX4_lay_58 : decode cX4_lay 58 = .ok (.iadd, 1) := dk_96 (dk_at dksX4_lay_2 12 rfl rfl)
theorem dX4_lay_59 : decode cX4_lay 59 = .ok (.if_icmp .gt 6, 3) := dk_163 0 6 (dk_at dksX4_lay_2 13 rfl rfl)
theorem dX4_lay_62 : decode cX4_lay 62 = .ok (.goto 64, 3) := dk_167 0 64 (dk_at dksX4_lay_2 16 rfl rfl)
theorem dX4_lay_65 : decode cX4_lay 65 = .ok (.iconst 0, 1) := dk_3 (dk_at dksX4_lay_2 19 rfl rfl)
theorem dX4_lay_66 : decode cX4_lay 66 = .ok (.istore 7, 2) := dk_54 7 (dk_at dksX4_lay_2 20 rfl rfl)
theorem dX4_lay_68 : decode cX4_lay 68 = .ok (.iload 7, 2) := dk_21 7 (dk_at dksX4_lay_2 22 rfl rfl)
theorem dX4_lay_70 : decode cX4_lay 70 = .ok (.bipush 6, 2) := dk_16 6 (dk_at dksX4_lay_3 0 rfl rfl)
theorem dX4_lay_72 : decode cX4_lay 72 = .ok (.if_icmp .ge 32, 3) := dk_162 0 32 (dk_at dksX4_lay_3 2 rfl rfl)
theorem dX4_lay_75 : decode cX4_lay 75 = .ok (.aload_n 0, 1) := dk_42 (dk_at dksX4_lay_3 5 rfl rfl)
theorem dX4_lay_76 : decode cX4_lay 76 = .ok (.getfield 99, 3) := dk_180 0 99 (dk_at dksX4_lay_3 6 rfl rfl)
theorem dX4_lay_79 : decode cX4_lay 79 = .ok (.iload 5, 2) := dk_21 5 (dk_at dksX4_lay_3 9 rfl rfl)
theorem dX4_lay_81 : decode cX4_lay 81 = .ok (.bipush 6, 2) := dk_16 6 (dk_at dksX4_lay_3 11 rfl rfl)
theorem dX4_lay_83 : decode cX4_lay 83 = .ok (.iadd, 1) := dk_96 (dk_at dksX4_lay_3 13 rfl rfl)
theorem dX4_lay_84 : decode cX4_lay 84 = .ok (.iload 7, 2) := dk_21 7 (dk_at dksX4_lay_3 14 rfl rfl)
theorem dX4_lay_86 : decode cX4_lay 86 = .ok (.iadd, 1) := dk_96 (dk_at dksX4_lay_3 16 rfl rfl)
theorem dX4_lay_87 : decode cX4_lay 87 = .ok (.aload_n 0, 1) := dk_42 (dk_at dksX4_lay_3 17 rfl rfl)
theorem dX4_lay_88 : decode cX4_lay 88 = .ok (.getfield 99, 3) := dk_180 0 99 (dk_at dksX4_lay_3 18 rfl rfl)
theorem dX4_lay_91 : decode cX4_lay 91 = .ok (.iload 5, 2) := dk_21 5 (dk_at dksX4_lay_3 21 rfl rfl)
theorem dX4_lay_93 : decode cX4_lay 93 = .ok (.iload 7, 2) := dk_21 7 (dk_at dksX4_lay_4 0 rfl rfl)
theorem dX4_lay_95 : decode cX4_lay 95 = .ok (.iadd, 1) := dk_96 (dk_at dksX4_lay_4 2 rfl rfl)
theorem dX4_lay_96 : decode cX4_lay 96 = .ok (.iaload, 1) := dk_46 (dk_at dksX4_lay_4 3 rfl rfl)
theorem dX4_lay_97 : decode cX4_lay 97 = .ok (.iastore, 1) := dk_79 (dk_at dksX4_lay_4 4 rfl rfl)
theorem dX4_lay_98 : decode cX4_lay 98 = .ok (.iinc 7 1, 3) := dk_132 7 1 (dk_at dksX4_lay_4 5 rfl rfl)
theorem dX4_lay_101 : decode cX4_lay 101 = .ok (.goto (-33), 3) := dk_167 255 223 (dk_at dksX4_lay_4 8 rfl rfl)
theorem dX4_lay_104 : decode cX4_lay 104 = .ok (.aload_n 0, 1) := dk_42 (dk_at dksX4_lay_4 11 rfl rfl)
theorem dX4_lay_105 : decode cX4_lay 105 = .ok (.getfield 117, 3) := dk_180 0 117 (dk_at dksX4_lay_4 12 rfl rfl)
theorem dX4_lay_108 : decode cX4_lay 108 = .ok (.iload 4, 2) := dk_21 4 (dk_at dksX4_lay_4 15 rfl rfl)
theorem dX4_lay_110 : decode cX4_lay 110 = .ok (.aload_n 0, 1) := dk_42 (dk_at dksX4_lay_4 17 rfl rfl)
theorem dX4_lay_111 : decode cX4_lay 111 = .ok (.getfield 117, 3) := dk_180 0 117 (dk_at dksX4_lay_4 18 rfl rfl)
theorem dX4_lay_114 : decode cX4_lay 114 = .ok (.iload 4, 2) := dk_21 4 (dk_at dksX4_lay_4 21 rfl rfl)
theorem dX4_lay_116 : decode cX4_lay 116 = .ok (.iconst 1, 1) := dk_4 (dk_at dksX4_lay_4 23 rfl rfl)
theorem dX4_lay_117 : decode cX4_lay 117 = .ok (.isub, 1) := dk_100 (dk_at dksX4_lay_5 0 rfl rfl)
theorem dX4_lay_118 : decode cX4_lay 118 = .ok (.iaload, 1) := dk_46 (dk_at dksX4_lay_5 1 rfl rfl)
theorem dX4_lay_119 : decode cX4_lay 119 = .ok (.iastore, 1) := dk_79 (dk_at dksX4_lay_5 2 rfl rfl)
theorem dX4_lay_120 : decode cX4_lay 120 = .ok (.iinc 4 (-1), 3) := dk_132 4 255 (dk_at dksX4_lay_5 3 rfl rfl)
theorem dX4_lay_123 : decode cX4_lay 123 = .ok (.goto (-110), 3) := dk_167 255 146 (dk_at dksX4_lay_5 6 rfl rfl)
theorem dX4_lay_126 : decode cX4_lay 126 = .ok (.iload 4, 2) := dk_21 4 (dk_at dksX4_lay_5 9 rfl rfl)
theorem dX4_lay_128 : decode cX4_lay 128 = .ok (.invokestatic 366, 3) := dk_184 1 110 (dk_at dksX4_lay_5 11 rfl rfl)
theorem dX4_lay_131 : decode cX4_lay 131 = .ok (.istore 5, 2) := dk_54 5 (dk_at dksX4_lay_5 14 rfl rfl)
theorem dX4_lay_133 : decode cX4_lay 133 = .ok (.aload_n 0, 1) := dk_42 (dk_at dksX4_lay_5 16 rfl rfl)
theorem dX4_lay_134 : decode cX4_lay 134 = .ok (.getfield 99, 3) := dk_180 0 99 (dk_at dksX4_lay_5 17 rfl rfl)
theorem dX4_lay_137 : decode cX4_lay 137 = .ok (.iload 5, 2) := dk_21 5 (dk_at dksX4_lay_5 20 rfl rfl)
theorem dX4_lay_139 : decode cX4_lay 139 = .ok (.iconst 0, 1) := dk_3 (dk_at dksX4_lay_5 22 rfl rfl)
theorem dX4_lay_140 : decode cX4_lay 140 = .ok (.iadd, 1) := dk_96 (dk_at dksX4_lay_5 23 rfl rfl)
theorem dX4_lay_141 : decode cX4_lay 141 = .ok (.iload_n 1, 1) := dk_27 (dk_at dksX4_lay_6 0 rfl rfl)
theorem dX4_lay_142 : decode cX4_lay 142 = .ok (.iastore, 1) := dk_79 (dk_at dksX4_lay_6 1 rfl rfl)
theorem dX4_lay_143 : decode cX4_lay 143 = .ok (.aload_n 0, 1) := dk_42 (dk_at dksX4_lay_6 2 rfl rfl)
theorem dX4_lay_144 : decode cX4_lay 144 = .ok (.getfield 99, 3) := dk_180 0 99 (dk_at dksX4_lay_6 3 rfl rfl)
theorem dX4_lay_147 : decode cX4_lay 147 = .ok (.iload 5, 2) := dk_21 5 (dk_at dksX4_lay_6 6 rfl rfl)
theorem dX4_lay_149 : decode cX4_lay 149 = .ok (.iconst 1, 1) := dk_4 (dk_at dksX4_lay_6 8 rfl rfl)
theorem dX4_lay_150 : decode cX4_lay 150 = .ok (.iadd, 1) := dk_96 (dk_at dksX4_lay_6 9 rfl rfl)
theorem dX4_lay_151 : decode cX4_lay 151 = .ok (.iload_n 3, 1) := dk_29 (dk_at dksX4_lay_6 10 rfl rfl)
theorem dX4_lay_152 : decode cX4_lay 152 = .ok (.iastore, 1) := dk_79 (dk_at dksX4_lay_6 11 rfl rfl)
theorem dX4_lay_153 : decode cX4_lay 153 = .ok (.aload_n 0, 1) := dk_42 (dk_at dksX4_lay_6 12 rfl rfl)
theorem dX4_lay_154 : decode cX4_lay 154 = .ok (.getfield 99, 3) := dk_180 0 99 (dk_at dksX4_lay_6 13 rfl rfl)
theorem dX4_lay_157 : decode cX4_lay 157 = .ok (.iload 5, 2) := dk_21 5 (dk_at dksX4_lay_6 16 rfl rfl)
theorem dX4_lay_159 : decode cX4_lay 159 = .ok (.iconst 2, 1) := dk_5 (dk_at dksX4_lay_6 18 rfl rfl)
theorem dX4_lay_160 : decode cX4_lay 160 = .ok (.iadd, 1) := dk_96 (dk_at dksX4_lay_6 19 rfl rfl)
theorem dX4_lay_161 : decode cX4_lay 161 = .ok (.aload_n 0, 1) := dk_42 (dk_at dksX4_lay_6 20 rfl rfl)
theorem dX4_lay_162 : decode cX4_lay 162 = .ok (.iload_n 1, 1) := dk_27 (dk_at dksX4_lay_6 21 rfl rfl)
theorem dX4_lay_163 : decode cX4_lay 163 = .ok (.iconst 1, 1) := dk_4 (dk_at dksX4_lay_6 22 rfl rfl)
theorem dX4_lay_164 : decode cX4_lay 164 = .ok (.invokevirtual 347, 3) := dk_182 1 91 (dk_at dksX4_lay_7 0 rfl rfl)
theorem dX4_lay_167 : decode cX4_lay 167 = .ok (.iastore, 1) := dk_79 (dk_at dksX4_lay_7 3 rfl rfl)
theorem dX4_lay_168 : decode cX4_lay 168 = .ok (.aload_n 0, 1) := dk_42 (dk_at dksX4_lay_7 4 rfl rfl)
theorem dX4_lay_169 : decode cX4_lay 169 = .ok (.getfield 99, 3) := dk_180 0 99 (dk_at dksX4_lay_7 5 rfl rfl)
theorem dX4_lay_172 : decode cX4_lay 172 = .ok (.iload 5, 2) := dk_21 5 (dk_at dksX4_lay_7 8 rfl rfl)
theorem dX4_lay_174 : decode cX4_lay 174 = .ok (.iconst 3, 1) := dk_6 (dk_at dksX4_lay_7 10 rfl rfl)
theorem dX4_lay_175 : decode cX4_lay 175 = .ok (.iadd, 1) := dk_96 (dk_at dksX4_lay_7 11 rfl rfl)
theorem dX4_lay_176 : decode cX4_lay 176 = .ok (.aload_n 0, 1) := dk_42 (dk_at dksX4_lay_7 12 rfl rfl)
theorem dX4_lay_177 : decode cX4_lay 177 = .ok (.iload_n 1, 1) := dk_27 (dk_at dksX4_lay_7 13 rfl rfl)
theorem dX4_lay_178 : decode cX4_lay 178 = .ok (.iconst 2, 1) := dk_5 (dk_at dksX4_lay_7 14 rfl rfl)
theorem dX4_lay_179 : decode cX4_lay 179 = .ok (.invokevirtual 347, 3) := dk_182 1 91 (dk_at dksX4_lay_7 15 rfl rfl)
theorem dX4_lay_182 : decode cX4_lay 182 = .ok (.iastore, 1) := dk_79 (dk_at dksX4_lay_7 18 rfl rfl)
theorem dX4_lay_183 : decode cX4_lay 183 = .ok (.aload_n 0, 1) := dk_42 (dk_at dksX4_lay_7 19 rfl rfl)
theorem dX4_lay_184 : decode cX4_lay 184 = .ok (.getfield 99, 3) := dk_180 0 99 (dk_at dksX4_lay_7 20 rfl rfl)
theorem dX4_lay_187 : decode cX4_lay 187 = .ok (.iload 5, 2) := dk_21 5 (dk_at dksX4_lay_8 0 rfl rfl)
theorem dX4_lay_189 : decode cX4_lay 189 = .ok (.iconst 4, 1) := dk_7 (dk_at dksX4_lay_8 2 rfl rfl)
theorem dX4_lay_190 : decode cX4_lay 190 = .ok (.iadd, 1) := dk_96 (dk_at dksX4_lay_8 3 rfl rfl)
theorem dX4_lay_191 : decode cX4_lay 191 = .ok (.aload_n 0, 1) := dk_42 (dk_at dksX4_lay_8 4 rfl rfl)
theorem dX4_lay_192 : decode cX4_lay 192 = .ok (.getfield 83, 3) := dk_180 0 83 (dk_at dksX4_lay_8 5 rfl rfl)
theorem dX4_lay_195 : decode cX4_lay 195 = .ok (.aload_n 0, 1) := dk_42 (dk_at dksX4_lay_8 8 rfl rfl)
theorem dX4_lay_196 : decode cX4_lay 196 = .ok (.iload_n 1, 1) := dk_27 (dk_at dksX4_lay_8 9 rfl rfl)
theorem dX4_lay_197 : decode cX4_lay 197 = .ok (.iconst 0, 1) := dk_3 (dk_at dksX4_lay_8 10 rfl rfl)
theorem dX4_lay_198 : decode cX4_lay 198 = .ok (.invokevirtual 337, 3) := dk_182 1 81 (dk_at dksX4_lay_8 11 rfl rfl)
theorem dX4_lay_201 : decode cX4_lay 201 = .ok (.iaload, 1) := dk_46 (dk_at dksX4_lay_8 14 rfl rfl)
theorem dX4_lay_202 : decode cX4_lay 202 = .ok (.iastore, 1) := dk_79 (dk_at dksX4_lay_8 15 rfl rfl)
theorem dX4_lay_203 : decode cX4_lay 203 = .ok (.aload_n 0, 1) := dk_42 (dk_at dksX4_lay_8 16 rfl rfl)
theorem dX4_lay_204 : decode cX4_lay 204 = .ok (.getfield 99, 3) := dk_180 0 99 (dk_at dksX4_lay_8 17 rfl rfl)
theorem dX4_lay_207 : decode cX4_lay 207 = .ok (.iload 5, 2) := dk_21 5 (dk_at dksX4_lay_8 20 rfl rfl)
theorem dX4_lay_209 : decode cX4_lay 209 = .ok (.iconst 5, 1) := dk_8 (dk_at dksX4_lay_8 22 rfl rfl)
theorem dX4_lay_210 : decode cX4_lay 210 = .ok (.iadd, 1) := dk_96 (dk_at dksX4_lay_8 23 rfl rfl)
theorem dX4_lay_211 : decode cX4_lay 211 = .ok (.iload_n 2, 1) := dk_28 (dk_at dksX4_lay_9 0 rfl rfl)
theorem dX4_lay_212 : decode cX4_lay 212 = .ok (.ifCond .eq 7, 3) := dk_153 0 7 (dk_at dksX4_lay_9 1 rfl rfl)
theorem dX4_lay_215 : decode cX4_lay 215 = .ok (.iconst 1, 1) := dk_4 (dk_at dksX4_lay_9 4 rfl rfl)
theorem dX4_lay_216 : decode cX4_lay 216 = .ok (.goto 4, 3) := dk_167 0 4 (dk_at dksX4_lay_9 5 rfl rfl)
theorem dX4_lay_219 : decode cX4_lay 219 = .ok (.iconst 0, 1) := dk_3 (dk_at dksX4_lay_9 8 rfl rfl)
theorem dX4_lay_220 : decode cX4_lay 220 = .ok (.iastore, 1) := dk_79 (dk_at dksX4_lay_9 9 rfl rfl)
theorem dX4_lay_221 : decode cX4_lay 221 = .ok (.aload_n 0, 1) := dk_42 (dk_at dksX4_lay_9 10 rfl rfl)
theorem dX4_lay_222 : decode cX4_lay 222 = .ok (.getfield 117, 3) := dk_180 0 117 (dk_at dksX4_lay_9 11 rfl rfl)
theorem dX4_lay_225 : decode cX4_lay 225 = .ok (.iload 4, 2) := dk_21 4 (dk_at dksX4_lay_9 14 rfl rfl)
theorem dX4_lay_227 : decode cX4_lay 227 = .ok (.aload_n 0, 1) := dk_42 (dk_at dksX4_lay_9 16 rfl rfl)
theorem dX4_lay_228 : decode cX4_lay 228 = .ok (.getfield 108, 3) := dk_180 0 108 (dk_at dksX4_lay_9 17 rfl rfl)
theorem dX4_lay_231 : decode cX4_lay 231 = .ok (.iload_n 1, 1) := dk_27 (dk_at dksX4_lay_9 20 rfl rfl)
theorem dX4_lay_232 : decode cX4_lay 232 = .ok (.iaload, 1) := dk_46 (dk_at dksX4_lay_9 21 rfl rfl)
theorem dX4_lay_233 : decode cX4_lay 233 = .ok (.iconst 1, 1) := dk_4 (dk_at dksX4_lay_9 22 rfl rfl)
theorem dX4_lay_234 : decode cX4_lay 234 = .ok (.iadd, 1) := dk_96 (dk_at dksX4_lay_9 23 rfl rfl)
theorem dX4_lay_235 : decode cX4_lay 235 = .ok (.aload_n 0, 1) := dk_42 (dk_at dksX4_lay_10 0 rfl rfl)
theorem dX4_lay_236 : decode cX4_lay 236 = .ok (.iload_n 1, 1) := dk_27 (dk_at dksX4_lay_10 1 rfl rfl)
theorem dX4_lay_237 : decode cX4_lay 237 = .ok (.iload_n 3, 1) := dk_29 (dk_at dksX4_lay_10 2 rfl rfl)
theorem dX4_lay_238 : decode cX4_lay 238 = .ok (.invokevirtual 369, 3) := dk_182 1 113 (dk_at dksX4_lay_10 3 rfl rfl)
theorem dX4_lay_241 : decode cX4_lay 241 = .ok (.iadd, 1) := dk_96 (dk_at dksX4_lay_10 6 rfl rfl)
theorem dX4_lay_242 : decode cX4_lay 242 = .ok (.iastore, 1) := dk_79 (dk_at dksX4_lay_10 7 rfl rfl)
theorem dX4_lay_243 : decode cX4_lay 243 = .ok (.aload_n 0, 1) := dk_42 (dk_at dksX4_lay_10 8 rfl rfl)
theorem dX4_lay_244 : decode cX4_lay 244 = .ok (.getfield 99, 3) := dk_180 0 99 (dk_at dksX4_lay_10 9 rfl rfl)
theorem dX4_lay_247 : decode cX4_lay 247 = .ok (.bipush 64, 2) := dk_16 64 (dk_at dksX4_lay_10 12 rfl rfl)
theorem dX4_lay_249 : decode cX4_lay 249 = .ok (.dup2, 1) := dk_92 (dk_at dksX4_lay_10 14 rfl rfl)
theorem dX4_lay_250 : decode cX4_lay 250 = .ok (.iaload, 1) := dk_46 (dk_at dksX4_lay_10 15 rfl rfl)
theorem dX4_lay_251 : decode cX4_lay 251 = .ok (.iconst 1, 1) := dk_4 (dk_at dksX4_lay_10 16 rfl rfl)
theorem dX4_lay_252 : decode cX4_lay 252 = .ok (.iadd, 1) := dk_96 (dk_at dksX4_lay_10 17 rfl rfl)
theorem dX4_lay_253 : decode cX4_lay 253 = .ok (.iastore, 1) := dk_79 (dk_at dksX4_lay_10 18 rfl rfl)
theorem dX4_lay_254 : decode cX4_lay 254 = .ok (.return_, 1) := dk_177 (dk_at dksX4_lay_10 19 rfl rfl)
abbrev cX4_farOf : ByteArray := prog_21_method_57_code
def yX4_farOf : MethodName := ⟨RX4, "farOf", "(II)I"⟩
def dkwX4_farOf_0 : List UInt8 := [42, 180, 1, 69, 27, 28, 100, 184, 1, 137, 42, 180, 1, 72, 104, 96, 172]
abbrev dktX4_farOf_0 : List UInt8 := dkwX4_farOf_0 ++ []
theorem dksX4_farOf_0 : cX4_farOf.data.toList.drop 0 = dktX4_farOf_0 := by decide +kernel
theorem dX4_farOf_0 : decode cX4_farOf 0 = .ok (.aload_n 0, 1) := dk_42 (dk_at dksX4_farOf_0 0 rfl rfl)
theorem dX4_farOf_1 : decode cX4_farOf 1 = .ok (.getfield 325, 3) := dk_180 1 69 (dk_at dksX4_farOf_0 1 rfl rfl)
theorem dX4_farOf_4 : decode cX4_farOf 4 = .ok (.iload_n 1, 1) := dk_27 (dk_at dksX4_farOf_0 4 rfl rfl)
theorem dX4_farOf_5 : decode cX4_farOf 5 = .ok (.iload_n 2, 1) := dk_28 (dk_at dksX4_farOf_0 5 rfl rfl)
theorem dX4_farOf_6 : decode cX4_farOf 6 = .ok (.isub, 1) := dk_100 (dk_at dksX4_farOf_0 6 rfl rfl)
theorem dX4_farOf_7 : decode cX4_farOf 7 = .ok (.invokestatic 393, 3) := dk_184 1 137 (dk_at dksX4_farOf_0 7 rfl rfl)
theorem dX4_farOf_10 : decode cX4_farOf 10 = .ok (.aload_n 0, 1) := dk_42 (dk_at dksX4_farOf_0 10 rfl rfl)
theorem dX4_farOf_11 : decode cX4_farOf 11 = .ok (.getfield 328, 3) := dk_180 1 72 (dk_at dksX4_farOf_0 11 rfl rfl)
theorem dX4_farOf_14 : decode cX4_farOf 14 = .ok (.imul, 1) := dk_104 (dk_at dksX4_farOf_0 14 rfl rfl)
theorem dX4_farOf_15 : decode cX4_farOf 15 = .ok (.iadd, 1) := dk_96 (dk_at dksX4_farOf_0 15 rfl rfl)
theorem dX4_farOf_16 : decode cX4_farOf 16 = .ok (.ireturn, 1) := dk_172 (dk_at dksX4_farOf_0 16 rfl rfl)
abbrev cX4_goOn : ByteArray := prog_21_method_45_code
def yX4_goOn : MethodName := ⟨RX4, "goOn", "(I)V"⟩
def dkwX4_goOn_0 : List UInt8 := [42, 42, 27, 3, 182, 1, 81, 182, 1, 98, 61, 42, 27, 28, 182, 1, 104, 177]
abbrev dktX4_goOn_0 : List UInt8 := dkwX4_goOn_0 ++ []
theorem dksX4_goOn_0 : cX4_goOn.data.toList.drop 0 = dktX4_goOn_0 := by decide +kernel
theorem dX4_goOn_0 : decode cX4_goOn 0 = .ok (.aload_n 0, 1) := dk_42 (dk_at dksX4_goOn_0 0 rfl rfl)
theorem dX4_goOn_1 : decode cX4_goOn 1 = .ok (.aload_n 0, 1) := dk_42 (dk_at dksX4_goOn_0 1 rfl rfl)
theorem dX4_goOn_2 : decode cX4_goOn 2 = .ok (.iload_n 1, 1) := dk_27 (dk_at dksX4_goOn_0 2 rfl rfl)
theorem dX4_goOn_3 : decode cX4_goOn 3 = .ok (.iconst 0, 1) := dk_3 (dk_at dksX4_goOn_0 3 rfl rfl)
theorem dX4_goOn_4 : decode cX4_goOn 4 = .ok (.invokevirtual 337, 3) := dk_182 1 81 (dk_at dksX4_goOn_0 4 rfl rfl)
theorem dX4_goOn_7 : decode cX4_goOn 7 = .ok (.invokevirtual 354, 3) := dk_182 1 98 (dk_at dksX4_goOn_0 7 rfl rfl)
theorem dX4_goOn_10 : decode cX4_goOn 10 = .ok (.istore_n 2, 1) := dk_61 (dk_at dksX4_goOn_0 10 rfl rfl)
theorem dX4_goOn_11 : decode cX4_goOn 11 = .ok (.aload_n 0, 1) := dk_42 (dk_at dksX4_goOn_0 11 rfl rfl)
theorem dX4_goOn_12 : decode cX4_goOn 12 = .ok (.iload_n 1, 1) := dk_27 (dk_at dksX4_goOn_0 12 rfl rfl)
theorem dX4_goOn_13 : decode cX4_goOn 13 = .ok (.iload_n 2, 1) := dk_28 (dk_at dksX4_goOn_0 13 rfl rfl)
theorem dX4_goOn_14 : decode cX4_goOn 14 = .ok (.invokevirtual 360, 3) := dk_182 1 104 (dk_at dksX4_goOn_0 14 rfl rfl)
theorem dX4_goOn_17 : decode cX4_goOn 17 = .ok (.return_, 1) := dk_177 (dk_at dksX4_goOn_0 17 rfl rfl)
abbrev cX4_handOver : ByteArray := prog_21_method_60_code
def yX4_handOver : MethodName := ⟨RX4, "handOver", "(I)V"⟩
def dkwX4_handOver_4 : List UInt8 := [42, 28, 27, 182, 1, 153, 42, 27, 182, 1, 116, 42, 28, 27, 29, 21, 4, 182, 1, 149, 177]
abbrev dktX4_handOver_4 : List UInt8 := dkwX4_handOver_4 ++ []
def dkwX4_handOver_3 : List UInt8 := [96, 96, 79, 42, 180, 0, 108, 28, 42, 180, 0, 108, 27, 46, 79, 42, 28, 7, 182, 1, 119, 153, 0, 9]
abbrev dktX4_handOver_3 : List UInt8 := dkwX4_handOver_3 ++ dktX4_handOver_4
def dkwX4_handOver_2 : List UInt8 := [182, 1, 143, 42, 28, 21, 5, 182, 1, 143, 42, 180, 0, 108, 27, 92, 46, 4, 42, 27, 28, 182, 1, 113]
abbrev dktX4_handOver_2 : List UInt8 := dkwX4_handOver_2 ++ dktX4_handOver_3
def dkwX4_handOver_1 : List UInt8 := [46, 54, 4, 42, 180, 0, 108, 27, 46, 42, 180, 0, 108, 28, 46, 184, 1, 140, 54, 5, 42, 27, 21, 5]
abbrev dktX4_handOver_1 : List UInt8 := dkwX4_handOver_1 ++ dktX4_handOver_2
def dkwX4_handOver_0 : List UInt8 := [42, 27, 3, 182, 1, 91, 61, 42, 27, 5, 182, 1, 91, 62, 42, 180, 0, 83, 42, 27, 3, 182, 1, 81]
abbrev dktX4_handOver_0 : List UInt8 := dkwX4_handOver_0 ++ dktX4_handOver_1
theorem dksX4_handOver_0 : cX4_handOver.data.toList.drop 0 = dktX4_handOver_0 := by decide +kernel
theorem dksX4_handOver_1 : cX4_handOver.data.toList.drop 24 = dktX4_handOver_1 := dk_seg dksX4_handOver_0 24 rfl rfl
theorem dksX4_handOver_2 : cX4_handOver.data.toList.drop 48 = dktX4_handOver_2 := dk_seg dksX4_handOver_1 24 rfl rfl
theorem dksX4_handOver_3 : cX4_handOver.data.toList.drop 72 = dktX4_handOver_3 := dk_seg dksX4_handOver_2 24 rfl rfl
theorem dksX4_handOver_4 : cX4_handOver.data.toList.drop 96 = dktX4_handOver_4 := dk_seg dksX4_handOver_3 24 rfl rfl
theorem dX4_handOver_0 : decode cX4_handOver 0 = .ok (.aload_n 0, 1) := dk_42 (dk_at dksX4_handOver_0 0 rfl rfl)
theorem dX4_handOver_1 : decode cX4_handOver 1 = .ok (.iload_n 1, 1) := dk_27 (dk_at dksX4_handOver_0 1 rfl rfl)
theorem dX4_handOver_2 : decode cX4_handOver 2 = .ok (.iconst 0, 1) := dk_3 (dk_at dksX4_handOver_0 2 rfl rfl)
theorem dX4_handOver_3 : decode cX4_handOver 3 = .ok (.invokevirtual 347, 3) := dk_182 1 91 (dk_at dksX4_handOver_0 3 rfl rfl)
theorem dX4_handOver_6 : decode cX4_handOver 6 = .ok (.istore_n 2, 1) := dk_61 (dk_at dksX4_handOver_0 6 rfl rfl)
theorem dX4_handOver_7 : decode cX4_handOver 7 = .ok (.aload_n 0, 1) := dk_42 (dk_at dksX4_handOver_0 7 rfl rfl)
theorem dX4_handOver_8 : decode cX4_handOver 8 = .ok (.iload_n 1, 1) := dk_27 (dk_at dksX4_handOver_0 8 rfl rfl)
theorem dX4_handOver_9 : decode cX4_handOver 9 = .ok (.iconst 2, 1) := dk_5 (dk_at dksX4_handOver_0 9 rfl rfl)
theorem dX4_handOver_10 : decode cX4_handOver 10 = .ok (.invokevirtual 347, 3) := dk_182 1 91 (dk_at dksX4_handOver_0 10 rfl rfl)
theorem dX4_handOver_13 : decode cX4_handOver 13 = .ok (.istore_n 3, 1) := dk_62 (dk_at dksX4_handOver_0 13 rfl rfl)
theorem dX4_handOver_14 : decode cX4_handOver 14 = .ok (.aload_n 0, 1) := dk_42 (dk_at dksX4_handOver_0 14 rfl rfl)
theorem dX4_handOver_15 : decode cX4_handOver 15 = .ok (.getfield 83, 3) := dk_180 0 83 (dk_at dksX4_handOver_0 15 rfl rfl)
theorem dX4_handOver_18 : decode cX4_handOver 18 = .ok (.aload_n 0, 1) := dk_42 (dk_at dksX4_handOver_0 18 rfl rfl)
theorem dX4_handOver_19 : decode cX4_handOver 19 = .ok (.iload_n 1, 1) := dk_27 (dk_at dksX4_handOver_0 19 rfl rfl)
theorem dX4_handOver_20 : decode cX4_handOver 20 = .ok (.iconst 0, 1) := dk_3 (dk_at dksX4_handOver_0 20 rfl rfl)
theorem dX4_handOver_21 : decode cX4_handOver 21 = .ok (.invokevirtual 337, 3) := dk_182 1 81 (dk_at dksX4_handOver_0 21 rfl rfl)
theorem dX4_handOver_24 : decode cX4_handOver 24 = .ok (.iaload, 1) := dk_46 (dk_at dksX4_handOver_1 0 rfl rfl)
theorem dX4_handOver_25 : decode cX4_handOver 25 = .ok (.istore 4, 2) := dk_54 4 (dk_at dksX4_handOver_1 1 rfl rfl)
theorem dX4_handOver_27 : decode cX4_handOver 27 = .ok (.aload_n 0, 1) := dk_42 (dk_at dksX4_handOver_1 3 rfl rfl)
theorem dX4_handOver_28 : decode cX4_handOver 28 = .ok (.getfield 108, 3) := dk_180 0 108 (dk_at dksX4_handOver_1 4 rfl rfl)
theorem dX4_handOver_31 : decode cX4_handOver 31 = .ok (.iload_n 1, 1) := dk_27 (dk_at dksX4_handOver_1 7 rfl rfl)
theorem dX4_handOver_32 : decode cX4_handOver 32 = .ok (.iaload, 1) := dk_46 (dk_at dksX4_handOver_1 8 rfl rfl)
theorem dX4_handOver_33 : decode cX4_handOver 33 = .ok (.aload_n 0, 1) := dk_42 (dk_at dksX4_handOver_1 9 rfl rfl)
theorem dX4_handOver_34 : decode cX4_handOver 34 = .ok (.getfield 108, 3) := dk_180 0 108 (dk_at dksX4_handOver_1 10 rfl rfl)
theorem dX4_handOver_37 : decode cX4_handOver 37 = .ok (.iload_n 2, 1) := dk_28 (dk_at dksX4_handOver_1 13 rfl rfl)
theorem dX4_handOver_38 : decode cX4_handOver 38 = .ok (.iaload, 1) := dk_46 (dk_at dksX4_handOver_1 14 rfl rfl)
theorem dX4_handOver_39 : decode cX4_handOver 39 = .ok (.invokestatic 396, 3) := dk_184 1 140 (dk_at dksX4_handOver_1 15 rfl rfl)
theorem dX4_handOver_42 : decode cX4_handOver 42 = .ok (.istore 5, 2) := dk_54 5 (dk_at dksX4_handOver_1 18 rfl rfl)
theorem dX4_handOver_44 : decode cX4_handOver 44 = .ok (.aload_n 0, 1) := dk_42 (dk_at dksX4_handOver_1 20 rfl rfl)
theorem dX4_handOver_45 : decode cX4_handOver 45 = .ok (.iload_n 1, 1) := dk_27 (dk_at dksX4_handOver_1 21 rfl rfl)
theorem dX4_handOver_46 : decode cX4_handOver 46 = .ok (.iload 5, 2) := dk_21 5 (dk_at dksX4_handOver_1 22 rfl rfl)
theorem dX4_handOver_48 : decode cX4_handOver 48 = .ok (.invokevirtual 399, 3) := dk_182 1 143 (dk_at dksX4_handOver_2 0 rfl rfl)
theorem dX4_handOver_51 : decode cX4_handOver 51 = .ok (.aload_n 0, 1) := dk_42 (dk_at dksX4_handOver_2 3 rfl rfl)
theorem dX4_handOver_52 : decode cX4_handOver 52 = .ok (.iload_n 2, 1) := dk_28 (dk_at dksX4_handOver_2 4 rfl rfl)
theorem dX4_handOver_53 : decode cX4_handOver 53 = .ok (.iload 5, 2) := dk_21 5 (dk_at dksX4_handOver_2 5 rfl rfl)
theorem dX4_handOver_55 : decode cX4_handOver 55 = .ok (.invokevirtual 399, 3) := dk_182 1 143 (dk_at dksX4_handOver_2 7 rfl rfl)
theorem dX4_handOver_58 : decode cX4_handOver 58 = .ok (.aload_n 0, 1) := dk_42 (dk_at dksX4_handOver_2 10 rfl rfl)
theorem dX4_handOver_59 : decode cX4_handOver 59 = .ok (.getfield 108, 3) := dk_180 0 108 (dk_at dksX4_handOver_2 11 rfl rfl)
theorem dX4_handOver_62 : decode cX4_handOver 62 = .ok (.iload_n 1, 1) := dk_27 (dk_at dksX4_handOver_2 14 rfl rfl)
theorem dX4_handOver_63 : decode cX4_handOver 63 = .ok (.dup2, 1) := dk_92 (dk_at dksX4_handOver_2 15 rfl rfl)
theorem dX4_handOver_64 : decode cX4_handOver 64 = .ok (.iaload, 1) := dk_46 (dk_at dksX4_handOver_2 16 rfl rfl)
theorem dX4_handOver_65 : decode cX4_handOver 65 = .ok (.iconst 1, 1) := dk_4 (dk_at dksX4_handOver_2 17 rfl rfl)
theorem dX4_handOver_66 : decode cX4_handOver 66 = .ok (.aload_n 0, 1) := dk_42 (dk_at dksX4_handOver_2 18 rfl rfl)
theorem dX4_handOver_67 : decode cX4_handOver 67 = .ok (.iload_n 1, 1) := dk_27 (dk_at dksX4_handOver_2 19 rfl rfl)
theorem dX4_handOver_68 : decode cX4_handOver 68 = .ok (.iload_n 2, 1) := dk_28 (dk_at dksX4_handOver_2 20 rfl rfl)
theorem dX4_handOver_69 : decode cX4_handOver 69 = .ok (.invokevirtual 369, 3) := dk_182 1 113 (dk_at dksX4_handOver_2 21 rfl rfl)
theorem dX4_handOver_72 : decode cX4_handOver 72 = .ok (.iadd, 1) := dk_96 (dk_at dksX4_handOver_3 0 rfl rfl)
theorem dX4_handOver_73 : decode cX4_handOver 73 = .ok (.iadd, 1) := dk_96 (dk_at dksX4_handOver_3 1 rfl rfl)
theorem dX4_handOver_74 : decode cX4_handOver 74 = .ok (.iastore, 1) := dk_79 (dk_at dksX4_handOver_3 2 rfl rfl)
theorem dX4_handOver_75 : decode cX4_handOver 75 = .ok (.aload_n 0, 1) := dk_42 (dk_at dksX4_handOver_3 3 rfl rfl)
theorem dX4_handOver_76 : decode cX4_handOver 76 = .ok (.getfield 108, 3) := dk_180 0 108 (dk_at dksX4_handOver_3 4 rfl rfl)
theorem dX4_handOver_79 : decode cX4_handOver 79 = .ok (.iload_n 2, 1) := dk_28 (dk_at dksX4_handOver_3 7 rfl rfl)
theorem dX4_handOver_80 : decode cX4_handOver 80 = .ok (.aload_n 0, 1) := dk_42 (dk_at dksX4_handOver_3 8 rfl rfl)
theorem dX4_handOver_81 : decode cX4_handOver 81 = .ok (.getfield 108, 3) := dk_180 0 108 (dk_at dksX4_handOver_3 9 rfl rfl)
theorem dX4_handOver_84 : decode cX4_handOver 84 = .ok (.iload_n 1, 1) := dk_27 (dk_at dksX4_handOver_3 12 rfl rfl)
theorem dX4_handOver_85 : decode cX4_handOver 85 = .ok (.iaload, 1) := dk_46 (dk_at dksX4_handOver_3 13 rfl rfl)
theorem dX4_handOver_86 : decode cX4_handOver 86 = .ok (.iastore, 1) := dk_79 (dk_at dksX4_handOver_3 14 rfl rfl)
theorem dX4_handOver_87 : decode cX4_handOver 87 = .ok (.aload_n 0, 1) := dk_42 (dk_at dksX4_handOver_3 15 rfl rfl)
theorem dX4_handOver_88 : decode cX4_handOver 88 = .ok (.iload_n 2, 1) := dk_28 (dk_at dksX4_handOver_3 16 rfl rfl)
theorem dX4_handOver_89 : decode cX4_handOver 89 = .ok (.iconst 4, 1) := dk_7 (dk_at dksX4_handOver_3 17 rfl rfl)
theorem dX4_handOver_90 : decode cX4_handOver 90 = .ok (.invokevirtual 375, 3) := dk_182 1 119 (dk_at dksX4_handOver_3 18 rfl rfl)
theorem dX4_handOver_93 : decode cX4_handOver 93 = .ok (.ifCond .eq 9, 3) := dk_153 0 9 (dk_at dksX4_handOver_3 21 rfl rfl)
theorem dX4_handOver_96 : decode cX4_handOver 96 = .ok (.aload_n 0, 1) := dk_42 (dk_at dksX4_handOver_4 0 rfl rfl)
theorem dX4_handOver_97 : decode cX4_handOver 97 = .ok (.iload_n 2, 1) := dk_28 (dk_at dksX4_handOver_4 1 rfl rfl)
theorem dX4_handOver_98 : decode cX4_handOver 98 = .ok (.iload_n 1, 1) := dk_27 (dk_at dksX4_handOver_4 2 rfl rfl)
theorem dX4_handOver_99 : decode cX4_handOver 99 = .ok (.invokevirtual 409, 3) := dk_182 1 153 (dk_at dksX4_handOver_4 3 rfl rfl)
theorem dX4_handOver_102 : decode cX4_handOver 102 = .ok (.aload_n 0, 1) := dk_42 (dk_at dksX4_handOver_4 6 rfl rfl)
theorem dX4_handOver_103 : decode cX4_handOver 103 = .ok (.iload_n 1, 1) := dk_27 (dk_at dksX4_handOver_4 7 rfl rfl)
theorem dX4_handOver_104 : decode cX4_handOver 104 = .ok (.invokevirtual 372, 3) := dk_182 1 116 (dk_at dksX4_handOver_4 8 rfl rfl)
theorem dX4_handOver_107 : decode cX4_handOver 107 = .ok (.aload_n 0, 1) := dk_42 (dk_at dksX4_handOver_4 11 rfl rfl)
theorem dX4_handOver_108 : decode cX4_handOver 108 = .ok (.iload_n 2, 1) := dk_28 (dk_at dksX4_handOver_4 12 rfl rfl)
theorem dX4_handOver_109 : decode cX4_handOver 109 = .ok (.iload_n 1, 1) := dk_27 (dk_at dksX4_handOver_4 13 rfl rfl)
theorem dX4_handOver_110 : decode cX4_handOver 110 = .ok (.iload_n 3, 1) := dk_29 (dk_at dksX4_handOver_4 14 rfl rfl)
theorem dX4_handOver_111 : decode cX4_handOver 111 = .ok (.iload 4, 2) := dk_21 4 (dk_at dksX4_handOver_4 15 rfl rfl)
theorem dX4_handOver_113 : decode cX4_handOver 113 = .ok (.invokevirtual 405, 3) := dk_182 1 149 (dk_at dksX4_handOver_4 17 rfl rfl)
theorem dX4_handOver_116 : decode cX4_handOver 116 = .ok (.return_, 1) := dk_177 (dk_at dksX4_handOver_4 20 rfl rfl)
abbrev cX4_upTo : ByteArray := prog_21_method_58_code
def yX4_upTo : MethodName := ⟨RX4, "upTo", "(II)V"⟩
def dkwX4_upTo_1 : List UInt8 := [180, 0, 108, 27, 92, 46, 29, 96, 79, 177]
abbrev dktX4_upTo_1 : List UInt8 := dkwX4_upTo_1 ++ []
def dkwX4_upTo_0 : List UInt8 := [3, 28, 42, 180, 0, 108, 27, 46, 100, 184, 1, 140, 62, 42, 180, 0, 111, 27, 92, 46, 29, 96, 79, 42]
abbrev dktX4_upTo_0 : List UInt8 := dkwX4_upTo_0 ++ dktX4_upTo_1
theorem dksX4_upTo_0 : cX4_upTo.data.toList.drop 0 = dktX4_upTo_0 := by decide +kernel
theorem dksX4_upTo_1 : cX4_upTo.data.toList.drop 24 = dktX4_upTo_1 := dk_seg dksX4_upTo_0 24 rfl rfl
theorem dX4_upTo_0 : decode cX4_upTo 0 = .ok (.iconst 0, 1) := dk_3 (dk_at dksX4_upTo_0 0 rfl rfl)
theorem dX4_upTo_1 : decode cX4_upTo 1 = .ok (.iload_n 2, 1) := dk_28 (dk_at dksX4_upTo_0 1 rfl rfl)
theorem dX4_upTo_2 : decode cX4_upTo 2 = .ok (.aload_n 0, 1) := dk_42 (dk_at dksX4_upTo_0 2 rfl rfl)
theorem dX4_upTo_3 : decode cX4_upTo 3 = .ok (.getfield 108, 3) := dk_180 0 108 (dk_at dksX4_upTo_0 3 rfl rfl)
theorem dX4_upTo_6 : decode cX4_upTo 6 = .ok (.iload_n 1, 1) := dk_27 (dk_at dksX4_upTo_0 6 rfl rfl)
theorem dX4_upTo_7 : decode cX4_upTo 7 = .ok (.iaload, 1) := dk_46 (dk_at dksX4_upTo_0 7 rfl rfl)
theorem dX4_upTo_8 : decode cX4_upTo 8 = .ok (.isub, 1) := dk_100 (dk_at dksX4_upTo_0 8 rfl rfl)
theorem dX4_upTo_9 : decode cX4_upTo 9 = .ok (.invokestatic 396, 3) := dk_184 1 140 (dk_at dksX4_upTo_0 9 rfl rfl)
theorem dX4_upTo_12 : decode cX4_upTo 12 = .ok (.istore_n 3, 1) := dk_62 (dk_at dksX4_upTo_0 12 rfl rfl)
theorem dX4_upTo_13 : decode cX4_upTo 13 = .ok (.aload_n 0, 1) := dk_42 (dk_at dksX4_upTo_0 13 rfl rfl)
theorem dX4_upTo_14 : decode cX4_upTo 14 = .ok (.getfield 111, 3) := dk_180 0 111 (dk_at dksX4_upTo_0 14 rfl rfl)
theorem dX4_upTo_17 : decode cX4_upTo 17 = .ok (.iload_n 1, 1) := dk_27 (dk_at dksX4_upTo_0 17 rfl rfl)
theorem dX4_upTo_18 : decode cX4_upTo 18 = .ok (.dup2, 1) := dk_92 (dk_at dksX4_upTo_0 18 rfl rfl)
theorem dX4_upTo_19 : decode cX4_upTo 19 = .ok (.iaload, 1) := dk_46 (dk_at dksX4_upTo_0 19 rfl rfl)
theorem dX4_upTo_20 : decode cX4_upTo 20 = .ok (.iload_n 3, 1) := dk_29 (dk_at dksX4_upTo_0 20 rfl rfl)
theorem dX4_upTo_21 : decode cX4_upTo 21 = .ok (.iadd, 1) := dk_96 (dk_at dksX4_upTo_0 21 rfl rfl)
theorem dX4_upTo_22 : decode cX4_upTo 22 = .ok (.iastore, 1) := dk_79 (dk_at dksX4_upTo_0 22 rfl rfl)
theorem dX4_upTo_23 : decode cX4_upTo 23 = .ok (.aload_n 0, 1) := dk_42 (dk_at dksX4_upTo_0 23 rfl rfl)
theorem dX4_upTo_24 : decode cX4_upTo 24 = .ok (.getfield 108, 3) := dk_180 0 108 (dk_at dksX4_upTo_1 0 rfl rfl)
theorem dX4_upTo_27 : decode cX4_upTo 27 = .ok (.iload_n 1, 1) := dk_27 (dk_at dksX4_upTo_1 3 rfl rfl)
theorem dX4_upTo_28 : decode cX4_upTo 28 = .ok (.dup2, 1) := dk_92 (dk_at dksX4_upTo_1 4 rfl rfl)
theorem dX4_upTo_29 : decode cX4_upTo 29 = .ok (.iaload, 1) := dk_46 (dk_at dksX4_upTo_1 5 rfl rfl)
theorem dX4_upTo_30 : decode cX4_upTo 30 = .ok (.iload_n 3, 1) := dk_29 (dk_at dksX4_upTo_1 6 rfl rfl)
theorem dX4_upTo_31 : decode cX4_upTo 31 = .ok (.iadd, 1) := dk_96 (dk_at dksX4_upTo_1 7 rfl rfl)
theorem dX4_upTo_32 : decode cX4_upTo 32 = .ok (.iastore, 1) := dk_79 (dk_at dksX4_upTo_1 8 rfl rfl)
theorem dX4_upTo_33 : decode cX4_upTo 33 = .ok (.return_, 1) := dk_177 (dk_at dksX4_upTo_1 9 rfl rfl)
abbrev cX4_noteAny : ByteArray := prog_21_method_61_code
def yX4_noteAny : MethodName := ⟨RX4, "noteAny", "(II)V"⟩
def dkwX4_noteAny_0 : List UInt8 := [42, 27, 181, 1, 156, 42, 28, 181, 1, 159, 42, 42, 27, 3, 182, 1, 81, 181, 1, 162, 177]
abbrev dktX4_noteAny_0 : List UInt8 := dkwX4_noteAny_0 ++ []
theorem dksX4_noteAny_0 : cX4_noteAny.data.toList.drop 0 = dktX4_noteAny_0 := by decide +kernel
theorem dX4_noteAny_0 : decode cX4_noteAny 0 = .ok (.aload_n 0, 1) := dk_42 (dk_at dksX4_noteAny_0 0 rfl rfl)
theorem dX4_noteAny_1 : decode cX4_noteAny 1 = .ok (.iload_n 1, 1) := dk_27 (dk_at dksX4_noteAny_0 1 rfl rfl)
theorem dX4_noteAny_2 : decode cX4_noteAny 2 = .ok (.putfield 412, 3) := dk_181 1 156 (dk_at dksX4_noteAny_0 2 rfl rfl)
theorem dX4_noteAny_5 : decode cX4_noteAny 5 = .ok (.aload_n 0, 1) := dk_42 (dk_at dksX4_noteAny_0 5 rfl rfl)
theorem dX4_noteAny_6 : decode cX4_noteAny 6 = .ok (.iload_n 2, 1) := dk_28 (dk_at dksX4_noteAny_0 6 rfl rfl)
theorem dX4_noteAny_7 : decode cX4_noteAny 7 = .ok (.putfield 415, 3) := dk_181 1 159 (dk_at dksX4_noteAny_0 7 rfl rfl)
theorem dX4_noteAny_10 : decode cX4_noteAny 10 = .ok (.aload_n 0, 1) := dk_42 (dk_at dksX4_noteAny_0 10 rfl rfl)
theorem dX4_noteAny_11 : decode cX4_noteAny 11 = .ok (.aload_n 0, 1) := dk_42 (dk_at dksX4_noteAny_0 11 rfl rfl)
theorem dX4_noteAny_12 : decode cX4_noteAny 12 = .ok (.iload_n 1, 1) := dk_27 (dk_at dksX4_noteAny_0 12 rfl rfl)
theorem dX4_noteAny_13 : decode cX4_noteAny 13 = .ok (.iconst 0, 1) := dk_3 (dk_at dksX4_noteAny_0 13 rfl rfl)
theorem dX4_noteAny_14 : decode cX4_noteAny 14 = .ok (.invokevirtual 337, 3) := dk_182 1 81 (dk_at dksX4_noteAny_0 14 rfl rfl)
theorem dX4_noteAny_17 : decode cX4_noteAny 17 = .ok (.putfield 418, 3) := dk_181 1 162 (dk_at dksX4_noteAny_0 17 rfl rfl)
theorem dX4_noteAny_20 : decode cX4_noteAny 20 = .ok (.return_, 1) := dk_177 (dk_at dksX4_noteAny_0 20 rfl rfl)
abbrev cX4_has : ByteArray := prog_21_method_53_code
def yX4_has : MethodName := ⟨RX4, "has", "(IIII)V"⟩
def dkwX4_has_2 : List UInt8 := [182, 1, 94, 167, 0, 8, 42, 27, 182, 1, 116, 177]
abbrev dktX4_has_2 : List UInt8 := dkwX4_has_2 ++ []
def dkwX4_has_1 : List UInt8 := [27, 16, 6, 28, 182, 1, 94, 21, 4, 42, 180, 0, 83, 21, 5, 46, 164, 0, 13, 42, 27, 4, 4]
abbrev dktX4_has_1 : List UInt8 := dkwX4_has_1 ++ dktX4_has_2
def dkwX4_has_0 : List UInt8 := [42, 27, 3, 182, 1, 81, 54, 5, 42, 27, 5, 42, 180, 0, 80, 21, 5, 46, 96, 29, 182, 1, 94, 42]
abbrev dktX4_has_0 : List UInt8 := dkwX4_has_0 ++ dktX4_has_1
theorem dksX4_has_0 : cX4_has.data.toList.drop 0 = dktX4_has_0 := by decide +kernel
theorem dksX4_has_1 : cX4_has.data.toList.drop 24 = dktX4_has_1 := dk_seg dksX4_has_0 24 rfl rfl
theorem dksX4_has_2 : cX4_has.data.toList.drop 47 = dktX4_has_2 := dk_seg dksX4_has_1 23 rfl rfl
theorem dX4_has_0 : decode cX4_has 0 = .ok (.aload_n 0, 1) := dk_42 (dk_at dksX4_has_0 0 rfl rfl)
theorem dX4_has_1 : decode cX4_has 1 = .ok (.iload_n 1, 1) := dk_27 (dk_at dksX4_has_0 1 rfl rfl)
theorem dX4_has_2 : decode cX4_has 2 = .ok (.iconst 0, 1) := dk_3 (dk_at dksX4_has_0 2 rfl rfl)
theorem dX4_has_3 : decode cX4_has 3 = .ok (.invokevirtual 337, 3) := dk_182 1 81 (dk_at dksX4_has_0 3 rfl rfl)
theorem dX4_has_6 : decode cX4_has 6 = .ok (.istore 5, 2) := dk_54 5 (dk_at dksX4_has_0 6 rfl rfl)
theorem dX4_has_8 : decode cX4_has 8 = .ok (.aload_n 0, 1) := dk_42 (dk_at dksX4_has_0 8 rfl rfl)
theorem dX4_has_9 : decode cX4_has 9 = .ok (.iload_n 1, 1) := dk_27 (dk_at dksX4_has_0 9 rfl rfl)
theorem dX4_has_10 : decode cX4_has 10 = .ok (.iconst 2, 1) := dk_5 (dk_at dksX4_has_0 10 rfl rfl)
theorem dX4_has_11 : decode cX4_has 11 = .ok (.aload_n 0, 1) := dk_42 (dk_at dksX4_has_0 11 rfl rfl)
theorem dX4_has_12 : decode cX4_has 12 = .ok (.getfield 80, 3) := dk_180 0 80 (dk_at dksX4_has_0 12 rfl rfl)
theorem dX4_has_15 : decode cX4_has 15 = .ok (.iload 5, 2) := dk_21 5 (dk_at dksX4_has_0 15 rfl rfl)
theorem dX4_has_17 : decode cX4_has 17 = .ok (.iaload, 1) := dk_46 (dk_at dksX4_has_0 17 rfl rfl)
theorem dX4_has_18 : decode cX4_has 18 = .ok (.iadd, 1) := dk_96 (dk_at dksX4_has_0 18 rfl rfl)
theorem dX4_has_19 : decode cX4_has 19 = .ok (.iload_n 3, 1) := dk_29 (dk_at dksX4_has_0 19 rfl rfl)
theorem dX4_has_20 : decode cX4_has 20 = .ok (.invokevirtual 350, 3) := dk_182 1 94 (dk_at dksX4_has_0 20 rfl rfl)
theorem dX4_has_23 : decode cX4_has 23 = .ok (.aload_n 0, 1) := dk_42 (dk_at dksX4_has_0 23 rfl rfl)
theorem dX4_has_24 : decode cX4_has 24 = .ok (.iload_n 1, 1) := dk_27 (dk_at dksX4_has_1 0 rfl rfl)
theorem dX4_has_25 : decode cX4_has 25 = .ok (.bipush 6, 2) := dk_16 6 (dk_at dksX4_has_1 1 rfl rfl)
theorem dX4_has_27 : decode cX4_has 27 = .ok (.iload_n 2, 1) := dk_28 (dk_at dksX4_has_1 3 rfl rfl)
theorem dX4_has_28 : decode cX4_has 28 = .ok (.invokevirtual 350, 3) := dk_182 1 94 (dk_at dksX4_has_1 4 rfl rfl)
theorem dX4_has_31 : decode cX4_has 31 = .ok (.iload 4, 2) := dk_21 4 (dk_at dksX4_has_1 7 rfl rfl)
theorem dX4_has_33 : decode cX4_has 33 = .ok (.aload_n 0, 1) := dk_42 (dk_at dksX4_has_1 9 rfl rfl)
theorem dX4_has_34 : decode cX4_has 34 = .ok (.getfield 83, 3) := dk_180 0 83 (dk_at dksX4_has_1 10 rfl rfl)
theorem dX4_has_37 : decode cX4_has 37 = .ok (.iload 5, 2) := dk_21 5 (dk_at dksX4_has_1 13 rfl rfl)
theorem dX4_has_39 : decode cX4_has 39 = .ok (.iaload, 1) := dk_46 (dk_at dksX4_has_1 15 rfl rfl)
theorem dX4_has_40 : decode cX4_has 40 = .ok (.if_icmp .le 13, 3) := dk_164 0 13 (dk_at dksX4_has_1 16 rfl rfl)
theorem dX4_has_43 : decode cX4_has 43 = .ok (.aload_n 0, 1) := dk_42 (dk_at dksX4_has_1 19 rfl rfl)
theorem dX4_has_44 : decode cX4_has 44 = .ok (.iload_n 1, 1) := dk_27 (dk_at dksX4_has_1 20 rfl rfl)
theorem dX4_has_45 : decode cX4_has 45 = .ok (.iconst 1, 1) := dk_4 (dk_at dksX4_has_1 21 rfl rfl)
theorem dX4_has_46 : decode cX4_has 46 = .ok (.iconst 1, 1) := dk_4 (dk_at dksX4_has_1 22 rfl rfl)
theorem dX4_has_47 : decode cX4_has 47 = .ok (.invokevirtual 350, 3) := dk_182 1 94 (dk_at dksX4_has_2 0 rfl rfl)
theorem dX4_has_50 : decode cX4_has 50 = .ok (.goto 8, 3) := dk_167 0 8 (dk_at dksX4_has_2 3 rfl rfl)
theorem dX4_has_53 : decode cX4_has 53 = .ok (.aload_n 0, 1) := dk_42 (dk_at dksX4_has_2 6 rfl rfl)
theorem dX4_has_54 : decode cX4_has 54 = .ok (.iload_n 1, 1) := dk_27 (dk_at dksX4_has_2 7 rfl rfl)
theorem dX4_has_55 : decode cX4_has 55 = .ok (.invokevirtual 372, 3) := dk_182 1 116 (dk_at dksX4_has_2 8 rfl rfl)
theorem dX4_has_58 : decode cX4_has 58 = .ok (.return_, 1) := dk_177 (dk_at dksX4_has_2 11 rfl rfl)
abbrev cX4_take : ByteArray := prog_21_method_59_code
def yX4_take : MethodName := ⟨RX4, "take", "(III)V"⟩
def dkwX4_take_4 : List UInt8 := [42, 29, 182, 1, 146, 42, 27, 28, 21, 5, 21, 6, 182, 1, 149, 177]
abbrev dktX4_take_4 : List UInt8 := dkwX4_take_4 ++ []
def dkwX4_take_3 : List UInt8 := [153, 0, 24, 42, 180, 0, 114, 28, 42, 180, 0, 114, 28, 46, 42, 180, 0, 108, 27, 46, 184, 1, 140, 79]
abbrev dktX4_take_3 : List UInt8 := dkwX4_take_3 ++ dktX4_take_4
def dkwX4_take_2 : List UInt8 := [42, 27, 42, 180, 0, 117, 29, 46, 182, 1, 143, 42, 180, 0, 108, 27, 92, 46, 4, 96, 79, 21, 7]
abbrev dktX4_take_2 : List UInt8 := dkwX4_take_2 ++ dktX4_take_3
def dkwX4_take_1 : List UInt8 := [96, 46, 54, 6, 42, 180, 0, 99, 21, 4, 8, 96, 46, 4, 160, 0, 7, 4, 167, 0, 4, 3, 54, 7]
abbrev dktX4_take_1 : List UInt8 := dkwX4_take_1 ++ dktX4_take_2
def dkwX4_take_0 : List UInt8 := [29, 184, 1, 110, 54, 4, 42, 180, 0, 99, 21, 4, 6, 96, 46, 54, 5, 42, 180, 0, 99, 21, 4, 7]
abbrev dktX4_take_0 : List UInt8 := dkwX4_take_0 ++ dktX4_take_1
theorem dksX4_take_0 : cX4_take.data.toList.drop 0 = dktX4_take_0 := by decide +kernel
theorem dksX4_take_1 : cX4_take.data.toList.drop 24 = dktX4_take_1 := dk_seg dksX4_take_0 24 rfl rfl
theorem dksX4_take_2 : cX4_take.data.toList.drop 48 = dktX4_take_2 := dk_seg dksX4_take_1 24 rfl rfl
theorem dksX4_take_3 : cX4_take.data.toList.drop 71 = dktX4_take_3 := dk_seg dksX4_take_2 23 rfl rfl
theorem dksX4_take_4 : cX4_take.data.toList.drop 95 = dktX4_take_4 := dk_seg dksX4_take_3 24 rfl rfl
theorem dX4_take_0 : decode cX4_take 0 = .ok (.iload_n 3, 1) := dk_29 (dk_at dksX4_take_0 0 rfl rfl)
theorem dX4_take_1 : decode cX4_take 1 = .ok (.invokestatic 366, 3) := dk_184 1 110 (dk_at dksX4_take_0 1 rfl rfl)
theorem dX4_take_4 : decode cX4_take 4 = .ok (.istore 4, 2) := dk_54 4 (dk_at dksX4_take_0 4 rfl rfl)
theorem dX4_take_6 : decode cX4_take 6 = .ok (.aload_n 0, 1) := dk_42 (dk_at dksX4_take_0 6 rfl rfl)
theorem dX4_take_7 : decode cX4_take 7 = .ok (.getfield 99, 3) := dk_180 0 99 (dk_at dksX4_take_0 7 rfl rfl)
theorem dX4_take_10 : decode cX4_take 10 = .ok (.iload 4, 2) := dk_21 4 (dk_at dksX4_take_0 10 rfl rfl)
theorem dX4_take_12 : decode cX4_take 12 = .ok (.iconst 3, 1) := dk_6 (dk_at dksX4_take_0 12 rfl rfl)
theorem dX4_take_13 : decode cX4_take 13 = .ok (.iadd, 1) := dk_96 (dk_at dksX4_take_0 13 rfl rfl)
theorem dX4_take_14 : decode cX4_take 14 = .ok (.iaload, 1) := dk_46 (dk_at dksX4_take_0 14 rfl rfl)
theorem dX4_take_15 : decode cX4_take 15 = .ok (.istore 5, 2) := dk_54 5 (dk_at dksX4_take_0 15 rfl rfl)
theorem dX4_take_17 : decode cX4_take 17 = .ok (.aload_n 0, 1) := dk_42 (dk_at dksX4_take_0 17 rfl rfl)
theorem dX4_take_18 : decode cX4_take 18 = .ok (.getfield 99, 3) := dk_180 0 99 (dk_at dksX4_take_0 18 rfl rfl)
theorem dX4_take_21 : decode cX4_take 21 = .ok (.iload 4, 2) := dk_21 4 (dk_at dksX4_take_0 21 rfl rfl)
theorem dX4_take_23 : decode cX4_take 23 = .ok (.iconst 4, 1) := dk_7 (dk_at dksX4_take_0 23 rfl rfl)
theorem dX4_take_24 : decode cX4_take 24 = .ok (.iadd, 1) := dk_96 (dk_at dksX4_take_1 0 rfl rfl)
theorem dX4_take_25 : decode cX4_take 25 = .ok (.iaload, 1) := dk_46 (dk_at dksX4_take_1 1 rfl rfl)
theorem dX4_take_26 : decode cX4_take 26 = .ok (.istore 6, 2) := dk_54 6 (dk_at dksX4_take_1 2 rfl rfl)
theorem dX4_take_28 : decode cX4_take 28 = .ok (.aload_n 0, 1) := dk_42 (dk_at dksX4_take_1 4 rfl rfl)
theorem dX4_take_29 : decode cX4_take 29 = .ok (.getfield 99, 3) := dk_180 0 99 (dk_at dksX4_take_1 5 rfl rfl)
theorem dX4_take_32 : decode cX4_take 32 = .ok (.iload 4, 2) := dk_21 4 (dk_at dksX4_take_1 8 rfl rfl)
theorem dX4_take_34 : decode cX4_take 34 = .ok (.iconst 5, 1) := dk_8 (dk_at dksX4_take_1 10 rfl rfl)
theorem dX4_take_35 : decode cX4_take 35 = .ok (.iadd, 1) := dk_96 (dk_at dksX4_take_1 11 rfl rfl)
theorem dX4_take_36 : decode cX4_take 36 = .ok (.iaload, 1) := dk_46 (dk_at dksX4_take_1 12 rfl rfl)
theorem dX4_take_37 : decode cX4_take 37 = .ok (.iconst 1, 1) := dk_4 (dk_at dksX4_take_1 13 rfl rfl)
theorem dX4_take_38 : decode cX4_take 38 = .ok (.if_icmp .ne 7, 3) := dk_160 0 7 (dk_at dksX4_take_1 14 rfl rfl)
theorem dX4_take_41 : decode cX4_take 41 = .ok (.iconst 1, 1) := dk_4 (dk_at dksX4_take_1 17 rfl rfl)
theorem dX4_take_42 : decode cX4_take 42 = .ok (.goto 4, 3) := dk_167 0 4 (dk_at dksX4_take_1 18 rfl rfl)
theorem dX4_take_45 : decode cX4_take 45 = .ok (.iconst 0, 1) := dk_3 (dk_at dksX4_take_1 21 rfl rfl)
theorem dX4_take_46 : decode cX4_take 46 = .ok (.istore 7, 2) := dk_54 7 (dk_at dksX4_take_1 22 rfl rfl)
theorem dX4_take_48 : decode cX4_take 48 = .ok (.aload_n 0, 1) := dk_42 (dk_at dksX4_take_2 0 rfl rfl)
theorem dX4_take_49 : decode cX4_take 49 = .ok (.iload_n 1, 1) := dk_27 (dk_at dksX4_take_2 1 rfl rfl)
theorem dX4_take_50 : decode cX4_take 50 = .ok (.aload_n 0, 1) := dk_42 (dk_at dksX4_take_2 2 rfl rfl)
theorem dX4_take_51 : decode cX4_take 51 = .ok (.getfield 117, 3) := dk_180 0 117 (dk_at dksX4_take_2 3 rfl rfl)
theorem dX4_take_54 : decode cX4_take 54 = .ok (.iload_n 3, 1) := dk_29 (dk_at dksX4_take_2 6 rfl rfl)
theorem dX4_take_55 : decode cX4_take 55 = .ok (.iaload, 1) := dk_46 (dk_at dksX4_take_2 7 rfl rfl)
theorem dX4_take_56 : decode cX4_take 56 = .ok (.invokevirtual 399, 3) := dk_182 1 143 (dk_at dksX4_take_2 8 rfl rfl)
theorem dX4_take_59 : decode cX4_take 59 = .ok (.aload_n 0, 1) := dk_42 (dk_at dksX4_take_2 11 rfl rfl)
theorem dX4_take_60 : decode cX4_take 60 = .ok (.getfield 108, 3) := dk_180 0 108 (dk_at dksX4_take_2 12 rfl rfl)
theorem dX4_take_63 : decode cX4_take 63 = .ok (.iload_n 1, 1) := dk_27 (dk_at dksX4_take_2 15 rfl rfl)
theorem dX4_take_64 : decode cX4_take 64 = .ok (.dup2, 1) := dk_92 (dk_at dksX4_take_2 16 rfl rfl)
theorem dX4_take_65 : decode cX4_take 65 = .ok (.iaload, 1) := dk_46 (dk_at dksX4_take_2 17 rfl rfl)
theorem dX4_take_66 : decode cX4_take 66 = .ok (.iconst 1, 1) := dk_4 (dk_at dksX4_take_2 18 rfl rfl)
theorem dX4_take_67 : decode cX4_take 67 = .ok (.iadd, 1) := dk_96 (dk_at dksX4_take_2 19 rfl rfl)
theorem dX4_take_68 : decode cX4_take 68 = .ok (.iastore, 1) := dk_79 (dk_at dksX4_take_2 20 rfl rfl)
theorem dX4_take_69 : decode cX4_take 69 = .ok (.iload 7, 2) := dk_21 7 (dk_at dksX4_take_2 21 rfl rfl)
theorem dX4_take_71 : decode cX4_take 71 = .ok (.ifCond .eq 24, 3) := dk_153 0 24 (dk_at dksX4_take_3 0 rfl rfl)
theorem dX4_take_74 : decode cX4_take 74 = .ok (.aload_n 0, 1) := dk_42 (dk_at dksX4_take_3 3 rfl rfl)
theorem dX4_take_75 : decode cX4_take 75 = .ok (.getfield 114, 3) := dk_180 0 114 (dk_at dksX4_take_3 4 rfl rfl)
theorem dX4_take_78 : decode cX4_take 78 = .ok (.iload_n 2, 1) := dk_28 (dk_at dksX4_take_3 7 rfl rfl)
theorem dX4_take_79 : decode cX4_take 79 = .ok (.aload_n 0, 1) := dk_42 (dk_at dksX4_take_3 8 rfl rfl)
theorem dX4_take_80 : decode cX4_take 80 = .ok (.getfield 114, 3) := dk_180 0 114 (dk_at dksX4_take_3 9 rfl rfl)
theorem dX4_take_83 : decode cX4_take 83 = .ok (.iload_n 2, 1) := dk_28 (dk_at dksX4_take_3 12 rfl rfl)
theorem dX4_take_84 : decode cX4_take 84 = .ok (.iaload, 1) := dk_46 (dk_at dksX4_take_3 13 rfl rfl)
theorem dX4_take_85 : decode cX4_take 85 = .ok (.aload_n 0, 1) := dk_42 (dk_at dksX4_take_3 14 rfl rfl)
theorem dX4_take_86 : decode cX4_take 86 = .ok (.getfield 108, 3) := dk_180 0 108 (dk_at dksX4_take_3 15 rfl rfl)
theorem dX4_take_89 : decode cX4_take 89 = .ok (.iload_n 1, 1) := dk_27 (dk_at dksX4_take_3 18 rfl rfl)
theorem dX4_take_90 : decode cX4_take 90 = .ok (.iaload, 1) := dk_46 (dk_at dksX4_take_3 19 rfl rfl)
theorem dX4_take_91 : decode cX4_take 91 = .ok (.invokestatic 396, 3) := dk_184 1 140 (dk_at dksX4_take_3 20 rfl rfl)
theorem dX4_take_94 : decode cX4_take 94 = .ok (.iastore, 1) := dk_79 (dk_at dksX4_take_3 23 rfl rfl)
theorem dX4_take_95 : decode cX4_take 95 = .ok (.aload_n 0, 1) := dk_42 (dk_at dksX4_take_4 0 rfl rfl)
theorem dX4_take_96 : decode cX4_take 96 = .ok (.iload_n 3, 1) := dk_29 (dk_at dksX4_take_4 1 rfl rfl)
theorem dX4_take_97 : decode cX4_take 97 = .ok (.invokevirtual 402, 3) := dk_182 1 146 (dk_at dksX4_take_4 2 rfl rfl)
theorem dX4_take_100 : decode cX4_take 100 = .ok (.aload_n 0, 1) := dk_42 (dk_at dksX4_take_4 5 rfl rfl)
theorem dX4_take_101 : decode cX4_take 101 = .ok (.iload_n 1, 1) := dk_27 (dk_at dksX4_take_4 6 rfl rfl)
theorem dX4_take_102 : decode cX4_take 102 = .ok (.iload_n 2, 1) := dk_28 (dk_at dksX4_take_4 7 rfl rfl)
theorem dX4_take_103 : decode cX4_take 103 = .ok (.iload 5, 2) := dk_21 5 (dk_at dksX4_take_4 8 rfl rfl)
theorem dX4_take_105 : decode cX4_take 105 = .ok (.iload 6, 2) := dk_21 6 (dk_at dksX4_take_4 10 rfl rfl)
theorem dX4_take_107 : decode cX4_take 107 = .ok (.invokevirtual 405, 3) := dk_182 1 149 (dk_at dksX4_take_4 12 rfl rfl)
theorem dX4_take_110 : decode cX4_take 110 = .ok (.return_, 1) := dk_177 (dk_at dksX4_take_4 15 rfl rfl)
abbrev cX4_takeAway : ByteArray := prog_21_method_52_code
def yX4_takeAway : MethodName := ⟨RX4, "takeAway", "(I)V"⟩
def dkwX4_takeAway_4 : List UInt8 := [29, 16, 6, 162, 0, 18, 42, 180, 0, 99, 28, 29, 96, 3, 79, 132, 3, 1, 167, 255, 238, 177]
abbrev dktX4_takeAway_4 : List UInt8 := dkwX4_takeAway_4 ++ []
def dkwX4_takeAway_3 : List UInt8 := [167, 255, 187, 42, 180, 0, 99, 16, 64, 92, 46, 4, 100, 79, 42, 182, 1, 107, 184, 1, 110, 61, 3, 62]
abbrev dktX4_takeAway_3 : List UInt8 := dkwX4_takeAway_3 ++ dktX4_takeAway_4
def dkwX4_takeAway_2 : List UInt8 := [132, 4, 1, 167, 255, 225, 42, 180, 0, 117, 28, 42, 180, 0, 117, 28, 4, 96, 46, 79, 132, 2, 1]
abbrev dktX4_takeAway_2 : List UInt8 := dkwX4_takeAway_2 ++ dktX4_takeAway_3
def dkwX4_takeAway_1 : List UInt8 := [162, 0, 30, 42, 180, 0, 99, 29, 21, 4, 96, 42, 180, 0, 99, 29, 16, 6, 96, 21, 4, 96, 46, 79]
abbrev dktX4_takeAway_1 : List UInt8 := dkwX4_takeAway_1 ++ dktX4_takeAway_2
def dkwX4_takeAway_0 : List UInt8 := [27, 61, 28, 4, 96, 42, 182, 1, 107, 162, 0, 65, 28, 184, 1, 110, 62, 3, 54, 4, 21, 4, 16, 6]
abbrev dktX4_takeAway_0 : List UInt8 := dkwX4_takeAway_0 ++ dktX4_takeAway_1
theorem dksX4_takeAway_0 : cX4_takeAway.data.toList.drop 0 = dktX4_takeAway_0 := by decide +kernel
theorem dksX4_takeAway_1 : cX4_takeAway.data.toList.drop 24 = dktX4_takeAway_1 := dk_seg dksX4_takeAway_0 24 rfl rfl
theorem dksX4_takeAway_2 : cX4_takeAway.data.toList.drop 48 = dktX4_takeAway_2 := dk_seg dksX4_takeAway_1 24 rfl rfl
theorem dksX4_takeAway_3 : cX4_takeAway.data.toList.drop 71 = dktX4_takeAway_3 := dk_seg dksX4_takeAway_2 23 rfl rfl
theorem dksX4_takeAway_4 : cX4_takeAway.data.toList.drop 95 = dktX4_takeAway_4 := dk_seg dksX4_takeAway_3 24 rfl rfl
theorem dX4_takeAway_0 : decode cX4_takeAway 0 = .ok (.iload_n 1, 1) := dk_27 (dk_at dksX4_takeAway_0 0 rfl rfl)
theorem dX4_takeAway_1 : decode cX4_takeAway 1 = .ok (.istore_n 2, 1) := dk_61 (dk_at dksX4_takeAway_0 1 rfl rfl)
theorem dX4_takeAway_2 : decode cX4_takeAway 2 = .ok (.iload_n 2, 1) := dk_28 (dk_at dksX4_takeAway_0 2 rfl rfl)
theorem dX4_takeAway_3 : decode cX4_takeAway 3 = .ok (.iconst 1, 1) := dk_4 (dk_at dksX4_takeAway_0 3 rfl rfl)
theorem dX4_takeAway_4 : decode cX4_takeAway 4 = .ok (.iadd, 1) := dk_96 (dk_at dksX4_takeAway_0 4 rfl rfl)
theorem dX4_takeAway_5 : decode cX4_takeAway 5 = .ok (.aload_n 0, 1) := dk_42 (dk_at dksX4_takeAway_0 5 rfl rfl)
theorem dX4_takeAway_6 : decode cX4_takeAway 6 = .ok (.invokevirtual 363, 3) := dk_182 1 107 (dk_at dksX4_takeAway_0 6 rfl rfl)
theorem dX4_takeAway_9 : decode cX4_takeAway 9 = .ok (.if_icmp .ge 65, 3) := dk_162 0 65 (dk_at dksX4_takeAway_0 9 rfl rfl)
theorem dX4_takeAway_12 : decode cX4_takeAway 12 = .ok (.iload_n 2, 1) := dk_28 (dk_at dksX4_takeAway_0 12 rfl rfl)
theorem dX4_takeAway_13 : decode cX4_takeAway 13 = .ok (.invokestatic 366, 3) := dk_184 1 110 (dk_at dksX4_takeAway_0 13 rfl rfl)
theorem dX4_takeAway_16 : decode cX4_takeAway 16 = .ok (.istore_n 3, 1) := dk_62 (dk_at dksX4_takeAway_0 16 rfl rfl)
theorem dX4_takeAway_17 : decode cX4_takeAway 17 = .ok (.iconst 0, 1) := dk_3 (dk_at dksX4_takeAway_0 17 rfl rfl)
theorem dX4_takeAway_18 : decode cX4_takeAway 18 = .ok (.istore 4, 2) := dk_54 4 (dk_at dksX4_takeAway_0 18 rfl rfl)
theorem dX4_takeAway_20 : decode cX4_takeAway 20 = .ok (.iload 4, 2) := dk_21 4 (dk_at dksX4_takeAway_0 20 rfl rfl)
theorem dX4_takeAway_22 : decode cX4_takeAway 22 = .ok (.bipush 6, 2) := dk_16 6 (dk_at dksX4_takeAway_0 22 rfl rfl)
theorem dX4_takeAway_24 : decode cX4_takeAway 24 = .ok (.if_icmp .ge 30, 3) := dk_162 0 30 (dk_at dksX4_takeAway_1 0 rfl rfl)
theorem dX4_takeAway_27 : decode cX4_takeAway 27 = .ok (.aload_n 0, 1) := dk_42 (dk_at dksX4_takeAway_1 3 rfl rfl)
theorem dX4_takeAway_28 : decode cX4_takeAway 28 = .ok (.getfield 99, 3) := dk_180 0 99 (dk_at dksX4_takeAway_1 4 rfl rfl)
theorem dX4_takeAway_31 : decode cX4_takeAway 31 = .ok (.iload_n 3, 1) := dk_29 (dk_at dksX4_takeAway_1 7 rfl rfl)
theorem dX4_takeAway_32 : decode cX4_takeAway 32 = .ok (.iload 4, 2) := dk_21 4 (dk_at dksX4_takeAway_1 8 rfl rfl)
theorem dX4_takeAway_34 : decode cX4_takeAway 34 = .ok (.iadd, 1) := dk_96 (dk_at dksX4_takeAway_1 10 rfl rfl)
theorem dX4_takeAway_35 : decode cX4_takeAway 35 = .ok (.aload_n 0, 1) := dk_42 (dk_at dksX4_takeAway_1 11 rfl rfl)
theorem dX4_takeAway_36 : decode cX4_takeAway 36 = .ok (.getfield 99, 3) := dk_180 0 99 (dk_at dksX4_takeAway_1 12 rfl rfl)
theorem dX4_takeAway_39 : decode cX4_takeAway 39 = .ok (.iload_n 3, 1) := dk_29 (dk_at dksX4_takeAway_1 15 rfl rfl)
theorem dX4_takeAway_40 : decode cX4_takeAway 40 = .ok (.bipush 6, 2) := dk_16 6 (dk_at dksX4_takeAway_1 16 rfl rfl)
theorem dX4_takeAway_42 : decode cX4_takeAway 42 = .ok (.iadd, 1) := dk_96 (dk_at dksX4_takeAway_1 18 rfl rfl)
theorem dX4_takeAway_43 : decode cX4_takeAway 43 = .ok (.iload 4, 2) := dk_21 4 (dk_at dksX4_takeAway_1 19 rfl rfl)
theorem dX4_takeAway_45 : decode cX4_takeAway 45 = .ok (.iadd, 1) := dk_96 (dk_at dksX4_takeAway_1 21 rfl rfl)
theorem dX4_takeAway_46 : decode cX4_takeAway 46 = .ok (.iaload, 1) := dk_46 (dk_at dksX4_takeAway_1 22 rfl rfl)
theorem dX4_takeAway_47 : decode cX4_takeAway 47 = .ok (.iastore, 1) := dk_79 (dk_at dksX4_takeAway_1 23 rfl rfl)
theorem dX4_takeAway_48 : decode cX4_takeAway 48 = .ok (.iinc 4 1, 3) := dk_132 4 1 (dk_at dksX4_takeAway_2 0 rfl rfl)
theorem dX4_takeAway_51 : decode cX4_takeAway 51 = .ok (.goto (-31), 3) := dk_167 255 225 (dk_at dksX4_takeAway_2 3 rfl rfl)
theorem dX4_takeAway_54 : decode cX4_takeAway 54 = .ok (.aload_n 0, 1) := dk_42 (dk_at dksX4_takeAway_2 6 rfl rfl)
theorem dX4_takeAway_55 : decode cX4_takeAway 55 = .ok (.getfield 117, 3) := dk_180 0 117 (dk_at dksX4_takeAway_2 7 rfl rfl)
theorem dX4_takeAway_58 : decode cX4_takeAway 58 = .ok (.iload_n 2, 1) := dk_28 (dk_at dksX4_takeAway_2 10 rfl rfl)
theorem dX4_takeAway_59 : decode cX4_takeAway 59 = .ok (.aload_n 0, 1) := dk_42 (dk_at dksX4_takeAway_2 11 rfl rfl)
theorem dX4_takeAway_60 : decode cX4_takeAway 60 = .ok (.getfield 117, 3) := dk_180 0 117 (dk_at dksX4_takeAway_2 12 rfl rfl)
theorem dX4_takeAway_63 : decode cX4_takeAway 63 = .ok (.iload_n 2, 1) := dk_28 (dk_at dksX4_takeAway_2 15 rfl rfl)
theorem dX4_takeAway_64 : decode cX4_takeAway 64 = .ok (.iconst 1, 1) := dk_4 (dk_at dksX4_takeAway_2 16 rfl rfl)
theorem dX4_takeAway_65 : decode cX4_takeAway 65 = .ok (.iadd, 1) := dk_96 (dk_at dksX4_takeAway_2 17 rfl rfl)
theorem dX4_takeAway_66 : decode cX4_takeAway 66 = .ok (.iaload, 1) := dk_46 (dk_at dksX4_takeAway_2 18 rfl rfl)
theorem dX4_takeAway_67 : decode cX4_takeAway 67 = .ok (.iastore, 1) := dk_79 (dk_at dksX4_takeAway_2 19 rfl rfl)
theorem dX4_takeAway_68 : decode cX4_takeAway 68 = .ok (.iinc 2 1, 3) := dk_132 2 1 (dk_at dksX4_takeAway_2 20 rfl rfl)
theorem dX4_takeAway_71 : decode cX4_takeAway 71 = .ok (.goto (-69), 3) := dk_167 255 187 (dk_at dksX4_takeAway_3 0 rfl rfl)
theorem dX4_takeAway_74 : decode cX4_takeAway 74 = .ok (.aload_n 0, 1) := dk_42 (dk_at dksX4_takeAway_3 3 rfl rfl)
theorem dX4_takeAway_75 : decode cX4_takeAway 75 = .ok (.getfield 99, 3) := dk_180 0 99 (dk_at dksX4_takeAway_3 4 rfl rfl)
theorem dX4_takeAway_78 : decode cX4_takeAway 78 = .ok (.bipush 64, 2) := dk_16 64 (dk_at dksX4_takeAway_3 7 rfl rfl)
theorem dX4_takeAway_80 : decode cX4_takeAway 80 = .ok (.dup2, 1) := dk_92 (dk_at dksX4_takeAway_3 9 rfl rfl)
theorem dX4_takeAway_81 : decode cX4_takeAway 81 = .ok (.iaload, 1) := dk_46 (dk_at dksX4_takeAway_3 10 rfl rfl)
theorem dX4_takeAway_82 : decode cX4_takeAway 82 = .ok (.iconst 1, 1) := dk_4 (dk_at dksX4_takeAway_3 11 rfl rfl)
theorem dX4_takeAway_83 : decode cX4_takeAway 83 = .ok (.isub, 1) := dk_100 (dk_at dksX4_takeAway_3 12 rfl rfl)
theorem dX4_takeAway_84 : decode cX4_takeAway 84 = .ok (.iastore, 1) := dk_79 (dk_at dksX4_takeAway_3 13 rfl rfl)
theorem dX4_takeAway_85 : decode cX4_takeAway 85 = .ok (.aload_n 0, 1) := dk_42 (dk_at dksX4_takeAway_3 14 rfl rfl)
theorem dX4_takeAway_86 : decode cX4_takeAway 86 = .ok (.invokevirtual 363, 3) := dk_182 1 107 (dk_at dksX4_takeAway_3 15 rfl rfl)
theorem dX4_takeAway_89 : decode cX4_takeAway 89 = .ok (.invokestatic 366, 3) := dk_184 1 110 (dk_at dksX4_takeAway_3 18 rfl rfl)
theorem dX4_takeAway_92 : decode cX4_takeAway 92 = .ok (.istore_n 2, 1) := dk_61 (dk_at dksX4_takeAway_3 21 rfl rfl)
theorem dX4_takeAway_93 : decode cX4_takeAway 93 = .ok (.iconst 0, 1) := dk_3 (dk_at dksX4_takeAway_3 22 rfl rfl)
theorem dX4_takeAway_94 : decode cX4_takeAway 94 = .ok (.istore_n 3, 1) := dk_62 (dk_at dksX4_takeAway_3 23 rfl rfl)
theorem dX4_takeAway_95 : decode cX4_takeAway 95 = .ok (.iload_n 3, 1) := dk_29 (dk_at dksX4_takeAway_4 0 rfl rfl)
theorem dX4_takeAway_96 : decode cX4_takeAway 96 = .ok (.bipush 6, 2) := dk_16 6 (dk_at dksX4_takeAway_4 1 rfl rfl)
theorem dX4_takeAway_98 : decode cX4_takeAway 98 = .ok (.if_icmp .ge 18, 3) := dk_162 0 18 (dk_at dksX4_takeAway_4 3 rfl rfl)
theorem dX4_takeAway_101 : decode cX4_takeAway 101 = .ok (.aload_n 0, 1) := dk_42 (dk_at dksX4_takeAway_4 6 rfl rfl)
theorem dX4_takeAway_102 : decode cX4_takeAway 102 = .ok (.getfield 99, 3) := dk_180 0 99 (dk_at dksX4_takeAway_4 7 rfl rfl)
theorem dX4_takeAway_105 : decode cX4_takeAway 105 = .ok (.iload_n 2, 1) := dk_28 (dk_at dksX4_takeAway_4 10 rfl rfl)
theorem dX4_takeAway_106 : decode cX4_takeAway 106 = .ok (.iload_n 3, 1) := dk_29 (dk_at dksX4_takeAway_4 11 rfl rfl)
theorem dX4_takeAway_107 : decode cX4_takeAway 107 = .ok (.iadd, 1) := dk_96 (dk_at dksX4_takeAway_4 12 rfl rfl)
theorem dX4_takeAway_108 : decode cX4_takeAway 108 = .ok (.iconst 0, 1) := dk_3 (dk_at dksX4_takeAway_4 13 rfl rfl)
theorem dX4_takeAway_109 : decode cX4_takeAway 109 = .ok (.iastore, 1) := dk_79 (dk_at dksX4_takeAway_4 14 rfl rfl)
theorem dX4_takeAway_110 : decode cX4_takeAway 110 = .ok (.iinc 3 1, 3) := dk_132 3 1 (dk_at dksX4_takeAway_4 15 rfl rfl)
theorem dX4_takeAway_113 : decode cX4_takeAway 113 = .ok (.goto (-18), 3) := dk_167 255 238 (dk_at dksX4_takeAway_4 18 rfl rfl)
theorem dX4_takeAway_116 : decode cX4_takeAway 116 = .ok (.return_, 1) := dk_177 (dk_at dksX4_takeAway_4 21 rfl rfl)
abbrev cX4_together : ByteArray := prog_21_method_62_code
def yX4_together : MethodName := ⟨RX4, "together", "(I)V"⟩
def dkwX4_together_5 : List UInt8 := [54, 4, 21, 4, 42, 180, 0, 54, 162, 0, 15, 42, 21, 4, 182, 1, 116, 132, 4, 1, 167, 255, 238, 177]
abbrev dktX4_together_5 : List UInt8 := dkwX4_together_5 ++ []
def dkwX4_together_4 : List UInt8 := [42, 180, 0, 80, 42, 21, 4, 3, 182, 1, 81, 46, 96, 29, 182, 1, 94, 132, 4, 1, 167, 255, 199, 3]
abbrev dktX4_together_4 : List UInt8 := dkwX4_together_4 ++ dktX4_together_5
def dkwX4_together_3 : List UInt8 := [182, 1, 143, 42, 180, 0, 108, 21, 4, 92, 46, 4, 96, 79, 27, 16, 7, 160, 0, 24, 42, 21, 4, 5]
abbrev dktX4_together_3 : List UInt8 := dkwX4_together_3 ++ dktX4_together_4
def dkwX4_together_2 : List UInt8 := [132, 4, 1, 167, 255, 212, 3, 54, 4, 21, 4, 42, 180, 0, 54, 162, 0, 54, 42, 21, 4, 28]
abbrev dktX4_together_2 : List UInt8 := dkwX4_together_2 ++ dktX4_together_3
def dkwX4_together_1 : List UInt8 := [184, 1, 140, 61, 29, 27, 16, 7, 160, 0, 13, 42, 21, 4, 3, 182, 1, 91, 167, 0, 4, 3, 96, 62]
abbrev dktX4_together_1 : List UInt8 := dkwX4_together_1 ++ dktX4_together_2
def dkwX4_together_0 : List UInt8 := [3, 61, 3, 62, 3, 54, 4, 21, 4, 42, 180, 0, 54, 162, 0, 41, 28, 42, 180, 0, 108, 21, 4, 46]
abbrev dktX4_together_0 : List UInt8 := dkwX4_together_0 ++ dktX4_together_1
theorem dksX4_together_0 : cX4_together.data.toList.drop 0 = dktX4_together_0 := by decide +kernel
theorem dksX4_together_1 : cX4_together.data.toList.drop 24 = dktX4_together_1 := dk_seg dksX4_together_0 24 rfl rfl
theorem dksX4_together_2 : cX4_together.data.toList.drop 48 = dktX4_together_2 := dk_seg dksX4_together_1 24 rfl rfl
theorem dksX4_together_3 : cX4_together.data.toList.drop 70 = dktX4_together_3 := dk_seg dksX4_together_2 22 rfl rfl
theorem dksX4_together_4 : cX4_together.data.toList.drop 94 = dktX4_together_4 := dk_seg dksX4_together_3 24 rfl rfl
theorem dksX4_together_5 : cX4_together.data.toList.drop 118 = dktX4_together_5 := dk_seg dksX4_together_4 24 rfl rfl
theorem dX4_together_0 : decode cX4_together 0 = .ok (.iconst 0, 1) := dk_3 (dk_at dksX4_together_0 0 rfl rfl)
theorem dX4_together_1 : decode cX4_together 1 = .ok (.istore_n 2, 1) := dk_61 (dk_at dksX4_together_0 1 rfl rfl)
theorem dX4_together_2 : decode cX4_together 2 = .ok (.iconst 0, 1) := dk_3 (dk_at dksX4_together_0 2 rfl rfl)
theorem dX4_together_3 : decode cX4_together 3 = .ok (.istore_n 3, 1) := dk_62 (dk_at dksX4_together_0 3 rfl rfl)
theorem dX4_together_4 : decode cX4_together 4 = .ok (.iconst 0, 1) := dk_3 (dk_at dksX4_together_0 4 rfl rfl)
theorem dX4_together_5 : decode cX4_together 5 = .ok (.istore 4, 2) := dk_54 4 (dk_at dksX4_together_0 5 rfl rfl)
theorem dX4_together_7 : decode cX4_together 7 = .ok (.iload 4, 2) := dk_21 4 (dk_at dksX4_together_0 7 rfl rfl)
theorem dX4_together_9 : decode cX4_together 9 = .ok (.aload_n 0, 1) := dk_42 (dk_at dksX4_together_0 9 rfl rfl)
theorem dX4_together_10 : decode cX4_together 10 = .ok (.getfield 54, 3) := dk_180 0 54 (dk_at dksX4_together_0 10 rfl rfl)
theorem dX4_together_13 : decode cX4_together 13 = .ok (.if_icmp .ge 41, 3) := dk_162 0 41 (dk_at dksX4_together_0 13 rfl rfl)
theorem dX4_together_16 : decode cX4_together 16 = .ok (.iload_n 2, 1) := dk_28 (dk_at dksX4_together_0 16 rfl rfl)
theorem dX4_together_17 : decode cX4_together 17 = .ok (.aload_n 0, 1) := dk_42 (dk_at dksX4_together_0 17 rfl rfl)
theorem dX4_together_18 : decode cX4_together 18 = .ok (.getfield 108, 3) := dk_180 0 108 (dk_at dksX4_together_0 18 rfl rfl)
theorem dX4_together_21 : decode cX4_together 21 = .ok (.iload 4, 2) := dk_21 4 (dk_at dksX4_together_0 21 rfl rfl)
theorem dX4_together_23 : decode cX4_together 23 = .ok (.iaload, 1) := dk_46 (dk_at dksX4_together_0 23 rfl rfl)
theorem dX4_together_24 : decode cX4_together 24 = .ok (.invokestatic 396, 3) := dk_184 1 140 (dk_at dksX4_together_1 0 rfl rfl)
theorem dX4_together_27 : decode cX4_together 27 = .ok (.istore_n 2, 1) := dk_61 (dk_at dksX4_together_1 3 rfl rfl)
theorem dX4_together_28 : decode cX4_together 28 = .ok (.iload_n 3, 1) := dk_29 (dk_at dksX4_together_1 4 rfl rfl)
theorem dX4_together_29 : decode cX4_together 29 = .ok (.iload_n 1, 1) := dk_27 (dk_at dksX4_together_1 5 rfl rfl)
theorem dX4_together_30 : decode cX4_together 30 = .ok (.bipush 7, 2) := dk_16 7 (dk_at dksX4_together_1 6 rfl rfl)
theorem dX4_together_32 : decode cX4_together 32 = .ok (.if_icmp .ne 13, 3) := dk_160 0 13 (dk_at dksX4_together_1 8 rfl rfl)
theorem dX4_together_35 : decode cX4_together 35 = .ok (.aload_n 0, 1) := dk_42 (dk_at dksX4_together_1 11 rfl rfl)
theorem dX4_together_36 : decode cX4_together 36 = .ok (.iload 4, 2) := dk_21 4 (dk_at dksX4_together_1 12 rfl rfl)
theorem dX4_together_38 : decode cX4_together 38 = .ok (.iconst 0, 1) := dk_3 (dk_at dksX4_together_1 14 rfl rfl)
theorem dX4_together_39 : decode cX4_together 39 = .ok (.invokevirtual 347, 3) := dk_182 1 91 (dk_at dksX4_together_1 15 rfl rfl)
theorem dX4_together_42 : decode cX4_together 42 = .ok (.goto 4, 3) := dk_167 0 4 (dk_at dksX4_together_1 18 rfl rfl)
theorem dX4_together_45 : decode cX4_together 45 = .ok (.iconst 0, 1) := dk_3 (dk_at dksX4_together_1 21 rfl rfl)
theorem dX4_together_46 : decode cX4_together 46 = .ok (.iadd, 1) := dk_96 (dk_at dksX4_together_1 22 rfl rfl)
theorem dX4_together_47 : decode cX4_together 47 = .ok (.istore_n 3, 1) := dk_62 (dk_at dksX4_together_1 23 rfl rfl)
theorem dX4_together_48 : decode cX4_together 48 = .ok (.iinc 4 1, 3) := dk_132 4 1 (dk_at dksX4_together_2 0 rfl rfl)
theorem dX4_together_51 : decode cX4_together 51 = .ok (.goto (-44), 3) := dk_167 255 212 (dk_at dksX4_together_2 3 rfl rfl)
theorem dX4_together_54 : decode cX4_together 54 = .ok (.iconst 0, 1) := dk_3 (dk_at dksX4_together_2 6 rfl rfl)
theorem dX4_together_55 : decode cX4_together 55 = .ok (.istore 4, 2) := dk_54 4 (dk_at dksX4_together_2 7 rfl rfl)
theorem dX4_together_57 : decode cX4_together 57 = .ok (.iload 4, 2) := dk_21 4 (dk_at dksX4_together_2 9 rfl rfl)
theorem dX4_together_59 : decode cX4_together 59 = .ok (.aload_n 0, 1) := dk_42 (dk_at dksX4_together_2 11 rfl rfl)
theorem dX4_together_60 : decode cX4_together 60 = .ok (.getfield 54, 3) := dk_180 0 54 (dk_at dksX4_together_2 12 rfl rfl)
theorem dX4_together_63 : decode cX4_together 63 = .ok (.if_icmp .ge 54, 3) := dk_162 0 54 (dk_at dksX4_together_2 15 rfl rfl)
theorem dX4_together_66 : decode cX4_together 66 = .ok (.aload_n 0, 1) := dk_42 (dk_at dksX4_together_2 18 rfl rfl)
theorem dX4_together_67 : decode cX4_together 67 = .ok (.iload 4, 2) := dk_21 4 (dk_at dksX4_together_2 19 rfl rfl)
theorem dX4_together_69 : decode cX4_together 69 = .ok (.iload_n 2, 1) := dk_28 (dk_at dksX4_together_2 21 rfl rfl)
theorem dX4_together_70 : decode cX4_together 70 = .ok (.invokevirtual 399, 3) := dk_182 1 143 (dk_at dksX4_together_3 0 rfl rfl)
theorem dX4_together_73 : decode cX4_together 73 = .ok (.aload_n 0, 1) := dk_42 (dk_at dksX4_together_3 3 rfl rfl)
theorem dX4_together_74 : decode cX4_together 74 = .ok (.getfield 108, 3) := dk_180 0 108 (dk_at dksX4_together_3 4 rfl rfl)
theorem dX4_together_77 : decode cX4_together 77 = .ok (.iload 4, 2) := dk_21 4 (dk_at dksX4_together_3 7 rfl rfl)
theorem dX4_together_79 : decode cX4_together 79 = .ok (.dup2, 1) := dk_92 (dk_at dksX4_together_3 9 rfl rfl)
theorem dX4_together_80 : decode cX4_together 80 = .ok (.iaload, 1) := dk_46 (dk_at dksX4_together_3 10 rfl rfl)
theorem dX4_together_81 : decode cX4_together 81 = .ok (.iconst 1, 1) := dk_4 (dk_at dksX4_together_3 11 rfl rfl)
theorem dX4_together_82 : decode cX4_together 82 = .ok (.iadd, 1) := dk_96 (dk_at dksX4_together_3 12 rfl rfl)
theorem dX4_together_83 : decode cX4_together 83 = .ok (.iastore, 1) := dk_79 (dk_at dksX4_together_3 13 rfl rfl)
theorem dX4_together_84 : decode cX4_together 84 = .ok (.iload_n 1, 1) := dk_27 (dk_at dksX4_together_3 14 rfl rfl)
theorem dX4_together_85 : decode cX4_together 85 = .ok (.bipush 7, 2) := dk_16 7 (dk_at dksX4_together_3 15 rfl rfl)
theorem dX4_together_87 : decode cX4_together 87 = .ok (.if_icmp .ne 24, 3) := dk_160 0 24 (dk_at dksX4_together_3 17 rfl rfl)
theorem dX4_together_90 : decode cX4_together 90 = .ok (.aload_n 0, 1) := dk_42 (dk_at dksX4_together_3 20 rfl rfl)
theorem dX4_together_91 : decode cX4_together 91 = .ok (.iload 4, 2) := dk_21 4 (dk_at dksX4_together_3 21 rfl rfl)
theorem dX4_together_93 : decode cX4_together 93 = .ok (.iconst 2, 1) := dk_5 (dk_at dksX4_together_3 23 rfl rfl)
theorem dX4_together_94 : decode cX4_together 94 = .ok (.aload_n 0, 1) := dk_42 (dk_at dksX4_together_4 0 rfl rfl)
theorem dX4_together_95 : decode cX4_together 95 = .ok (.getfield 80, 3) := dk_180 0 80 (dk_at dksX4_together_4 1 rfl rfl)
theorem dX4_together_98 : decode cX4_together 98 = .ok (.aload_n 0, 1) := dk_42 (dk_at dksX4_together_4 4 rfl rfl)
theorem dX4_together_99 : decode cX4_together 99 = .ok (.iload 4, 2) := dk_21 4 (dk_at dksX4_together_4 5 rfl rfl)
theorem dX4_together_101 : decode cX4_together 101 = .ok (.iconst 0, 1) := dk_3 (dk_at dksX4_together_4 7 rfl rfl)
theorem dX4_together_102 : decode cX4_together 102 = .ok (.invokevirtual 337, 3) := dk_182 1 81 (dk_at dksX4_together_4 8 rfl rfl)
theorem dX4_together_105 : decode cX4_together 105 = .ok (.iaload, 1) := dk_46 (dk_at dksX4_together_4 11 rfl rfl)
theorem dX4_together_106 : decode cX4_together 106 = .ok (.iadd, 1) := dk_96 (dk_at dksX4_together_4 12 rfl rfl)
theorem dX4_together_107 : decode cX4_together 107 = .ok (.iload_n 3, 1) := dk_29 (dk_at dksX4_together_4 13 rfl rfl)
theorem dX4_together_108 : decode cX4_together 108 = .ok (.invokevirtual 350, 3) := dk_182 1 94 (dk_at dksX4_together_4 14 rfl rfl)
theorem dX4_together_111 : decode cX4_together 111 = .ok (.iinc 4 1, 3) := dk_132 4 1 (dk_at dksX4_together_4 17 rfl rfl)
theorem dX4_together_114 : decode cX4_together 114 = .ok (.goto (-57), 3) := dk_167 255 199 (dk_at dksX4_together_4 20 rfl rfl)
theorem dX4_together_117 : decode cX4_together 117 = .ok (.iconst 0, 1) := dk_3 (dk_at dksX4_together_4 23 rfl rfl)
theorem dX4_together_118 : decode cX4_together 118 = .ok (.istore 4, 2) := dk_54 4 (dk_at dksX4_together_5 0 rfl rfl)
theorem dX4_together_120 : decode cX4_together 120 = .ok (.iload 4, 2) := dk_21 4 (dk_at dksX4_together_5 2 rfl rfl)
theorem dX4_together_122 : decode cX4_together 122 = .ok (.aload_n 0, 1) := dk_42 (dk_at dksX4_together_5 4 rfl rfl)
theorem dX4_together_123 : decode cX4_together 123 = .ok (.getfield 54, 3) := dk_180 0 54 (dk_at dksX4_together_5 5 rfl rfl)
theorem dX4_together_126 : decode cX4_together 126 = .ok (.if_icmp .ge 15, 3) := dk_162 0 15 (dk_at dksX4_together_5 8 rfl rfl)
theorem dX4_together_129 : decode cX4_together 129 = .ok (.aload_n 0, 1) := dk_42 (dk_at dksX4_together_5 11 rfl rfl)
theorem dX4_together_130 : decode cX4_together 130 = .ok (.iload 4, 2) := dk_21 4 (dk_at dksX4_together_5 12 rfl rfl)
theorem dX4_together_132 : decode cX4_together 132 = .ok (.invokevirtual 372, 3) := dk_182 1 116 (dk_at dksX4_together_5 14 rfl rfl)
theorem dX4_together_135 : decode cX4_together 135 = .ok (.iinc 4 1, 3) := dk_132 4 1 (dk_at dksX4_together_5 17 rfl rfl)
theorem dX4_together_138 : decode cX4_together 138 = .ok (.goto (-18), 3) := dk_167 255 238 (dk_at dksX4_together_5 20 rfl rfl)
theorem dX4_together_141 : decode cX4_together 141 = .ok (.return_, 1) := dk_177 (dk_at dksX4_together_5 23 rfl rfl)
abbrev cX4_showEnding : ByteArray := prog_21_method_72_code
def yX4_showEnding : MethodName := ⟨RX4, "showEnding", "()V"⟩
def dkwX4_showEnding_13 : List UInt8 := [132, 5, 1, 167, 255, 224, 177]
abbrev dktX4_showEnding_13 : List UInt8 := dkwX4_showEnding_13 ++ []
def dkwX4_showEnding_12 : List UInt8 := [180, 1, 207, 104, 162, 0, 26, 42, 180, 0, 136, 21, 5, 42, 180, 0, 136, 21, 5, 16, 11, 96, 46, 79]
abbrev dktX4_showEnding_12 : List UInt8 := dkwX4_showEnding_12 ++ dktX4_showEnding_13
def dkwX4_showEnding_11 : List UInt8 := [42, 89, 180, 1, 207, 4, 96, 181, 1, 207, 177, 16, 11, 29, 104, 54, 5, 21, 5, 16, 11, 42]
abbrev dktX4_showEnding_11 : List UInt8 := dkwX4_showEnding_11 ++ dktX4_showEnding_12
def dkwX4_showEnding_10 : List UInt8 := [100, 104, 16, 11, 29, 104, 184, 1, 210, 154, 0, 7, 4, 167, 0, 4, 3, 54, 4, 21, 4, 154, 0, 14]
abbrev dktX4_showEnding_10 : List UInt8 := dkwX4_showEnding_10 ++ dktX4_showEnding_11
def dkwX4_showEnding_9 : List UInt8 := [132, 4, 1, 167, 255, 190, 132, 3, 255, 167, 255, 157, 29, 158, 0, 27, 42, 180, 0, 136, 16, 11, 29, 4]
abbrev dktX4_showEnding_9 : List UInt8 := dkwX4_showEnding_9 ++ dktX4_showEnding_10
def dkwX4_showEnding_8 : List UInt8 := [4, 100, 104, 21, 4, 96, 46, 79, 42, 180, 0, 136, 16, 11, 29, 4, 100, 104, 21, 4, 96, 21, 5, 79]
abbrev dktX4_showEnding_8 : List UInt8 := dkwX4_showEnding_8 ++ dktX4_showEnding_9
def dkwX4_showEnding_7 : List UInt8 := [21, 4, 96, 46, 54, 5, 42, 180, 0, 136, 16, 11, 29, 104, 21, 4, 96, 42, 180, 0, 136, 16, 11, 29]
abbrev dktX4_showEnding_7 : List UInt8 := dkwX4_showEnding_7 ++ dktX4_showEnding_8
def dkwX4_showEnding_6 : List UInt8 := [184, 1, 210, 158, 0, 81, 3, 54, 4, 21, 4, 16, 11, 162, 0, 65, 42, 180, 0, 136, 16, 11, 29, 104]
abbrev dktX4_showEnding_6 : List UInt8 := dkwX4_showEnding_6 ++ dktX4_showEnding_7
def dkwX4_showEnding_5 : List UInt8 := [180, 1, 207, 62, 29, 158, 0, 101, 42, 180, 0, 136, 16, 11, 29, 4, 100, 104, 16, 11, 29, 104]
abbrev dktX4_showEnding_5 : List UInt8 := dkwX4_showEnding_5 ++ dktX4_showEnding_6
def dkwX4_showEnding_4 : List UInt8 := [180, 0, 136, 27, 16, 9, 96, 42, 182, 1, 107, 79, 42, 180, 0, 136, 27, 16, 10, 96, 28, 79, 42]
abbrev dktX4_showEnding_4 : List UInt8 := dkwX4_showEnding_4 ++ dktX4_showEnding_5
def dkwX4_showEnding_3 : List UInt8 := [182, 1, 81, 2, 159, 0, 9, 4, 29, 120, 167, 0, 4, 3, 128, 61, 132, 3, 1, 167, 255, 190, 42]
abbrev dktX4_showEnding_3 : List UInt8 := dkwX4_showEnding_3 ++ dktX4_showEnding_4
def dkwX4_showEnding_2 : List UInt8 := [16, 7, 182, 1, 81, 167, 0, 4, 3, 79, 28, 29, 42, 180, 0, 54, 162, 0, 19, 42, 29, 3]
abbrev dktX4_showEnding_2 : List UInt8 := dkwX4_showEnding_2 ++ dktX4_showEnding_3
def dkwX4_showEnding_1 : List UInt8 := [16, 8, 162, 0, 66, 42, 180, 0, 136, 27, 4, 96, 29, 96, 29, 42, 180, 0, 54, 162, 0, 13, 42, 29]
abbrev dktX4_showEnding_1 : List UInt8 := dkwX4_showEnding_1 ++ dktX4_showEnding_2
def dkwX4_showEnding_0 : List UInt8 := [16, 11, 42, 180, 1, 207, 104, 60, 42, 180, 0, 136, 27, 42, 182, 1, 204, 79, 3, 61, 3, 62, 29]
abbrev dktX4_showEnding_0 : List UInt8 := dkwX4_showEnding_0 ++ dktX4_showEnding_1
theorem dksX4_showEnding_0 : cX4_showEnding.data.toList.drop 0 = dktX4_showEnding_0 := by decide +kernel
theorem dksX4_showEnding_1 : cX4_showEnding.data.toList.drop 23 = dktX4_showEnding_1 := dk_seg dksX4_showEnding_0 23 rfl rfl
theorem dksX4_showEnding_2 : cX4_showEnding.data.toList.drop 47 = dktX4_showEnding_2 := dk_seg dksX4_showEnding_1 24 rfl rfl
theorem dksX4_showEnding_3 : cX4_showEnding.data.toList.drop 69 = dktX4_showEnding_3 := dk_seg dksX4_showEnding_2 22 rfl rfl
theorem dksX4_showEnding_4 : cX4_showEnding.data.toList.drop 92 = dktX4_showEnding_4 := dk_seg dksX4_showEnding_3 23 rfl rfl
theorem dksX4_showEnding_5 : cX4_showEnding.data.toList.drop 115 = dktX4_showEnding_5 := dk_seg dksX4_showEnding_4 23 rfl rfl
theorem dksX4_showEnding_6 : cX4_showEnding.data.toList.drop 137 = dktX4_showEnding_6 := dk_seg dksX4_showEnding_5 22 rfl rfl
theorem dksX4_showEnding_7 : cX4_showEnding.data.toList.drop 161 = dktX4_showEnding_7 := dk_seg dksX4_showEnding_6 24 rfl rfl
theorem dksX4_showEnding_8 : cX4_showEnding.data.toList.drop 185 = dktX4_showEnding_8 := dk_seg dksX4_showEnding_7 24 rfl rfl
theorem dksX4_showEnding_9 : cX4_showEnding.data.toList.drop 209 = dktX4_showEnding_9 := dk_seg dksX4_showEnding_8 24 rfl rfl
theorem dksX4_showEnding_10 : cX4_showEnding.data.toList.drop 233 = dktX4_showEnding_10 := dk_seg dksX4_showEnding_9 24 rfl rfl
theorem dksX4_showEnding_11 : cX4_showEnding.data.toList.drop 257 = dktX4_showEnding_11 := dk_seg dksX4_showEnding_10 24 rfl rfl
theorem dksX4_showEnding_12 : cX4_showEnding.data.toList.drop 279 = dktX4_showEnding_12 := dk_seg dksX4_showEnding_11 22 rfl rfl
theorem dksX4_showEnding_13 : cX4_showEnding.data.toList.drop 303 = dktX4_showEnding_13 := dk_seg dksX4_showEnding_12 24 rfl rfl
theorem dX4_showEnding_0 : decode cX4_showEnding 0 = .ok (.bipush 11, 2) := dk_16 11 (dk_at dksX4_showEnding_0 0 rfl rfl)
theorem dX4_showEnding_2 : decode cX4_showEnding 2 = .ok (.aload_n 0, 1) := dk_42 (dk_at dksX4_showEnding_0 2 rfl rfl)
theorem dX4_showEnding_3 : decode cX4_showEnding 3 = .ok (.getfield 463, 3) := dk_180 1 207 (dk_at dksX4_showEnding_0 3 rfl rfl)
theorem dX4_showEnding_6 : decode cX4_showEnding 6 = .ok (.imul, 1) := dk_104 (dk_at dksX4_showEnding_0 6 rfl rfl)
theorem dX4_showEnding_7 : decode cX4_showEnding 7 = .ok (.istore_n 1, 1) := dk_60 (dk_at dksX4_showEnding_0 7 rfl rfl)
theorem dX4_showEnding_8 : decode cX4_showEnding 8 = .ok (.aload_n 0, 1) := dk_42 (dk_at dksX4_showEnding_0 8 rfl rfl)
theorem dX4_showEnding_9 : decode cX4_showEnding 9 = .ok (.getfield 136, 3) := dk_180 0 136 (dk_at dksX4_showEnding_0 9 rfl rfl)
theorem dX4_showEnding_12 : decode cX4_showEnding 12 = .ok (.iload_n 1, 1) := dk_27 (dk_at dksX4_showEnding_0 12 rfl rfl)
theorem dX4_showEnding_13 : decode cX4_showEnding 13 = .ok (.aload_n 0, 1) := dk_42 (dk_at dksX4_showEnding_0 13 rfl rfl)
theorem dX4_showEnding_14 : decode cX4_showEnding 14 = .ok (.invokevirtual 460, 3) := dk_182 1 204 (dk_at dksX4_showEnding_0 14 rfl rfl)
theorem dX4_showEnding_17 : decode cX4_showEnding 17 = .ok (.iastore, 1) := dk_79 (dk_at dksX4_showEnding_0 17 rfl rfl)
theorem dX4_showEnding_18 : decode cX4_showEnding 18 = .ok (.iconst 0, 1) := dk_3 (dk_at dksX4_showEnding_0 18 rfl rfl)
theorem dX4_showEnding_19 : decode cX4_showEnding 19 = .ok (.istore_n 2, 1) := dk_61 (dk_at dksX4_showEnding_0 19 rfl rfl)
theorem dX4_showEnding_20 : decode cX4_showEnding 20 = .ok (.iconst 0, 1) := dk_3 (dk_at dksX4_showEnding_0 20 rfl rfl)
theorem dX4_showEnding_21 : decode cX4_showEnding 21 = .ok (.istore_n 3, 1) := dk_62 (dk_at dksX4_showEnding_0 21 rfl rfl)
theorem dX4_showEnding_22 : decode cX4_showEnding 22 = .ok (.iload_n 3, 1) := dk_29 (dk_at dksX4_showEnding_0 22 rfl rfl)
theorem dX4_showEnding_23 : decode cX4_showEnding 23 = .ok (.bipush 8, 2) := dk_16 8 (dk_at dksX4_showEnding_1 0 rfl rfl)
theorem dX4_showEnding_25 : decode cX4_showEnding 25 = .ok (.if_icmp .ge 66, 3) := dk_162 0 66 (dk_at dksX4_showEnding_1 2 rfl rfl)
theorem dX4_showEnding_28 : decode cX4_showEnding 28 = .ok (.aload_n 0, 1) := dk_42 (dk_at dksX4_showEnding_1 5 rfl rfl)
theorem dX4_showEnding_29 : decode cX4_showEnding 29 = .ok (.getfield 136, 3) := dk_180 0 136 (dk_at dksX4_showEnding_1 6 rfl rfl)
theorem dX4_showEnding_32 : decode cX4_showEnding 32 = .ok (.iload_n 1, 1) := dk_27 (dk_at dksX4_showEnding_1 9 rfl rfl)
theorem dX4_showEnding_33 : decode cX4_showEnding 33 = .ok (.iconst 1, 1) := dk_4 (dk_at dksX4_showEnding_1 10 rfl rfl)
theorem dX4_showEnding_34 : decode cX4_showEnding 34 = .ok (.iadd, 1) := dk_96 (dk_at dksX4_showEnding_1 11 rfl rfl)
theorem dX4_showEnding_35 : decode cX4_showEnding 35 = .ok (.iload_n 3, 1) := dk_29 (dk_at dksX4_showEnding_1 12 rfl rfl)
theorem dX4_showEnding_36 : decode cX4_showEnding 36 = .ok (.iadd, 1) := dk_96 (dk_at dksX4_showEnding_1 13 rfl rfl)
theorem dX4_showEnding_37 : decode cX4_showEnding 37 = .ok (.iload_n 3, 1) := dk_29 (dk_at dksX4_showEnding_1 14 rfl rfl)
theorem dX4_showEnding_38 : decode cX4_showEnding 38 = .ok (.aload_n 0, 1) := dk_42 (dk_at dksX4_showEnding_1 15 rfl rfl)
theorem dX4_showEnding_39 : decode cX4_showEnding 39 = .ok (.getfield 54, 3) := dk_180 0 54 (dk_at dksX4_showEnding_1 16 rfl rfl)
theorem dX4_showEnding_42 : decode cX4_showEnding 42 = .ok (.if_icmp .ge 13, 3) := dk_162 0 13 (dk_at dksX4_showEnding_1 19 rfl rfl)
theorem dX4_showEnding_45 : decode cX4_showEnding 45 = .ok (.aload_n 0, 1) := dk_42 (dk_at dksX4_showEnding_1 22 rfl rfl)
theorem dX4_showEnding_46 : decode cX4_showEnding 46 = .ok (.iload_n 3, 1) := dk_29 (dk_at dksX4_showEnding_1 23 rfl rfl)
theorem dX4_showEnding_47 : decode cX4_showEnding 47 = .ok (.bipush 7, 2) := dk_16 7 (dk_at dksX4_showEnding_2 0 rfl rfl)
theorem dX4_showEnding_49 : decode cX4_showEnding 49 = .ok (.invokevirtual 337, 3) := dk_182 1 81 (dk_at dksX4_showEnding_2 2 rfl rfl)
theorem dX4_showEnding_52 : decode cX4_showEnding 52 = .ok (.goto 4, 3) := dk_167 0 4 (dk_at dksX4_showEnding_2 5 rfl rfl)
theorem dX4_showEnding_55 : decode cX4_showEnding 55 = .ok (.iconst 0, 1) := dk_3 (dk_at dksX4_showEnding_2 8 rfl rfl)
theorem dX4_showEnding_56 : decode cX4_showEnding 56 = .ok (.iastore, 1) := dk_79 (dk_at dksX4_showEnding_2 9 rfl rfl)
theorem dX4_showEnding_57 : decode cX4_showEnding 57 = .ok (.iload_n 2, 1) := dk_28 (dk_at dksX4_showEnding_2 10 rfl rfl)
theorem dX4_showEnding_58 : decode cX4_showEnding 58 = .ok (.iload_n 3, 1) := dk_29 (dk_at dksX4_showEnding_2 11 rfl rfl)
theorem dX4_showEnding_59 : decode cX4_showEnding 59 = .ok (.aload_n 0, 1) := dk_42 (dk_at dksX4_showEnding_2 12 rfl rfl)
theorem dX4_showEnding_60 : decode cX4_showEnding 60 = .ok (.getfield 54, 3) := dk_180 0 54 (dk_at dksX4_showEnding_2 13 rfl rfl)
theorem dX4_showEnding_63 : decode cX4_showEnding 63 = .ok (.if_icmp .ge 19, 3) := dk_162 0 19 (dk_at dksX4_showEnding_2 16 rfl rfl)
theorem dX4_showEnding_66 : decode cX4_showEnding 66 = .ok (.aload_n 0, 1) := dk_42 (dk_at dksX4_showEnding_2 19 rfl rfl)
theorem dX4_showEnding_67 : decode cX4_showEnding 67 = .ok (.iload_n 3, 1) := dk_29 (dk_at dksX4_showEnding_2 20 rfl rfl)
theorem dX4_showEnding_68 : decode cX4_showEnding 68 = .ok (.iconst 0, 1) := dk_3 (dk_at dksX4_showEnding_2 21 rfl rfl)
theorem dX4_showEnding_69 : decode cX4_showEnding 69 = .ok (.invokevirtual 337, 3) := dk_182 1 81 (dk_at dksX4_showEnding_3 0 rfl rfl)
theorem dX4_showEnding_72 : decode cX4_showEnding 72 = .ok (.iconst (-1), 1) := dk_2 (dk_at dksX4_showEnding_3 3 rfl rfl)
theorem dX4_showEnding_73 : decode cX4_showEnding 73 = .ok (.if_icmp .eq 9, 3) := dk_159 0 9 (dk_at dksX4_showEnding_3 4 rfl rfl)
theorem dX4_showEnding_76 : decode cX4_showEnding 76 = .ok (.iconst 1, 1) := dk_4 (dk_at dksX4_showEnding_3 7 rfl rfl)
theorem dX4_showEnding_77 : decode cX4_showEnding 77 = .ok (.iload_n 3, 1) := dk_29 (dk_at dksX4_showEnding_3 8 rfl rfl)
theorem dX4_showEnding_78 : decode cX4_showEnding 78 = .ok (.ishl, 1) := dk_120 (dk_at dksX4_showEnding_3 9 rfl rfl)
theorem dX4_showEnding_79 : decode cX4_showEnding 79 = .ok (.goto 4, 3) := dk_167 0 4 (dk_at dksX4_showEnding_3 10 rfl rfl)
theorem dX4_showEnding_82 : decode cX4_showEnding 82 = .ok (.iconst 0, 1) := dk_3 (dk_at dksX4_showEnding_3 13 rfl rfl)
theorem dX4_showEnding_83 : decode cX4_showEnding 83 = .ok (.ior, 1) := dk_128 (dk_at dksX4_showEnding_3 14 rfl rfl)
theorem dX4_showEnding_84 : decode cX4_showEnding 84 = .ok (.istore_n 2, 1) := dk_61 (dk_at dksX4_showEnding_3 15 rfl rfl)
theorem dX4_showEnding_85 : decode cX4_showEnding 85 = .ok (.iinc 3 1, 3) := dk_132 3 1 (dk_at dksX4_showEnding_3 16 rfl rfl)
theorem dX4_showEnding_88 : decode cX4_showEnding 88 = .ok (.goto (-66), 3) := dk_167 255 190 (dk_at dksX4_showEnding_3 19 rfl rfl)
theorem dX4_showEnding_91 : decode cX4_showEnding 91 = .ok (.aload_n 0, 1) := dk_42 (dk_at dksX4_showEnding_3 22 rfl rfl)
theorem dX4_showEnding_92 : decode cX4_showEnding 92 = .ok (.getfield 136, 3) := dk_180 0 136 (dk_at dksX4_showEnding_4 0 rfl rfl)
theorem dX4_showEnding_95 : decode cX4_showEnding 95 = .ok (.iload_n 1, 1) := dk_27 (dk_at dksX4_showEnding_4 3 rfl rfl)
theorem dX4_showEnding_96 : decode cX4_showEnding 96 = .ok (.bipush 9, 2) := dk_16 9 (dk_at dksX4_showEnding_4 4 rfl rfl)
theorem dX4_showEnding_98 : decode cX4_showEnding 98 = .ok (.iadd, 1) := dk_96 (dk_at dksX4_showEnding_4 6 rfl rfl)
theorem dX4_showEnding_99 : decode cX4_showEnding 99 = .ok (.aload_n 0, 1) := dk_42 (dk_at dksX4_showEnding_4 7 rfl rfl)
theorem dX4_showEnding_100 : decode cX4_showEnding 100 = .ok (.invokevirtual 363, 3) := dk_182 1 107 (dk_at dksX4_showEnding_4 8 rfl rfl)
theorem dX4_showEnding_103 : decode cX4_showEnding 103 = .ok (.iastore, 1) := dk_79 (dk_at dksX4_showEnding_4 11 rfl rfl)
theorem dX4_showEnding_104 : decode cX4_showEnding 104 = .ok (.aload_n 0, 1) := dk_42 (dk_at dksX4_showEnding_4 12 rfl rfl)
theorem dX4_showEnding_105 : decode cX4_showEnding 105 = .ok (.getfield 136, 3) := dk_180 0 136 (dk_at dksX4_showEnding_4 13 rfl rfl)
theorem dX4_showEnding_108 : decode cX4_showEnding 108 = .ok (.iload_n 1, 1) := dk_27 (dk_at dksX4_showEnding_4 16 rfl rfl)
theorem dX4_showEnding_109 : decode cX4_showEnding 109 = .ok (.bipush 10, 2) := dk_16 10 (dk_at dksX4_showEnding_4 17 rfl rfl)
theorem dX4_showEnding_111 : decode cX4_showEnding 111 = .ok (.iadd, 1) := dk_96 (dk_at dksX4_showEnding_4 19 rfl rfl)
theorem dX4_showEnding_112 : decode cX4_showEnding 112 = .ok (.iload_n 2, 1) := dk_28 (dk_at dksX4_showEnding_4 20 rfl rfl)
theorem dX4_showEnding_113 : decode cX4_showEnding 113 = .ok (.iastore, 1) := dk_79 (dk_at dksX4_showEnding_4 21 rfl rfl)
theorem dX4_showEnding_114 : decode cX4_showEnding 114 = .ok (.aload_n 0, 1) := dk_42 (dk_at dksX4_showEnding_4 22 rfl rfl)
theorem dX4_showEnding_115 : decode cX4_showEnding 115 = .ok (.getfield 463, 3) := dk_180 1 207 (dk_at dksX4_showEnding_5 0 rfl rfl)
theorem dX4_showEnding_118 : decode cX4_showEnding 118 = .ok (.istore_n 3, 1) := dk_62 (dk_at dksX4_showEnding_5 3 rfl rfl)
theorem dX4_showEnding_119 : decode cX4_showEnding 119 = .ok (.iload_n 3, 1) := dk_29 (dk_at dksX4_showEnding_5 4 rfl rfl)
theorem dX4_showEnding_120 : decode cX4_showEnding 120 = .ok (.ifCond .le 101, 3) := dk_158 0 101 (dk_at dksX4_showEnding_5 5 rfl rfl)
theorem dX4_showEnding_123 : decode cX4_showEnding 123 = .ok (.aload_n 0, 1) := dk_42 (dk_at dksX4_showEnding_5 8 rfl rfl)
theorem dX4_showEnding_124 : decode cX4_showEnding 124 = .ok (.getfield 136, 3) := dk_180 0 136 (dk_at dksX4_showEnding_5 9 rfl rfl)
theorem dX4_showEnding_127 : decode cX4_showEnding 127 = .ok (.bipush 11, 2) := dk_16 11 (dk_at dksX4_showEnding_5 12 rfl rfl)
theorem dX4_showEnding_129 : decode cX4_showEnding 129 = .ok (.iload_n 3, 1) := dk_29 (dk_at dksX4_showEnding_5 14 rfl rfl)
theorem dX4_showEnding_130 : decode cX4_showEnding 130 = .ok (.iconst 1, 1) := dk_4 (dk_at dksX4_showEnding_5 15 rfl rfl)
theorem dX4_showEnding_131 : decode cX4_showEnding 131 = .ok (.isub, 1) := dk_100 (dk_at dksX4_showEnding_5 16 rfl rfl)
theorem dX4_showEnding_132 : decode cX4_showEnding 132 = .ok (.imul, 1) := dk_104 (dk_at dksX4_showEnding_5 17 rfl rfl)
theorem dX4_showEnding_133 : decode cX4_showEnding 133 = .ok (.bipush 11, 2) := dk_16 11 (dk_at dksX4_showEnding_5 18 rfl rfl)
theorem dX4_showEnding_135 : decode cX4_showEnding 135 = .ok (.iload_n 3, 1) := dk_29 (dk_at dksX4_showEnding_5 20 rfl rfl)
theorem dX4_showEnding_136 : decode cX4_showEnding 136 = .ok (.imul, 1) := dk_104 (dk_at dksX4_showEnding_5 21 rfl rfl)
theorem dX4_showEnding_137 : decode cX4_showEnding 137 = .ok (.invokestatic 466, 3) := dk_184 1 210 (dk_at dksX4_showEnding_6 0 rfl rfl)
theorem dX4_showEnding_140 : decode cX4_showEnding 140 = .ok (.ifCond .le 81, 3) := dk_158 0 81 (dk_at dksX4_showEnding_6 3 rfl rfl)
theorem dX4_showEnding_143 : decode cX4_showEnding 143 = .ok (.iconst 0, 1) := dk_3 (dk_at dksX4_showEnding_6 6 rfl rfl)
theorem dX4_showEnding_144 : decode cX4_showEnding 144 = .ok (.istore 4, 2) := dk_54 4 (dk_at dksX4_showEnding_6 7 rfl rfl)
theorem dX4_showEnding_146 : decode cX4_showEnding 146 = .ok (.iload 4, 2) := dk_21 4 (dk_at dksX4_showEnding_6 9 rfl rfl)
theorem dX4_showEnding_148 : decode cX4_showEnding 148 = .ok (.bipush 11, 2) := dk_16 11 (dk_at dksX4_showEnding_6 11 rfl rfl)
theorem dX4_showEnding_150 : decode cX4_showEnding 150 = .ok (.if_icmp .ge 65, 3) := dk_162 0 65 (dk_at dksX4_showEnding_6 13 rfl rfl)
theorem dX4_showEnding_153 : decode cX4_showEnding 153 = .ok (.aload_n 0, 1) := dk_42 (dk_at dksX4_showEnding_6 16 rfl rfl)
theorem dX4_showEnding_154 : decode cX4_showEnding 154 = .ok (.getfield 136, 3) := dk_180 0 136 (dk_at dksX4_showEnding_6 17 rfl rfl)
theorem dX4_showEnding_157 : decode cX4_showEnding 157 = .ok (.bipush 11, 2) := dk_16 11 (dk_at dksX4_showEnding_6 20 rfl rfl)
theorem dX4_showEnding_159 : decode cX4_showEnding 159 = .ok (.iload_n 3, 1) := dk_29 (dk_at dksX4_showEnding_6 22 rfl rfl)
theorem dX4_showEnding_160 : decode cX4_showEnding 160 = .ok (.imul, 1) := dk_104 (dk_at dksX4_showEnding_6 23 rfl rfl)
theorem dX4_showEnding_161 : decode cX4_showEnding 161 = .ok (.iload 4, 2) := dk_21 4 (dk_at dksX4_showEnding_7 0 rfl rfl)
theorem dX4_showEnding_163 : decode cX4_showEnding 163 = .ok (.iadd, 1) := dk_96 (dk_at dksX4_showEnding_7 2 rfl rfl)
theorem dX4_showEnding_164 : decode cX4_showEnding 164 = .ok (.iaload, 1) := dk_46 (dk_at dksX4_showEnding_7 3 rfl rfl)
theorem dX4_showEnding_165 : decode cX4_showEnding 165 = .ok (.istore 5, 2) := dk_54 5 (dk_at dksX4_showEnding_7 4 rfl rfl)
theorem dX4_showEnding_167 : decode cX4_showEnding 167 = .ok (.aload_n 0, 1) := dk_42 (dk_at dksX4_showEnding_7 6 rfl rfl)
theorem dX4_showEnding_168 : decode cX4_showEnding 168 = .ok (.getfield 136, 3) := dk_180 0 136 (dk_at dksX4_showEnding_7 7 rfl rfl)
theorem dX4_showEnding_171 : decode cX4_showEnding 171 = .ok (.bipush 11, 2) := dk_16 11 (dk_at dksX4_showEnding_7 10 rfl rfl)
theorem dX4_showEnding_173 : decode cX4_showEnding 173 = .ok (.iload_n 3, 1) := dk_29 (dk_at dksX4_showEnding_7 12 rfl rfl)
theorem dX4_showEnding_174 : decode cX4_showEnding 174 = .ok (.imul, 1) := dk_104 (dk_at dksX4_showEnding_7 13 rfl rfl)
theorem dX4_showEnding_175 : decode cX4_showEnding 175 = .ok (.iload 4, 2) := dk_21 4 (dk_at dksX4_showEnding_7 14 rfl rfl)
theorem dX4_showEnding_177 : decode cX4_showEnding 177 = .ok (.iadd, 1) := dk_96 (dk_at dksX4_showEnding_7 16 rfl rfl)
theorem dX4_showEnding_178 : decode cX4_showEnding 178 = .ok (.aload_n 0, 1) := dk_42 (dk_at dksX4_showEnding_7 17 rfl rfl)
theorem dX4_showEnding_179 : decode cX4_showEnding 179 = .ok (.getfield 136, 3) := dk_180 0 136 (dk_at dksX4_showEnding_7 18 rfl rfl)
theorem dX4_showEnding_182 : decode cX4_showEnding 182 = .ok (.bipush 11, 2) := dk_16 11 (dk_at dksX4_showEnding_7 21 rfl rfl)
theorem dX4_showEnding_184 : decode cX4_showEnding 184 = .ok (.iload_n 3, 1) := dk_29 (dk_at dksX4_showEnding_7 23 rfl rfl)
theorem dX4_showEnding_185 : decode cX4_showEnding 185 = .ok (.iconst 1, 1) := dk_4 (dk_at dksX4_showEnding_8 0 rfl rfl)
theorem dX4_showEnding_186 : decode cX4_showEnding 186 = .ok (.isub, 1) := dk_100 (dk_at dksX4_showEnding_8 1 rfl rfl)
theorem dX4_showEnding_187 : decode cX4_showEnding 187 = .ok (.imul, 1) := dk_104 (dk_at dksX4_showEnding_8 2 rfl rfl)
theorem dX4_showEnding_188 : decode cX4_showEnding 188 = .ok (.iload 4, 2) := dk_21 4 (dk_at dksX4_showEnding_8 3 rfl rfl)
theorem dX4_showEnding_190 : decode cX4_showEnding 190 = .ok (.iadd, 1) := dk_96 (dk_at dksX4_showEnding_8 5 rfl rfl)
theorem dX4_showEnding_191 : decode cX4_showEnding 191 = .ok (.iaload, 1) := dk_46 (dk_at dksX4_showEnding_8 6 rfl rfl)
theorem dX4_showEnding_192 : decode cX4_showEnding 192 = .ok (.iastore, 1) := dk_79 (dk_at dksX4_showEnding_8 7 rfl rfl)
theorem dX4_showEnding_193 : decode cX4_showEnding 193 = .ok (.aload_n 0, 1) := dk_42 (dk_at dksX4_showEnding_8 8 rfl rfl)
theorem dX4_showEnding_194 : decode cX4_showEnding 194 = .ok (.getfield 136, 3) := dk_180 0 136 (dk_at dksX4_showEnding_8 9 rfl rfl)
theorem dX4_showEnding_197 : decode cX4_showEnding 197 = .ok (.bipush 11, 2) := dk_16 11 (dk_at dksX4_showEnding_8 12 rfl rfl)
theorem dX4_showEnding_199 : decode cX4_showEnding 199 = .ok (.iload_n 3, 1) := dk_29 (dk_at dksX4_showEnding_8 14 rfl rfl)
theorem dX4_showEnding_200 : decode cX4_showEnding 200 = .ok (.iconst 1, 1) := dk_4 (dk_at dksX4_showEnding_8 15 rfl rfl)
theorem dX4_showEnding_201 : decode cX4_showEnding 201 = .ok (.isub, 1) := dk_100 (dk_at dksX4_showEnding_8 16 rfl rfl)
theorem dX4_showEnding_202 : decode cX4_showEnding 202 = .ok (.imul, 1) := dk_104 (dk_at dksX4_showEnding_8 17 rfl rfl)
theorem dX4_showEnding_203 : decode cX4_showEnding 203 = .ok (.iload 4, 2) := dk_21 4 (dk_at dksX4_showEnding_8 18 rfl rfl)
theorem dX4_showEnding_205 : decode cX4_showEnding 205 = .ok (.iadd, 1) := dk_96 (dk_at dksX4_showEnding_8 20 rfl rfl)
theorem dX4_showEnding_206 : decode cX4_showEnding 206 = .ok (.iload 5, 2) := dk_21 5 (dk_at dksX4_showEnding_8 21 rfl rfl)
theorem dX4_showEnding_208 : decode cX4_showEnding 208 = .ok (.iastore, 1) := dk_79 (dk_at dksX4_showEnding_8 23 rfl rfl)
theorem dX4_showEnding_209 : decode cX4_showEnding 209 = .ok (.iinc 4 1, 3) := dk_132 4 1 (dk_at dksX4_showEnding_9 0 rfl rfl)
theorem dX4_showEnding_212 : decode cX4_showEnding 212 = .ok (.goto (-66), 3) := dk_167 255 190 (dk_at dksX4_showEnding_9 3 rfl rfl)
theorem dX4_showEnding_215 : decode cX4_showEnding 215 = .ok (.iinc 3 (-1), 3) := dk_132 3 255 (dk_at dksX4_showEnding_9 6 rfl rfl)
theorem dX4_showEnding_218 : decode cX4_showEnding 218 = .ok (.goto (-99), 3) := dk_167 255 157 (dk_at dksX4_showEnding_9 9 rfl rfl)
theorem dX4_showEnding_221 : decode cX4_showEnding 221 = .ok (.iload_n 3, 1) := dk_29 (dk_at dksX4_showEnding_9 12 rfl rfl)
theorem dX4_showEnding_222 : decode cX4_showEnding 222 = .ok (.ifCond .le 27, 3) := dk_158 0 27 (dk_at dksX4_showEnding_9 13 rfl rfl)
theorem dX4_showEnding_225 : decode cX4_showEnding 225 = .ok (.aload_n 0, 1) := dk_42 (dk_at dksX4_showEnding_9 16 rfl rfl)
theorem dX4_showEnding_226 : decode cX4_showEnding 226 = .ok (.getfield 136, 3) := dk_180 0 136 (dk_at dksX4_showEnding_9 17 rfl rfl)
theorem dX4_showEnding_229 : decode cX4_showEnding 229 = .ok (.bipush 11, 2) := dk_16 11 (dk_at dksX4_showEnding_9 20 rfl rfl)
theorem dX4_showEnding_231 : decode cX4_showEnding 231 = .ok (.iload_n 3, 1) := dk_29 (dk_at dksX4_showEnding_9 22 rfl rfl)
theorem dX4_showEnding_232 : decode cX4_showEnding 232 = .ok (.iconst 1, 1) := dk_4 (dk_at dksX4_showEnding_9 23 rfl rfl)
theorem dX4_showEnding_233 : decode cX4_showEnding 233 = .ok (.isub, 1) := dk_100 (dk_at dksX4_showEnding_10 0 rfl rfl)
theorem dX4_showEnding_234 : decode cX4_showEnding 234 = .ok (.imul, 1) := dk_104 (dk_at dksX4_showEnding_10 1 rfl rfl)
theorem dX4_showEnding_235 : decode cX4_showEnding 235 = .ok (.bipush 11, 2) := dk_16 11 (dk_at dksX4_showEnding_10 2 rfl rfl)
theorem dX4_showEnding_237 : decode cX4_showEnding 237 = .ok (.iload_n 3, 1) := dk_29 (dk_at dksX4_showEnding_10 4 rfl rfl)
theorem dX4_showEnding_238 : decode cX4_showEnding 238 = .ok (.imul, 1) := dk_104 (dk_at dksX4_showEnding_10 5 rfl rfl)
theorem dX4_showEnding_239 : decode cX4_showEnding 239 = .ok (.invokestatic 466, 3) := dk_184 1 210 (dk_at dksX4_showEnding_10 6 rfl rfl)
theorem dX4_showEnding_242 : decode cX4_showEnding 242 = .ok (.ifCond .ne 7, 3) := dk_154 0 7 (dk_at dksX4_showEnding_10 9 rfl rfl)
theorem dX4_showEnding_245 : decode cX4_showEnding 245 = .ok (.iconst 1, 1) := dk_4 (dk_at dksX4_showEnding_10 12 rfl rfl)
theorem dX4_showEnding_246 : decode cX4_showEnding 246 = .ok (.goto 4, 3) := dk_167 0 4 (dk_at dksX4_showEnding_10 13 rfl rfl)
theorem dX4_showEnding_249 : decode cX4_showEnding 249 = .ok (.iconst 0, 1) := dk_3 (dk_at dksX4_showEnding_10 16 rfl rfl)
theorem dX4_showEnding_250 : decode cX4_showEnding 250 = .ok (.istore 4, 2) := dk_54 4 (dk_at dksX4_showEnding_10 17 rfl rfl)
theorem dX4_showEnding_252 : decode cX4_showEnding 252 = .ok (.iload 4, 2) := dk_21 4 (dk_at dksX4_showEnding_10 19 rfl rfl)
theorem dX4_showEnding_254 : decode cX4_showEnding 254 = .ok (.ifCond .ne 14, 3) := dk_154 0 14 (dk_at dksX4_showEnding_10 21 rfl rfl)
theorem dX4_showEnding_257 : decode cX4_showEnding 257 = .ok (.aload_n 0, 1) := dk_42 (dk_at dksX4_showEnding_11 0 rfl rfl)
theorem dX4_showEnding_258 : decode cX4_showEnding 258 = .ok (.dup, 1) := dk_89 (dk_at dksX4_showEnding_11 1 rfl rfl)
theorem dX4_showEnding_259 : decode cX4_showEnding 259 = .ok (.getfield 463, 3) := dk_180 1 207 (dk_at dksX4_showEnding_11 2 rfl rfl)
theorem dX4_showEnding_262 : decode cX4_showEnding 262 = .ok (.iconst 1, 1) := dk_4 (dk_at dksX4_showEnding_11 5 rfl rfl)
theorem dX4_showEnding_263 : decode cX4_showEnding 263 = .ok (.iadd, 1) := dk_96 (dk_at dksX4_showEnding_11 6 rfl rfl)
theorem dX4_showEnding_264 : decode cX4_showEnding 264 = .ok (.putfield 463, 3) := dk_181 1 207 (dk_at dksX4_showEnding_11 7 rfl rfl)
theorem dX4_showEnding_267 : decode cX4_showEnding 267 = .ok (.return_, 1) := dk_177 (dk_at dksX4_showEnding_11 10 rfl rfl)
theorem dX4_showEnding_268 : decode cX4_showEnding 268 = .ok (.bipush 11, 2) := dk_16 11 (dk_at dksX4_showEnding_11 11 rfl rfl)
theorem dX4_showEnding_270 : decode cX4_showEnding 270 = .ok (.iload_n 3, 1) := dk_29 (dk_at dksX4_showEnding_11 13 rfl rfl)
theorem dX4_showEnding_271 : decode cX4_showEnding 271 = .ok (.imul, 1) := dk_104 (dk_at dksX4_showEnding_11 14 rfl rfl)
theorem dX4_showEnding_272 : decode cX4_showEnding 272 = .ok (.istore 5, 2) := dk_54 5 (dk_at dksX4_showEnding_11 15 rfl rfl)
theorem dX4_showEnding_274 : decode cX4_showEnding 274 = .ok (.iload 5, 2) := dk_21 5 (dk_at dksX4_showEnding_11 17 rfl rfl)
theorem dX4_showEnding_276 : decode cX4_showEnding 276 = .ok (.bipush 11, 2) := dk_16 11 (dk_at dksX4_showEnding_11 19 rfl rfl)
theorem dX4_showEnding_278 : decode cX4_showEnding 278 = .ok (.aload_n 0, 1) := dk_42 (dk_at dksX4_showEnding_11 21 rfl rfl)
theorem dX4_showEnding_279 : decode cX4_showEnding 279 = .ok (.getfield 463, 3) := dk_180 1 207 (dk_at dksX4_showEnding_12 0 rfl rfl)
theorem dX4_showEnding_282 : decode cX4_showEnding 282 = .ok (.imul, 1) := dk_104 (dk_at dksX4_showEnding_12 3 rfl rfl)
theorem dX4_showEnding_283 : decode cX4_showEnding 283 = .ok (.if_icmp .ge 26, 3) := dk_162 0 26 (dk_at dksX4_showEnding_12 4 rfl rfl)
theorem dX4_showEnding_286 : decode cX4_showEnding 286 = .ok (.aload_n 0, 1) := dk_42 (dk_at dksX4_showEnding_12 7 rfl rfl)
theorem dX4_showEnding_287 : decode cX4_showEnding 287 = .ok (.getfield 136, 3) := dk_180 0 136 (dk_at dksX4_showEnding_12 8 rfl rfl)
theorem dX4_showEnding_290 : decode cX4_showEnding 290 = .ok (.iload 5, 2) := dk_21 5 (dk_at dksX4_showEnding_12 11 rfl rfl)
theorem dX4_showEnding_292 : decode cX4_showEnding 292 = .ok (.aload_n 0, 1) := dk_42 (dk_at dksX4_showEnding_12 13 rfl rfl)
theorem dX4_showEnding_293 : decode cX4_showEnding 293 = .ok (.getfield 136, 3) := dk_180 0 136 (dk_at dksX4_showEnding_12 14 rfl rfl)
theorem dX4_showEnding_296 : decode cX4_showEnding 296 = .ok (.iload 5, 2) := dk_21 5 (dk_at dksX4_showEnding_12 17 rfl rfl)
theorem dX4_showEnding_298 : decode cX4_showEnding 298 = .ok (.bipush 11, 2) := dk_16 11 (dk_at dksX4_showEnding_12 19 rfl rfl)
theorem dX4_showEnding_300 : decode cX4_showEnding 300 = .ok (.iadd, 1) := dk_96 (dk_at dksX4_showEnding_12 21 rfl rfl)
theorem dX4_showEnding_301 : decode cX4_showEnding 301 = .ok (.iaload, 1) := dk_46 (dk_at dksX4_showEnding_12 22 rfl rfl)
theorem dX4_showEnding_302 : decode cX4_showEnding 302 = .ok (.iastore, 1) := dk_79 (dk_at dksX4_showEnding_12 23 rfl rfl)
theorem dX4_showEnding_303 : decode cX4_showEnding 303 = .ok (.iinc 5 1, 3) := dk_132 5 1 (dk_at dksX4_showEnding_13 0 rfl rfl)
theorem dX4_showEnding_306 : decode cX4_showEnding 306 = .ok (.goto (-32), 3) := dk_167 255 224 (dk_at dksX4_showEnding_13 3 rfl rfl)
theorem dX4_showEnding_309 : decode cX4_showEnding 309 = .ok (.return_, 1) := dk_177 (dk_at dksX4_showEnding_13 6 rfl rfl)
abbrev cX4_kindNow : ByteArray := prog_21_method_69_code
def yX4_kindNow : MethodName := ⟨RX4, "kindNow", "()I"⟩
def dkwX4_kindNow_3 : List UInt8 := [4, 167, 0, 4, 5, 172]
abbrev dktX4_kindNow_3 : List UInt8 := dkwX4_kindNow_3 ++ []
def dkwX4_kindNow_2 : List UInt8 := [4, 167, 0, 4, 3, 61, 132, 3, 1, 167, 255, 205, 27, 153, 0, 7, 3, 167, 0, 12, 28, 153, 0, 7]
abbrev dktX4_kindNow_2 : List UInt8 := dkwX4_kindNow_2 ++ dktX4_kindNow_3
def dkwX4_kindNow_1 : List UInt8 := [2, 160, 0, 7, 4, 167, 0, 4, 3, 60, 28, 154, 0, 13, 42, 29, 4, 182, 1, 81, 4, 160, 0, 7]
abbrev dktX4_kindNow_1 : List UInt8 := dkwX4_kindNow_1 ++ dktX4_kindNow_2
def dkwX4_kindNow_0 : List UInt8 := [4, 60, 3, 61, 3, 62, 29, 42, 180, 0, 54, 162, 0, 49, 27, 153, 0, 17, 42, 29, 3, 182, 1, 81]
abbrev dktX4_kindNow_0 : List UInt8 := dkwX4_kindNow_0 ++ dktX4_kindNow_1
theorem dksX4_kindNow_0 : cX4_kindNow.data.toList.drop 0 = dktX4_kindNow_0 := by decide +kernel
theorem dksX4_kindNow_1 : cX4_kindNow.data.toList.drop 24 = dktX4_kindNow_1 := dk_seg dksX4_kindNow_0 24 rfl rfl
theorem dksX4_kindNow_2 : cX4_kindNow.data.toList.drop 48 = dktX4_kindNow_2 := dk_seg dksX4_kindNow_1 24 rfl rfl
theorem dksX4_kindNow_3 : cX4_kindNow.data.toList.drop 72 = dktX4_kindNow_3 := dk_seg dksX4_kindNow_2 24 rfl rfl
theorem dX4_kindNow_0 : decode cX4_kindNow 0 = .ok (.iconst 1, 1) := dk_4 (dk_at dksX4_kindNow_0 0 rfl rfl)
theorem dX4_kindNow_1 : decode cX4_kindNow 1 = .ok (.istore_n 1, 1) := dk_60 (dk_at dksX4_kindNow_0 1 rfl rfl)
theorem dX4_kindNow_2 : decode cX4_kindNow 2 = .ok (.iconst 0, 1) := dk_3 (dk_at dksX4_kindNow_0 2 rfl rfl)
theorem dX4_kindNow_3 : decode cX4_kindNow 3 = .ok (.istore_n 2, 1) := dk_61 (dk_at dksX4_kindNow_0 3 rfl rfl)
theorem dX4_kindNow_4 : decode cX4_kindNow 4 = .ok (.iconst 0, 1) := dk_3 (dk_at dksX4_kindNow_0 4 rfl rfl)
theorem dX4_kindNow_5 : decode cX4_kindNow 5 = .ok (.istore_n 3, 1) := dk_62 (dk_at dksX4_kindNow_0 5 rfl rfl)
theorem dX4_kindNow_6 : decode cX4_kindNow 6 = .ok (.iload_n 3, 1) := dk_29 (dk_at dksX4_kindNow_0 6 rfl rfl)
theorem dX4_kindNow_7 : decode cX4_kindNow 7 = .ok (.aload_n 0, 1) := dk_42 (dk_at dksX4_kindNow_0 7 rfl rfl)
theorem dX4_kindNow_8 : decode cX4_kindNow 8 = .ok (.getfield 54, 3) := dk_180 0 54 (dk_at dksX4_kindNow_0 8 rfl rfl)
theorem dX4_kindNow_11 : decode cX4_kindNow 11 = .ok (.if_icmp .ge 49, 3) := dk_162 0 49 (dk_at dksX4_kindNow_0 11 rfl rfl)
theorem dX4_kindNow_14 : decode cX4_kindNow 14 = .ok (.iload_n 1, 1) := dk_27 (dk_at dksX4_kindNow_0 14 rfl rfl)
theorem dX4_kindNow_15 : decode cX4_kindNow 15 = .ok (.ifCond .eq 17, 3) := dk_153 0 17 (dk_at dksX4_kindNow_0 15 rfl rfl)
theorem dX4_kindNow_18 : decode cX4_kindNow 18 = .ok (.aload_n 0, 1) := dk_42 (dk_at dksX4_kindNow_0 18 rfl rfl)
theorem dX4_kindNow_19 : decode cX4_kindNow 19 = .ok (.iload_n 3, 1) := dk_29 (dk_at dksX4_kindNow_0 19 rfl rfl)
theorem dX4_kindNow_20 : decode cX4_kindNow 20 = .ok (.iconst 0, 1) := dk_3 (dk_at dksX4_kindNow_0 20 rfl rfl)
theorem dX4_kindNow_21 : decode cX4_kindNow 21 = .ok (.invokevirtual 337, 3) := dk_182 1 81 (dk_at dksX4_kindNow_0 21 rfl rfl)
theorem dX4_kindNow_24 : decode cX4_kindNow 24 = .ok (.iconst (-1), 1) := dk_2 (dk_at dksX4_kindNow_1 0 rfl rfl)
theorem dX4_kindNow_25 : decode cX4_kindNow 25 = .ok (.if_icmp .ne 7, 3) := dk_160 0 7 (dk_at dksX4_kindNow_1 1 rfl rfl)
theorem dX4_kindNow_28 : decode cX4_kindNow 28 = .ok (.iconst 1, 1) := dk_4 (dk_at dksX4_kindNow_1 4 rfl rfl)
theorem dX4_kindNow_29 : decode cX4_kindNow 29 = .ok (.goto 4, 3) := dk_167 0 4 (dk_at dksX4_kindNow_1 5 rfl rfl)
theorem dX4_kindNow_32 : decode cX4_kindNow 32 = .ok (.iconst 0, 1) := dk_3 (dk_at dksX4_kindNow_1 8 rfl rfl)
theorem dX4_kindNow_33 : decode cX4_kindNow 33 = .ok (.istore_n 1, 1) := dk_60 (dk_at dksX4_kindNow_1 9 rfl rfl)
theorem dX4_kindNow_34 : decode cX4_kindNow 34 = .ok (.iload_n 2, 1) := dk_28 (dk_at dksX4_kindNow_1 10 rfl rfl)
theorem dX4_kindNow_35 : decode cX4_kindNow 35 = .ok (.ifCond .ne 13, 3) := dk_154 0 13 (dk_at dksX4_kindNow_1 11 rfl rfl)
theorem dX4_kindNow_38 : decode cX4_kindNow 38 = .ok (.aload_n 0, 1) := dk_42 (dk_at dksX4_kindNow_1 14 rfl rfl)
theorem dX4_kindNow_39 : decode cX4_kindNow 39 = .ok (.iload_n 3, 1) := dk_29 (dk_at dksX4_kindNow_1 15 rfl rfl)
theorem dX4_kindNow_40 : decode cX4_kindNow 40 = .ok (.iconst 1, 1) := dk_4 (dk_at dksX4_kindNow_1 16 rfl rfl)
theorem dX4_kindNow_41 : decode cX4_kindNow 41 = .ok (.invokevirtual 337, 3) := dk_182 1 81 (dk_at dksX4_kindNow_1 17 rfl rfl)
theorem dX4_kindNow_44 : decode cX4_kindNow 44 = .ok (.iconst 1, 1) := dk_4 (dk_at dksX4_kindNow_1 20 rfl rfl)
theorem dX4_kindNow_45 : decode cX4_kindNow 45 = .ok (.if_icmp .ne 7, 3) := dk_160 0 7 (dk_at dksX4_kindNow_1 21 rfl rfl)
theorem dX4_kindNow_48 : decode cX4_kindNow 48 = .ok (.iconst 1, 1) := dk_4 (dk_at dksX4_kindNow_2 0 rfl rfl)
theorem dX4_kindNow_49 : decode cX4_kindNow 49 = .ok (.goto 4, 3) := dk_167 0 4 (dk_at dksX4_kindNow_2 1 rfl rfl)
theorem dX4_kindNow_52 : decode cX4_kindNow 52 = .ok (.iconst 0, 1) := dk_3 (dk_at dksX4_kindNow_2 4 rfl rfl)
theorem dX4_kindNow_53 : decode cX4_kindNow 53 = .ok (.istore_n 2, 1) := dk_61 (dk_at dksX4_kindNow_2 5 rfl rfl)
theorem dX4_kindNow_54 : decode cX4_kindNow 54 = .ok (.iinc 3 1, 3) := dk_132 3 1 (dk_at dksX4_kindNow_2 6 rfl rfl)
theorem dX4_kindNow_57 : decode cX4_kindNow 57 = .ok (.goto (-51), 3) := dk_167 255 205 (dk_at dksX4_kindNow_2 9 rfl rfl)
theorem dX4_kindNow_60 : decode cX4_kindNow 60 = .ok (.iload_n 1, 1) := dk_27 (dk_at dksX4_kindNow_2 12 rfl rfl)
theorem dX4_kindNow_61 : decode cX4_kindNow 61 = .ok (.ifCond .eq 7, 3) := dk_153 0 7 (dk_at dksX4_kindNow_2 13 rfl rfl)
theorem dX4_kindNow_64 : decode cX4_kindNow 64 = .ok (.iconst 0, 1) := dk_3 (dk_at dksX4_kindNow_2 16 rfl rfl)
theorem dX4_kindNow_65 : decode cX4_kindNow 65 = .ok (.goto 12, 3) := dk_167 0 12 (dk_at dksX4_kindNow_2 17 rfl rfl)
theorem dX4_kindNow_68 : decode cX4_kindNow 68 = .ok (.iload_n 2, 1) := dk_28 (dk_at dksX4_kindNow_2 20 rfl rfl)
theorem dX4_kindNow_69 : decode cX4_kindNow 69 = .ok (.ifCond .eq 7, 3) := dk_153 0 7 (dk_at dksX4_kindNow_2 21 rfl rfl)
theorem dX4_kindNow_72 : decode cX4_kindNow 72 = .ok (.iconst 1, 1) := dk_4 (dk_at dksX4_kindNow_3 0 rfl rfl)
theorem dX4_kindNow_73 : decode cX4_kindNow 73 = .ok (.goto 4, 3) := dk_167 0 4 (dk_at dksX4_kindNow_3 1 rfl rfl)
theorem dX4_kindNow_76 : decode cX4_kindNow 76 = .ok (.iconst 2, 1) := dk_5 (dk_at dksX4_kindNow_3 4 rfl rfl)
theorem dX4_kindNow_77 : decode cX4_kindNow 77 = .ok (.ireturn, 1) := dk_172 (dk_at dksX4_kindNow_3 5 rfl rfl)
abbrev cX4_compare : ByteArray := prog_21_method_71_code
def yX4_compare : MethodName := ⟨RX4, "compare", "([III)I"⟩
def dkwX4_compare_1 : List UInt8 := [96, 46, 42, 28, 29, 96, 46, 162, 0, 7, 2, 167, 0, 4, 4, 172, 132, 3, 1, 167, 255, 215, 3, 172]
abbrev dktX4_compare_1 : List UInt8 := dkwX4_compare_1 ++ []
def dkwX4_compare_0 : List UInt8 := [3, 62, 29, 16, 11, 162, 0, 41, 42, 27, 29, 96, 46, 42, 28, 29, 96, 46, 159, 0, 22, 42, 27, 29]
abbrev dktX4_compare_0 : List UInt8 := dkwX4_compare_0 ++ dktX4_compare_1
theorem dksX4_compare_0 : cX4_compare.data.toList.drop 0 = dktX4_compare_0 := by decide +kernel
theorem dksX4_compare_1 : cX4_compare.data.toList.drop 24 = dktX4_compare_1 := dk_seg dksX4_compare_0 24 rfl rfl
theorem dX4_compare_0 : decode cX4_compare 0 = .ok (.iconst 0, 1) := dk_3 (dk_at dksX4_compare_0 0 rfl rfl)
theorem dX4_compare_1 : decode cX4_compare 1 = .ok (.istore_n 3, 1) := dk_62 (dk_at dksX4_compare_0 1 rfl rfl)
theorem dX4_compare_2 : decode cX4_compare 2 = .ok (.iload_n 3, 1) := dk_29 (dk_at dksX4_compare_0 2 rfl rfl)
theorem dX4_compare_3 : decode cX4_compare 3 = .ok (.bipush 11, 2) := dk_16 11 (dk_at dksX4_compare_0 3 rfl rfl)
theorem dX4_compare_5 : decode cX4_compare 5 = .ok (.if_icmp .ge 41, 3) := dk_162 0 41 (dk_at dksX4_compare_0 5 rfl rfl)
theorem dX4_compare_8 : decode cX4_compare 8 = .ok (.aload_n 0, 1) := dk_42 (dk_at dksX4_compare_0 8 rfl rfl)
theorem dX4_compare_9 : decode cX4_compare 9 = .ok (.iload_n 1, 1) := dk_27 (dk_at dksX4_compare_0 9 rfl rfl)
theorem dX4_compare_10 : decode cX4_compare 10 = .ok (.iload_n 3, 1) := dk_29 (dk_at dksX4_compare_0 10 rfl rfl)
theorem dX4_compare_11 : decode cX4_compare 11 = .ok (.iadd, 1) := dk_96 (dk_at dksX4_compare_0 11 rfl rfl)
theorem dX4_compare_12 : decode cX4_compare 12 = .ok (.iaload, 1) := dk_46 (dk_at dksX4_compare_0 12 rfl rfl)
theorem dX4_compare_13 : decode cX4_compare 13 = .ok (.aload_n 0, 1) := dk_42 (dk_at dksX4_compare_0 13 rfl rfl)
theorem dX4_compare_14 : decode cX4_compare 14 = .ok (.iload_n 2, 1) := dk_28 (dk_at dksX4_compare_0 14 rfl rfl)
theorem dX4_compare_15 : decode cX4_compare 15 = .ok (.iload_n 3, 1) := dk_29 (dk_at dksX4_compare_0 15 rfl rfl)
theorem dX4_compare_16 : decode cX4_compare 16 = .ok (.iadd, 1) := dk_96 (dk_at dksX4_compare_0 16 rfl rfl)
theorem dX4_compare_17 : decode cX4_compare 17 = .ok (.iaload, 1) := dk_46 (dk_at dksX4_compare_0 17 rfl rfl)
theorem dX4_compare_18 : decode cX4_compare 18 = .ok (.if_icmp .eq 22, 3) := dk_159 0 22 (dk_at dksX4_compare_0 18 rfl rfl)
theorem dX4_compare_21 : decode cX4_compare 21 = .ok (.aload_n 0, 1) := dk_42 (dk_at dksX4_compare_0 21 rfl rfl)
theorem dX4_compare_22 : decode cX4_compare 22 = .ok (.iload_n 1, 1) := dk_27 (dk_at dksX4_compare_0 22 rfl rfl)
theorem dX4_compare_23 : decode cX4_compare 23 = .ok (.iload_n 3, 1) := dk_29 (dk_at dksX4_compare_0 23 rfl rfl)
theorem dX4_compare_24 : decode cX4_compare 24 = .ok (.iadd, 1) := dk_96 (dk_at dksX4_compare_1 0 rfl rfl)
theorem dX4_compare_25 : decode cX4_compare 25 = .ok (.iaload, 1) := dk_46 (dk_at dksX4_compare_1 1 rfl rfl)
theorem dX4_compare_26 : decode cX4_compare 26 = .ok (.aload_n 0, 1) := dk_42 (dk_at dksX4_compare_1 2 rfl rfl)
theorem dX4_compare_27 : decode cX4_compare 27 = .ok (.iload_n 2, 1) := dk_28 (dk_at dksX4_compare_1 3 rfl rfl)
theorem dX4_compare_28 : decode cX4_compare 28 = .ok (.iload_n 3, 1) := dk_29 (dk_at dksX4_compare_1 4 rfl rfl)
theorem dX4_compare_29 : decode cX4_compare 29 = .ok (.iadd, 1) := dk_96 (dk_at dksX4_compare_1 5 rfl rfl)
theorem dX4_compare_30 : decode cX4_compare 30 = .ok (.iaload, 1) := dk_46 (dk_at dksX4_compare_1 6 rfl rfl)
theorem dX4_compare_31 : decode cX4_compare 31 = .ok (.if_icmp .ge 7, 3) := dk_162 0 7 (dk_at dksX4_compare_1 7 rfl rfl)
theorem dX4_compare_34 : decode cX4_compare 34 = .ok (.iconst (-1), 1) := dk_2 (dk_at dksX4_compare_1 10 rfl rfl)
theorem dX4_compare_35 : decode cX4_compare 35 = .ok (.goto 4, 3) := dk_167 0 4 (dk_at dksX4_compare_1 11 rfl rfl)
theorem dX4_compare_38 : decode cX4_compare 38 = .ok (.iconst 1, 1) := dk_4 (dk_at dksX4_compare_1 14 rfl rfl)
theorem dX4_compare_39 : decode cX4_compare 39 = .ok (.ireturn, 1) := dk_172 (dk_at dksX4_compare_1 15 rfl rfl)
theorem dX4_compare_40 : decode cX4_compare 40 = .ok (.iinc 3 1, 3) := dk_132 3 1 (dk_at dksX4_compare_1 16 rfl rfl)
theorem dX4_compare_43 : decode cX4_compare 43 = .ok (.goto (-41), 3) := dk_167 255 215 (dk_at dksX4_compare_1 19 rfl rfl)
theorem dX4_compare_46 : decode cX4_compare 46 = .ok (.iconst 0, 1) := dk_3 (dk_at dksX4_compare_1 22 rfl rfl)
theorem dX4_compare_47 : decode cX4_compare 47 = .ok (.ireturn, 1) := dk_172 (dk_at dksX4_compare_1 23 rfl rfl)
abbrev cX4_endings : ByteArray := prog_21_method_75_code
def yX4_endings : MethodName := ⟨RX4, "endings", "(I)I"⟩
def dkwX4_endings_3 : List UInt8 := [167, 255, 219, 28, 172]
abbrev dktX4_endings_3 : List UInt8 := dkwX4_endings_3 ++ []
def dkwX4_endings_2 : List UInt8 := [42, 180, 0, 136, 16, 11, 29, 104, 46, 27, 160, 0, 7, 4, 167, 0, 4, 3, 96, 61, 132, 3, 1]
abbrev dktX4_endings_2 : List UInt8 := dkwX4_endings_2 ++ dktX4_endings_3
def dkwX4_endings_1 : List UInt8 := [154, 0, 6, 16, 254, 172, 3, 61, 3, 62, 29, 42, 180, 1, 207, 162, 0, 35, 28, 27, 2, 159, 0, 16]
abbrev dktX4_endings_1 : List UInt8 := dkwX4_endings_1 ++ dktX4_endings_2
def dkwX4_endings_0 : List UInt8 := [42, 3, 181, 0, 175, 27, 2, 5, 184, 1, 20, 154, 0, 9, 42, 4, 182, 1, 57, 172, 42, 182, 1, 227]
abbrev dktX4_endings_0 : List UInt8 := dkwX4_endings_0 ++ dktX4_endings_1
theorem dksX4_endings_0 : cX4_endings.data.toList.drop 0 = dktX4_endings_0 := by decide +kernel
theorem dksX4_endings_1 : cX4_endings.data.toList.drop 24 = dktX4_endings_1 := dk_seg dksX4_endings_0 24 rfl rfl
theorem dksX4_endings_2 : cX4_endings.data.toList.drop 48 = dktX4_endings_2 := dk_seg dksX4_endings_1 24 rfl rfl
theorem dksX4_endings_3 : cX4_endings.data.toList.drop 71 = dktX4_endings_3 := dk_seg dksX4_endings_2 23 rfl rfl
theorem dX4_endings_0 : decode cX4_endings 0 = .ok (.aload_n 0, 1) := dk_42 (dk_at dksX4_endings_0 0 rfl rfl)
theorem dX4_endings_1 : decode cX4_endings 1 = .ok (.iconst 0, 1) := dk_3 (dk_at dksX4_endings_0 1 rfl rfl)
theorem dX4_endings_2 : decode cX4_endings 2 = .ok (.putfield 175, 3) := dk_181 0 175 (dk_at dksX4_endings_0 2 rfl rfl)
theorem dX4_endings_5 : decode cX4_endings 5 = .ok (.iload_n 1, 1) := dk_27 (dk_at dksX4_endings_0 5 rfl rfl)
theorem dX4_endings_6 : decode cX4_endings 6 = .ok (.iconst (-1), 1) := dk_2 (dk_at dksX4_endings_0 6 rfl rfl)
theorem dX4_endings_7 : decode cX4_endings 7 = .ok (.iconst 2, 1) := dk_5 (dk_at dksX4_endings_0 7 rfl rfl)
theorem dX4_endings_8 : decode cX4_endings 8 = .ok (.invokestatic 276, 3) := dk_184 1 20 (dk_at dksX4_endings_0 8 rfl rfl)
theorem dX4_endings_11 : decode cX4_endings 11 = .ok (.ifCond .ne 9, 3) := dk_154 0 9 (dk_at dksX4_endings_0 11 rfl rfl)
theorem dX4_endings_14 : decode cX4_endings 14 = .ok (.aload_n 0, 1) := dk_42 (dk_at dksX4_endings_0 14 rfl rfl)
theorem dX4_endings_15 : decode cX4_endings 15 = .ok (.iconst 1, 1) := dk_4 (dk_at dksX4_endings_0 15 rfl rfl)
theorem dX4_endings_16 : decode cX4_endings 16 = .ok (.invokevirtual 313, 3) := dk_182 1 57 (dk_at dksX4_endings_0 16 rfl rfl)
theorem dX4_endings_19 : decode cX4_endings 19 = .ok (.ireturn, 1) := dk_172 (dk_at dksX4_endings_0 19 rfl rfl)
theorem dX4_endings_20 : decode cX4_endings 20 = .ok (.aload_n 0, 1) := dk_42 (dk_at dksX4_endings_0 20 rfl rfl)
theorem dX4_endings_21 : decode cX4_endings 21 = .ok (.invokevirtual 483, 3) := dk_182 1 227 (dk_at dksX4_endings_0 21 rfl rfl)
theorem dX4_endings_24 : decode cX4_endings 24 = .ok (.ifCond .ne 6, 3) := dk_154 0 6 (dk_at dksX4_endings_1 0 rfl rfl)
theorem dX4_endings_27 : decode cX4_endings 27 = .ok (.bipush (-2), 2) := dk_16 254 (dk_at dksX4_endings_1 3 rfl rfl)
theorem dX4_endings_29 : decode cX4_endings 29 = .ok (.ireturn, 1) := dk_172 (dk_at dksX4_endings_1 5 rfl rfl)
theorem dX4_endings_30 : decode cX4_endings 30 = .ok (.iconst 0, 1) := dk_3 (dk_at dksX4_endings_1 6 rfl rfl)
theorem dX4_endings_31 : decode cX4_endings 31 = .ok (.istore_n 2, 1) := dk_61 (dk_at dksX4_endings_1 7 rfl rfl)
theorem dX4_endings_32 : decode cX4_endings 32 = .ok (.iconst 0, 1) := dk_3 (dk_at dksX4_endings_1 8 rfl rfl)
theorem dX4_endings_33 : decode cX4_endings 33 = .ok (.istore_n 3, 1) := dk_62 (dk_at dksX4_endings_1 9 rfl rfl)
theorem dX4_endings_34 : decode cX4_endings 34 = .ok (.iload_n 3, 1) := dk_29 (dk_at dksX4_endings_1 10 rfl rfl)
theorem dX4_endings_35 : decode cX4_endings 35 = .ok (.aload_n 0, 1) := dk_42 (dk_at dksX4_endings_1 11 rfl rfl)
theorem dX4_endings_36 : decode cX4_endings 36 = .ok (.getfield 463, 3) := dk_180 1 207 (dk_at dksX4_endings_1 12 rfl rfl)
theorem dX4_endings_39 : decode cX4_endings 39 = .ok (.if_icmp .ge 35, 3) := dk_162 0 35 (dk_at dksX4_endings_1 15 rfl rfl)
theorem dX4_endings_42 : decode cX4_endings 42 = .ok (.iload_n 2, 1) := dk_28 (dk_at dksX4_endings_1 18 rfl rfl)
theorem dX4_endings_43 : decode cX4_endings 43 = .ok (.iload_n 1, 1) := dk_27 (dk_at dksX4_endings_1 19 rfl rfl)
theorem dX4_endings_44 : decode cX4_endings 44 = .ok (.iconst (-1), 1) := dk_2 (dk_at dksX4_endings_1 20 rfl rfl)
theorem dX4_endings_45 : decode cX4_endings 45 = .ok (.if_icmp .eq 16, 3) := dk_159 0 16 (dk_at dksX4_endings_1 21 rfl rfl)
theorem dX4_endings_48 : decode cX4_endings 48 = .ok (.aload_n 0, 1) := dk_42 (dk_at dksX4_endings_2 0 rfl rfl)
theorem dX4_endings_49 : decode cX4_endings 49 = .ok (.getfield 136, 3) := dk_180 0 136 (dk_at dksX4_endings_2 1 rfl rfl)
theorem dX4_endings_52 : decode cX4_endings 52 = .ok (.bipush 11, 2) := dk_16 11 (dk_at dksX4_endings_2 4 rfl rfl)
theorem dX4_endings_54 : decode cX4_endings 54 = .ok (.iload_n 3, 1) := dk_29 (dk_at dksX4_endings_2 6 rfl rfl)
theorem dX4_endings_55 : decode cX4_endings 55 = .ok (.imul, 1) := dk_104 (dk_at dksX4_endings_2 7 rfl rfl)
theorem dX4_endings_56 : decode cX4_endings 56 = .ok (.iaload, 1) := dk_46 (dk_at dksX4_endings_2 8 rfl rfl)
theorem dX4_endings_57 : decode cX4_endings 57 = .ok (.iload_n 1, 1) := dk_27 (dk_at dksX4_endings_2 9 rfl rfl)
theorem dX4_endings_58 : decode cX4_endings 58 = .ok (.if_icmp .ne 7, 3) := dk_160 0 7 (dk_at dksX4_endings_2 10 rfl rfl)
theorem dX4_endings_61 : decode cX4_endings 61 = .ok (.iconst 1, 1) := dk_4 (dk_at dksX4_endings_2 13 rfl rfl)
theorem dX4_endings_62 : decode cX4_endings 62 = .ok (.goto 4, 3) := dk_167 0 4 (dk_at dksX4_endings_2 14 rfl rfl)
theorem dX4_endings_65 : decode cX4_endings 65 = .ok (.iconst 0, 1) := dk_3 (dk_at dksX4_endings_2 17 rfl rfl)
theorem dX4_endings_66 : decode cX4_endings 66 = .ok (.iadd, 1) := dk_96 (dk_at dksX4_endings_2 18 rfl rfl)
theorem dX4_endings_67 : decode cX4_endings 67 = .ok (.istore_n 2, 1) := dk_61 (dk_at dksX4_endings_2 19 rfl rfl)
theorem dX4_endings_68 : decode cX4_endings 68 = .ok (.iinc 3 1, 3) := dk_132 3 1 (dk_at dksX4_endings_2 20 rfl rfl)
theorem dX4_endings_71 : decode cX4_endings 71 = .ok (.goto (-37), 3) := dk_167 255 219 (dk_at dksX4_endings_3 0 rfl rfl)
theorem dX4_endings_74 : decode cX4_endings 74 = .ok (.iload_n 2, 1) := dk_28 (dk_at dksX4_endings_3 3 rfl rfl)
theorem dX4_endings_75 : decode cX4_endings 75 = .ok (.ireturn, 1) := dk_172 (dk_at dksX4_endings_3 4 rfl rfl)
abbrev cX4_ending : ByteArray := prog_21_method_76_code
def yX4_ending : MethodName := ⟨RX4, "ending", "(II)I"⟩
def dkwX4_ending_5 : List UInt8 := [16, 10, 96, 46, 167, 0, 14, 42, 180, 0, 136, 21, 4, 28, 96, 6, 100, 46, 172]
abbrev dktX4_ending_5 : List UInt8 := dkwX4_ending_5 ++ []
def dkwX4_ending_4 : List UInt8 := [180, 0, 136, 21, 4, 16, 9, 96, 46, 167, 0, 32, 28, 5, 160, 0, 16, 42, 180, 0, 136, 21, 4]
abbrev dktX4_ending_4 : List UInt8 := dkwX4_ending_4 ++ dktX4_ending_5
def dkwX4_ending_3 : List UInt8 := [104, 54, 4, 28, 154, 0, 13, 42, 180, 0, 136, 21, 4, 46, 167, 0, 50, 28, 4, 160, 0, 16, 42]
abbrev dktX4_ending_3 : List UInt8 := dkwX4_ending_3 ++ dktX4_ending_4
def dkwX4_ending_2 : List UInt8 := [180, 1, 207, 4, 100, 184, 1, 20, 153, 0, 7, 29, 154, 0, 9, 42, 4, 182, 1, 57, 172, 16, 11, 27]
abbrev dktX4_ending_2 : List UInt8 := dkwX4_ending_2 ++ dktX4_ending_3
def dkwX4_ending_1 : List UInt8 := [184, 1, 20, 153, 0, 7, 4, 167, 0, 4, 3, 62, 42, 182, 1, 227, 153, 0, 21, 27, 3, 42]
abbrev dktX4_ending_1 : List UInt8 := dkwX4_ending_1 ++ dktX4_ending_2
def dkwX4_ending_0 : List UInt8 := [42, 3, 181, 0, 175, 28, 3, 5, 184, 1, 20, 154, 0, 17, 28, 7, 6, 42, 180, 0, 54, 96]
abbrev dktX4_ending_0 : List UInt8 := dkwX4_ending_0 ++ dktX4_ending_1
theorem dksX4_ending_0 : cX4_ending.data.toList.drop 0 = dktX4_ending_0 := by decide +kernel
theorem dksX4_ending_1 : cX4_ending.data.toList.drop 22 = dktX4_ending_1 := dk_seg dksX4_ending_0 22 rfl rfl
theorem dksX4_ending_2 : cX4_ending.data.toList.drop 44 = dktX4_ending_2 := dk_seg dksX4_ending_1 22 rfl rfl
theorem dksX4_ending_3 : cX4_ending.data.toList.drop 68 = dktX4_ending_3 := dk_seg dksX4_ending_2 24 rfl rfl
theorem dksX4_ending_4 : cX4_ending.data.toList.drop 91 = dktX4_ending_4 := dk_seg dksX4_ending_3 23 rfl rfl
theorem dksX4_ending_5 : cX4_ending.data.toList.drop 114 = dktX4_ending_5 := dk_seg dksX4_ending_4 23 rfl rfl
theorem dX4_ending_0 : decode cX4_ending 0 = .ok (.aload_n 0, 1) := dk_42 (dk_at dksX4_ending_0 0 rfl rfl)
theorem dX4_ending_1 : decode cX4_ending 1 = .ok (.iconst 0, 1) := dk_3 (dk_at dksX4_ending_0 1 rfl rfl)
theorem dX4_ending_2 : decode cX4_ending 2 = .ok (.putfield 175, 3) := dk_181 0 175 (dk_at dksX4_ending_0 2 rfl rfl)
theorem dX4_ending_5 : decode cX4_ending 5 = .ok (.iload_n 2, 1) := dk_28 (dk_at dksX4_ending_0 5 rfl rfl)
theorem dX4_ending_6 : decode cX4_ending 6 = .ok (.iconst 0, 1) := dk_3 (dk_at dksX4_ending_0 6 rfl rfl)
theorem dX4_ending_7 : decode cX4_ending 7 = .ok (.iconst 2, 1) := dk_5 (dk_at dksX4_ending_0 7 rfl rfl)
theorem dX4_ending_8 : decode cX4_ending 8 = .ok (.invokestatic 276, 3) := dk_184 1 20 (dk_at dksX4_ending_0 8 rfl rfl)
theorem dX4_ending_11 : decode cX4_ending 11 = .ok (.ifCond .ne 17, 3) := dk_154 0 17 (dk_at dksX4_ending_0 11 rfl rfl)
theorem dX4_ending_14 : decode cX4_ending 14 = .ok (.iload_n 2, 1) := dk_28 (dk_at dksX4_ending_0 14 rfl rfl)
theorem dX4_ending_15 : decode cX4_ending 15 = .ok (.iconst 4, 1) := dk_7 (dk_at dksX4_ending_0 15 rfl rfl)
theorem dX4_ending_16 : decode cX4_ending 16 = .ok (.iconst 3, 1) := dk_6 (dk_at dksX4_ending_0 16 rfl rfl)
theorem dX4_ending_17 : decode cX4_ending 17 = .ok (.aload_n 0, 1) := dk_42 (dk_at dksX4_ending_0 17 rfl rfl)
theorem dX4_ending_18 : decode cX4_ending 18 = .ok (.getfield 54, 3) := dk_180 0 54 (dk_at dksX4_ending_0 18 rfl rfl)
theorem dX4_ending_21 : decode cX4_ending 21 = .ok (.iadd, 1) := dk_96 (dk_at dksX4_ending_0 21 rfl rfl)
theorem dX4_ending_22 : decode cX4_ending 22 = .ok (.invokestatic 276, 3) := dk_184 1 20 (dk_at dksX4_ending_1 0 rfl rfl)
theorem dX4_ending_25 : decode cX4_ending 25 = .ok (.ifCond .eq 7, 3) := dk_153 0 7 (dk_at dksX4_ending_1 3 rfl rfl)
theorem dX4_ending_28 : decode cX4_ending 28 = .ok (.iconst 1, 1) := dk_4 (dk_at dksX4_ending_1 6 rfl rfl)
theorem dX4_ending_29 : decode cX4_ending 29 = .ok (.goto 4, 3) := dk_167 0 4 (dk_at dksX4_ending_1 7 rfl rfl)
theorem dX4_ending_32 : decode cX4_ending 32 = .ok (.iconst 0, 1) := dk_3 (dk_at dksX4_ending_1 10 rfl rfl)
theorem dX4_ending_33 : decode cX4_ending 33 = .ok (.istore_n 3, 1) := dk_62 (dk_at dksX4_ending_1 11 rfl rfl)
theorem dX4_ending_34 : decode cX4_ending 34 = .ok (.aload_n 0, 1) := dk_42 (dk_at dksX4_ending_1 12 rfl rfl)
theorem dX4_ending_35 : decode cX4_ending 35 = .ok (.invokevirtual 483, 3) := dk_182 1 227 (dk_at dksX4_ending_1 13 rfl rfl)
theorem dX4_ending_38 : decode cX4_ending 38 = .ok (.ifCond .eq 21, 3) := dk_153 0 21 (dk_at dksX4_ending_1 16 rfl rfl)
theorem dX4_ending_41 : decode cX4_ending 41 = .ok (.iload_n 1, 1) := dk_27 (dk_at dksX4_ending_1 19 rfl rfl)
theorem dX4_ending_42 : decode cX4_ending 42 = .ok (.iconst 0, 1) := dk_3 (dk_at dksX4_ending_1 20 rfl rfl)
theorem dX4_ending_43 : decode cX4_ending 43 = .ok (.aload_n 0, 1) := dk_42 (dk_at dksX4_ending_1 21 rfl rfl)
theorem dX4_ending_44 : decode cX4_ending 44 = .ok (.getfield 463, 3) := dk_180 1 207 (dk_at dksX4_ending_2 0 rfl rfl)
theorem dX4_ending_47 : decode cX4_ending 47 = .ok (.iconst 1, 1) := dk_4 (dk_at dksX4_ending_2 3 rfl rfl)
theorem dX4_ending_48 : decode cX4_ending 48 = .ok (.isub, 1) := dk_100 (dk_at dksX4_ending_2 4 rfl rfl)
theorem dX4_ending_49 : decode cX4_ending 49 = .ok (.invokestatic 276, 3) := dk_184 1 20 (dk_at dksX4_ending_2 5 rfl rfl)
theorem dX4_ending_52 : decode cX4_ending 52 = .ok (.ifCond .eq 7, 3) := dk_153 0 7 (dk_at dksX4_ending_2 8 rfl rfl)
theorem dX4_ending_55 : decode cX4_ending 55 = .ok (.iload_n 3, 1) := dk_29 (dk_at dksX4_ending_2 11 rfl rfl)
theorem dX4_ending_56 : decode cX4_ending 56 = .ok (.ifCond .ne 9, 3) := dk_154 0 9 (dk_at dksX4_ending_2 12 rfl rfl)
theorem dX4_ending_59 : decode cX4_ending 59 = .ok (.aload_n 0, 1) := dk_42 (dk_at dksX4_ending_2 15 rfl rfl)
theorem dX4_ending_60 : decode cX4_ending 60 = .ok (.iconst 1, 1) := dk_4 (dk_at dksX4_ending_2 16 rfl rfl)
theorem dX4_ending_61 : decode cX4_ending 61 = .ok (.invokevirtual 313, 3) := dk_182 1 57 (dk_at dksX4_ending_2 17 rfl rfl)
theorem dX4_ending_64 : decode cX4_ending 64 = .ok (.ireturn, 1) := dk_172 (dk_at dksX4_ending_2 20 rfl rfl)
theorem dX4_ending_65 : decode cX4_ending 65 = .ok (.bipush 11, 2) := dk_16 11 (dk_at dksX4_ending_2 21 rfl rfl)
theorem dX4_ending_67 : decode cX4_ending 67 = .ok (.iload_n 1, 1) := dk_27 (dk_at dksX4_ending_2 23 rfl rfl)
theorem dX4_ending_68 : decode cX4_ending 68 = .ok (.imul, 1) := dk_104 (dk_at dksX4_ending_3 0 rfl rfl)
theorem dX4_ending_69 : decode cX4_ending 69 = .ok (.istore 4, 2) := dk_54 4 (dk_at dksX4_ending_3 1 rfl rfl)
theorem dX4_ending_71 : decode cX4_ending 71 = .ok (.iload_n 2, 1) := dk_28 (dk_at dksX4_ending_3 3 rfl rfl)
theorem dX4_ending_72 : decode cX4_ending 72 = .ok (.ifCond .ne 13, 3) := dk_154 0 13 (dk_at dksX4_ending_3 4 rfl rfl)
theorem dX4_ending_75 : decode cX4_ending 75 = .ok (.aload_n 0, 1) := dk_42 (dk_at dksX4_ending_3 7 rfl rfl)
theorem dX4_ending_76 : decode cX4_ending 76 = .ok (.getfield 136, 3) := dk_180 0 136 (dk_at dksX4_ending_3 8 rfl rfl)
theorem dX4_ending_79 : decode cX4_ending 79 = .ok (.iload 4, 2) := dk_21 4 (dk_at dksX4_ending_3 11 rfl rfl)
theorem dX4_ending_81 : decode cX4_ending 81 = .ok (.iaload, 1) := dk_46 (dk_at dksX4_ending_3 13 rfl rfl)
theorem dX4_ending_82 : decode cX4_ending 82 = .ok (.goto 50, 3) := dk_167 0 50 (dk_at dksX4_ending_3 14 rfl rfl)
theorem dX4_ending_85 : decode cX4_ending 85 = .ok (.iload_n 2, 1) := dk_28 (dk_at dksX4_ending_3 17 rfl rfl)
theorem dX4_ending_86 : decode cX4_ending 86 = .ok (.iconst 1, 1) := dk_4 (dk_at dksX4_ending_3 18 rfl rfl)
theorem dX4_ending_87 : decode cX4_ending 87 = .ok (.if_icmp .ne 16, 3) := dk_160 0 16 (dk_at dksX4_ending_3 19 rfl rfl)
theorem dX4_ending_90 : decode cX4_ending 90 = .ok (.aload_n 0, 1) := dk_42 (dk_at dksX4_ending_3 22 rfl rfl)
theorem dX4_ending_91 : decode cX4_ending 91 = .ok (.getfield 136, 3) := dk_180 0 136 (dk_at dksX4_ending_4 0 rfl rfl)
theorem dX4_ending_94 : decode cX4_ending 94 = .ok (.iload 4, 2) := dk_21 4 (dk_at dksX4_ending_4 3 rfl rfl)
theorem dX4_ending_96 : decode cX4_ending 96 = .ok (.bipush 9, 2) := dk_16 9 (dk_at dksX4_ending_4 5 rfl rfl)
theorem dX4_ending_98 : decode cX4_ending 98 = .ok (.iadd, 1) := dk_96 (dk_at dksX4_ending_4 7 rfl rfl)
theorem dX4_ending_99 : decode cX4_ending 99 = .ok (.iaload, 1) := dk_46 (dk_at dksX4_ending_4 8 rfl rfl)
theorem dX4_ending_100 : decode cX4_ending 100 = .ok (.goto 32, 3) := dk_167 0 32 (dk_at dksX4_ending_4 9 rfl rfl)
theorem dX4_ending_103 : decode cX4_ending 103 = .ok (.iload_n 2, 1) := dk_28 (dk_at dksX4_ending_4 12 rfl rfl)
theorem dX4_ending_104 : decode cX4_ending 104 = .ok (.iconst 2, 1) := dk_5 (dk_at dksX4_ending_4 13 rfl rfl)
theorem dX4_ending_105 : decode cX4_ending 105 = .ok (.if_icmp .ne 16, 3) := dk_160 0 16 (dk_at dksX4_ending_4 14 rfl rfl)
theorem dX4_ending_108 : decode cX4_ending 108 = .ok (.aload_n 0, 1) := dk_42 (dk_at dksX4_ending_4 17 rfl rfl)
theorem dX4_ending_109 : decode cX4_ending 109 = .ok (.getfield 136, 3) := dk_180 0 136 (dk_at dksX4_ending_4 18 rfl rfl)
theorem dX4_ending_112 : decode cX4_ending 112 = .ok (.iload 4, 2) := dk_21 4 (dk_at dksX4_ending_4 21 rfl rfl)
theorem dX4_ending_114 : decode cX4_ending 114 = .ok (.bipush 10, 2) := dk_16 10 (dk_at dksX4_ending_5 0 rfl rfl)
theorem dX4_ending_116 : decode cX4_ending 116 = .ok (.iadd, 1) := dk_96 (dk_at dksX4_ending_5 2 rfl rfl)
theorem dX4_ending_117 : decode cX4_ending 117 = .ok (.iaload, 1) := dk_46 (dk_at dksX4_ending_5 3 rfl rfl)
theorem dX4_ending_118 : decode cX4_ending 118 = .ok (.goto 14, 3) := dk_167 0 14 (dk_at dksX4_ending_5 4 rfl rfl)
theorem dX4_ending_121 : decode cX4_ending 121 = .ok (.aload_n 0, 1) := dk_42 (dk_at dksX4_ending_5 7 rfl rfl)
theorem dX4_ending_122 : decode cX4_ending 122 = .ok (.getfield 136, 3) := dk_180 0 136 (dk_at dksX4_ending_5 8 rfl rfl)
theorem dX4_ending_125 : decode cX4_ending 125 = .ok (.iload 4, 2) := dk_21 4 (dk_at dksX4_ending_5 11 rfl rfl)
theorem dX4_ending_127 : decode cX4_ending 127 = .ok (.iload_n 2, 1) := dk_28 (dk_at dksX4_ending_5 13 rfl rfl)
theorem dX4_ending_128 : decode cX4_ending 128 = .ok (.iadd, 1) := dk_96 (dk_at dksX4_ending_5 14 rfl rfl)
theorem dX4_ending_129 : decode cX4_ending 129 = .ok (.iconst 3, 1) := dk_6 (dk_at dksX4_ending_5 15 rfl rfl)
theorem dX4_ending_130 : decode cX4_ending 130 = .ok (.isub, 1) := dk_100 (dk_at dksX4_ending_5 16 rfl rfl)
theorem dX4_ending_131 : decode cX4_ending 131 = .ok (.iaload, 1) := dk_46 (dk_at dksX4_ending_5 17 rfl rfl)
theorem dX4_ending_132 : decode cX4_ending 132 = .ok (.ireturn, 1) := dk_172 (dk_at dksX4_ending_5 18 rfl rfl)
abbrev cX4_differs : ByteArray := prog_21_method_77_code
def yX4_differs : MethodName := ⟨RX4, "differs", "()Z"⟩
def dkwX4_differs_3 : List UInt8 := [172, 132, 2, 1, 167, 255, 221, 132, 1, 1, 167, 255, 190, 3, 172]
abbrev dktX4_differs_3 : List UInt8 := dkwX4_differs_3 ++ []
def dkwX4_differs_2 : List UInt8 := [180, 0, 136, 16, 11, 27, 104, 4, 96, 28, 96, 46, 42, 180, 0, 136, 4, 28, 96, 46, 159, 0, 5, 4]
abbrev dktX4_differs_2 : List UInt8 := dkwX4_differs_2 ++ dktX4_differs_3
def dkwX4_differs_1 : List UInt8 := [42, 180, 0, 136, 16, 11, 27, 104, 46, 153, 0, 6, 167, 0, 43, 3, 61, 28, 16, 8, 162, 0, 35, 42]
abbrev dktX4_differs_1 : List UInt8 := dkwX4_differs_1 ++ dktX4_differs_2
def dkwX4_differs_0 : List UInt8 := [42, 3, 181, 0, 175, 42, 182, 1, 227, 154, 0, 5, 3, 172, 4, 60, 27, 42, 180, 1, 207, 162, 0, 64]
abbrev dktX4_differs_0 : List UInt8 := dkwX4_differs_0 ++ dktX4_differs_1
theorem dksX4_differs_0 : cX4_differs.data.toList.drop 0 = dktX4_differs_0 := by decide +kernel
theorem dksX4_differs_1 : cX4_differs.data.toList.drop 24 = dktX4_differs_1 := dk_seg dksX4_differs_0 24 rfl rfl
theorem dksX4_differs_2 : cX4_differs.data.toList.drop 48 = dktX4_differs_2 := dk_seg dksX4_differs_1 24 rfl rfl
theorem dksX4_differs_3 : cX4_differs.data.toList.drop 72 = dktX4_differs_3 := dk_seg dksX4_differs_2 24 rfl rfl
theorem dX4_differs_0 : decode cX4_differs 0 = .ok (.aload_n 0, 1) := dk_42 (dk_at dksX4_differs_0 0 rfl rfl)
theorem dX4_differs_1 : decode cX4_differs 1 = .ok (.iconst 0, 1) := dk_3 (dk_at dksX4_differs_0 1 rfl rfl)
theorem dX4_differs_2 : decode cX4_differs 2 = .ok (.putfield 175, 3) := dk_181 0 175 (dk_at dksX4_differs_0 2 rfl rfl)
theorem dX4_differs_5 : decode cX4_differs 5 = .ok (.aload_n 0, 1) := dk_42 (dk_at dksX4_differs_0 5 rfl rfl)
theorem dX4_differs_6 : decode cX4_differs 6 = .ok (.invokevirtual 483, 3) := dk_182 1 227 (dk_at dksX4_differs_0 6 rfl rfl)
theorem dX4_differs_9 : decode cX4_differs 9 = .ok (.ifCond .ne 5, 3) := dk_154 0 5 (dk_at dksX4_differs_0 9 rfl rfl)
theorem dX4_differs_12 : decode cX4_differs 12 = .ok (.iconst 0, 1) := dk_3 (dk_at dksX4_differs_0 12 rfl rfl)
theorem dX4_differs_13 : decode cX4_differs 13 = .ok (.ireturn, 1) := dk_172 (dk_at dksX4_differs_0 13 rfl rfl)
theorem dX4_differs_14 : decode cX4_differs 14 = .ok (.iconst 1, 1) := dk_4 (dk_at dksX4_differs_0 14 rfl rfl)
theorem dX4_differs_15 : decode cX4_differs 15 = .ok (.istore_n 1, 1) := dk_60 (dk_at dksX4_differs_0 15 rfl rfl)
theorem dX4_differs_16 : decode cX4_differs 16 = .ok (.iload_n 1, 1) := dk_27 (dk_at dksX4_differs_0 16 rfl rfl)
theorem dX4_differs_17 : decode cX4_differs 17 = .ok (.aload_n 0, 1) := dk_42 (dk_at dksX4_differs_0 17 rfl rfl)
theorem dX4_differs_18 : decode cX4_differs 18 = .ok (.getfield 463, 3) := dk_180 1 207 (dk_at dksX4_differs_0 18 rfl rfl)
theorem dX4_differs_21 : decode cX4_differs 21 = .ok (.if_icmp .ge 64, 3) := dk_162 0 64 (dk_at dksX4_differs_0 21 rfl rfl)
theorem dX4_differs_24 : decode cX4_differs 24 = .ok (.aload_n 0, 1) := dk_42 (dk_at dksX4_differs_1 0 rfl rfl)
theorem dX4_differs_25 : decode cX4_differs 25 = .ok (.getfield 136, 3) := dk_180 0 136 (dk_at dksX4_differs_1 1 rfl rfl)
theorem dX4_differs_28 : decode cX4_differs 28 = .ok (.bipush 11, 2) := dk_16 11 (dk_at dksX4_differs_1 4 rfl rfl)
theorem dX4_differs_30 : decode cX4_differs 30 = .ok (.iload_n 1, 1) := dk_27 (dk_at dksX4_differs_1 6 rfl rfl)
theorem dX4_differs_31 : decode cX4_differs 31 = .ok (.imul, 1) := dk_104 (dk_at dksX4_differs_1 7 rfl rfl)
theorem dX4_differs_32 : decode cX4_differs 32 = .ok (.iaload, 1) := dk_46 (dk_at dksX4_differs_1 8 rfl rfl)
theorem dX4_differs_33 : decode cX4_differs 33 = .ok (.ifCond .eq 6, 3) := dk_153 0 6 (dk_at dksX4_differs_1 9 rfl rfl)
theorem dX4_differs_36 : decode cX4_differs 36 = .ok (.goto 43, 3) := dk_167 0 43 (dk_at dksX4_differs_1 12 rfl rfl)
theorem dX4_differs_39 : decode cX4_differs 39 = .ok (.iconst 0, 1) := dk_3 (dk_at dksX4_differs_1 15 rfl rfl)
theorem dX4_differs_40 : decode cX4_differs 40 = .ok (.istore_n 2, 1) := dk_61 (dk_at dksX4_differs_1 16 rfl rfl)
theorem dX4_differs_41 : decode cX4_differs 41 = .ok (.iload_n 2, 1) := dk_28 (dk_at dksX4_differs_1 17 rfl rfl)
theorem dX4_differs_42 : decode cX4_differs 42 = .ok (.bipush 8, 2) := dk_16 8 (dk_at dksX4_differs_1 18 rfl rfl)
theorem dX4_differs_44 : decode cX4_differs 44 = .ok (.if_icmp .ge 35, 3) := dk_162 0 35 (dk_at dksX4_differs_1 20 rfl rfl)
theorem dX4_differs_47 : decode cX4_differs 47 = .ok (.aload_n 0, 1) := dk_42 (dk_at dksX4_differs_1 23 rfl rfl)
theorem dX4_differs_48 : decode cX4_differs 48 = .ok (.getfield 136, 3) := dk_180 0 136 (dk_at dksX4_differs_2 0 rfl rfl)
theorem dX4_differs_51 : decode cX4_differs 51 = .ok (.bipush 11, 2) := dk_16 11 (dk_at dksX4_differs_2 3 rfl rfl)
theorem dX4_differs_53 : decode cX4_differs 53 = .ok (.iload_n 1, 1) := dk_27 (dk_at dksX4_differs_2 5 rfl rfl)
theorem dX4_differs_54 : decode cX4_differs 54 = .ok (.imul, 1) := dk_104 (dk_at dksX4_differs_2 6 rfl rfl)
theorem dX4_differs_55 : decode cX4_differs 55 = .ok (.iconst 1, 1) := dk_4 (dk_at dksX4_differs_2 7 rfl rfl)
theorem dX4_differs_56 : decode cX4_differs 56 = .ok (.iadd, 1) := dk_96 (dk_at dksX4_differs_2 8 rfl rfl)
theorem dX4_differs_57 : decode cX4_differs 57 = .ok (.iload_n 2, 1) := dk_28 (dk_at dksX4_differs_2 9 rfl rfl)
theorem dX4_differs_58 : decode cX4_differs 58 = .ok (.iadd, 1) := dk_96 (dk_at dksX4_differs_2 10 rfl rfl)
theorem dX4_differs_59 : decode cX4_differs 59 = .ok (.iaload, 1) := dk_46 (dk_at dksX4_differs_2 11 rfl rfl)
theorem dX4_differs_60 : decode cX4_differs 60 = .ok (.aload_n 0, 1) := dk_42 (dk_at dksX4_differs_2 12 rfl rfl)
theorem dX4_differs_61 : decode cX4_differs 61 = .ok (.getfield 136, 3) := dk_180 0 136 (dk_at dksX4_differs_2 13 rfl rfl)
theorem dX4_differs_64 : decode cX4_differs 64 = .ok (.iconst 1, 1) := dk_4 (dk_at dksX4_differs_2 16 rfl rfl)
theorem dX4_differs_65 : decode cX4_differs 65 = .ok (.iload_n 2, 1) := dk_28 (dk_at dksX4_differs_2 17 rfl rfl)
theorem dX4_differs_66 : decode cX4_differs 66 = .ok (.iadd, 1) := dk_96 (dk_at dksX4_differs_2 18 rfl rfl)
theorem dX4_differs_67 : decode cX4_differs 67 = .ok (.iaload, 1) := dk_46 (dk_at dksX4_differs_2 19 rfl rfl)
theorem dX4_differs_68 : decode cX4_differs 68 = .ok (.if_icmp .eq 5, 3) := dk_159 0 5 (dk_at dksX4_differs_2 20 rfl rfl)
theorem dX4_differs_71 : decode cX4_differs 71 = .ok (.iconst 1, 1) := dk_4 (dk_at dksX4_differs_2 23 rfl rfl)
theorem dX4_differs_72 : decode cX4_differs 72 = .ok (.ireturn, 1) := dk_172 (dk_at dksX4_differs_3 0 rfl rfl)
theorem dX4_differs_73 : decode cX4_differs 73 = .ok (.iinc 2 1, 3) := dk_132 2 1 (dk_at dksX4_differs_3 1 rfl rfl)
theorem dX4_differs_76 : decode cX4_differs 76 = .ok (.goto (-35), 3) := dk_167 255 221 (dk_at dksX4_differs_3 4 rfl rfl)
theorem dX4_differs_79 : decode cX4_differs 79 = .ok (.iinc 1 1, 3) := dk_132 1 1 (dk_at dksX4_differs_3 7 rfl rfl)
theorem dX4_differs_82 : decode cX4_differs 82 = .ok (.goto (-66), 3) := dk_167 255 190 (dk_at dksX4_differs_3 10 rfl rfl)
theorem dX4_differs_85 : decode cX4_differs 85 = .ok (.iconst 0, 1) := dk_3 (dk_at dksX4_differs_3 13 rfl rfl)
theorem dX4_differs_86 : decode cX4_differs 86 = .ok (.ireturn, 1) := dk_172 (dk_at dksX4_differs_3 14 rfl rfl)
abbrev cX4_could : ByteArray := prog_21_method_79_code
def yX4_could : MethodName := ⟨RX4, "could", "(II)I"⟩
def dkwX4_could_2 : List UInt8 := [180, 0, 139, 16, 40, 27, 104, 28, 96, 46, 167, 0, 4, 2, 172]
abbrev dktX4_could_2 : List UInt8 := dkwX4_could_2 ++ []
def dkwX4_could_1 : List UInt8 := [180, 0, 71, 28, 46, 7, 159, 0, 9, 42, 4, 182, 1, 57, 172, 42, 182, 1, 227, 153, 0, 17, 42]
abbrev dktX4_could_1 : List UInt8 := dkwX4_could_1 ++ dktX4_could_2
def dkwX4_could_0 : List UInt8 := [42, 3, 181, 0, 175, 42, 27, 182, 1, 229, 153, 0, 21, 42, 28, 182, 1, 78, 153, 0, 13, 42]
abbrev dktX4_could_0 : List UInt8 := dkwX4_could_0 ++ dktX4_could_1
theorem dksX4_could_0 : cX4_could.data.toList.drop 0 = dktX4_could_0 := by decide +kernel
theorem dksX4_could_1 : cX4_could.data.toList.drop 22 = dktX4_could_1 := dk_seg dksX4_could_0 22 rfl rfl
theorem dksX4_could_2 : cX4_could.data.toList.drop 45 = dktX4_could_2 := dk_seg dksX4_could_1 23 rfl rfl
theorem dX4_could_0 : decode cX4_could 0 = .ok (.aload_n 0, 1) := dk_42 (dk_at dksX4_could_0 0 rfl rfl)
theorem dX4_could_1 : decode cX4_could 1 = .ok (.iconst 0, 1) := dk_3 (dk_at dksX4_could_0 1 rfl rfl)
theorem dX4_could_2 : decode cX4_could 2 = .ok (.putfield 175, 3) := dk_181 0 175 (dk_at dksX4_could_0 2 rfl rfl)
theorem dX4_could_5 : decode cX4_could 5 = .ok (.aload_n 0, 1) := dk_42 (dk_at dksX4_could_0 5 rfl rfl)
theorem dX4_could_6 : decode cX4_could 6 = .ok (.iload_n 1, 1) := dk_27 (dk_at dksX4_could_0 6 rfl rfl)
theorem dX4_could_7 : decode cX4_could 7 = .ok (.invokevirtual 485, 3) := dk_182 1 229 (dk_at dksX4_could_0 7 rfl rfl)
theorem dX4_could_10 : decode cX4_could 10 = .ok (.ifCond .eq 21, 3) := dk_153 0 21 (dk_at dksX4_could_0 10 rfl rfl)
theorem dX4_could_13 : decode cX4_could 13 = .ok (.aload_n 0, 1) := dk_42 (dk_at dksX4_could_0 13 rfl rfl)
theorem dX4_could_14 : decode cX4_could 14 = .ok (.iload_n 2, 1) := dk_28 (dk_at dksX4_could_0 14 rfl rfl)
theorem dX4_could_15 : decode cX4_could 15 = .ok (.invokevirtual 334, 3) := dk_182 1 78 (dk_at dksX4_could_0 15 rfl rfl)
theorem dX4_could_18 : decode cX4_could 18 = .ok (.ifCond .eq 13, 3) := dk_153 0 13 (dk_at dksX4_could_0 18 rfl rfl)
theorem dX4_could_21 : decode cX4_could 21 = .ok (.aload_n 0, 1) := dk_42 (dk_at dksX4_could_0 21 rfl rfl)
theorem dX4_could_22 : decode cX4_could 22 = .ok (.getfield 71, 3) := dk_180 0 71 (dk_at dksX4_could_1 0 rfl rfl)
theorem dX4_could_25 : decode cX4_could 25 = .ok (.iload_n 2, 1) := dk_28 (dk_at dksX4_could_1 3 rfl rfl)
theorem dX4_could_26 : decode cX4_could 26 = .ok (.iaload, 1) := dk_46 (dk_at dksX4_could_1 4 rfl rfl)
theorem dX4_could_27 : decode cX4_could 27 = .ok (.iconst 4, 1) := dk_7 (dk_at dksX4_could_1 5 rfl rfl)
theorem dX4_could_28 : decode cX4_could 28 = .ok (.if_icmp .eq 9, 3) := dk_159 0 9 (dk_at dksX4_could_1 6 rfl rfl)
theorem dX4_could_31 : decode cX4_could 31 = .ok (.aload_n 0, 1) := dk_42 (dk_at dksX4_could_1 9 rfl rfl)
theorem dX4_could_32 : decode cX4_could 32 = .ok (.iconst 1, 1) := dk_4 (dk_at dksX4_could_1 10 rfl rfl)
theorem dX4_could_33 : decode cX4_could 33 = .ok (.invokevirtual 313, 3) := dk_182 1 57 (dk_at dksX4_could_1 11 rfl rfl)
theorem dX4_could_36 : decode cX4_could 36 = .ok (.ireturn, 1) := dk_172 (dk_at dksX4_could_1 14 rfl rfl)
theorem dX4_could_37 : decode cX4_could 37 = .ok (.aload_n 0, 1) := dk_42 (dk_at dksX4_could_1 15 rfl rfl)
theorem dX4_could_38 : decode cX4_could 38 = .ok (.invokevirtual 483, 3) := dk_182 1 227 (dk_at dksX4_could_1 16 rfl rfl)
theorem dX4_could_41 : decode cX4_could 41 = .ok (.ifCond .eq 17, 3) := dk_153 0 17 (dk_at dksX4_could_1 19 rfl rfl)
theorem dX4_could_44 : decode cX4_could 44 = .ok (.aload_n 0, 1) := dk_42 (dk_at dksX4_could_1 22 rfl rfl)
theorem dX4_could_45 : decode cX4_could 45 = .ok (.getfield 139, 3) := dk_180 0 139 (dk_at dksX4_could_2 0 rfl rfl)
theorem dX4_could_48 : decode cX4_could 48 = .ok (.bipush 40, 2) := dk_16 40 (dk_at dksX4_could_2 3 rfl rfl)
theorem dX4_could_50 : decode cX4_could 50 = .ok (.iload_n 1, 1) := dk_27 (dk_at dksX4_could_2 5 rfl rfl)
theorem dX4_could_51 : decode cX4_could 51 = .ok (.imul, 1) := dk_104 (dk_at dksX4_could_2 6 rfl rfl)
theorem dX4_could_52 : decode cX4_could 52 = .ok (.iload_n 2, 1) := dk_28 (dk_at dksX4_could_2 7 rfl rfl)
theorem dX4_could_53 : decode cX4_could 53 = .ok (.iadd, 1) := dk_96 (dk_at dksX4_could_2 8 rfl rfl)
theorem dX4_could_54 : decode cX4_could 54 = .ok (.iaload, 1) := dk_46 (dk_at dksX4_could_2 9 rfl rfl)
theorem dX4_could_55 : decode cX4_could 55 = .ok (.goto 4, 3) := dk_167 0 4 (dk_at dksX4_could_2 10 rfl rfl)
theorem dX4_could_58 : decode cX4_could 58 = .ok (.iconst (-1), 1) := dk_2 (dk_at dksX4_could_2 13 rfl rfl)
theorem dX4_could_59 : decode cX4_could 59 = .ok (.ireturn, 1) := dk_172 (dk_at dksX4_could_2 14 rfl rfl)
abbrev cX4_isHand : ByteArray := prog_21_method_78_code
def yX4_isHand : MethodName := ⟨RX4, "isHand", "(I)Z"⟩
def dkwX4_isHand_0 : List UInt8 := [27, 3, 42, 180, 0, 54, 4, 100, 184, 1, 20, 172]
abbrev dktX4_isHand_0 : List UInt8 := dkwX4_isHand_0 ++ []
theorem dksX4_isHand_0 : cX4_isHand.data.toList.drop 0 = dktX4_isHand_0 := by decide +kernel
theorem dX4_isHand_0 : decode cX4_isHand 0 = .ok (.iload_n 1, 1) := dk_27 (dk_at dksX4_isHand_0 0 rfl rfl)
theorem dX4_isHand_1 : decode cX4_isHand 1 = .ok (.iconst 0, 1) := dk_3 (dk_at dksX4_isHand_0 1 rfl rfl)
theorem dX4_isHand_2 : decode cX4_isHand 2 = .ok (.aload_n 0, 1) := dk_42 (dk_at dksX4_isHand_0 2 rfl rfl)
theorem dX4_isHand_3 : decode cX4_isHand 3 = .ok (.getfield 54, 3) := dk_180 0 54 (dk_at dksX4_isHand_0 3 rfl rfl)
theorem dX4_isHand_6 : decode cX4_isHand 6 = .ok (.iconst 1, 1) := dk_4 (dk_at dksX4_isHand_0 6 rfl rfl)
theorem dX4_isHand_7 : decode cX4_isHand 7 = .ok (.isub, 1) := dk_100 (dk_at dksX4_isHand_0 7 rfl rfl)
theorem dX4_isHand_8 : decode cX4_isHand 8 = .ok (.invokestatic 276, 3) := dk_184 1 20 (dk_at dksX4_isHand_0 8 rfl rfl)
theorem dX4_isHand_11 : decode cX4_isHand 11 = .ok (.ireturn, 1) := dk_172 (dk_at dksX4_isHand_0 11 rfl rfl)
abbrev cX4_needs : ByteArray := prog_21_method_80_code
def yX4_needs : MethodName := ⟨RX4, "needs", "()I"⟩
def dkwX4_needs_3 : List UInt8 := [167, 255, 201, 42, 27, 181, 1, 66, 28, 172]
abbrev dktX4_needs_3 : List UInt8 := dkwX4_needs_3 ++ []
def dkwX4_needs_2 : List UInt8 := [153, 0, 7, 4, 167, 0, 4, 3, 62, 21, 5, 153, 0, 10, 29, 154, 0, 6, 21, 4, 61, 132, 4, 1]
abbrev dktX4_needs_2 : List UInt8 := dkwX4_needs_2 ++ dktX4_needs_3
def dkwX4_needs_1 : List UInt8 := [153, 0, 51, 42, 21, 4, 181, 1, 66, 42, 182, 1, 214, 54, 5, 21, 5, 153, 0, 14, 42, 182, 1, 232]
abbrev dktX4_needs_1 : List UInt8 := dkwX4_needs_1 ++ dktX4_needs_2
def dkwX4_needs_0 : List UInt8 := [42, 3, 181, 0, 175, 42, 180, 1, 66, 60, 2, 61, 4, 62, 3, 54, 4, 21, 4, 6, 163, 0, 55, 29]
abbrev dktX4_needs_0 : List UInt8 := dkwX4_needs_0 ++ dktX4_needs_1
theorem dksX4_needs_0 : cX4_needs.data.toList.drop 0 = dktX4_needs_0 := by decide +kernel
theorem dksX4_needs_1 : cX4_needs.data.toList.drop 24 = dktX4_needs_1 := dk_seg dksX4_needs_0 24 rfl rfl
theorem dksX4_needs_2 : cX4_needs.data.toList.drop 48 = dktX4_needs_2 := dk_seg dksX4_needs_1 24 rfl rfl
theorem dksX4_needs_3 : cX4_needs.data.toList.drop 72 = dktX4_needs_3 := dk_seg dksX4_needs_2 24 rfl rfl
theorem dX4_needs_0 : decode cX4_needs 0 = .ok (.aload_n 0, 1) := dk_42 (dk_at dksX4_needs_0 0 rfl rfl)
theorem dX4_needs_1 : decode cX4_needs 1 = .ok (.iconst 0, 1) := dk_3 (dk_at dksX4_needs_0 1 rfl rfl)
theorem dX4_needs_2 : decode cX4_needs 2 = .ok (.putfield 175, 3) := dk_181 0 175 (dk_at dksX4_needs_0 2 rfl rfl)
theorem dX4_needs_5 : decode cX4_needs 5 = .ok (.aload_n 0, 1) := dk_42 (dk_at dksX4_needs_0 5 rfl rfl)
theorem dX4_needs_6 : decode cX4_needs 6 = .ok (.getfield 322, 3) := dk_180 1 66 (dk_at dksX4_needs_0 6 rfl rfl)
theorem dX4_needs_9 : decode cX4_needs 9 = .ok (.istore_n 1, 1) := dk_60 (dk_at dksX4_needs_0 9 rfl rfl)
theorem dX4_needs_10 : decode cX4_needs 10 = .ok (.iconst (-1), 1) := dk_2 (dk_at dksX4_needs_0 10 rfl rfl)
theorem dX4_needs_11 : decode cX4_needs 11 = .ok (.istore_n 2, 1) := dk_61 (dk_at dksX4_needs_0 11 rfl rfl)
theorem dX4_needs_12 : decode cX4_needs 12 = .ok (.iconst 1, 1) := dk_4 (dk_at dksX4_needs_0 12 rfl rfl)
theorem dX4_needs_13 : decode cX4_needs 13 = .ok (.istore_n 3, 1) := dk_62 (dk_at dksX4_needs_0 13 rfl rfl)
theorem dX4_needs_14 : decode cX4_needs 14 = .ok (.iconst 0, 1) := dk_3 (dk_at dksX4_needs_0 14 rfl rfl)
theorem dX4_needs_15 : decode cX4_needs 15 = .ok (.istore 4, 2) := dk_54 4 (dk_at dksX4_needs_0 15 rfl rfl)
theorem dX4_needs_17 : decode cX4_needs 17 = .ok (.iload 4, 2) := dk_21 4 (dk_at dksX4_needs_0 17 rfl rfl)
theorem dX4_needs_19 : decode cX4_needs 19 = .ok (.iconst 3, 1) := dk_6 (dk_at dksX4_needs_0 19 rfl rfl)
theorem dX4_needs_20 : decode cX4_needs 20 = .ok (.if_icmp .gt 55, 3) := dk_163 0 55 (dk_at dksX4_needs_0 20 rfl rfl)
theorem dX4_needs_23 : decode cX4_needs 23 = .ok (.iload_n 3, 1) := dk_29 (dk_at dksX4_needs_0 23 rfl rfl)
theorem dX4_needs_24 : decode cX4_needs 24 = .ok (.ifCond .eq 51, 3) := dk_153 0 51 (dk_at dksX4_needs_1 0 rfl rfl)
theorem dX4_needs_27 : decode cX4_needs 27 = .ok (.aload_n 0, 1) := dk_42 (dk_at dksX4_needs_1 3 rfl rfl)
theorem dX4_needs_28 : decode cX4_needs 28 = .ok (.iload 4, 2) := dk_21 4 (dk_at dksX4_needs_1 4 rfl rfl)
theorem dX4_needs_30 : decode cX4_needs 30 = .ok (.putfield 322, 3) := dk_181 1 66 (dk_at dksX4_needs_1 6 rfl rfl)
theorem dX4_needs_33 : decode cX4_needs 33 = .ok (.aload_n 0, 1) := dk_42 (dk_at dksX4_needs_1 9 rfl rfl)
theorem dX4_needs_34 : decode cX4_needs 34 = .ok (.invokevirtual 470, 3) := dk_182 1 214 (dk_at dksX4_needs_1 10 rfl rfl)
theorem dX4_needs_37 : decode cX4_needs 37 = .ok (.istore 5, 2) := dk_54 5 (dk_at dksX4_needs_1 13 rfl rfl)
theorem dX4_needs_39 : decode cX4_needs 39 = .ok (.iload 5, 2) := dk_21 5 (dk_at dksX4_needs_1 15 rfl rfl)
theorem dX4_needs_41 : decode cX4_needs 41 = .ok (.ifCond .eq 14, 3) := dk_153 0 14 (dk_at dksX4_needs_1 17 rfl rfl)
theorem dX4_needs_44 : decode cX4_needs 44 = .ok (.aload_n 0, 1) := dk_42 (dk_at dksX4_needs_1 20 rfl rfl)
theorem dX4_needs_45 : decode cX4_needs 45 = .ok (.invokevirtual 488, 3) := dk_182 1 232 (dk_at dksX4_needs_1 21 rfl rfl)
theorem dX4_needs_48 : decode cX4_needs 48 = .ok (.ifCond .eq 7, 3) := dk_153 0 7 (dk_at dksX4_needs_2 0 rfl rfl)
theorem dX4_needs_51 : decode cX4_needs 51 = .ok (.iconst 1, 1) := dk_4 (dk_at dksX4_needs_2 3 rfl rfl)
theorem dX4_needs_52 : decode cX4_needs 52 = .ok (.goto 4, 3) := dk_167 0 4 (dk_at dksX4_needs_2 4 rfl rfl)
theorem dX4_needs_55 : decode cX4_needs 55 = .ok (.iconst 0, 1) := dk_3 (dk_at dksX4_needs_2 7 rfl rfl)
theorem dX4_needs_56 : decode cX4_needs 56 = .ok (.istore_n 3, 1) := dk_62 (dk_at dksX4_needs_2 8 rfl rfl)
theorem dX4_needs_57 : decode cX4_needs 57 = .ok (.iload 5, 2) := dk_21 5 (dk_at dksX4_needs_2 9 rfl rfl)
theorem dX4_needs_59 : decode cX4_needs 59 = .ok (.ifCond .eq 10, 3) := dk_153 0 10 (dk_at dksX4_needs_2 11 rfl rfl)
theorem dX4_needs_62 : decode cX4_needs 62 = .ok (.iload_n 3, 1) := dk_29 (dk_at dksX4_needs_2 14 rfl rfl)
theorem dX4_needs_63 : decode cX4_needs 63 = .ok (.ifCond .ne 6, 3) := dk_154 0 6 (dk_at dksX4_needs_2 15 rfl rfl)
theorem dX4_needs_66 : decode cX4_needs 66 = .ok (.iload 4, 2) := dk_21 4 (dk_at dksX4_needs_2 18 rfl rfl)
theorem dX4_needs_68 : decode cX4_needs 68 = .ok (.istore_n 2, 1) := dk_61 (dk_at dksX4_needs_2 20 rfl rfl)
theorem dX4_needs_69 : decode cX4_needs 69 = .ok (.iinc 4 1, 3) := dk_132 4 1 (dk_at dksX4_needs_2 21 rfl rfl)
theorem dX4_needs_72 : decode cX4_needs 72 = .ok (.goto (-55), 3) := dk_167 255 201 (dk_at dksX4_needs_3 0 rfl rfl)
theorem dX4_needs_75 : decode cX4_needs 75 = .ok (.aload_n 0, 1) := dk_42 (dk_at dksX4_needs_3 3 rfl rfl)
theorem dX4_needs_76 : decode cX4_needs 76 = .ok (.iload_n 1, 1) := dk_27 (dk_at dksX4_needs_3 4 rfl rfl)
theorem dX4_needs_77 : decode cX4_needs 77 = .ok (.putfield 322, 3) := dk_181 1 66 (dk_at dksX4_needs_3 5 rfl rfl)
theorem dX4_needs_80 : decode cX4_needs 80 = .ok (.iload_n 2, 1) := dk_28 (dk_at dksX4_needs_3 8 rfl rfl)
theorem dX4_needs_81 : decode cX4_needs 81 = .ok (.ireturn, 1) := dk_172 (dk_at dksX4_needs_3 9 rfl rfl)
abbrev cX4_someLocks : ByteArray := prog_21_method_70_code
def yX4_someLocks : MethodName := ⟨RX4, "someLocks", "()Z"⟩
def dkwX4_someLocks_1 : List UInt8 := [182, 1, 188, 42, 182, 1, 204, 5, 160, 0, 5, 4, 172, 132, 1, 1, 167, 255, 218, 3, 172]
abbrev dktX4_someLocks_1 : List UInt8 := dkwX4_someLocks_1 ++ []
def dkwX4_someLocks_0 : List UInt8 := [3, 60, 27, 42, 180, 1, 178, 162, 0, 36, 42, 180, 0, 127, 27, 51, 154, 0, 6, 167, 0, 18, 42, 27]
abbrev dktX4_someLocks_0 : List UInt8 := dkwX4_someLocks_0 ++ dktX4_someLocks_1
theorem dksX4_someLocks_0 : cX4_someLocks.data.toList.drop 0 = dktX4_someLocks_0 := by decide +kernel
theorem dksX4_someLocks_1 : cX4_someLocks.data.toList.drop 24 = dktX4_someLocks_1 := dk_seg dksX4_someLocks_0 24 rfl rfl
theorem dX4_someLocks_0 : decode cX4_someLocks 0 = .ok (.iconst 0, 1) := dk_3 (dk_at dksX4_someLocks_0 0 rfl rfl)
theorem dX4_someLocks_1 : decode cX4_someLocks 1 = .ok (.istore_n 1, 1) := dk_60 (dk_at dksX4_someLocks_0 1 rfl rfl)
theorem dX4_someLocks_2 : decode cX4_someLocks 2 = .ok (.iload_n 1, 1) := dk_27 (dk_at dksX4_someLocks_0 2 rfl rfl)
theorem dX4_someLocks_3 : decode cX4_someLocks 3 = .ok (.aload_n 0, 1) := dk_42 (dk_at dksX4_someLocks_0 3 rfl rfl)
theorem dX4_someLocks_4 : decode cX4_someLocks 4 = .ok (.getfield 434, 3) := dk_180 1 178 (dk_at dksX4_someLocks_0 4 rfl rfl)
theorem dX4_someLocks_7 : decode cX4_someLocks 7 = .ok (.if_icmp .ge 36, 3) := dk_162 0 36 (dk_at dksX4_someLocks_0 7 rfl rfl)
theorem dX4_someLocks_10 : decode cX4_someLocks 10 = .ok (.aload_n 0, 1) := dk_42 (dk_at dksX4_someLocks_0 10 rfl rfl)
theorem dX4_someLocks_11 : decode cX4_someLocks 11 = .ok (.getfield 127, 3) := dk_180 0 127 (dk_at dksX4_someLocks_0 11 rfl rfl)
theorem dX4_someLocks_14 : decode cX4_someLocks 14 = .ok (.iload_n 1, 1) := dk_27 (dk_at dksX4_someLocks_0 14 rfl rfl)
theorem dX4_someLocks_15 : decode cX4_someLocks 15 = .ok (.baload, 1) := dk_51 (dk_at dksX4_someLocks_0 15 rfl rfl)
theorem dX4_someLocks_16 : decode cX4_someLocks 16 = .ok (.ifCond .ne 6, 3) := dk_154 0 6 (dk_at dksX4_someLocks_0 16 rfl rfl)
theorem dX4_someLocks_19 : decode cX4_someLocks 19 = .ok (.goto 18, 3) := dk_167 0 18 (dk_at dksX4_someLocks_0 19 rfl rfl)
theorem dX4_someLocks_22 : decode cX4_someLocks 22 = .ok (.aload_n 0, 1) := dk_42 (dk_at dksX4_someLocks_0 22 rfl rfl)
theorem dX4_someLocks_23 : decode cX4_someLocks 23 = .ok (.iload_n 1, 1) := dk_27 (dk_at dksX4_someLocks_0 23 rfl rfl)
theorem dX4_someLocks_24 : decode cX4_someLocks 24 = .ok (.invokevirtual 444, 3) := dk_182 1 188 (dk_at dksX4_someLocks_1 0 rfl rfl)
theorem dX4_someLocks_27 : decode cX4_someLocks 27 = .ok (.aload_n 0, 1) := dk_42 (dk_at dksX4_someLocks_1 3 rfl rfl)
theorem dX4_someLocks_28 : decode cX4_someLocks 28 = .ok (.invokevirtual 460, 3) := dk_182 1 204 (dk_at dksX4_someLocks_1 4 rfl rfl)
theorem dX4_someLocks_31 : decode cX4_someLocks 31 = .ok (.iconst 2, 1) := dk_5 (dk_at dksX4_someLocks_1 7 rfl rfl)
theorem dX4_someLocks_32 : decode cX4_someLocks 32 = .ok (.if_icmp .ne 5, 3) := dk_160 0 5 (dk_at dksX4_someLocks_1 8 rfl rfl)
theorem dX4_someLocks_35 : decode cX4_someLocks 35 = .ok (.iconst 1, 1) := dk_4 (dk_at dksX4_someLocks_1 11 rfl rfl)
theorem dX4_someLocks_36 : decode cX4_someLocks 36 = .ok (.ireturn, 1) := dk_172 (dk_at dksX4_someLocks_1 12 rfl rfl)
theorem dX4_someLocks_37 : decode cX4_someLocks 37 = .ok (.iinc 1 1, 3) := dk_132 1 1 (dk_at dksX4_someLocks_1 13 rfl rfl)
theorem dX4_someLocks_40 : decode cX4_someLocks 40 = .ok (.goto (-38), 3) := dk_167 255 218 (dk_at dksX4_someLocks_1 16 rfl rfl)
theorem dX4_someLocks_43 : decode cX4_someLocks 43 = .ok (.iconst 0, 1) := dk_3 (dk_at dksX4_someLocks_1 19 rfl rfl)
theorem dX4_someLocks_44 : decode cX4_someLocks 44 = .ok (.ireturn, 1) := dk_172 (dk_at dksX4_someLocks_1 20 rfl rfl)
abbrev cX4_cut : ByteArray := prog_21_method_81_code
def yX4_cut : MethodName := ⟨RX4, "cut", "()I"⟩
def dkwX4_cut_6 : List UInt8 := [132, 2, 1, 167, 255, 216, 42, 42, 180, 1, 63, 181, 0, 145, 27, 172]
abbrev dktX4_cut_6 : List UInt8 := dkwX4_cut_6 ++ []
def dkwX4_cut_5 : List UInt8 := [42, 180, 0, 95, 28, 51, 154, 0, 7, 4, 167, 0, 4, 3, 84, 42, 180, 0, 95, 28, 3, 84]
abbrev dktX4_cut_5 : List UInt8 := dkwX4_cut_5 ++ dktX4_cut_6
def dkwX4_cut_4 : List UInt8 := [60, 132, 2, 1, 167, 255, 183, 3, 61, 28, 42, 180, 0, 65, 3, 46, 162, 0, 36, 42, 180, 0, 142, 28]
abbrev dktX4_cut_4 : List UInt8 := dkwX4_cut_4 ++ dktX4_cut_5
def dkwX4_cut_3 : List UInt8 := [4, 167, 0, 4, 3, 62, 42, 180, 0, 95, 28, 29, 84, 27, 29, 153, 0, 7, 3, 167, 0, 4, 4, 96]
abbrev dktX4_cut_3 : List UInt8 := dkwX4_cut_3 ++ dktX4_cut_4
def dkwX4_cut_2 : List UInt8 := [167, 0, 49, 42, 180, 0, 95, 28, 4, 84, 42, 182, 1, 214, 153, 0, 14, 42, 182, 1, 232, 153, 0, 7]
abbrev dktX4_cut_2 : List UInt8 := dkwX4_cut_2 ++ dktX4_cut_3
def dkwX4_cut_1 : List UInt8 := [61, 28, 42, 180, 0, 65, 3, 46, 162, 0, 69, 42, 180, 0, 71, 28, 46, 16, 10, 160, 0, 6]
abbrev dktX4_cut_1 : List UInt8 := dkwX4_cut_1 ++ dktX4_cut_2
def dkwX4_cut_0 : List UInt8 := [42, 3, 181, 0, 175, 42, 182, 1, 214, 153, 0, 10, 42, 182, 1, 232, 154, 0, 5, 2, 172, 3, 60, 3]
abbrev dktX4_cut_0 : List UInt8 := dkwX4_cut_0 ++ dktX4_cut_1
theorem dksX4_cut_0 : cX4_cut.data.toList.drop 0 = dktX4_cut_0 := by decide +kernel
theorem dksX4_cut_1 : cX4_cut.data.toList.drop 24 = dktX4_cut_1 := dk_seg dksX4_cut_0 24 rfl rfl
theorem dksX4_cut_2 : cX4_cut.data.toList.drop 46 = dktX4_cut_2 := dk_seg dksX4_cut_1 22 rfl rfl
theorem dksX4_cut_3 : cX4_cut.data.toList.drop 70 = dktX4_cut_3 := dk_seg dksX4_cut_2 24 rfl rfl
theorem dksX4_cut_4 : cX4_cut.data.toList.drop 94 = dktX4_cut_4 := dk_seg dksX4_cut_3 24 rfl rfl
theorem dksX4_cut_5 : cX4_cut.data.toList.drop 118 = dktX4_cut_5 := dk_seg dksX4_cut_4 24 rfl rfl
theorem dksX4_cut_6 : cX4_cut.data.toList.drop 140 = dktX4_cut_6 := dk_seg dksX4_cut_5 22 rfl rfl
theorem dX4_cut_0 : decode cX4_cut 0 = .ok (.aload_n 0, 1) := dk_42 (dk_at dksX4_cut_0 0 rfl rfl)
theorem dX4_cut_1 : decode cX4_cut 1 = .ok (.iconst 0, 1) := dk_3 (dk_at dksX4_cut_0 1 rfl rfl)
theorem dX4_cut_2 : decode cX4_cut 2 = .ok (.putfield 175, 3) := dk_181 0 175 (dk_at dksX4_cut_0 2 rfl rfl)
theorem dX4_cut_5 : decode cX4_cut 5 = .ok (.aload_n 0, 1) := dk_42 (dk_at dksX4_cut_0 5 rfl rfl)
theorem dX4_cut_6 : decode cX4_cut 6 = .ok (.invokevirtual 470, 3) := dk_182 1 214 (dk_at dksX4_cut_0 6 rfl rfl)
theorem dX4_cut_9 : decode cX4_cut 9 = .ok (.ifCond .eq 10, 3) := dk_153 0 10 (dk_at dksX4_cut_0 9 rfl rfl)
theorem dX4_cut_12 : decode cX4_cut 12 = .ok (.aload_n 0, 1) := dk_42 (dk_at dksX4_cut_0 12 rfl rfl)
theorem dX4_cut_13 : decode cX4_cut 13 = .ok (.invokevirtual 488, 3) := dk_182 1 232 (dk_at dksX4_cut_0 13 rfl rfl)
theorem dX4_cut_16 : decode cX4_cut 16 = .ok (.ifCond .ne 5, 3) := dk_154 0 5 (dk_at dksX4_cut_0 16 rfl rfl)
theorem dX4_cut_19 : decode cX4_cut 19 = .ok (.iconst (-1), 1) := dk_2 (dk_at dksX4_cut_0 19 rfl rfl)
theorem dX4_cut_20 : decode cX4_cut 20 = .ok (.ireturn, 1) := dk_172 (dk_at dksX4_cut_0 20 rfl rfl)
theorem dX4_cut_21 : decode cX4_cut 21 = .ok (.iconst 0, 1) := dk_3 (dk_at dksX4_cut_0 21 rfl rfl)
theorem dX4_cut_22 : decode cX4_cut 22 = .ok (.istore_n 1, 1) := dk_60 (dk_at dksX4_cut_0 22 rfl rfl)
theorem dX4_cut_23 : decode cX4_cut 23 = .ok (.iconst 0, 1) := dk_3 (dk_at dksX4_cut_0 23 rfl rfl)
theorem dX4_cut_24 : decode cX4_cut 24 = .ok (.istore_n 2, 1) := dk_61 (dk_at dksX4_cut_1 0 rfl rfl)
theorem dX4_cut_25 : decode cX4_cut 25 = .ok (.iload_n 2, 1) := dk_28 (dk_at dksX4_cut_1 1 rfl rfl)
theorem dX4_cut_26 : decode cX4_cut 26 = .ok (.aload_n 0, 1) := dk_42 (dk_at dksX4_cut_1 2 rfl rfl)
theorem dX4_cut_27 : decode cX4_cut 27 = .ok (.getfield 65, 3) := dk_180 0 65 (dk_at dksX4_cut_1 3 rfl rfl)
theorem dX4_cut_30 : decode cX4_cut 30 = .ok (.iconst 0, 1) := dk_3 (dk_at dksX4_cut_1 6 rfl rfl)
theorem dX4_cut_31 : decode cX4_cut 31 = .ok (.iaload, 1) := dk_46 (dk_at dksX4_cut_1 7 rfl rfl)
theorem dX4_cut_32 : decode cX4_cut 32 = .ok (.if_icmp .ge 69, 3) := dk_162 0 69 (dk_at dksX4_cut_1 8 rfl rfl)
theorem dX4_cut_35 : decode cX4_cut 35 = .ok (.aload_n 0, 1) := dk_42 (dk_at dksX4_cut_1 11 rfl rfl)
theorem dX4_cut_36 : decode cX4_cut 36 = .ok (.getfield 71, 3) := dk_180 0 71 (dk_at dksX4_cut_1 12 rfl rfl)
theorem dX4_cut_39 : decode cX4_cut 39 = .ok (.iload_n 2, 1) := dk_28 (dk_at dksX4_cut_1 15 rfl rfl)
theorem dX4_cut_40 : decode cX4_cut 40 = .ok (.iaload, 1) := dk_46 (dk_at dksX4_cut_1 16 rfl rfl)
theorem dX4_cut_41 : decode cX4_cut 41 = .ok (.bipush 10, 2) := dk_16 10 (dk_at dksX4_cut_1 17 rfl rfl)
theorem dX4_cut_43 : decode cX4_cut 43 = .ok (.if_icmp .ne 6, 3) := dk_160 0 6 (dk_at dksX4_cut_1 19 rfl rfl)
theorem dX4_cut_46 : decode cX4_cut 46 = .ok (.goto 49, 3) := dk_167 0 49 (dk_at dksX4_cut_2 0 rfl rfl)
theorem dX4_cut_49 : decode cX4_cut 49 = .ok (.aload_n 0, 1) := dk_42 (dk_at dksX4_cut_2 3 rfl rfl)
theorem dX4_cut_50 : decode cX4_cut 50 = .ok (.getfield 95, 3) := dk_180 0 95 (dk_at dksX4_cut_2 4 rfl rfl)
theorem dX4_cut_53 : decode cX4_cut 53 = .ok (.iload_n 2, 1) := dk_28 (dk_at dksX4_cut_2 7 rfl rfl)
theorem dX4_cut_54 : decode cX4_cut 54 = .ok (.iconst 1, 1) := dk_4 (dk_at dksX4_cut_2 8 rfl rfl)
theorem dX4_cut_55 : decode cX4_cut 55 = .ok (.bastore, 1) := dk_84 (dk_at dksX4_cut_2 9 rfl rfl)
theorem dX4_cut_56 : decode cX4_cut 56 = .ok (.aload_n 0, 1) := dk_42 (dk_at dksX4_cut_2 10 rfl rfl)
theorem dX4_cut_57 : decode cX4_cut 57 = .ok (.invokevirtual 470, 3) := dk_182 1 214 (dk_at dksX4_cut_2 11 rfl rfl)
theorem dX4_cut_60 : decode cX4_cut 60 = .ok (.ifCond .eq 14, 3) := dk_153 0 14 (dk_at dksX4_cut_2 14 rfl rfl)
theorem dX4_cut_63 : decode cX4_cut 63 = .ok (.aload_n 0, 1) := dk_42 (dk_at dksX4_cut_2 17 rfl rfl)
theorem dX4_cut_64 : decode cX4_cut 64 = .ok (.invokevirtual 488, 3) := dk_182 1 232 (dk_at dksX4_cut_2 18 rfl rfl)
theorem dX4_cut_67 : decode cX4_cut 67 = .ok (.ifCond .eq 7, 3) := dk_153 0 7 (dk_at dksX4_cut_2 21 rfl rfl)
theorem dX4_cut_70 : decode cX4_cut 70 = .ok (.iconst 1, 1) := dk_4 (dk_at dksX4_cut_3 0 rfl rfl)
theorem dX4_cut_71 : decode cX4_cut 71 = .ok (.goto 4, 3) := dk_167 0 4 (dk_at dksX4_cut_3 1 rfl rfl)
theorem dX4_cut_74 : decode cX4_cut 74 = .ok (.iconst 0, 1) := dk_3 (dk_at dksX4_cut_3 4 rfl rfl)
theorem dX4_cut_75 : decode cX4_cut 75 = .ok (.istore_n 3, 1) := dk_62 (dk_at dksX4_cut_3 5 rfl rfl)
theorem dX4_cut_76 : decode cX4_cut 76 = .ok (.aload_n 0, 1) := dk_42 (dk_at dksX4_cut_3 6 rfl rfl)
theorem dX4_cut_77 : decode cX4_cut 77 = .ok (.getfield 95, 3) := dk_180 0 95 (dk_at dksX4_cut_3 7 rfl rfl)
theorem dX4_cut_80 : decode cX4_cut 80 = .ok (.iload_n 2, 1) := dk_28 (dk_at dksX4_cut_3 10 rfl rfl)
theorem dX4_cut_81 : decode cX4_cut 81 = .ok (.iload_n 3, 1) := dk_29 (dk_at dksX4_cut_3 11 rfl rfl)
theorem dX4_cut_82 : decode cX4_cut 82 = .ok (.bastore, 1) := dk_84 (dk_at dksX4_cut_3 12 rfl rfl)
theorem dX4_cut_83 : decode cX4_cut 83 = .ok (.iload_n 1, 1) := dk_27 (dk_at dksX4_cut_3 13 rfl rfl)
theorem dX4_cut_84 : decode cX4_cut 84 = .ok (.iload_n 3, 1) := dk_29 (dk_at dksX4_cut_3 14 rfl rfl)
theorem dX4_cut_85 : decode cX4_cut 85 = .ok (.ifCond .eq 7, 3) := dk_153 0 7 (dk_at dksX4_cut_3 15 rfl rfl)
theorem dX4_cut_88 : decode cX4_cut 88 = .ok (.iconst 0, 1) := dk_3 (dk_at dksX4_cut_3 18 rfl rfl)
theorem dX4_cut_89 : decode cX4_cut 89 = .ok (.goto 4, 3) := dk_167 0 4 (dk_at dksX4_cut_3 19 rfl rfl)
theorem dX4_cut_92 : decode cX4_cut 92 = .ok (.iconst 1, 1) := dk_4 (dk_at dksX4_cut_3 22 rfl rfl)
theorem dX4_cut_93 : decode cX4_cut 93 = .ok (.iadd, 1) := dk_96 (dk_at dksX4_cut_3 23 rfl rfl)
theorem dX4_cut_94 : decode cX4_cut 94 = .ok (.istore_n 1, 1) := dk_60 (dk_at dksX4_cut_4 0 rfl rfl)
theorem dX4_cut_95 : decode cX4_cut 95 = .ok (.iinc 2 1, 3) := dk_132 2 1 (dk_at dksX4_cut_4 1 rfl rfl)
theorem dX4_cut_98 : decode cX4_cut 98 = .ok (.goto (-73), 3) := dk_167 255 183 (dk_at dksX4_cut_4 4 rfl rfl)
theorem dX4_cut_101 : decode cX4_cut 101 = .ok (.iconst 0, 1) := dk_3 (dk_at dksX4_cut_4 7 rfl rfl)
theorem dX4_cut_102 : decode cX4_cut 102 = .ok (.istore_n 2, 1) := dk_61 (dk_at dksX4_cut_4 8 rfl rfl)
theorem dX4_cut_103 : decode cX4_cut 103 = .ok (.iload_n 2, 1) := dk_28 (dk_at dksX4_cut_4 9 rfl rfl)
theorem dX4_cut_104 : decode cX4_cut 104 = .ok (.aload_n 0, 1) := dk_42 (dk_at dksX4_cut_4 10 rfl rfl)
theorem dX4_cut_105 : decode cX4_cut 105 = .ok (.getfield 65, 3) := dk_180 0 65 (dk_at dksX4_cut_4 11 rfl rfl)
theorem dX4_cut_108 : decode cX4_cut 108 = .ok (.iconst 0, 1) := dk_3 (dk_at dksX4_cut_4 14 rfl rfl)
theorem dX4_cut_109 : decode cX4_cut 109 = .ok (.iaload, 1) := dk_46 (dk_at dksX4_cut_4 15 rfl rfl)
theorem dX4_cut_110 : decode cX4_cut 110 = .ok (.if_icmp .ge 36, 3) := dk_162 0 36 (dk_at dksX4_cut_4 16 rfl rfl)
theorem dX4_cut_113 : decode cX4_cut 113 = .ok (.aload_n 0, 1) := dk_42 (dk_at dksX4_cut_4 19 rfl rfl)
theorem dX4_cut_114 : decode cX4_cut 114 = .ok (.getfield 142, 3) := dk_180 0 142 (dk_at dksX4_cut_4 20 rfl rfl)
theorem dX4_cut_117 : decode cX4_cut 117 = .ok (.iload_n 2, 1) := dk_28 (dk_at dksX4_cut_4 23 rfl rfl)
theorem dX4_cut_118 : decode cX4_cut 118 = .ok (.aload_n 0, 1) := dk_42 (dk_at dksX4_cut_5 0 rfl rfl)
theorem dX4_cut_119 : decode cX4_cut 119 = .ok (.getfield 95, 3) := dk_180 0 95 (dk_at dksX4_cut_5 1 rfl rfl)
theorem dX4_cut_122 : decode cX4_cut 122 = .ok (.iload_n 2, 1) := dk_28 (dk_at dksX4_cut_5 4 rfl rfl)
theorem dX4_cut_123 : decode cX4_cut 123 = .ok (.baload, 1) := dk_51 (dk_at dksX4_cut_5 5 rfl rfl)
theorem dX4_cut_124 : decode cX4_cut 124 = .ok (.ifCond .ne 7, 3) := dk_154 0 7 (dk_at dksX4_cut_5 6 rfl rfl)
theorem dX4_cut_127 : decode cX4_cut 127 = .ok (.iconst 1, 1) := dk_4 (dk_at dksX4_cut_5 9 rfl rfl)
theorem dX4_cut_128 : decode cX4_cut 128 = .ok (.goto 4, 3) := dk_167 0 4 (dk_at dksX4_cut_5 10 rfl rfl)
theorem dX4_cut_131 : decode cX4_cut 131 = .ok (.iconst 0, 1) := dk_3 (dk_at dksX4_cut_5 13 rfl rfl)
theorem dX4_cut_132 : decode cX4_cut 132 = .ok (.bastore, 1) := dk_84 (dk_at dksX4_cut_5 14 rfl rfl)
theorem dX4_cut_133 : decode cX4_cut 133 = .ok (.aload_n 0, 1) := dk_42 (dk_at dksX4_cut_5 15 rfl rfl)
theorem dX4_cut_134 : decode cX4_cut 134 = .ok (.getfield 95, 3) := dk_180 0 95 (dk_at dksX4_cut_5 16 rfl rfl)
theorem dX4_cut_137 : decode cX4_cut 137 = .ok (.iload_n 2, 1) := dk_28 (dk_at dksX4_cut_5 19 rfl rfl)
theorem dX4_cut_138 : decode cX4_cut 138 = .ok (.iconst 0, 1) := dk_3 (dk_at dksX4_cut_5 20 rfl rfl)
theorem dX4_cut_139 : decode cX4_cut 139 = .ok (.bastore, 1) := dk_84 (dk_at dksX4_cut_5 21 rfl rfl)
theorem dX4_cut_140 : decode cX4_cut 140 = .ok (.iinc 2 1, 3) := dk_132 2 1 (dk_at dksX4_cut_6 0 rfl rfl)
theorem dX4_cut_143 : decode cX4_cut 143 = .ok (.goto (-40), 3) := dk_167 255 216 (dk_at dksX4_cut_6 3 rfl rfl)
theorem dX4_cut_146 : decode cX4_cut 146 = .ok (.aload_n 0, 1) := dk_42 (dk_at dksX4_cut_6 6 rfl rfl)
theorem dX4_cut_147 : decode cX4_cut 147 = .ok (.aload_n 0, 1) := dk_42 (dk_at dksX4_cut_6 7 rfl rfl)
theorem dX4_cut_148 : decode cX4_cut 148 = .ok (.getfield 319, 3) := dk_180 1 63 (dk_at dksX4_cut_6 8 rfl rfl)
theorem dX4_cut_151 : decode cX4_cut 151 = .ok (.putfield 145, 3) := dk_181 0 145 (dk_at dksX4_cut_6 11 rfl rfl)
theorem dX4_cut_154 : decode cX4_cut 154 = .ok (.iload_n 1, 1) := dk_27 (dk_at dksX4_cut_6 14 rfl rfl)
theorem dX4_cut_155 : decode cX4_cut 155 = .ok (.ireturn, 1) := dk_172 (dk_at dksX4_cut_6 15 rfl rfl)
abbrev cX4_left : ByteArray := prog_21_method_82_code
def yX4_left : MethodName := ⟨RX4, "left", "(I)Z"⟩
def dkwX4_left_1 : List UInt8 := [42, 4, 182, 1, 235, 172, 42, 180, 0, 142, 27, 51, 172]
abbrev dktX4_left_1 : List UInt8 := dkwX4_left_1 ++ []
def dkwX4_left_0 : List UInt8 := [42, 3, 181, 0, 175, 42, 27, 182, 1, 78, 153, 0, 14, 42, 180, 0, 145, 42, 180, 1, 63, 159, 0, 9]
abbrev dktX4_left_0 : List UInt8 := dkwX4_left_0 ++ dktX4_left_1
theorem dksX4_left_0 : cX4_left.data.toList.drop 0 = dktX4_left_0 := by decide +kernel
theorem dksX4_left_1 : cX4_left.data.toList.drop 24 = dktX4_left_1 := dk_seg dksX4_left_0 24 rfl rfl
theorem dX4_left_0 : decode cX4_left 0 = .ok (.aload_n 0, 1) := dk_42 (dk_at dksX4_left_0 0 rfl rfl)
theorem dX4_left_1 : decode cX4_left 1 = .ok (.iconst 0, 1) := dk_3 (dk_at dksX4_left_0 1 rfl rfl)
theorem dX4_left_2 : decode cX4_left 2 = .ok (.putfield 175, 3) := dk_181 0 175 (dk_at dksX4_left_0 2 rfl rfl)
theorem dX4_left_5 : decode cX4_left 5 = .ok (.aload_n 0, 1) := dk_42 (dk_at dksX4_left_0 5 rfl rfl)
theorem dX4_left_6 : decode cX4_left 6 = .ok (.iload_n 1, 1) := dk_27 (dk_at dksX4_left_0 6 rfl rfl)
theorem dX4_left_7 : decode cX4_left 7 = .ok (.invokevirtual 334, 3) := dk_182 1 78 (dk_at dksX4_left_0 7 rfl rfl)
theorem dX4_left_10 : decode cX4_left 10 = .ok (.ifCond .eq 14, 3) := dk_153 0 14 (dk_at dksX4_left_0 10 rfl rfl)
theorem dX4_left_13 : decode cX4_left 13 = .ok (.aload_n 0, 1) := dk_42 (dk_at dksX4_left_0 13 rfl rfl)
theorem dX4_left_14 : decode cX4_left 14 = .ok (.getfield 145, 3) := dk_180 0 145 (dk_at dksX4_left_0 14 rfl rfl)
theorem dX4_left_17 : decode cX4_left 17 = .ok (.aload_n 0, 1) := dk_42 (dk_at dksX4_left_0 17 rfl rfl)
theorem dX4_left_18 : decode cX4_left 18 = .ok (.getfield 319, 3) := dk_180 1 63 (dk_at dksX4_left_0 18 rfl rfl)
theorem dX4_left_21 : decode cX4_left 21 = .ok (.if_icmp .eq 9, 3) := dk_159 0 9 (dk_at dksX4_left_0 21 rfl rfl)
theorem dX4_left_24 : decode cX4_left 24 = .ok (.aload_n 0, 1) := dk_42 (dk_at dksX4_left_1 0 rfl rfl)
theorem dX4_left_25 : decode cX4_left 25 = .ok (.iconst 1, 1) := dk_4 (dk_at dksX4_left_1 1 rfl rfl)
theorem dX4_left_26 : decode cX4_left 26 = .ok (.invokevirtual 491, 3) := dk_182 1 235 (dk_at dksX4_left_1 2 rfl rfl)
theorem dX4_left_29 : decode cX4_left 29 = .ok (.ireturn, 1) := dk_172 (dk_at dksX4_left_1 5 rfl rfl)
theorem dX4_left_30 : decode cX4_left 30 = .ok (.aload_n 0, 1) := dk_42 (dk_at dksX4_left_1 6 rfl rfl)
theorem dX4_left_31 : decode cX4_left 31 = .ok (.getfield 142, 3) := dk_180 0 142 (dk_at dksX4_left_1 7 rfl rfl)
theorem dX4_left_34 : decode cX4_left 34 = .ok (.iload_n 1, 1) := dk_27 (dk_at dksX4_left_1 10 rfl rfl)
theorem dX4_left_35 : decode cX4_left 35 = .ok (.baload, 1) := dk_51 (dk_at dksX4_left_1 11 rfl rfl)
theorem dX4_left_36 : decode cX4_left 36 = .ok (.ireturn, 1) := dk_172 (dk_at dksX4_left_1 12 rfl rfl)
abbrev cX4_refuse : ByteArray := prog_21_method_4_code
def yX4_refuse : MethodName := ⟨RX4, "refuse", "(I)Z"⟩
def dkwX4_refuse_0 : List UInt8 := [42, 27, 181, 0, 175, 3, 172]
abbrev dktX4_refuse_0 : List UInt8 := dkwX4_refuse_0 ++ []
theorem dksX4_refuse_0 : cX4_refuse.data.toList.drop 0 = dktX4_refuse_0 := by decide +kernel
theorem dX4_refuse_0 : decode cX4_refuse 0 = .ok (.aload_n 0, 1) := dk_42 (dk_at dksX4_refuse_0 0 rfl rfl)
theorem dX4_refuse_1 : decode cX4_refuse 1 = .ok (.iload_n 1, 1) := dk_27 (dk_at dksX4_refuse_0 1 rfl rfl)
theorem dX4_refuse_2 : decode cX4_refuse 2 = .ok (.putfield 175, 3) := dk_181 0 175 (dk_at dksX4_refuse_0 2 rfl rfl)
theorem dX4_refuse_5 : decode cX4_refuse 5 = .ok (.iconst 0, 1) := dk_3 (dk_at dksX4_refuse_0 5 rfl rfl)
theorem dX4_refuse_6 : decode cX4_refuse 6 = .ok (.ireturn, 1) := dk_172 (dk_at dksX4_refuse_0 6 rfl rfl)
abbrev cX4_play : ByteArray := prog_21_method_86_code
def yX4_play : MethodName := ⟨RX4, "play", "(IJ)I"⟩
def dkwX4_play_9 : List UInt8 := [21, 4, 172]
abbrev dktX4_play_9 : List UInt8 := dkwX4_play_9 ++ []
def dkwX4_play_8 : List UInt8 := [46, 79, 132, 5, 1, 167, 255, 230, 42, 42, 180, 0, 54, 181, 0, 148, 42, 42, 180, 1, 63, 181, 2, 1]
abbrev dktX4_play_8 : List UInt8 := dkwX4_play_8 ++ dktX4_play_9
def dkwX4_play_7 : List UInt8 := [3, 54, 5, 21, 5, 42, 180, 1, 238, 162, 0, 23, 42, 180, 0, 172, 21, 5, 42, 180, 0, 154, 21, 5]
abbrev dktX4_play_7 : List UInt8 := dkwX4_play_7 ++ dktX4_play_8
def dkwX4_play_6 : List UInt8 := [21, 5, 42, 180, 0, 99, 21, 5, 46, 79, 132, 5, 1, 167, 255, 232, 42, 42, 180, 1, 238, 181, 1, 254]
abbrev dktX4_play_6 : List UInt8 := dkwX4_play_6 ++ dktX4_play_7
def dkwX4_play_5 : List UInt8 := [132, 5, 1, 167, 255, 203, 42, 182, 1, 251, 3, 54, 5, 21, 5, 16, 64, 162, 0, 23, 42, 180, 0, 151]
abbrev dktX4_play_5 : List UInt8 := dkwX4_play_5 ++ dktX4_play_6
def dkwX4_play_4 : List UInt8 := [21, 5, 42, 180, 0, 108, 21, 5, 46, 79, 42, 180, 0, 169, 21, 5, 42, 180, 0, 111, 21, 5, 46, 79]
abbrev dktX4_play_4 : List UInt8 := dkwX4_play_4 ++ dktX4_play_5
def dkwX4_play_3 : List UInt8 := [42, 180, 0, 54, 162, 0, 50, 42, 180, 0, 160, 21, 5, 42, 21, 5, 182, 1, 248, 79, 42, 180, 0, 166]
abbrev dktX4_play_3 : List UInt8 := dkwX4_play_3 ++ dktX4_play_4
def dkwX4_play_2 : List UInt8 := [4, 182, 1, 57, 172, 132, 4, 1, 167, 255, 224, 42, 27, 32, 182, 1, 244, 54, 4, 3, 54, 5, 21, 5]
abbrev dktX4_play_2 : List UInt8 := dkwX4_play_2 ++ dktX4_play_3
def dkwX4_play_1 : List UInt8 := [21, 4, 27, 162, 0, 32, 32, 7, 21, 4, 104, 123, 136, 16, 15, 126, 42, 180, 0, 54, 161, 0, 9, 42]
abbrev dktX4_play_1 : List UInt8 := dkwX4_play_1 ++ dktX4_play_2
def dkwX4_play_0 : List UInt8 := [42, 3, 181, 0, 175, 27, 3, 16, 16, 184, 1, 20, 154, 0, 9, 42, 4, 182, 1, 57, 172, 3, 54, 4]
abbrev dktX4_play_0 : List UInt8 := dkwX4_play_0 ++ dktX4_play_1
theorem dksX4_play_0 : cX4_play.data.toList.drop 0 = dktX4_play_0 := by decide +kernel
theorem dksX4_play_1 : cX4_play.data.toList.drop 24 = dktX4_play_1 := dk_seg dksX4_play_0 24 rfl rfl
theorem dksX4_play_2 : cX4_play.data.toList.drop 48 = dktX4_play_2 := dk_seg dksX4_play_1 24 rfl rfl
theorem dksX4_play_3 : cX4_play.data.toList.drop 72 = dktX4_play_3 := dk_seg dksX4_play_2 24 rfl rfl
theorem dksX4_play_4 : cX4_play.data.toList.drop 96 = dktX4_play_4 := dk_seg dksX4_play_3 24 rfl rfl
theorem dksX4_play_5 : cX4_play.data.toList.drop 120 = dktX4_play_5 := dk_seg dksX4_play_4 24 rfl rfl
theorem dksX4_play_6 : cX4_play.data.toList.drop 144 = dktX4_play_6 := dk_seg dksX4_play_5 24 rfl rfl
theorem dksX4_play_7 : cX4_play.data.toList.drop 168 = dktX4_play_7 := dk_seg dksX4_play_6 24 rfl rfl
theorem dksX4_play_8 : cX4_play.data.toList.drop 192 = dktX4_play_8 := dk_seg dksX4_play_7 24 rfl rfl
theorem dksX4_play_9 : cX4_play.data.toList.drop 216 = dktX4_play_9 := dk_seg dksX4_play_8 24 rfl rfl
theorem dX4_play_0 : decode cX4_play 0 = .ok (.aload_n 0, 1) := dk_42 (dk_at dksX4_play_0 0 rfl rfl)
theorem dX4_play_1 : decode cX4_play 1 = .ok (.iconst 0, 1) := dk_3 (dk_at dksX4_play_0 1 rfl rfl)
theorem dX4_play_2 : decode cX4_play 2 = .ok (.putfield 175, 3) := dk_181 0 175 (dk_at dksX4_play_0 2 rfl rfl)
theorem dX4_play_5 : decode cX4_play 5 = .ok (.iload_n 1, 1) := dk_27 (dk_at dksX4_play_0 5 rfl rfl)
theorem dX4_play_6 : decode cX4_play 6 = .ok (.iconst 0, 1) := dk_3 (dk_at dksX4_play_0 6 rfl rfl)
theorem dX4_play_7 : decode cX4_play 7 = .ok (.bipush 16, 2) := dk_16 16 (dk_at dksX4_play_0 7 rfl rfl)
theorem dX4_play_9 : decode cX4_play 9 = .ok (.invokestatic 276, 3) := dk_184 1 20 (dk_at dksX4_play_0 9 rfl rfl)
theorem dX4_play_12 : decode cX4_play 12 = .ok (.ifCond .ne 9, 3) := dk_154 0 9 (dk_at dksX4_play_0 12 rfl rfl)
theorem dX4_play_15 : decode cX4_play 15 = .ok (.aload_n 0, 1) := dk_42 (dk_at dksX4_play_0 15 rfl rfl)
theorem dX4_play_16 : decode cX4_play 16 = .ok (.iconst 1, 1) := dk_4 (dk_at dksX4_play_0 16 rfl rfl)
theorem dX4_play_17 : decode cX4_play 17 = .ok (.invokevirtual 313, 3) := dk_182 1 57 (dk_at dksX4_play_0 17 rfl rfl)
theorem dX4_play_20 : decode cX4_play 20 = .ok (.ireturn, 1) := dk_172 (dk_at dksX4_play_0 20 rfl rfl)
theorem dX4_play_21 : decode cX4_play 21 = .ok (.iconst 0, 1) := dk_3 (dk_at dksX4_play_0 21 rfl rfl)
theorem dX4_play_22 : decode cX4_play 22 = .ok (.istore 4, 2) := dk_54 4 (dk_at dksX4_play_0 22 rfl rfl)
theorem dX4_play_24 : decode cX4_play 24 = .ok (.iload 4, 2) := dk_21 4 (dk_at dksX4_play_1 0 rfl rfl)
theorem dX4_play_26 : decode cX4_play 26 = .ok (.iload_n 1, 1) := dk_27 (dk_at dksX4_play_1 2 rfl rfl)
theorem dX4_play_27 : decode cX4_play 27 = .ok (.if_icmp .ge 32, 3) := dk_162 0 32 (dk_at dksX4_play_1 3 rfl rfl)
theorem dX4_play_30 : decode cX4_play 30 = .ok (.lload_n 2, 1) := dk_32 (dk_at dksX4_play_1 6 rfl rfl)
theorem dX4_play_31 : decode cX4_play 31 = .ok (.iconst 4, 1) := dk_7 (dk_at dksX4_play_1 7 rfl rfl)
theorem dX4_play_32 : decode cX4_play 32 = .ok (.iload 4, 2) := dk_21 4 (dk_at dksX4_play_1 8 rfl rfl)
theorem dX4_play_34 : decode cX4_play 34 = .ok (.imul, 1) := dk_104 (dk_at dksX4_play_1 10 rfl rfl)
theorem dX4_play_35 : decode cX4_play 35 = .ok (.lshr, 1) := dk_123 (dk_at dksX4_play_1 11 rfl rfl)
theorem dX4_play_36 : decode cX4_play 36 = .ok (.l2i, 1) := dk_136 (dk_at dksX4_play_1 12 rfl rfl)
theorem dX4_play_37 : decode cX4_play 37 = .ok (.bipush 15, 2) := dk_16 15 (dk_at dksX4_play_1 13 rfl rfl)
theorem dX4_play_39 : decode cX4_play 39 = .ok (.iand, 1) := dk_126 (dk_at dksX4_play_1 15 rfl rfl)
theorem dX4_play_40 : decode cX4_play 40 = .ok (.aload_n 0, 1) := dk_42 (dk_at dksX4_play_1 16 rfl rfl)
theorem dX4_play_41 : decode cX4_play 41 = .ok (.getfield 54, 3) := dk_180 0 54 (dk_at dksX4_play_1 17 rfl rfl)
theorem dX4_play_44 : decode cX4_play 44 = .ok (.if_icmp .lt 9, 3) := dk_161 0 9 (dk_at dksX4_play_1 20 rfl rfl)
theorem dX4_play_47 : decode cX4_play 47 = .ok (.aload_n 0, 1) := dk_42 (dk_at dksX4_play_1 23 rfl rfl)
theorem dX4_play_48 : decode cX4_play 48 = .ok (.iconst 1, 1) := dk_4 (dk_at dksX4_play_2 0 rfl rfl)
theorem dX4_play_49 : decode cX4_play 49 = .ok (.invokevirtual 313, 3) := dk_182 1 57 (dk_at dksX4_play_2 1 rfl rfl)
theorem dX4_play_52 : decode cX4_play 52 = .ok (.ireturn, 1) := dk_172 (dk_at dksX4_play_2 4 rfl rfl)
theorem dX4_play_53 : decode cX4_play 53 = .ok (.iinc 4 1, 3) := dk_132 4 1 (dk_at dksX4_play_2 5 rfl rfl)
theorem dX4_play_56 : decode cX4_play 56 = .ok (.goto (-32), 3) := dk_167 255 224 (dk_at dksX4_play_2 8 rfl rfl)
theorem dX4_play_59 : decode cX4_play 59 = .ok (.aload_n 0, 1) := dk_42 (dk_at dksX4_play_2 11 rfl rfl)
theorem dX4_play_60 : decode cX4_play 60 = .ok (.iload_n 1, 1) := dk_27 (dk_at dksX4_play_2 12 rfl rfl)
theorem dX4_play_61 : decode cX4_play 61 = .ok (.lload_n 2, 1) := dk_32 (dk_at dksX4_play_2 13 rfl rfl)
theorem dX4_play_62 : decode cX4_play 62 = .ok (.invokevirtual 500, 3) := dk_182 1 244 (dk_at dksX4_play_2 14 rfl rfl)
theorem dX4_play_65 : decode cX4_play 65 = .ok (.istore 4, 2) := dk_54 4 (dk_at dksX4_play_2 17 rfl rfl)
theorem dX4_play_67 : decode cX4_play 67 = .ok (.iconst 0, 1) := dk_3 (dk_at dksX4_play_2 19 rfl rfl)
theorem dX4_play_68 : decode cX4_play 68 = .ok (.istore 5, 2) := dk_54 5 (dk_at dksX4_play_2 20 rfl rfl)
theorem dX4_play_70 : decode cX4_play 70 = .ok (.iload 5, 2) := dk_21 5 (dk_at dksX4_play_2 22 rfl rfl)
theorem dX4_play_72 : decode cX4_play 72 = .ok (.aload_n 0, 1) := dk_42 (dk_at dksX4_play_3 0 rfl rfl)
theorem dX4_play_73 : decode cX4_play 73 = .ok (.getfield 54, 3) := dk_180 0 54 (dk_at dksX4_play_3 1 rfl rfl)
theorem dX4_play_76 : decode cX4_play 76 = .ok (.if_icmp .ge 50, 3) := dk_162 0 50 (dk_at dksX4_play_3 4 rfl rfl)
theorem dX4_play_79 : decode cX4_play 79 = .ok (.aload_n 0, 1) := dk_42 (dk_at dksX4_play_3 7 rfl rfl)
theorem dX4_play_80 : decode cX4_play 80 = .ok (.getfield 160, 3) := dk_180 0 160 (dk_at dksX4_play_3 8 rfl rfl)
theorem dX4_play_83 : decode cX4_play 83 = .ok (.iload 5, 2) := dk_21 5 (dk_at dksX4_play_3 11 rfl rfl)
theorem dX4_play_85 : decode cX4_play 85 = .ok (.aload_n 0, 1) := dk_42 (dk_at dksX4_play_3 13 rfl rfl)
theorem dX4_play_86 : decode cX4_play 86 = .ok (.iload 5, 2) := dk_21 5 (dk_at dksX4_play_3 14 rfl rfl)
theorem dX4_play_88 : decode cX4_play 88 = .ok (.invokevirtual 504, 3) := dk_182 1 248 (dk_at dksX4_play_3 16 rfl rfl)
theorem dX4_play_91 : decode cX4_play 91 = .ok (.iastore, 1) := dk_79 (dk_at dksX4_play_3 19 rfl rfl)
theorem dX4_play_92 : decode cX4_play 92 = .ok (.aload_n 0, 1) := dk_42 (dk_at dksX4_play_3 20 rfl rfl)
theorem dX4_play_93 : decode cX4_play 93 = .ok (.getfield 166, 3) := dk_180 0 166 (dk_at dksX4_play_3 21 rfl rfl)
theorem dX4_play_96 : decode cX4_play 96 = .ok (.iload 5, 2) := dk_21 5 (dk_at dksX4_play_4 0 rfl rfl)
theorem dX4_play_98 : decode cX4_play 98 = .ok (.aload_n 0, 1) := dk_42 (dk_at dksX4_play_4 2 rfl rfl)
theorem dX4_play_99 : decode cX4_play 99 = .ok (.getfield 108, 3) := dk_180 0 108 (dk_at dksX4_play_4 3 rfl rfl)
theorem dX4_play_102 : decode cX4_play 102 = .ok (.iload 5, 2) := dk_21 5 (dk_at dksX4_play_4 6 rfl rfl)
theorem dX4_play_104 : decode cX4_play 104 = .ok (.iaload, 1) := dk_46 (dk_at dksX4_play_4 8 rfl rfl)
theorem dX4_play_105 : decode cX4_play 105 = .ok (.iastore, 1) := dk_79 (dk_at dksX4_play_4 9 rfl rfl)
theorem dX4_play_106 : decode cX4_play 106 = .ok (.aload_n 0, 1) := dk_42 (dk_at dksX4_play_4 10 rfl rfl)
theorem dX4_play_107 : decode cX4_play 107 = .ok (.getfield 169, 3) := dk_180 0 169 (dk_at dksX4_play_4 11 rfl rfl)
theorem dX4_play_110 : decode cX4_play 110 = .ok (.iload 5, 2) := dk_21 5 (dk_at dksX4_play_4 14 rfl rfl)
theorem dX4_play_112 : decode cX4_play 112 = .ok (.aload_n 0, 1) := dk_42 (dk_at dksX4_play_4 16 rfl rfl)
theorem dX4_play_113 : decode cX4_play 113 = .ok (.getfield 111, 3) := dk_180 0 111 (dk_at dksX4_play_4 17 rfl rfl)
theorem dX4_play_116 : decode cX4_play 116 = .ok (.iload 5, 2) := dk_21 5 (dk_at dksX4_play_4 20 rfl rfl)
theorem dX4_play_118 : decode cX4_play 118 = .ok (.iaload, 1) := dk_46 (dk_at dksX4_play_4 22 rfl rfl)
theorem dX4_play_119 : decode cX4_play 119 = .ok (.iastore, 1) := dk_79 (dk_at dksX4_play_4 23 rfl rfl)
theorem dX4_play_120 : decode cX4_play 120 = .ok (.iinc 5 1, 3) := dk_132 5 1 (dk_at dksX4_play_5 0 rfl rfl)
theorem dX4_play_123 : decode cX4_play 123 = .ok (.goto (-53), 3) := dk_167 255 203 (dk_at dksX4_play_5 3 rfl rfl)
theorem dX4_play_126 : decode cX4_play 126 = .ok (.aload_n 0, 1) := dk_42 (dk_at dksX4_play_5 6 rfl rfl)
theorem dX4_play_127 : decode cX4_play 127 = .ok (.invokevirtual 507, 3) := dk_182 1 251 (dk_at dksX4_play_5 7 rfl rfl)
theorem dX4_play_130 : decode cX4_play 130 = .ok (.iconst 0, 1) := dk_3 (dk_at dksX4_play_5 10 rfl rfl)
theorem dX4_play_131 : decode cX4_play 131 = .ok (.istore 5, 2) := dk_54 5 (dk_at dksX4_play_5 11 rfl rfl)
theorem dX4_play_133 : decode cX4_play 133 = .ok (.iload 5, 2) := dk_21 5 (dk_at dksX4_play_5 13 rfl rfl)
theorem dX4_play_135 : decode cX4_play 135 = .ok (.bipush 64, 2) := dk_16 64 (dk_at dksX4_play_5 15 rfl rfl)
theorem dX4_play_137 : decode cX4_play 137 = .ok (.if_icmp .ge 23, 3) := dk_162 0 23 (dk_at dksX4_play_5 17 rfl rfl)
theorem dX4_play_140 : decode cX4_play 140 = .ok (.aload_n 0, 1) := dk_42 (dk_at dksX4_play_5 20 rfl rfl)
theorem dX4_play_141 : decode cX4_play 141 = .ok (.getfield 151, 3) := dk_180 0 151 (dk_at dksX4_play_5 21 rfl rfl)
theorem dX4_play_144 : decode cX4_play 144 = .ok (.iload 5, 2) := dk_21 5 (dk_at dksX4_play_6 0 rfl rfl)
theorem dX4_play_146 : decode cX4_play 146 = .ok (.aload_n 0, 1) := dk_42 (dk_at dksX4_play_6 2 rfl rfl)
theorem dX4_play_147 : decode cX4_play 147 = .ok (.getfield 99, 3) := dk_180 0 99 (dk_at dksX4_play_6 3 rfl rfl)
theorem dX4_play_150 : decode cX4_play 150 = .ok (.iload 5, 2) := dk_21 5 (dk_at dksX4_play_6 6 rfl rfl)
theorem dX4_play_152 : decode cX4_play 152 = .ok (.iaload, 1) := dk_46 (dk_at dksX4_play_6 8 rfl rfl)
theorem dX4_play_153 : decode cX4_play 153 = .ok (.iastore, 1) := dk_79 (dk_at dksX4_play_6 9 rfl rfl)
theorem dX4_play_154 : decode cX4_play 154 = .ok (.iinc 5 1, 3) := dk_132 5 1 (dk_at dksX4_play_6 10 rfl rfl)
theorem dX4_play_157 : decode cX4_play 157 = .ok (.goto (-24), 3) := dk_167 255 232 (dk_at dksX4_play_6 13 rfl rfl)
theorem dX4_play_160 : decode cX4_play 160 = .ok (.aload_n 0, 1) := dk_42 (dk_at dksX4_play_6 16 rfl rfl)
theorem dX4_play_161 : decode cX4_play 161 = .ok (.aload_n 0, 1) := dk_42 (dk_at dksX4_play_6 17 rfl rfl)
theorem dX4_play_162 : decode cX4_play 162 = .ok (.getfield 494, 3) := dk_180 1 238 (dk_at dksX4_play_6 18 rfl rfl)
theorem dX4_play_165 : decode cX4_play 165 = .ok (.putfield 510, 3) := dk_181 1 254 (dk_at dksX4_play_6 21 rfl rfl)
theorem dX4_play_168 : decode cX4_play 168 = .ok (.iconst 0, 1) := dk_3 (dk_at dksX4_play_7 0 rfl rfl)
theorem dX4_play_169 : decode cX4_play 169 = .ok (.istore 5, 2) := dk_54 5 (dk_at dksX4_play_7 1 rfl rfl)
theorem dX4_play_171 : decode cX4_play 171 = .ok (.iload 5, 2) := dk_21 5 (dk_at dksX4_play_7 3 rfl rfl)
theorem dX4_play_173 : decode cX4_play 173 = .ok (.aload_n 0, 1) := dk_42 (dk_at dksX4_play_7 5 rfl rfl)
theorem dX4_play_174 : decode cX4_play 174 = .ok (.getfield 494, 3) := dk_180 1 238 (dk_at dksX4_play_7 6 rfl rfl)
theorem dX4_play_177 : decode cX4_play 177 = .ok (.if_icmp .ge 23, 3) := dk_162 0 23 (dk_at dksX4_play_7 9 rfl rfl)
theorem dX4_play_180 : decode cX4_play 180 = .ok (.aload_n 0, 1) := dk_42 (dk_at dksX4_play_7 12 rfl rfl)
theorem dX4_play_181 : decode cX4_play 181 = .ok (.getfield 172, 3) := dk_180 0 172 (dk_at dksX4_play_7 13 rfl rfl)
theorem dX4_play_184 : decode cX4_play 184 = .ok (.iload 5, 2) := dk_21 5 (dk_at dksX4_play_7 16 rfl rfl)
theorem dX4_play_186 : decode cX4_play 186 = .ok (.aload_n 0, 1) := dk_42 (dk_at dksX4_play_7 18 rfl rfl)
theorem dX4_play_187 : decode cX4_play 187 = .ok (.getfield 154, 3) := dk_180 0 154 (dk_at dksX4_play_7 19 rfl rfl)
theorem dX4_play_190 : decode cX4_play 190 = .ok (.iload 5, 2) := dk_21 5 (dk_at dksX4_play_7 22 rfl rfl)
theorem dX4_play_192 : decode cX4_play 192 = .ok (.iaload, 1) := dk_46 (dk_at dksX4_play_8 0 rfl rfl)
theorem dX4_play_193 : decode cX4_play 193 = .ok (.iastore, 1) := dk_79 (dk_at dksX4_play_8 1 rfl rfl)
theorem dX4_play_194 : decode cX4_play 194 = .ok (.iinc 5 1, 3) := dk_132 5 1 (dk_at dksX4_play_8 2 rfl rfl)
theorem dX4_play_197 : decode cX4_play 197 = .ok (.goto (-26), 3) := dk_167 255 230 (dk_at dksX4_play_8 5 rfl rfl)
theorem dX4_play_200 : decode cX4_play 200 = .ok (.aload_n 0, 1) := dk_42 (dk_at dksX4_play_8 8 rfl rfl)
theorem dX4_play_201 : decode cX4_play 201 = .ok (.aload_n 0, 1) := dk_42 (dk_at dksX4_play_8 9 rfl rfl)
theorem dX4_play_202 : decode cX4_play 202 = .ok (.getfield 54, 3) := dk_180 0 54 (dk_at dksX4_play_8 10 rfl rfl)
theorem dX4_play_205 : decode cX4_play 205 = .ok (.putfield 148, 3) := dk_181 0 148 (dk_at dksX4_play_8 13 rfl rfl)
theorem dX4_play_208 : decode cX4_play 208 = .ok (.aload_n 0, 1) := dk_42 (dk_at dksX4_play_8 16 rfl rfl)
theorem dX4_play_209 : decode cX4_play 209 = .ok (.aload_n 0, 1) := dk_42 (dk_at dksX4_play_8 17 rfl rfl)
theorem dX4_play_210 : decode cX4_play 210 = .ok (.getfield 319, 3) := dk_180 1 63 (dk_at dksX4_play_8 18 rfl rfl)
theorem dX4_play_213 : decode cX4_play 213 = .ok (.putfield 513, 3) := dk_181 2 1 (dk_at dksX4_play_8 21 rfl rfl)
theorem dX4_play_216 : decode cX4_play 216 = .ok (.iload 4, 2) := dk_21 4 (dk_at dksX4_play_9 0 rfl rfl)
theorem dX4_play_218 : decode cX4_play 218 = .ok (.ireturn, 1) := dk_172 (dk_at dksX4_play_9 2 rfl rfl)
abbrev cX4_run : ByteArray := prog_21_method_83_code
def yX4_run : MethodName := ⟨RX4, "run", "(IJ)I"⟩
def dkwX4_run_9 : List UInt8 := [167, 255, 98, 42, 2, 181, 0, 105, 42, 182, 1, 204, 172]
abbrev dktX4_run_9 : List UInt8 := dkwX4_run_9 ++ []
def dkwX4_run_8 : List UInt8 := [180, 1, 238, 4, 96, 181, 1, 238, 132, 4, 1, 132, 8, 1, 167, 255, 168, 132, 6, 1, 167, 255, 136]
abbrev dktX4_run_8 : List UInt8 := dkwX4_run_8 ++ dktX4_run_9
def dkwX4_run_7 : List UInt8 := [2, 160, 0, 6, 167, 0, 29, 42, 180, 0, 154, 42, 180, 1, 238, 42, 180, 1, 159, 79, 42, 89]
abbrev dktX4_run_7 : List UInt8 := dkwX4_run_7 ++ dktX4_run_8
def dkwX4_run_6 : List UInt8 := [182, 1, 191, 154, 0, 6, 167, 0, 51, 4, 54, 5, 42, 21, 6, 21, 8, 182, 1, 194, 42, 180, 1, 156]
abbrev dktX4_run_6 : List UInt8 := dkwX4_run_6 ++ dktX4_run_7
def dkwX4_run_5 : List UInt8 := [153, 0, 10, 42, 180, 0, 54, 167, 0, 4, 4, 162, 0, 76, 21, 5, 154, 0, 71, 42, 21, 6, 21, 8]
abbrev dktX4_run_5 : List UInt8 := dkwX4_run_5 ++ dktX4_run_6
def dkwX4_run_4 : List UInt8 := [162, 0, 117, 21, 5, 154, 0, 112, 42, 21, 6, 7, 182, 1, 119, 54, 7, 3, 54, 8, 21, 8, 21, 7]
abbrev dktX4_run_4 : List UInt8 := dkwX4_run_4 ++ dktX4_run_5
def dkwX4_run_3 : List UInt8 := [123, 136, 16, 15, 126, 167, 0, 4, 2, 181, 0, 105, 3, 54, 5, 3, 54, 6, 21, 6, 42, 180, 0, 54]
abbrev dktX4_run_3 : List UInt8 := dkwX4_run_3 ++ dktX4_run_4
def dkwX4_run_2 : List UInt8 := [3, 181, 1, 238, 4, 54, 5, 21, 5, 153, 0, 159, 42, 21, 4, 27, 162, 0, 16, 32, 7, 21, 4, 104]
abbrev dktX4_run_2 : List UInt8 := dkwX4_run_2 ++ dktX4_run_3
def dkwX4_run_1 : List UInt8 := [3, 79, 42, 180, 0, 114, 21, 4, 3, 79, 132, 4, 1, 167, 255, 222, 42, 182, 1, 200, 3, 54, 4, 42]
abbrev dktX4_run_1 : List UInt8 := dkwX4_run_1 ++ dktX4_run_2
def dkwX4_run_0 : List UInt8 := [3, 54, 4, 21, 4, 16, 8, 162, 0, 33, 42, 180, 0, 108, 21, 4, 3, 79, 42, 180, 0, 111, 21, 4]
abbrev dktX4_run_0 : List UInt8 := dkwX4_run_0 ++ dktX4_run_1
theorem dksX4_run_0 : cX4_run.data.toList.drop 0 = dktX4_run_0 := by decide +kernel
theorem dksX4_run_1 : cX4_run.data.toList.drop 24 = dktX4_run_1 := dk_seg dksX4_run_0 24 rfl rfl
theorem dksX4_run_2 : cX4_run.data.toList.drop 48 = dktX4_run_2 := dk_seg dksX4_run_1 24 rfl rfl
theorem dksX4_run_3 : cX4_run.data.toList.drop 72 = dktX4_run_3 := dk_seg dksX4_run_2 24 rfl rfl
theorem dksX4_run_4 : cX4_run.data.toList.drop 96 = dktX4_run_4 := dk_seg dksX4_run_3 24 rfl rfl
theorem dksX4_run_5 : cX4_run.data.toList.drop 120 = dktX4_run_5 := dk_seg dksX4_run_4 24 rfl rfl
theorem dksX4_run_6 : cX4_run.data.toList.drop 144 = dktX4_run_6 := dk_seg dksX4_run_5 24 rfl rfl
theorem dksX4_run_7 : cX4_run.data.toList.drop 168 = dktX4_run_7 := dk_seg dksX4_run_6 24 rfl rfl
theorem dksX4_run_8 : cX4_run.data.toList.drop 190 = dktX4_run_8 := dk_seg dksX4_run_7 22 rfl rfl
theorem dksX4_run_9 : cX4_run.data.toList.drop 213 = dktX4_run_9 := dk_seg dksX4_run_8 23 rfl rfl
theorem dX4_run_0 : decode cX4_run 0 = .ok (.iconst 0, 1) := dk_3 (dk_at dksX4_run_0 0 rfl rfl)
theorem dX4_run_1 : decode cX4_run 1 = .ok (.istore 4, 2) := dk_54 4 (dk_at dksX4_run_0 1 rfl rfl)
theorem dX4_run_3 : decode cX4_run 3 = .ok (.iload 4, 2) := dk_21 4 (dk_at dksX4_run_0 3 rfl rfl)
theorem dX4_run_5 : decode cX4_run 5 = .ok (.bipush 8, 2) := dk_16 8 (dk_at dksX4_run_0 5 rfl rfl)
theorem dX4_run_7 : decode cX4_run 7 = .ok (.if_icmp .ge 33, 3) := dk_162 0 33 (dk_at dksX4_run_0 7 rfl rfl)
theorem dX4_run_10 : decode cX4_run 10 = .ok (.aload_n 0, 1) := dk_42 (dk_at dksX4_run_0 10 rfl rfl)
theorem dX4_run_11 : decode cX4_run 11 = .ok (.getfield 108, 3) := dk_180 0 108 (dk_at dksX4_run_0 11 rfl rfl)
theorem dX4_run_14 : decode cX4_run 14 = .ok (.iload 4, 2) := dk_21 4 (dk_at dksX4_run_0 14 rfl rfl)
theorem dX4_run_16 : decode cX4_run 16 = .ok (.iconst 0, 1) := dk_3 (dk_at dksX4_run_0 16 rfl rfl)
theorem dX4_run_17 : decode cX4_run 17 = .ok (.iastore, 1) := dk_79 (dk_at dksX4_run_0 17 rfl rfl)
theorem dX4_run_18 : decode cX4_run 18 = .ok (.aload_n 0, 1) := dk_42 (dk_at dksX4_run_0 18 rfl rfl)
theorem dX4_run_19 : decode cX4_run 19 = .ok (.getfield 111, 3) := dk_180 0 111 (dk_at dksX4_run_0 19 rfl rfl)
theorem dX4_run_22 : decode cX4_run 22 = .ok (.iload 4, 2) := dk_21 4 (dk_at dksX4_run_0 22 rfl rfl)
theorem dX4_run_24 : decode cX4_run 24 = .ok (.iconst 0, 1) := dk_3 (dk_at dksX4_run_1 0 rfl rfl)
theorem dX4_run_25 : decode cX4_run 25 = .ok (.iastore, 1) := dk_79 (dk_at dksX4_run_1 1 rfl rfl)
theorem dX4_run_26 : decode cX4_run 26 = .ok (.aload_n 0, 1) := dk_42 (dk_at dksX4_run_1 2 rfl rfl)
theorem dX4_run_27 : decode cX4_run 27 = .ok (.getfield 114, 3) := dk_180 0 114 (dk_at dksX4_run_1 3 rfl rfl)
theorem dX4_run_30 : decode cX4_run 30 = .ok (.iload 4, 2) := dk_21 4 (dk_at dksX4_run_1 6 rfl rfl)
theorem dX4_run_32 : decode cX4_run 32 = .ok (.iconst 0, 1) := dk_3 (dk_at dksX4_run_1 8 rfl rfl)
theorem dX4_run_33 : decode cX4_run 33 = .ok (.iastore, 1) := dk_79 (dk_at dksX4_run_1 9 rfl rfl)
theorem dX4_run_34 : decode cX4_run 34 = .ok (.iinc 4 1, 3) := dk_132 4 1 (dk_at dksX4_run_1 10 rfl rfl)
theorem dX4_run_37 : decode cX4_run 37 = .ok (.goto (-34), 3) := dk_167 255 222 (dk_at dksX4_run_1 13 rfl rfl)
theorem dX4_run_40 : decode cX4_run 40 = .ok (.aload_n 0, 1) := dk_42 (dk_at dksX4_run_1 16 rfl rfl)
theorem dX4_run_41 : decode cX4_run 41 = .ok (.invokevirtual 456, 3) := dk_182 1 200 (dk_at dksX4_run_1 17 rfl rfl)
theorem dX4_run_44 : decode cX4_run 44 = .ok (.iconst 0, 1) := dk_3 (dk_at dksX4_run_1 20 rfl rfl)
theorem dX4_run_45 : decode cX4_run 45 = .ok (.istore 4, 2) := dk_54 4 (dk_at dksX4_run_1 21 rfl rfl)
theorem dX4_run_47 : decode cX4_run 47 = .ok (.aload_n 0, 1) := dk_42 (dk_at dksX4_run_1 23 rfl rfl)
theorem dX4_run_48 : decode cX4_run 48 = .ok (.iconst 0, 1) := dk_3 (dk_at dksX4_run_2 0 rfl rfl)
theorem dX4_run_49 : decode cX4_run 49 = .ok (.putfield 494, 3) := dk_181 1 238 (dk_at dksX4_run_2 1 rfl rfl)
theorem dX4_run_52 : decode cX4_run 52 = .ok (.iconst 1, 1) := dk_4 (dk_at dksX4_run_2 4 rfl rfl)
theorem dX4_run_53 : decode cX4_run 53 = .ok (.istore 5, 2) := dk_54 5 (dk_at dksX4_run_2 5 rfl rfl)
theorem dX4_run_55 : decode cX4_run 55 = .ok (.iload 5, 2) := dk_21 5 (dk_at dksX4_run_2 7 rfl rfl)
theorem dX4_run_57 : decode cX4_run 57 = .ok (.ifCond .eq 159, 3) := dk_153 0 159 (dk_at dksX4_run_2 9 rfl rfl)
theorem dX4_run_60 : decode cX4_run 60 = .ok (.aload_n 0, 1) := dk_42 (dk_at dksX4_run_2 12 rfl rfl)
theorem dX4_run_61 : decode cX4_run 61 = .ok (.iload 4, 2) := dk_21 4 (dk_at dksX4_run_2 13 rfl rfl)
theorem dX4_run_63 : decode cX4_run 63 = .ok (.iload_n 1, 1) := dk_27 (dk_at dksX4_run_2 15 rfl rfl)
theorem dX4_run_64 : decode cX4_run 64 = .ok (.if_icmp .ge 16, 3) := dk_162 0 16 (dk_at dksX4_run_2 16 rfl rfl)
theorem dX4_run_67 : decode cX4_run 67 = .ok (.lload_n 2, 1) := dk_32 (dk_at dksX4_run_2 19 rfl rfl)
theorem dX4_run_68 : decode cX4_run 68 = .ok (.iconst 4, 1) := dk_7 (dk_at dksX4_run_2 20 rfl rfl)
theorem dX4_run_69 : decode cX4_run 69 = .ok (.iload 4, 2) := dk_21 4 (dk_at dksX4_run_2 21 rfl rfl)
theorem dX4_run_71 : decode cX4_run 71 = .ok (.imul, 1) := dk_104 (dk_at dksX4_run_2 23 rfl rfl)
theorem dX4_run_72 : decode cX4_run 72 = .ok (.lshr, 1) := dk_123 (dk_at dksX4_run_3 0 rfl rfl)
theorem dX4_run_73 : decode cX4_run 73 = .ok (.l2i, 1) := dk_136 (dk_at dksX4_run_3 1 rfl rfl)
theorem dX4_run_74 : decode cX4_run 74 = .ok (.bipush 15, 2) := dk_16 15 (dk_at dksX4_run_3 2 rfl rfl)
theorem dX4_run_76 : decode cX4_run 76 = .ok (.iand, 1) := dk_126 (dk_at dksX4_run_3 4 rfl rfl)
theorem dX4_run_77 : decode cX4_run 77 = .ok (.goto 4, 3) := dk_167 0 4 (dk_at dksX4_run_3 5 rfl rfl)
theorem dX4_run_80 : decode cX4_run 80 = .ok (.iconst (-1), 1) := dk_2 (dk_at dksX4_run_3 8 rfl rfl)
theorem dX4_run_81 : decode cX4_run 81 = .ok (.putfield 105, 3) := dk_181 0 105 (dk_at dksX4_run_3 9 rfl rfl)
theorem dX4_run_84 : decode cX4_run 84 = .ok (.iconst 0, 1) := dk_3 (dk_at dksX4_run_3 12 rfl rfl)
theorem dX4_run_85 : decode cX4_run 85 = .ok (.istore 5, 2) := dk_54 5 (dk_at dksX4_run_3 13 rfl rfl)
theorem dX4_run_87 : decode cX4_run 87 = .ok (.iconst 0, 1) := dk_3 (dk_at dksX4_run_3 15 rfl rfl)
theorem dX4_run_88 : decode cX4_run 88 = .ok (.istore 6, 2) := dk_54 6 (dk_at dksX4_run_3 16 rfl rfl)
theorem dX4_run_90 : decode cX4_run 90 = .ok (.iload 6, 2) := dk_21 6 (dk_at dksX4_run_3 18 rfl rfl)
theorem dX4_run_92 : decode cX4_run 92 = .ok (.aload_n 0, 1) := dk_42 (dk_at dksX4_run_3 20 rfl rfl)
theorem dX4_run_93 : decode cX4_run 93 = .ok (.getfield 54, 3) := dk_180 0 54 (dk_at dksX4_run_3 21 rfl rfl)
theorem dX4_run_96 : decode cX4_run 96 = .ok (.if_icmp .ge 117, 3) := dk_162 0 117 (dk_at dksX4_run_4 0 rfl rfl)
theorem dX4_run_99 : decode cX4_run 99 = .ok (.iload 5, 2) := dk_21 5 (dk_at dksX4_run_4 3 rfl rfl)
theorem dX4_run_101 : decode cX4_run 101 = .ok (.ifCond .ne 112, 3) := dk_154 0 112 (dk_at dksX4_run_4 5 rfl rfl)
theorem dX4_run_104 : decode cX4_run 104 = .ok (.aload_n 0, 1) := dk_42 (dk_at dksX4_run_4 8 rfl rfl)
theorem dX4_run_105 : decode cX4_run 105 = .ok (.iload 6, 2) := dk_21 6 (dk_at dksX4_run_4 9 rfl rfl)
theorem dX4_run_107 : decode cX4_run 107 = .ok (.iconst 4, 1) := dk_7 (dk_at dksX4_run_4 11 rfl rfl)
theorem dX4_run_108 : decode cX4_run 108 = .ok (.invokevirtual 375, 3) := dk_182 1 119 (dk_at dksX4_run_4 12 rfl rfl)
theorem dX4_run_111 : decode cX4_run 111 = .ok (.istore 7, 2) := dk_54 7 (dk_at dksX4_run_4 15 rfl rfl)
theorem dX4_run_113 : decode cX4_run 113 = .ok (.iconst 0, 1) := dk_3 (dk_at dksX4_run_4 17 rfl rfl)
theorem dX4_run_114 : decode cX4_run 114 = .ok (.istore 8, 2) := dk_54 8 (dk_at dksX4_run_4 18 rfl rfl)
theorem dX4_run_116 : decode cX4_run 116 = .ok (.iload 8, 2) := dk_21 8 (dk_at dksX4_run_4 20 rfl rfl)
theorem dX4_run_118 : decode cX4_run 118 = .ok (.iload 7, 2) := dk_21 7 (dk_at dksX4_run_4 22 rfl rfl)
theorem dX4_run_120 : decode cX4_run 120 = .ok (.ifCond .eq 10, 3) := dk_153 0 10 (dk_at dksX4_run_5 0 rfl rfl)
theorem dX4_run_123 : decode cX4_run 123 = .ok (.aload_n 0, 1) := dk_42 (dk_at dksX4_run_5 3 rfl rfl)
theorem dX4_run_124 : decode cX4_run 124 = .ok (.getfield 54, 3) := dk_180 0 54 (dk_at dksX4_run_5 4 rfl rfl)
theorem dX4_run_127 : decode cX4_run 127 = .ok (.goto 4, 3) := dk_167 0 4 (dk_at dksX4_run_5 7 rfl rfl)
theorem dX4_run_130 : decode cX4_run 130 = .ok (.iconst 1, 1) := dk_4 (dk_at dksX4_run_5 10 rfl rfl)
theorem dX4_run_131 : decode cX4_run 131 = .ok (.if_icmp .ge 76, 3) := dk_162 0 76 (dk_at dksX4_run_5 11 rfl rfl)
theorem dX4_run_134 : decode cX4_run 134 = .ok (.iload 5, 2) := dk_21 5 (dk_at dksX4_run_5 14 rfl rfl)
theorem dX4_run_136 : decode cX4_run 136 = .ok (.ifCond .ne 71, 3) := dk_154 0 71 (dk_at dksX4_run_5 16 rfl rfl)
theorem dX4_run_139 : decode cX4_run 139 = .ok (.aload_n 0, 1) := dk_42 (dk_at dksX4_run_5 19 rfl rfl)
theorem dX4_run_140 : decode cX4_run 140 = .ok (.iload 6, 2) := dk_21 6 (dk_at dksX4_run_5 20 rfl rfl)
theorem dX4_run_142 : decode cX4_run 142 = .ok (.iload 8, 2) := dk_21 8 (dk_at dksX4_run_5 22 rfl rfl)
theorem dX4_run_144 : decode cX4_run 144 = .ok (.invokevirtual 447, 3) := dk_182 1 191 (dk_at dksX4_run_6 0 rfl rfl)
theorem dX4_run_147 : decode cX4_run 147 = .ok (.ifCond .ne 6, 3) := dk_154 0 6 (dk_at dksX4_run_6 3 rfl rfl)
theorem dX4_run_150 : decode cX4_run 150 = .ok (.goto 51, 3) := dk_167 0 51 (dk_at dksX4_run_6 6 rfl rfl)
theorem dX4_run_153 : decode cX4_run 153 = .ok (.iconst 1, 1) := dk_4 (dk_at dksX4_run_6 9 rfl rfl)
theorem dX4_run_154 : decode cX4_run 154 = .ok (.istore 5, 2) := dk_54 5 (dk_at dksX4_run_6 10 rfl rfl)
theorem dX4_run_156 : decode cX4_run 156 = .ok (.aload_n 0, 1) := dk_42 (dk_at dksX4_run_6 12 rfl rfl)
theorem dX4_run_157 : decode cX4_run 157 = .ok (.iload 6, 2) := dk_21 6 (dk_at dksX4_run_6 13 rfl rfl)
theorem dX4_run_159 : decode cX4_run 159 = .ok (.iload 8, 2) := dk_21 8 (dk_at dksX4_run_6 15 rfl rfl)
theorem dX4_run_161 : decode cX4_run 161 = .ok (.invokevirtual 450, 3) := dk_182 1 194 (dk_at dksX4_run_6 17 rfl rfl)
theorem dX4_run_164 : decode cX4_run 164 = .ok (.aload_n 0, 1) := dk_42 (dk_at dksX4_run_6 20 rfl rfl)
theorem dX4_run_165 : decode cX4_run 165 = .ok (.getfield 412, 3) := dk_180 1 156 (dk_at dksX4_run_6 21 rfl rfl)
theorem dX4_run_168 : decode cX4_run 168 = .ok (.iconst (-1), 1) := dk_2 (dk_at dksX4_run_7 0 rfl rfl)
theorem dX4_run_169 : decode cX4_run 169 = .ok (.if_icmp .ne 6, 3) := dk_160 0 6 (dk_at dksX4_run_7 1 rfl rfl)
theorem dX4_run_172 : decode cX4_run 172 = .ok (.goto 29, 3) := dk_167 0 29 (dk_at dksX4_run_7 4 rfl rfl)
theorem dX4_run_175 : decode cX4_run 175 = .ok (.aload_n 0, 1) := dk_42 (dk_at dksX4_run_7 7 rfl rfl)
theorem dX4_run_176 : decode cX4_run 176 = .ok (.getfield 154, 3) := dk_180 0 154 (dk_at dksX4_run_7 8 rfl rfl)
theorem dX4_run_179 : decode cX4_run 179 = .ok (.aload_n 0, 1) := dk_42 (dk_at dksX4_run_7 11 rfl rfl)
theorem dX4_run_180 : decode cX4_run 180 = .ok (.getfield 494, 3) := dk_180 1 238 (dk_at dksX4_run_7 12 rfl rfl)
theorem dX4_run_183 : decode cX4_run 183 = .ok (.aload_n 0, 1) := dk_42 (dk_at dksX4_run_7 15 rfl rfl)
theorem dX4_run_184 : decode cX4_run 184 = .ok (.getfield 415, 3) := dk_180 1 159 (dk_at dksX4_run_7 16 rfl rfl)
theorem dX4_run_187 : decode cX4_run 187 = .ok (.iastore, 1) := dk_79 (dk_at dksX4_run_7 19 rfl rfl)
theorem dX4_run_188 : decode cX4_run 188 = .ok (.aload_n 0, 1) := dk_42 (dk_at dksX4_run_7 20 rfl rfl)
theorem dX4_run_189 : decode cX4_run 189 = .ok (.dup, 1) := dk_89 (dk_at dksX4_run_7 21 rfl rfl)
theorem dX4_run_190 : decode cX4_run 190 = .ok (.getfield 494, 3) := dk_180 1 238 (dk_at dksX4_run_8 0 rfl rfl)
theorem dX4_run_193 : decode cX4_run 193 = .ok (.iconst 1, 1) := dk_4 (dk_at dksX4_run_8 3 rfl rfl)
theorem dX4_run_194 : decode cX4_run 194 = .ok (.iadd, 1) := dk_96 (dk_at dksX4_run_8 4 rfl rfl)
theorem dX4_run_195 : decode cX4_run 195 = .ok (.putfield 494, 3) := dk_181 1 238 (dk_at dksX4_run_8 5 rfl rfl)
theorem dX4_run_198 : decode cX4_run 198 = .ok (.iinc 4 1, 3) := dk_132 4 1 (dk_at dksX4_run_8 8 rfl rfl)
theorem dX4_run_201 : decode cX4_run 201 = .ok (.iinc 8 1, 3) := dk_132 8 1 (dk_at dksX4_run_8 11 rfl rfl)
theorem dX4_run_204 : decode cX4_run 204 = .ok (.goto (-88), 3) := dk_167 255 168 (dk_at dksX4_run_8 14 rfl rfl)
theorem dX4_run_207 : decode cX4_run 207 = .ok (.iinc 6 1, 3) := dk_132 6 1 (dk_at dksX4_run_8 17 rfl rfl)
theorem dX4_run_210 : decode cX4_run 210 = .ok (.goto (-120), 3) := dk_167 255 136 (dk_at dksX4_run_8 20 rfl rfl)
theorem dX4_run_213 : decode cX4_run 213 = .ok (.goto (-158), 3) := dk_167 255 98 (dk_at dksX4_run_9 0 rfl rfl)
theorem dX4_run_216 : decode cX4_run 216 = .ok (.aload_n 0, 1) := dk_42 (dk_at dksX4_run_9 3 rfl rfl)
theorem dX4_run_217 : decode cX4_run 217 = .ok (.iconst (-1), 1) := dk_2 (dk_at dksX4_run_9 4 rfl rfl)
theorem dX4_run_218 : decode cX4_run 218 = .ok (.putfield 105, 3) := dk_181 0 105 (dk_at dksX4_run_9 5 rfl rfl)
theorem dX4_run_221 : decode cX4_run 221 = .ok (.aload_n 0, 1) := dk_42 (dk_at dksX4_run_9 8 rfl rfl)
theorem dX4_run_222 : decode cX4_run 222 = .ok (.invokevirtual 460, 3) := dk_182 1 204 (dk_at dksX4_run_9 9 rfl rfl)
theorem dX4_run_225 : decode cX4_run 225 = .ok (.ireturn, 1) := dk_172 (dk_at dksX4_run_9 12 rfl rfl)
abbrev cX4_waitsFor : ByteArray := prog_21_method_84_code
def yX4_waitsFor : MethodName := ⟨RX4, "waitsFor", "(I)I"⟩
def dkwX4_waitsFor_7 : List UInt8 := [167, 0, 4, 3, 128, 62, 132, 4, 1, 167, 255, 218, 29, 172, 3, 172]
abbrev dktX4_waitsFor_7 : List UInt8 := dkwX4_waitsFor_7 ++ []
def dkwX4_waitsFor_6 : List UInt8 := [162, 0, 35, 29, 42, 21, 4, 42, 180, 0, 71, 28, 46, 182, 1, 119, 154, 0, 10, 4, 21, 4, 120]
abbrev dktX4_waitsFor_6 : List UInt8 := dkwX4_waitsFor_6 ++ dktX4_waitsFor_7
def dkwX4_waitsFor_5 : List UInt8 := [120, 167, 0, 4, 3, 128, 62, 132, 4, 1, 167, 255, 216, 29, 172, 3, 54, 4, 21, 4, 42, 180, 0, 54]
abbrev dktX4_waitsFor_5 : List UInt8 := dkwX4_waitsFor_5 ++ dktX4_waitsFor_6
def dkwX4_waitsFor_4 : List UInt8 := [162, 0, 37, 29, 21, 4, 27, 159, 0, 21, 42, 21, 4, 3, 182, 1, 81, 2, 159, 0, 10, 4, 21, 4]
abbrev dktX4_waitsFor_4 : List UInt8 := dkwX4_waitsFor_4 ++ dktX4_waitsFor_5
def dkwX4_waitsFor_3 : List UInt8 := [4, 42, 27, 3, 182, 1, 91, 120, 172, 42, 27, 182, 1, 131, 172, 3, 54, 4, 21, 4, 42, 180, 0, 54]
abbrev dktX4_waitsFor_3 : List UInt8 := dkwX4_waitsFor_3 ++ dktX4_waitsFor_4
def dkwX4_waitsFor_2 : List UInt8 := [170, 0, 0, 0, 0, 0, 0, 157, 0, 0, 0, 0, 0, 0, 0, 7, 0, 0, 0, 48, 0, 0, 0, 48, 0, 0, 0, 157, 0, 0, 0, 48, 0, 0, 0, 63, 0, 0, 0, 57, 0, 0, 0, 111, 0, 0, 0, 111]
abbrev dktX4_waitsFor_2 : List UInt8 := dkwX4_waitsFor_2 ++ dktX4_waitsFor_3
def dkwX4_waitsFor_1 : List UInt8 := [3, 62, 42, 180, 0, 71, 28, 46]
abbrev dktX4_waitsFor_1 : List UInt8 := dkwX4_waitsFor_1 ++ dktX4_waitsFor_2
def dkwX4_waitsFor_0 : List UInt8 := [42, 27, 3, 182, 1, 81, 61, 28, 2, 159, 0, 13, 42, 27, 4, 182, 1, 81, 4, 160, 0, 5, 3, 172]
abbrev dktX4_waitsFor_0 : List UInt8 := dkwX4_waitsFor_0 ++ dktX4_waitsFor_1
theorem dksX4_waitsFor_0 : cX4_waitsFor.data.toList.drop 0 = dktX4_waitsFor_0 := by decide +kernel
theorem dksX4_waitsFor_1 : cX4_waitsFor.data.toList.drop 24 = dktX4_waitsFor_1 := dk_seg dksX4_waitsFor_0 24 rfl rfl
theorem dksX4_waitsFor_2 : cX4_waitsFor.data.toList.drop 32 = dktX4_waitsFor_2 := dk_seg dksX4_waitsFor_1 8 rfl rfl
theorem dksX4_waitsFor_3 : cX4_waitsFor.data.toList.drop 80 = dktX4_waitsFor_3 := dk_seg dksX4_waitsFor_2 48 rfl rfl
theorem dksX4_waitsFor_4 : cX4_waitsFor.data.toList.drop 104 = dktX4_waitsFor_4 := dk_seg dksX4_waitsFor_3 24 rfl rfl
theorem dksX4_waitsFor_5 : cX4_waitsFor.data.toList.drop 128 = dktX4_waitsFor_5 := dk_seg dksX4_waitsFor_4 24 rfl rfl
theorem dksX4_waitsFor_6 : cX4_waitsFor.data.toList.drop 152 = dktX4_waitsFor_6 := dk_seg dksX4_waitsFor_5 24 rfl rfl
theorem dksX4_waitsFor_7 : cX4_waitsFor.data.toList.drop 175 = dktX4_waitsFor_7 := dk_seg dksX4_waitsFor_6 23 rfl rfl
theorem dX4_waitsFor_0 : decode cX4_waitsFor 0 = .ok (.aload_n 0, 1) := dk_42 (dk_at dksX4_waitsFor_0 0 rfl rfl)
theorem dX4_waitsFor_1 : decode cX4_waitsFor 1 = .ok (.iload_n 1, 1) := dk_27 (dk_at dksX4_waitsFor_0 1 rfl rfl)
theorem dX4_waitsFor_2 : decode cX4_waitsFor 2 = .ok (.iconst 0, 1) := dk_3 (dk_at dksX4_waitsFor_0 2 rfl rfl)
theorem dX4_waitsFor_3 : decode cX4_waitsFor 3 = .ok (.invokevirtual 337, 3) := dk_182 1 81 (dk_at dksX4_waitsFor_0 3 rfl rfl)
theorem dX4_waitsFor_6 : decode cX4_waitsFor 6 = .ok (.istore_n 2, 1) := dk_61 (dk_at dksX4_waitsFor_0 6 rfl rfl)
theorem dX4_waitsFor_7 : decode cX4_waitsFor 7 = .ok (.iload_n 2, 1) := dk_28 (dk_at dksX4_waitsFor_0 7 rfl rfl)
theorem dX4_waitsFor_8 : decode cX4_waitsFor 8 = .ok (.iconst (-1), 1) := dk_2 (dk_at dksX4_waitsFor_0 8 rfl rfl)
theorem dX4_waitsFor_9 : decode cX4_waitsFor 9 = .ok (.if_icmp .eq 13, 3) := dk_159 0 13 (dk_at dksX4_waitsFor_0 9 rfl rfl)
theorem dX4_waitsFor_12 : decode cX4_waitsFor 12 = .ok (.aload_n 0, 1) := dk_42 (dk_at dksX4_waitsFor_0 12 rfl rfl)
theorem dX4_waitsFor_13 : decode cX4_waitsFor 13 = .ok (.iload_n 1, 1) := dk_27 (dk_at dksX4_waitsFor_0 13 rfl rfl)
theorem dX4_waitsFor_14 : decode cX4_waitsFor 14 = .ok (.iconst 1, 1) := dk_4 (dk_at dksX4_waitsFor_0 14 rfl rfl)
theorem dX4_waitsFor_15 : decode cX4_waitsFor 15 = .ok (.invokevirtual 337, 3) := dk_182 1 81 (dk_at dksX4_waitsFor_0 15 rfl rfl)
theorem dX4_waitsFor_18 : decode cX4_waitsFor 18 = .ok (.iconst 1, 1) := dk_4 (dk_at dksX4_waitsFor_0 18 rfl rfl)
theorem dX4_waitsFor_19 : decode cX4_waitsFor 19 = .ok (.if_icmp .ne 5, 3) := dk_160 0 5 (dk_at dksX4_waitsFor_0 19 rfl rfl)
theorem dX4_waitsFor_22 : decode cX4_waitsFor 22 = .ok (.iconst 0, 1) := dk_3 (dk_at dksX4_waitsFor_0 22 rfl rfl)
theorem dX4_waitsFor_23 : decode cX4_waitsFor 23 = .ok (.ireturn, 1) := dk_172 (dk_at dksX4_waitsFor_0 23 rfl rfl)
theorem dX4_waitsFor_24 : decode cX4_waitsFor 24 = .ok (.iconst 0, 1) := dk_3 (dk_at dksX4_waitsFor_1 0 rfl rfl)
theorem dX4_waitsFor_25 : decode cX4_waitsFor 25 = .ok (.istore_n 3, 1) := dk_62 (dk_at dksX4_waitsFor_1 1 rfl rfl)
theorem dX4_waitsFor_26 : decode cX4_waitsFor 26 = .ok (.aload_n 0, 1) := dk_42 (dk_at dksX4_waitsFor_1 2 rfl rfl)
theorem dX4_waitsFor_27 : decode cX4_waitsFor 27 = .ok (.getfield 71, 3) := dk_180 0 71 (dk_at dksX4_waitsFor_1 3 rfl rfl)
theorem dX4_waitsFor_30 : decode cX4_waitsFor 30 = .ok (.iload_n 2, 1) := dk_28 (dk_at dksX4_waitsFor_1 6 rfl rfl)
theorem dX4_waitsFor_31 : decode cX4_waitsFor 31 = .ok (.iaload, 1) := dk_46 (dk_at dksX4_waitsFor_1 7 rfl rfl)
theorem dX4_waitsFor_32 : decode cX4_waitsFor 32 = .ok (.tableswitch 157 0 7 #[48, 48, 157, 48, 63, 57, 111, 111], 48) := by decide +kernel
theorem dX4_waitsFor_80 : decode cX4_waitsFor 80 = .ok (.iconst 1, 1) := dk_4 (dk_at dksX4_waitsFor_3 0 rfl rfl)
theorem dX4_waitsFor_81 : decode cX4_waitsFor 81 = .ok (.aload_n 0, 1) := dk_42 (dk_at dksX4_waitsFor_3 1 rfl rfl)
theorem dX4_waitsFor_82 : decode cX4_waitsFor 82 = .ok (.iload_n 1, 1) := dk_27 (dk_at dksX4_waitsFor_3 2 rfl rfl)
theorem dX4_waitsFor_83 : decode cX4_waitsFor 83 = .ok (.iconst 0, 1) := dk_3 (dk_at dksX4_waitsFor_3 3 rfl rfl)
theorem dX4_waitsFor_84 : decode cX4_waitsFor 84 = .ok (.invokevirtual 347, 3) := dk_182 1 91 (dk_at dksX4_waitsFor_3 4 rfl rfl)
theorem dX4_waitsFor_87 : decode cX4_waitsFor 87 = .ok (.ishl, 1) := dk_120 (dk_at dksX4_waitsFor_3 7 rfl rfl)
theorem dX4_waitsFor_88 : decode cX4_waitsFor 88 = .ok (.ireturn, 1) := dk_172 (dk_at dksX4_waitsFor_3 8 rfl rfl)
theorem dX4_waitsFor_89 : decode cX4_waitsFor 89 = .ok (.aload_n 0, 1) := dk_42 (dk_at dksX4_waitsFor_3 9 rfl rfl)
theorem dX4_waitsFor_90 : decode cX4_waitsFor 90 = .ok (.iload_n 1, 1) := dk_27 (dk_at dksX4_waitsFor_3 10 rfl rfl)
theorem dX4_waitsFor_91 : decode cX4_waitsFor 91 = .ok (.invokevirtual 387, 3) := dk_182 1 131 (dk_at dksX4_waitsFor_3 11 rfl rfl)
theorem dX4_waitsFor_94 : decode cX4_waitsFor 94 = .ok (.ireturn, 1) := dk_172 (dk_at dksX4_waitsFor_3 14 rfl rfl)
theorem dX4_waitsFor_95 : decode cX4_waitsFor 95 = .ok (.iconst 0, 1) := dk_3 (dk_at dksX4_waitsFor_3 15 rfl rfl)
theorem dX4_waitsFor_96 : decode cX4_waitsFor 96 = .ok (.istore 4, 2) := dk_54 4 (dk_at dksX4_waitsFor_3 16 rfl rfl)
theorem dX4_waitsFor_98 : decode cX4_waitsFor 98 = .ok (.iload 4, 2) := dk_21 4 (dk_at dksX4_waitsFor_3 18 rfl rfl)
theorem dX4_waitsFor_100 : decode cX4_waitsFor 100 = .ok (.aload_n 0, 1) := dk_42 (dk_at dksX4_waitsFor_3 20 rfl rfl)
theorem dX4_waitsFor_101 : decode cX4_waitsFor 101 = .ok (.getfield 54, 3) := dk_180 0 54 (dk_at dksX4_waitsFor_3 21 rfl rfl)
theorem dX4_waitsFor_104 : decode cX4_waitsFor 104 = .ok (.if_icmp .ge 37, 3) := dk_162 0 37 (dk_at dksX4_waitsFor_4 0 rfl rfl)
theorem dX4_waitsFor_107 : decode cX4_waitsFor 107 = .ok (.iload_n 3, 1) := dk_29 (dk_at dksX4_waitsFor_4 3 rfl rfl)
theorem dX4_waitsFor_108 : decode cX4_waitsFor 108 = .ok (.iload 4, 2) := dk_21 4 (dk_at dksX4_waitsFor_4 4 rfl rfl)
theorem dX4_waitsFor_110 : decode cX4_waitsFor 110 = .ok (.iload_n 1, 1) := dk_27 (dk_at dksX4_waitsFor_4 6 rfl rfl)
theorem dX4_waitsFor_111 : decode cX4_waitsFor 111 = .ok (.if_icmp .eq 21, 3) := dk_159 0 21 (dk_at dksX4_waitsFor_4 7 rfl rfl)
theorem dX4_waitsFor_114 : decode cX4_waitsFor 114 = .ok (.aload_n 0, 1) := dk_42 (dk_at dksX4_waitsFor_4 10 rfl rfl)
theorem dX4_waitsFor_115 : decode cX4_waitsFor 115 = .ok (.iload 4, 2) := dk_21 4 (dk_at dksX4_waitsFor_4 11 rfl rfl)
theorem dX4_waitsFor_117 : decode cX4_waitsFor 117 = .ok (.iconst 0, 1) := dk_3 (dk_at dksX4_waitsFor_4 13 rfl rfl)
theorem dX4_waitsFor_118 : decode cX4_waitsFor 118 = .ok (.invokevirtual 337, 3) := dk_182 1 81 (dk_at dksX4_waitsFor_4 14 rfl rfl)
theorem dX4_waitsFor_121 : decode cX4_waitsFor 121 = .ok (.iconst (-1), 1) := dk_2 (dk_at dksX4_waitsFor_4 17 rfl rfl)
theorem dX4_waitsFor_122 : decode cX4_waitsFor 122 = .ok (.if_icmp .eq 10, 3) := dk_159 0 10 (dk_at dksX4_waitsFor_4 18 rfl rfl)
theorem dX4_waitsFor_125 : decode cX4_waitsFor 125 = .ok (.iconst 1, 1) := dk_4 (dk_at dksX4_waitsFor_4 21 rfl rfl)
theorem dX4_waitsFor_126 : decode cX4_waitsFor 126 = .ok (.iload 4, 2) := dk_21 4 (dk_at dksX4_waitsFor_4 22 rfl rfl)
theorem dX4_waitsFor_128 : decode cX4_waitsFor 128 = .ok (.ishl, 1) := dk_120 (dk_at dksX4_waitsFor_5 0 rfl rfl)
theorem dX4_waitsFor_129 : decode cX4_waitsFor 129 = .ok (.goto 4, 3) := dk_167 0 4 (dk_at dksX4_waitsFor_5 1 rfl rfl)
theorem dX4_waitsFor_132 : decode cX4_waitsFor 132 = .ok (.iconst 0, 1) := dk_3 (dk_at dksX4_waitsFor_5 4 rfl rfl)
theorem dX4_waitsFor_133 : decode cX4_waitsFor 133 = .ok (.ior, 1) := dk_128 (dk_at dksX4_waitsFor_5 5 rfl rfl)
theorem dX4_waitsFor_134 : decode cX4_waitsFor 134 = .ok (.istore_n 3, 1) := dk_62 (dk_at dksX4_waitsFor_5 6 rfl rfl)
theorem dX4_waitsFor_135 : decode cX4_waitsFor 135 = .ok (.iinc 4 1, 3) := dk_132 4 1 (dk_at dksX4_waitsFor_5 7 rfl rfl)
theorem dX4_waitsFor_138 : decode cX4_waitsFor 138 = .ok (.goto (-40), 3) := dk_167 255 216 (dk_at dksX4_waitsFor_5 10 rfl rfl)
theorem dX4_waitsFor_141 : decode cX4_waitsFor 141 = .ok (.iload_n 3, 1) := dk_29 (dk_at dksX4_waitsFor_5 13 rfl rfl)
theorem dX4_waitsFor_142 : decode cX4_waitsFor 142 = .ok (.ireturn, 1) := dk_172 (dk_at dksX4_waitsFor_5 14 rfl rfl)
theorem dX4_waitsFor_143 : decode cX4_waitsFor 143 = .ok (.iconst 0, 1) := dk_3 (dk_at dksX4_waitsFor_5 15 rfl rfl)
theorem dX4_waitsFor_144 : decode cX4_waitsFor 144 = .ok (.istore 4, 2) := dk_54 4 (dk_at dksX4_waitsFor_5 16 rfl rfl)
theorem dX4_waitsFor_146 : decode cX4_waitsFor 146 = .ok (.iload 4, 2) := dk_21 4 (dk_at dksX4_waitsFor_5 18 rfl rfl)
theorem dX4_waitsFor_148 : decode cX4_waitsFor 148 = .ok (.aload_n 0, 1) := dk_42 (dk_at dksX4_waitsFor_5 20 rfl rfl)
theorem dX4_waitsFor_149 : decode cX4_waitsFor 149 = .ok (.getfield 54, 3) := dk_180 0 54 (dk_at dksX4_waitsFor_5 21 rfl rfl)
theorem dX4_waitsFor_152 : decode cX4_waitsFor 152 = .ok (.if_icmp .ge 35, 3) := dk_162 0 35 (dk_at dksX4_waitsFor_6 0 rfl rfl)
theorem dX4_waitsFor_155 : decode cX4_waitsFor 155 = .ok (.iload_n 3, 1) := dk_29 (dk_at dksX4_waitsFor_6 3 rfl rfl)
theorem dX4_waitsFor_156 : decode cX4_waitsFor 156 = .ok (.aload_n 0, 1) := dk_42 (dk_at dksX4_waitsFor_6 4 rfl rfl)
theorem dX4_waitsFor_157 : decode cX4_waitsFor 157 = .ok (.iload 4, 2) := dk_21 4 (dk_at dksX4_waitsFor_6 5 rfl rfl)
theorem dX4_waitsFor_159 : decode cX4_waitsFor 159 = .ok (.aload_n 0, 1) := dk_42 (dk_at dksX4_waitsFor_6 7 rfl rfl)
theorem dX4_waitsFor_160 : decode cX4_waitsFor 160 = .ok (.getfield 71, 3) := dk_180 0 71 (dk_at dksX4_waitsFor_6 8 rfl rfl)
theorem dX4_waitsFor_163 : decode cX4_waitsFor 163 = .ok (.iload_n 2, 1) := dk_28 (dk_at dksX4_waitsFor_6 11 rfl rfl)
theorem dX4_waitsFor_164 : decode cX4_waitsFor 164 = .ok (.iaload, 1) := dk_46 (dk_at dksX4_waitsFor_6 12 rfl rfl)
theorem dX4_waitsFor_165 : decode cX4_waitsFor 165 = .ok (.invokevirtual 375, 3) := dk_182 1 119 (dk_at dksX4_waitsFor_6 13 rfl rfl)
theorem dX4_waitsFor_168 : decode cX4_waitsFor 168 = .ok (.ifCond .ne 10, 3) := dk_154 0 10 (dk_at dksX4_waitsFor_6 16 rfl rfl)
theorem dX4_waitsFor_171 : decode cX4_waitsFor 171 = .ok (.iconst 1, 1) := dk_4 (dk_at dksX4_waitsFor_6 19 rfl rfl)
theorem dX4_waitsFor_172 : decode cX4_waitsFor 172 = .ok (.iload 4, 2) := dk_21 4 (dk_at dksX4_waitsFor_6 20 rfl rfl)
theorem dX4_waitsFor_174 : decode cX4_waitsFor 174 = .ok (.ishl, 1) := dk_120 (dk_at dksX4_waitsFor_6 22 rfl rfl)
theorem dX4_waitsFor_175 : decode cX4_waitsFor 175 = .ok (.goto 4, 3) := dk_167 0 4 (dk_at dksX4_waitsFor_7 0 rfl rfl)
theorem dX4_waitsFor_178 : decode cX4_waitsFor 178 = .ok (.iconst 0, 1) := dk_3 (dk_at dksX4_waitsFor_7 3 rfl rfl)
theorem dX4_waitsFor_179 : decode cX4_waitsFor 179 = .ok (.ior, 1) := dk_128 (dk_at dksX4_waitsFor_7 4 rfl rfl)
theorem dX4_waitsFor_180 : decode cX4_waitsFor 180 = .ok (.istore_n 3, 1) := dk_62 (dk_at dksX4_waitsFor_7 5 rfl rfl)
theorem dX4_waitsFor_181 : decode cX4_waitsFor 181 = .ok (.iinc 4 1, 3) := dk_132 4 1 (dk_at dksX4_waitsFor_7 6 rfl rfl)
theorem dX4_waitsFor_184 : decode cX4_waitsFor 184 = .ok (.goto (-38), 3) := dk_167 255 218 (dk_at dksX4_waitsFor_7 9 rfl rfl)
theorem dX4_waitsFor_187 : decode cX4_waitsFor 187 = .ok (.iload_n 3, 1) := dk_29 (dk_at dksX4_waitsFor_7 12 rfl rfl)
theorem dX4_waitsFor_188 : decode cX4_waitsFor 188 = .ok (.ireturn, 1) := dk_172 (dk_at dksX4_waitsFor_7 13 rfl rfl)
theorem dX4_waitsFor_189 : decode cX4_waitsFor 189 = .ok (.iconst 0, 1) := dk_3 (dk_at dksX4_waitsFor_7 14 rfl rfl)
theorem dX4_waitsFor_190 : decode cX4_waitsFor 190 = .ok (.ireturn, 1) := dk_172 (dk_at dksX4_waitsFor_7 15 rfl rfl)
abbrev cX4_tellRing : ByteArray := prog_21_method_85_code
def yX4_tellRing : MethodName := ⟨RX4, "tellRing", "()V"⟩
def dkwX4_tellRing_9 : List UInt8 := [167, 255, 228, 177]
abbrev dktX4_tellRing_9 : List UInt8 := dkwX4_tellRing_9 ++ []
def dkwX4_tellRing_8 : List UInt8 := [162, 0, 25, 42, 180, 0, 157, 21, 4, 42, 180, 0, 157, 29, 21, 4, 96, 46, 79, 132, 4, 1]
abbrev dktX4_tellRing_8 : List UInt8 := dkwX4_tellRing_8 ++ dktX4_tellRing_9
def dkwX4_tellRing_7 : List UInt8 := [180, 0, 163, 27, 46, 62, 42, 28, 29, 100, 181, 1, 241, 3, 54, 4, 21, 4, 42, 180, 1, 241]
abbrev dktX4_tellRing_7 : List UInt8 := dkwX4_tellRing_7 ++ dktX4_tellRing_8
def dkwX4_tellRing_6 : List UInt8 := [162, 0, 22, 42, 27, 3, 182, 1, 81, 2, 159, 0, 12, 42, 180, 0, 160, 27, 46, 154, 0, 4, 177, 42]
abbrev dktX4_tellRing_6 : List UInt8 := dkwX4_tellRing_6 ++ dktX4_tellRing_7
def dkwX4_tellRing_5 : List UInt8 := [29, 122, 4, 126, 154, 0, 9, 132, 3, 1, 167, 255, 240, 29, 60, 167, 255, 179, 27, 42, 180, 0, 54]
abbrev dktX4_tellRing_5 : List UInt8 := dkwX4_tellRing_5 ++ dktX4_tellRing_6
def dkwX4_tellRing_4 : List UInt8 := [180, 0, 163, 27, 28, 79, 42, 180, 0, 157, 28, 27, 79, 132, 2, 1, 3, 62, 42, 180, 0, 160, 27, 46]
abbrev dktX4_tellRing_4 : List UInt8 := dkwX4_tellRing_4 ++ dktX4_tellRing_5
def dkwX4_tellRing_3 : List UInt8 := [159, 0, 65, 42, 180, 0, 160, 27, 46, 153, 0, 56, 42, 180, 0, 163, 27, 46, 2, 160, 0, 46, 42]
abbrev dktX4_tellRing_3 : List UInt8 := dkwX4_tellRing_3 ++ dktX4_tellRing_4
def dkwX4_tellRing_2 : List UInt8 := [132, 2, 1, 167, 255, 240, 3, 61, 27, 42, 180, 0, 54, 162, 0, 75, 42, 27, 3, 182, 1, 81, 2]
abbrev dktX4_tellRing_2 : List UInt8 := dkwX4_tellRing_2 ++ dktX4_tellRing_3
def dkwX4_tellRing_1 : List UInt8 := [160, 0, 9, 132, 1, 1, 167, 255, 235, 3, 61, 28, 16, 8, 162, 0, 16, 42, 180, 0, 163, 28, 2, 79]
abbrev dktX4_tellRing_1 : List UInt8 := dkwX4_tellRing_1 ++ dktX4_tellRing_2
def dkwX4_tellRing_0 : List UInt8 := [42, 3, 181, 1, 241, 3, 60, 27, 42, 180, 0, 54, 162, 0, 19, 42, 27, 3, 182, 1, 81, 2]
abbrev dktX4_tellRing_0 : List UInt8 := dkwX4_tellRing_0 ++ dktX4_tellRing_1
theorem dksX4_tellRing_0 : cX4_tellRing.data.toList.drop 0 = dktX4_tellRing_0 := by decide +kernel
theorem dksX4_tellRing_1 : cX4_tellRing.data.toList.drop 22 = dktX4_tellRing_1 := dk_seg dksX4_tellRing_0 22 rfl rfl
theorem dksX4_tellRing_2 : cX4_tellRing.data.toList.drop 46 = dktX4_tellRing_2 := dk_seg dksX4_tellRing_1 24 rfl rfl
theorem dksX4_tellRing_3 : cX4_tellRing.data.toList.drop 69 = dktX4_tellRing_3 := dk_seg dksX4_tellRing_2 23 rfl rfl
theorem dksX4_tellRing_4 : cX4_tellRing.data.toList.drop 92 = dktX4_tellRing_4 := dk_seg dksX4_tellRing_3 23 rfl rfl
theorem dksX4_tellRing_5 : cX4_tellRing.data.toList.drop 116 = dktX4_tellRing_5 := dk_seg dksX4_tellRing_4 24 rfl rfl
theorem dksX4_tellRing_6 : cX4_tellRing.data.toList.drop 139 = dktX4_tellRing_6 := dk_seg dksX4_tellRing_5 23 rfl rfl
theorem dksX4_tellRing_7 : cX4_tellRing.data.toList.drop 163 = dktX4_tellRing_7 := dk_seg dksX4_tellRing_6 24 rfl rfl
theorem dksX4_tellRing_8 : cX4_tellRing.data.toList.drop 185 = dktX4_tellRing_8 := dk_seg dksX4_tellRing_7 22 rfl rfl
theorem dksX4_tellRing_9 : cX4_tellRing.data.toList.drop 207 = dktX4_tellRing_9 := dk_seg dksX4_tellRing_8 22 rfl rfl
theorem dX4_tellRing_0 : decode cX4_tellRing 0 = .ok (.aload_n 0, 1) := dk_42 (dk_at dksX4_tellRing_0 0 rfl rfl)
theorem dX4_tellRing_1 : decode cX4_tellRing 1 = .ok (.iconst 0, 1) := dk_3 (dk_at dksX4_tellRing_0 1 rfl rfl)
theorem dX4_tellRing_2 : decode cX4_tellRing 2 = .ok (.putfield 497, 3) := dk_181 1 241 (dk_at dksX4_tellRing_0 2 rfl rfl)
theorem dX4_tellRing_5 : decode cX4_tellRing 5 = .ok (.iconst 0, 1) := dk_3 (dk_at dksX4_tellRing_0 5 rfl rfl)
theorem dX4_tellRing_6 : decode cX4_tellRing 6 = .ok (.istore_n 1, 1) := dk_60 (dk_at dksX4_tellRing_0 6 rfl rfl)
theorem dX4_tellRing_7 : decode cX4_tellRing 7 = .ok (.iload_n 1, 1) := dk_27 (dk_at dksX4_tellRing_0 7 rfl rfl)
theorem dX4_tellRing_8 : decode cX4_tellRing 8 = .ok (.aload_n 0, 1) := dk_42 (dk_at dksX4_tellRing_0 8 rfl rfl)
theorem dX4_tellRing_9 : decode cX4_tellRing 9 = .ok (.getfield 54, 3) := dk_180 0 54 (dk_at dksX4_tellRing_0 9 rfl rfl)
theorem dX4_tellRing_12 : decode cX4_tellRing 12 = .ok (.if_icmp .ge 19, 3) := dk_162 0 19 (dk_at dksX4_tellRing_0 12 rfl rfl)
theorem dX4_tellRing_15 : decode cX4_tellRing 15 = .ok (.aload_n 0, 1) := dk_42 (dk_at dksX4_tellRing_0 15 rfl rfl)
theorem dX4_tellRing_16 : decode cX4_tellRing 16 = .ok (.iload_n 1, 1) := dk_27 (dk_at dksX4_tellRing_0 16 rfl rfl)
theorem dX4_tellRing_17 : decode cX4_tellRing 17 = .ok (.iconst 0, 1) := dk_3 (dk_at dksX4_tellRing_0 17 rfl rfl)
theorem dX4_tellRing_18 : decode cX4_tellRing 18 = .ok (.invokevirtual 337, 3) := dk_182 1 81 (dk_at dksX4_tellRing_0 18 rfl rfl)
theorem dX4_tellRing_21 : decode cX4_tellRing 21 = .ok (.iconst (-1), 1) := dk_2 (dk_at dksX4_tellRing_0 21 rfl rfl)
theorem dX4_tellRing_22 : decode cX4_tellRing 22 = .ok (.if_icmp .ne 9, 3) := dk_160 0 9 (dk_at dksX4_tellRing_1 0 rfl rfl)
theorem dX4_tellRing_25 : decode cX4_tellRing 25 = .ok (.iinc 1 1, 3) := dk_132 1 1 (dk_at dksX4_tellRing_1 3 rfl rfl)
theorem dX4_tellRing_28 : decode cX4_tellRing 28 = .ok (.goto (-21), 3) := dk_167 255 235 (dk_at dksX4_tellRing_1 6 rfl rfl)
theorem dX4_tellRing_31 : decode cX4_tellRing 31 = .ok (.iconst 0, 1) := dk_3 (dk_at dksX4_tellRing_1 9 rfl rfl)
theorem dX4_tellRing_32 : decode cX4_tellRing 32 = .ok (.istore_n 2, 1) := dk_61 (dk_at dksX4_tellRing_1 10 rfl rfl)
theorem dX4_tellRing_33 : decode cX4_tellRing 33 = .ok (.iload_n 2, 1) := dk_28 (dk_at dksX4_tellRing_1 11 rfl rfl)
theorem dX4_tellRing_34 : decode cX4_tellRing 34 = .ok (.bipush 8, 2) := dk_16 8 (dk_at dksX4_tellRing_1 12 rfl rfl)
theorem dX4_tellRing_36 : decode cX4_tellRing 36 = .ok (.if_icmp .ge 16, 3) := dk_162 0 16 (dk_at dksX4_tellRing_1 14 rfl rfl)
theorem dX4_tellRing_39 : decode cX4_tellRing 39 = .ok (.aload_n 0, 1) := dk_42 (dk_at dksX4_tellRing_1 17 rfl rfl)
theorem dX4_tellRing_40 : decode cX4_tellRing 40 = .ok (.getfield 163, 3) := dk_180 0 163 (dk_at dksX4_tellRing_1 18 rfl rfl)
theorem dX4_tellRing_43 : decode cX4_tellRing 43 = .ok (.iload_n 2, 1) := dk_28 (dk_at dksX4_tellRing_1 21 rfl rfl)
theorem dX4_tellRing_44 : decode cX4_tellRing 44 = .ok (.iconst (-1), 1) := dk_2 (dk_at dksX4_tellRing_1 22 rfl rfl)
theorem dX4_tellRing_45 : decode cX4_tellRing 45 = .ok (.iastore, 1) := dk_79 (dk_at dksX4_tellRing_1 23 rfl rfl)
theorem dX4_tellRing_46 : decode cX4_tellRing 46 = .ok (.iinc 2 1, 3) := dk_132 2 1 (dk_at dksX4_tellRing_2 0 rfl rfl)
theorem dX4_tellRing_49 : decode cX4_tellRing 49 = .ok (.goto (-16), 3) := dk_167 255 240 (dk_at dksX4_tellRing_2 3 rfl rfl)
theorem dX4_tellRing_52 : decode cX4_tellRing 52 = .ok (.iconst 0, 1) := dk_3 (dk_at dksX4_tellRing_2 6 rfl rfl)
theorem dX4_tellRing_53 : decode cX4_tellRing 53 = .ok (.istore_n 2, 1) := dk_61 (dk_at dksX4_tellRing_2 7 rfl rfl)
theorem dX4_tellRing_54 : decode cX4_tellRing 54 = .ok (.iload_n 1, 1) := dk_27 (dk_at dksX4_tellRing_2 8 rfl rfl)
theorem dX4_tellRing_55 : decode cX4_tellRing 55 = .ok (.aload_n 0, 1) := dk_42 (dk_at dksX4_tellRing_2 9 rfl rfl)
theorem dX4_tellRing_56 : decode cX4_tellRing 56 = .ok (.getfield 54, 3) := dk_180 0 54 (dk_at dksX4_tellRing_2 10 rfl rfl)
theorem dX4_tellRing_59 : decode cX4_tellRing 59 = .ok (.if_icmp .ge 75, 3) := dk_162 0 75 (dk_at dksX4_tellRing_2 13 rfl rfl)
theorem dX4_tellRing_62 : decode cX4_tellRing 62 = .ok (.aload_n 0, 1) := dk_42 (dk_at dksX4_tellRing_2 16 rfl rfl)
theorem dX4_tellRing_63 : decode cX4_tellRing 63 = .ok (.iload_n 1, 1) := dk_27 (dk_at dksX4_tellRing_2 17 rfl rfl)
theorem dX4_tellRing_64 : decode cX4_tellRing 64 = .ok (.iconst 0, 1) := dk_3 (dk_at dksX4_tellRing_2 18 rfl rfl)
theorem dX4_tellRing_65 : decode cX4_tellRing 65 = .ok (.invokevirtual 337, 3) := dk_182 1 81 (dk_at dksX4_tellRing_2 19 rfl rfl)
theorem dX4_tellRing_68 : decode cX4_tellRing 68 = .ok (.iconst (-1), 1) := dk_2 (dk_at dksX4_tellRing_2 22 rfl rfl)
theorem dX4_tellRing_69 : decode cX4_tellRing 69 = .ok (.if_icmp .eq 65, 3) := dk_159 0 65 (dk_at dksX4_tellRing_3 0 rfl rfl)
theorem dX4_tellRing_72 : decode cX4_tellRing 72 = .ok (.aload_n 0, 1) := dk_42 (dk_at dksX4_tellRing_3 3 rfl rfl)
theorem dX4_tellRing_73 : decode cX4_tellRing 73 = .ok (.getfield 160, 3) := dk_180 0 160 (dk_at dksX4_tellRing_3 4 rfl rfl)
theorem dX4_tellRing_76 : decode cX4_tellRing 76 = .ok (.iload_n 1, 1) := dk_27 (dk_at dksX4_tellRing_3 7 rfl rfl)
theorem dX4_tellRing_77 : decode cX4_tellRing 77 = .ok (.iaload, 1) := dk_46 (dk_at dksX4_tellRing_3 8 rfl rfl)
theorem dX4_tellRing_78 : decode cX4_tellRing 78 = .ok (.ifCond .eq 56, 3) := dk_153 0 56 (dk_at dksX4_tellRing_3 9 rfl rfl)
theorem dX4_tellRing_81 : decode cX4_tellRing 81 = .ok (.aload_n 0, 1) := dk_42 (dk_at dksX4_tellRing_3 12 rfl rfl)
theorem dX4_tellRing_82 : decode cX4_tellRing 82 = .ok (.getfield 163, 3) := dk_180 0 163 (dk_at dksX4_tellRing_3 13 rfl rfl)
theorem dX4_tellRing_85 : decode cX4_tellRing 85 = .ok (.iload_n 1, 1) := dk_27 (dk_at dksX4_tellRing_3 16 rfl rfl)
theorem dX4_tellRing_86 : decode cX4_tellRing 86 = .ok (.iaload, 1) := dk_46 (dk_at dksX4_tellRing_3 17 rfl rfl)
theorem dX4_tellRing_87 : decode cX4_tellRing 87 = .ok (.iconst (-1), 1) := dk_2 (dk_at dksX4_tellRing_3 18 rfl rfl)
theorem dX4_tellRing_88 : decode cX4_tellRing 88 = .ok (.if_icmp .ne 46, 3) := dk_160 0 46 (dk_at dksX4_tellRing_3 19 rfl rfl)
theorem dX4_tellRing_91 : decode cX4_tellRing 91 = .ok (.aload_n 0, 1) := dk_42 (dk_at dksX4_tellRing_3 22 rfl rfl)
theorem dX4_tellRing_92 : decode cX4_tellRing 92 = .ok (.getfield 163, 3) := dk_180 0 163 (dk_at dksX4_tellRing_4 0 rfl rfl)
theorem dX4_tellRing_95 : decode cX4_tellRing 95 = .ok (.iload_n 1, 1) := dk_27 (dk_at dksX4_tellRing_4 3 rfl rfl)
theorem dX4_tellRing_96 : decode cX4_tellRing 96 = .ok (.iload_n 2, 1) := dk_28 (dk_at dksX4_tellRing_4 4 rfl rfl)
theorem dX4_tellRing_97 : decode cX4_tellRing 97 = .ok (.iastore, 1) := dk_79 (dk_at dksX4_tellRing_4 5 rfl rfl)
theorem dX4_tellRing_98 : decode cX4_tellRing 98 = .ok (.aload_n 0, 1) := dk_42 (dk_at dksX4_tellRing_4 6 rfl rfl)
theorem dX4_tellRing_99 : decode cX4_tellRing 99 = .ok (.getfield 157, 3) := dk_180 0 157 (dk_at dksX4_tellRing_4 7 rfl rfl)
theorem dX4_tellRing_102 : decode cX4_tellRing 102 = .ok (.iload_n 2, 1) := dk_28 (dk_at dksX4_tellRing_4 10 rfl rfl)
theorem dX4_tellRing_103 : decode cX4_tellRing 103 = .ok (.iload_n 1, 1) := dk_27 (dk_at dksX4_tellRing_4 11 rfl rfl)
theorem dX4_tellRing_104 : decode cX4_tellRing 104 = .ok (.iastore, 1) := dk_79 (dk_at dksX4_tellRing_4 12 rfl rfl)
theorem dX4_tellRing_105 : decode cX4_tellRing 105 = .ok (.iinc 2 1, 3) := dk_132 2 1 (dk_at dksX4_tellRing_4 13 rfl rfl)
theorem dX4_tellRing_108 : decode cX4_tellRing 108 = .ok (.iconst 0, 1) := dk_3 (dk_at dksX4_tellRing_4 16 rfl rfl)
theorem dX4_tellRing_109 : decode cX4_tellRing 109 = .ok (.istore_n 3, 1) := dk_62 (dk_at dksX4_tellRing_4 17 rfl rfl)
theorem dX4_tellRing_110 : decode cX4_tellRing 110 = .ok (.aload_n 0, 1) := dk_42 (dk_at dksX4_tellRing_4 18 rfl rfl)
theorem dX4_tellRing_111 : decode cX4_tellRing 111 = .ok (.getfield 160, 3) := dk_180 0 160 (dk_at dksX4_tellRing_4 19 rfl rfl)
theorem dX4_tellRing_114 : decode cX4_tellRing 114 = .ok (.iload_n 1, 1) := dk_27 (dk_at dksX4_tellRing_4 22 rfl rfl)
theorem dX4_tellRing_115 : decode cX4_tellRing 115 = .ok (.iaload, 1) := dk_46 (dk_at dksX4_tellRing_4 23 rfl rfl)
theorem dX4_tellRing_116 : decode cX4_tellRing 116 = .ok (.iload_n 3, 1) := dk_29 (dk_at dksX4_tellRing_5 0 rfl rfl)
theorem dX4_tellRing_117 : decode cX4_tellRing 117 = .ok (.ishr, 1) := dk_122 (dk_at dksX4_tellRing_5 1 rfl rfl)
theorem dX4_tellRing_118 : decode cX4_tellRing 118 = .ok (.iconst 1, 1) := dk_4 (dk_at dksX4_tellRing_5 2 rfl rfl)
theorem dX4_tellRing_119 : decode cX4_tellRing 119 = .ok (.iand, 1) := dk_126 (dk_at dksX4_tellRing_5 3 rfl rfl)
theorem dX4_tellRing_120 : decode cX4_tellRing 120 = .ok (.ifCond .ne 9, 3) := dk_154 0 9 (dk_at dksX4_tellRing_5 4 rfl rfl)
theorem dX4_tellRing_123 : decode cX4_tellRing 123 = .ok (.iinc 3 1, 3) := dk_132 3 1 (dk_at dksX4_tellRing_5 7 rfl rfl)
theorem dX4_tellRing_126 : decode cX4_tellRing 126 = .ok (.goto (-16), 3) := dk_167 255 240 (dk_at dksX4_tellRing_5 10 rfl rfl)
theorem dX4_tellRing_129 : decode cX4_tellRing 129 = .ok (.iload_n 3, 1) := dk_29 (dk_at dksX4_tellRing_5 13 rfl rfl)
theorem dX4_tellRing_130 : decode cX4_tellRing 130 = .ok (.istore_n 1, 1) := dk_60 (dk_at dksX4_tellRing_5 14 rfl rfl)
theorem dX4_tellRing_131 : decode cX4_tellRing 131 = .ok (.goto (-77), 3) := dk_167 255 179 (dk_at dksX4_tellRing_5 15 rfl rfl)
theorem dX4_tellRing_134 : decode cX4_tellRing 134 = .ok (.iload_n 1, 1) := dk_27 (dk_at dksX4_tellRing_5 18 rfl rfl)
theorem dX4_tellRing_135 : decode cX4_tellRing 135 = .ok (.aload_n 0, 1) := dk_42 (dk_at dksX4_tellRing_5 19 rfl rfl)
theorem dX4_tellRing_136 : decode cX4_tellRing 136 = .ok (.getfield 54, 3) := dk_180 0 54 (dk_at dksX4_tellRing_5 20 rfl rfl)
theorem dX4_tellRing_139 : decode cX4_tellRing 139 = .ok (.if_icmp .ge 22, 3) := dk_162 0 22 (dk_at dksX4_tellRing_6 0 rfl rfl)
theorem dX4_tellRing_142 : decode cX4_tellRing 142 = .ok (.aload_n 0, 1) := dk_42 (dk_at dksX4_tellRing_6 3 rfl rfl)
theorem dX4_tellRing_143 : decode cX4_tellRing 143 = .ok (.iload_n 1, 1) := dk_27 (dk_at dksX4_tellRing_6 4 rfl rfl)
theorem dX4_tellRing_144 : decode cX4_tellRing 144 = .ok (.iconst 0, 1) := dk_3 (dk_at dksX4_tellRing_6 5 rfl rfl)
theorem dX4_tellRing_145 : decode cX4_tellRing 145 = .ok (.invokevirtual 337, 3) := dk_182 1 81 (dk_at dksX4_tellRing_6 6 rfl rfl)
theorem dX4_tellRing_148 : decode cX4_tellRing 148 = .ok (.iconst (-1), 1) := dk_2 (dk_at dksX4_tellRing_6 9 rfl rfl)
theorem dX4_tellRing_149 : decode cX4_tellRing 149 = .ok (.if_icmp .eq 12, 3) := dk_159 0 12 (dk_at dksX4_tellRing_6 10 rfl rfl)
theorem dX4_tellRing_152 : decode cX4_tellRing 152 = .ok (.aload_n 0, 1) := dk_42 (dk_at dksX4_tellRing_6 13 rfl rfl)
theorem dX4_tellRing_153 : decode cX4_tellRing 153 = .ok (.getfield 160, 3) := dk_180 0 160 (dk_at dksX4_tellRing_6 14 rfl rfl)
theorem dX4_tellRing_156 : decode cX4_tellRing 156 = .ok (.iload_n 1, 1) := dk_27 (dk_at dksX4_tellRing_6 17 rfl rfl)
theorem dX4_tellRing_157 : decode cX4_tellRing 157 = .ok (.iaload, 1) := dk_46 (dk_at dksX4_tellRing_6 18 rfl rfl)
theorem dX4_tellRing_158 : decode cX4_tellRing 158 = .ok (.ifCond .ne 4, 3) := dk_154 0 4 (dk_at dksX4_tellRing_6 19 rfl rfl)
theorem dX4_tellRing_161 : decode cX4_tellRing 161 = .ok (.return_, 1) := dk_177 (dk_at dksX4_tellRing_6 22 rfl rfl)
theorem dX4_tellRing_162 : decode cX4_tellRing 162 = .ok (.aload_n 0, 1) := dk_42 (dk_at dksX4_tellRing_6 23 rfl rfl)
theorem dX4_tellRing_163 : decode cX4_tellRing 163 = .ok (.getfield 163, 3) := dk_180 0 163 (dk_at dksX4_tellRing_7 0 rfl rfl)
theorem dX4_tellRing_166 : decode cX4_tellRing 166 = .ok (.iload_n 1, 1) := dk_27 (dk_at dksX4_tellRing_7 3 rfl rfl)
theorem dX4_tellRing_167 : decode cX4_tellRing 167 = .ok (.iaload, 1) := dk_46 (dk_at dksX4_tellRing_7 4 rfl rfl)
theorem dX4_tellRing_168 : decode cX4_tellRing 168 = .ok (.istore_n 3, 1) := dk_62 (dk_at dksX4_tellRing_7 5 rfl rfl)
theorem dX4_tellRing_169 : decode cX4_tellRing 169 = .ok (.aload_n 0, 1) := dk_42 (dk_at dksX4_tellRing_7 6 rfl rfl)
theorem dX4_tellRing_170 : decode cX4_tellRing 170 = .ok (.iload_n 2, 1) := dk_28 (dk_at dksX4_tellRing_7 7 rfl rfl)
theorem dX4_tellRing_171 : decode cX4_tellRing 171 = .ok (.iload_n 3, 1) := dk_29 (dk_at dksX4_tellRing_7 8 rfl rfl)
theorem dX4_tellRing_172 : decode cX4_tellRing 172 = .ok (.isub, 1) := dk_100 (dk_at dksX4_tellRing_7 9 rfl rfl)
theorem dX4_tellRing_173 : decode cX4_tellRing 173 = .ok (.putfield 497, 3) := dk_181 1 241 (dk_at dksX4_tellRing_7 10 rfl rfl)
theorem dX4_tellRing_176 : decode cX4_tellRing 176 = .ok (.iconst 0, 1) := dk_3 (dk_at dksX4_tellRing_7 13 rfl rfl)
theorem dX4_tellRing_177 : decode cX4_tellRing 177 = .ok (.istore 4, 2) := dk_54 4 (dk_at dksX4_tellRing_7 14 rfl rfl)
theorem dX4_tellRing_179 : decode cX4_tellRing 179 = .ok (.iload 4, 2) := dk_21 4 (dk_at dksX4_tellRing_7 16 rfl rfl)
theorem dX4_tellRing_181 : decode cX4_tellRing 181 = .ok (.aload_n 0, 1) := dk_42 (dk_at dksX4_tellRing_7 18 rfl rfl)
theorem dX4_tellRing_182 : decode cX4_tellRing 182 = .ok (.getfield 497, 3) := dk_180 1 241 (dk_at dksX4_tellRing_7 19 rfl rfl)
theorem dX4_tellRing_185 : decode cX4_tellRing 185 = .ok (.if_icmp .ge 25, 3) := dk_162 0 25 (dk_at dksX4_tellRing_8 0 rfl rfl)
theorem dX4_tellRing_188 : decode cX4_tellRing 188 = .ok (.aload_n 0, 1) := dk_42 (dk_at dksX4_tellRing_8 3 rfl rfl)
theorem dX4_tellRing_189 : decode cX4_tellRing 189 = .ok (.getfield 157, 3) := dk_180 0 157 (dk_at dksX4_tellRing_8 4 rfl rfl)
theorem dX4_tellRing_192 : decode cX4_tellRing 192 = .ok (.iload 4, 2) := dk_21 4 (dk_at dksX4_tellRing_8 7 rfl rfl)
theorem dX4_tellRing_194 : decode cX4_tellRing 194 = .ok (.aload_n 0, 1) := dk_42 (dk_at dksX4_tellRing_8 9 rfl rfl)
theorem dX4_tellRing_195 : decode cX4_tellRing 195 = .ok (.getfield 157, 3) := dk_180 0 157 (dk_at dksX4_tellRing_8 10 rfl rfl)
theorem dX4_tellRing_198 : decode cX4_tellRing 198 = .ok (.iload_n 3, 1) := dk_29 (dk_at dksX4_tellRing_8 13 rfl rfl)
theorem dX4_tellRing_199 : decode cX4_tellRing 199 = .ok (.iload 4, 2) := dk_21 4 (dk_at dksX4_tellRing_8 14 rfl rfl)
theorem dX4_tellRing_201 : decode cX4_tellRing 201 = .ok (.iadd, 1) := dk_96 (dk_at dksX4_tellRing_8 16 rfl rfl)
theorem dX4_tellRing_202 : decode cX4_tellRing 202 = .ok (.iaload, 1) := dk_46 (dk_at dksX4_tellRing_8 17 rfl rfl)
theorem dX4_tellRing_203 : decode cX4_tellRing 203 = .ok (.iastore, 1) := dk_79 (dk_at dksX4_tellRing_8 18 rfl rfl)
theorem dX4_tellRing_204 : decode cX4_tellRing 204 = .ok (.iinc 4 1, 3) := dk_132 4 1 (dk_at dksX4_tellRing_8 19 rfl rfl)
theorem dX4_tellRing_207 : decode cX4_tellRing 207 = .ok (.goto (-28), 3) := dk_167 255 228 (dk_at dksX4_tellRing_9 0 rfl rfl)
theorem dX4_tellRing_210 : decode cX4_tellRing 210 = .ok (.return_, 1) := dk_177 (dk_at dksX4_tellRing_9 3 rfl rfl)
abbrev cX4_of : ByteArray := prog_21_method_88_code
def yX4_of : MethodName := ⟨RX4, "of", "(II)I"⟩
def dkwX4_of_7 : List UInt8 := [172]
abbrev dktX4_of_7 : List UInt8 := dkwX4_of_7 ++ []
def dkwX4_of_6 : List UInt8 := [46, 172, 42, 180, 0, 151, 29, 4, 96, 46, 172, 42, 180, 0, 151, 29, 5, 96, 28, 96, 16, 8, 100, 46]
abbrev dktX4_of_6 : List UInt8 := dkwX4_of_6 ++ dktX4_of_7
def dkwX4_of_5 : List UInt8 := [180, 0, 151, 29, 16, 7, 96, 46, 172, 42, 180, 0, 151, 29, 16, 6, 96, 46, 172, 42, 180, 0, 160, 27]
abbrev dktX4_of_5 : List UInt8 := dkwX4_of_5 ++ dktX4_of_6
def dkwX4_of_4 : List UInt8 := [42, 180, 0, 166, 27, 46, 172, 42, 180, 0, 169, 27, 46, 172, 42, 180, 0, 151, 29, 3, 96, 46, 172, 42]
abbrev dktX4_of_4 : List UInt8 := dkwX4_of_4 ++ dktX4_of_5
def dkwX4_of_3 : List UInt8 := [170, 0, 0, 0, 0, 0, 102, 0, 0, 0, 0, 0, 0, 0, 6, 0, 0, 0, 43, 0, 0, 0, 50, 0, 0, 0, 57, 0, 0, 0, 66, 0, 0, 0, 76, 0, 0, 0, 86, 0, 0, 0, 93]
abbrev dktX4_of_3 : List UInt8 := dkwX4_of_3 ++ dktX4_of_4
def dkwX4_of_2 : List UInt8 := [16, 8, 27, 104, 62, 28]
abbrev dktX4_of_2 : List UInt8 := dkwX4_of_2 ++ dktX4_of_3
def dkwX4_of_1 : List UInt8 := [16, 8, 16, 11, 184, 1, 20, 153, 0, 10, 42, 182, 2, 4, 154, 0, 9, 42, 4, 182, 1, 57, 172]
abbrev dktX4_of_1 : List UInt8 := dkwX4_of_1 ++ dktX4_of_2
def dkwX4_of_0 : List UInt8 := [42, 3, 181, 0, 175, 42, 27, 182, 1, 229, 153, 0, 31, 28, 3, 16, 6, 184, 1, 20, 154, 0, 14, 28]
abbrev dktX4_of_0 : List UInt8 := dkwX4_of_0 ++ dktX4_of_1
theorem dksX4_of_0 : cX4_of.data.toList.drop 0 = dktX4_of_0 := by decide +kernel
theorem dksX4_of_1 : cX4_of.data.toList.drop 24 = dktX4_of_1 := dk_seg dksX4_of_0 24 rfl rfl
theorem dksX4_of_2 : cX4_of.data.toList.drop 47 = dktX4_of_2 := dk_seg dksX4_of_1 23 rfl rfl
theorem dksX4_of_3 : cX4_of.data.toList.drop 53 = dktX4_of_3 := dk_seg dksX4_of_2 6 rfl rfl
theorem dksX4_of_4 : cX4_of.data.toList.drop 96 = dktX4_of_4 := dk_seg dksX4_of_3 43 rfl rfl
theorem dksX4_of_5 : cX4_of.data.toList.drop 120 = dktX4_of_5 := dk_seg dksX4_of_4 24 rfl rfl
theorem dksX4_of_6 : cX4_of.data.toList.drop 144 = dktX4_of_6 := dk_seg dksX4_of_5 24 rfl rfl
theorem dksX4_of_7 : cX4_of.data.toList.drop 168 = dktX4_of_7 := dk_seg dksX4_of_6 24 rfl rfl
theorem dX4_of_0 : decode cX4_of 0 = .ok (.aload_n 0, 1) := dk_42 (dk_at dksX4_of_0 0 rfl rfl)
theorem dX4_of_1 : decode cX4_of 1 = .ok (.iconst 0, 1) := dk_3 (dk_at dksX4_of_0 1 rfl rfl)
theorem dX4_of_2 : decode cX4_of 2 = .ok (.putfield 175, 3) := dk_181 0 175 (dk_at dksX4_of_0 2 rfl rfl)
theorem dX4_of_5 : decode cX4_of 5 = .ok (.aload_n 0, 1) := dk_42 (dk_at dksX4_of_0 5 rfl rfl)
theorem dX4_of_6 : decode cX4_of 6 = .ok (.iload_n 1, 1) := dk_27 (dk_at dksX4_of_0 6 rfl rfl)
theorem dX4_of_7 : decode cX4_of 7 = .ok (.invokevirtual 485, 3) := dk_182 1 229 (dk_at dksX4_of_0 7 rfl rfl)
theorem dX4_of_10 : decode cX4_of 10 = .ok (.ifCond .eq 31, 3) := dk_153 0 31 (dk_at dksX4_of_0 10 rfl rfl)
theorem dX4_of_13 : decode cX4_of 13 = .ok (.iload_n 2, 1) := dk_28 (dk_at dksX4_of_0 13 rfl rfl)
theorem dX4_of_14 : decode cX4_of 14 = .ok (.iconst 0, 1) := dk_3 (dk_at dksX4_of_0 14 rfl rfl)
theorem dX4_of_15 : decode cX4_of 15 = .ok (.bipush 6, 2) := dk_16 6 (dk_at dksX4_of_0 15 rfl rfl)
theorem dX4_of_17 : decode cX4_of 17 = .ok (.invokestatic 276, 3) := dk_184 1 20 (dk_at dksX4_of_0 17 rfl rfl)
theorem dX4_of_20 : decode cX4_of 20 = .ok (.ifCond .ne 14, 3) := dk_154 0 14 (dk_at dksX4_of_0 20 rfl rfl)
theorem dX4_of_23 : decode cX4_of 23 = .ok (.iload_n 2, 1) := dk_28 (dk_at dksX4_of_0 23 rfl rfl)
theorem dX4_of_24 : decode cX4_of 24 = .ok (.bipush 8, 2) := dk_16 8 (dk_at dksX4_of_1 0 rfl rfl)
theorem dX4_of_26 : decode cX4_of 26 = .ok (.bipush 11, 2) := dk_16 11 (dk_at dksX4_of_1 2 rfl rfl)
theorem dX4_of_28 : decode cX4_of 28 = .ok (.invokestatic 276, 3) := dk_184 1 20 (dk_at dksX4_of_1 4 rfl rfl)
theorem dX4_of_31 : decode cX4_of 31 = .ok (.ifCond .eq 10, 3) := dk_153 0 10 (dk_at dksX4_of_1 7 rfl rfl)
theorem dX4_of_34 : decode cX4_of 34 = .ok (.aload_n 0, 1) := dk_42 (dk_at dksX4_of_1 10 rfl rfl)
theorem dX4_of_35 : decode cX4_of 35 = .ok (.invokevirtual 516, 3) := dk_182 2 4 (dk_at dksX4_of_1 11 rfl rfl)
theorem dX4_of_38 : decode cX4_of 38 = .ok (.ifCond .ne 9, 3) := dk_154 0 9 (dk_at dksX4_of_1 14 rfl rfl)
theorem dX4_of_41 : decode cX4_of 41 = .ok (.aload_n 0, 1) := dk_42 (dk_at dksX4_of_1 17 rfl rfl)
theorem dX4_of_42 : decode cX4_of 42 = .ok (.iconst 1, 1) := dk_4 (dk_at dksX4_of_1 18 rfl rfl)
theorem dX4_of_43 : decode cX4_of 43 = .ok (.invokevirtual 313, 3) := dk_182 1 57 (dk_at dksX4_of_1 19 rfl rfl)
theorem dX4_of_46 : decode cX4_of 46 = .ok (.ireturn, 1) := dk_172 (dk_at dksX4_of_1 22 rfl rfl)
theorem dX4_of_47 : decode cX4_of 47 = .ok (.bipush 8, 2) := dk_16 8 (dk_at dksX4_of_2 0 rfl rfl)
theorem dX4_of_49 : decode cX4_of 49 = .ok (.iload_n 1, 1) := dk_27 (dk_at dksX4_of_2 2 rfl rfl)
theorem dX4_of_50 : decode cX4_of 50 = .ok (.imul, 1) := dk_104 (dk_at dksX4_of_2 3 rfl rfl)
theorem dX4_of_51 : decode cX4_of 51 = .ok (.istore_n 3, 1) := dk_62 (dk_at dksX4_of_2 4 rfl rfl)
theorem dX4_of_52 : decode cX4_of 52 = .ok (.iload_n 2, 1) := dk_28 (dk_at dksX4_of_2 5 rfl rfl)
theorem dX4_of_53 : decode cX4_of 53 = .ok (.tableswitch 102 0 6 #[43, 50, 57, 66, 76, 86, 93], 43) := by decide +kernel
theorem dX4_of_96 : decode cX4_of 96 = .ok (.aload_n 0, 1) := dk_42 (dk_at dksX4_of_4 0 rfl rfl)
theorem dX4_of_97 : decode cX4_of 97 = .ok (.getfield 166, 3) := dk_180 0 166 (dk_at dksX4_of_4 1 rfl rfl)
theorem dX4_of_100 : decode cX4_of 100 = .ok (.iload_n 1, 1) := dk_27 (dk_at dksX4_of_4 4 rfl rfl)
theorem dX4_of_101 : decode cX4_of 101 = .ok (.iaload, 1) := dk_46 (dk_at dksX4_of_4 5 rfl rfl)
theorem dX4_of_102 : decode cX4_of 102 = .ok (.ireturn, 1) := dk_172 (dk_at dksX4_of_4 6 rfl rfl)
theorem dX4_of_103 : decode cX4_of 103 = .ok (.aload_n 0, 1) := dk_42 (dk_at dksX4_of_4 7 rfl rfl)
theorem dX4_of_104 : decode cX4_of 104 = .ok (.getfield 169, 3) := dk_180 0 169 (dk_at dksX4_of_4 8 rfl rfl)
theorem dX4_of_107 : decode cX4_of 107 = .ok (.iload_n 1, 1) := dk_27 (dk_at dksX4_of_4 11 rfl rfl)
theorem dX4_of_108 : decode cX4_of 108 = .ok (.iaload, 1) := dk_46 (dk_at dksX4_of_4 12 rfl rfl)
theorem dX4_of_109 : decode cX4_of 109 = .ok (.ireturn, 1) := dk_172 (dk_at dksX4_of_4 13 rfl rfl)
theorem dX4_of_110 : decode cX4_of 110 = .ok (.aload_n 0, 1) := dk_42 (dk_at dksX4_of_4 14 rfl rfl)
theorem dX4_of_111 : decode cX4_of 111 = .ok (.getfield 151, 3) := dk_180 0 151 (dk_at dksX4_of_4 15 rfl rfl)
theorem dX4_of_114 : decode cX4_of 114 = .ok (.iload_n 3, 1) := dk_29 (dk_at dksX4_of_4 18 rfl rfl)
theorem dX4_of_115 : decode cX4_of 115 = .ok (.iconst 0, 1) := dk_3 (dk_at dksX4_of_4 19 rfl rfl)
theorem dX4_of_116 : decode cX4_of 116 = .ok (.iadd, 1) := dk_96 (dk_at dksX4_of_4 20 rfl rfl)
theorem dX4_of_117 : decode cX4_of 117 = .ok (.iaload, 1) := dk_46 (dk_at dksX4_of_4 21 rfl rfl)
theorem dX4_of_118 : decode cX4_of 118 = .ok (.ireturn, 1) := dk_172 (dk_at dksX4_of_4 22 rfl rfl)
theorem dX4_of_119 : decode cX4_of 119 = .ok (.aload_n 0, 1) := dk_42 (dk_at dksX4_of_4 23 rfl rfl)
theorem dX4_of_120 : decode cX4_of 120 = .ok (.getfield 151, 3) := dk_180 0 151 (dk_at dksX4_of_5 0 rfl rfl)
theorem dX4_of_123 : decode cX4_of 123 = .ok (.iload_n 3, 1) := dk_29 (dk_at dksX4_of_5 3 rfl rfl)
theorem dX4_of_124 : decode cX4_of 124 = .ok (.bipush 7, 2) := dk_16 7 (dk_at dksX4_of_5 4 rfl rfl)
theorem dX4_of_126 : decode cX4_of 126 = .ok (.iadd, 1) := dk_96 (dk_at dksX4_of_5 6 rfl rfl)
theorem dX4_of_127 : decode cX4_of 127 = .ok (.iaload, 1) := dk_46 (dk_at dksX4_of_5 7 rfl rfl)
theorem dX4_of_128 : decode cX4_of 128 = .ok (.ireturn, 1) := dk_172 (dk_at dksX4_of_5 8 rfl rfl)
theorem dX4_of_129 : decode cX4_of 129 = .ok (.aload_n 0, 1) := dk_42 (dk_at dksX4_of_5 9 rfl rfl)
theorem dX4_of_130 : decode cX4_of 130 = .ok (.getfield 151, 3) := dk_180 0 151 (dk_at dksX4_of_5 10 rfl rfl)
theorem dX4_of_133 : decode cX4_of 133 = .ok (.iload_n 3, 1) := dk_29 (dk_at dksX4_of_5 13 rfl rfl)
theorem dX4_of_134 : decode cX4_of 134 = .ok (.bipush 6, 2) := dk_16 6 (dk_at dksX4_of_5 14 rfl rfl)
theorem dX4_of_136 : decode cX4_of 136 = .ok (.iadd, 1) := dk_96 (dk_at dksX4_of_5 16 rfl rfl)
theorem dX4_of_137 : decode cX4_of 137 = .ok (.iaload, 1) := dk_46 (dk_at dksX4_of_5 17 rfl rfl)
theorem dX4_of_138 : decode cX4_of 138 = .ok (.ireturn, 1) := dk_172 (dk_at dksX4_of_5 18 rfl rfl)
theorem dX4_of_139 : decode cX4_of 139 = .ok (.aload_n 0, 1) := dk_42 (dk_at dksX4_of_5 19 rfl rfl)
theorem dX4_of_140 : decode cX4_of 140 = .ok (.getfield 160, 3) := dk_180 0 160 (dk_at dksX4_of_5 20 rfl rfl)
theorem dX4_of_143 : decode cX4_of 143 = .ok (.iload_n 1, 1) := dk_27 (dk_at dksX4_of_5 23 rfl rfl)
theorem dX4_of_144 : decode cX4_of 144 = .ok (.iaload, 1) := dk_46 (dk_at dksX4_of_6 0 rfl rfl)
theorem dX4_of_145 : decode cX4_of 145 = .ok (.ireturn, 1) := dk_172 (dk_at dksX4_of_6 1 rfl rfl)
theorem dX4_of_146 : decode cX4_of 146 = .ok (.aload_n 0, 1) := dk_42 (dk_at dksX4_of_6 2 rfl rfl)
theorem dX4_of_147 : decode cX4_of 147 = .ok (.getfield 151, 3) := dk_180 0 151 (dk_at dksX4_of_6 3 rfl rfl)
theorem dX4_of_150 : decode cX4_of 150 = .ok (.iload_n 3, 1) := dk_29 (dk_at dksX4_of_6 6 rfl rfl)
theorem dX4_of_151 : decode cX4_of 151 = .ok (.iconst 1, 1) := dk_4 (dk_at dksX4_of_6 7 rfl rfl)
theorem dX4_of_152 : decode cX4_of 152 = .ok (.iadd, 1) := dk_96 (dk_at dksX4_of_6 8 rfl rfl)
theorem dX4_of_153 : decode cX4_of 153 = .ok (.iaload, 1) := dk_46 (dk_at dksX4_of_6 9 rfl rfl)
theorem dX4_of_154 : decode cX4_of 154 = .ok (.ireturn, 1) := dk_172 (dk_at dksX4_of_6 10 rfl rfl)
theorem dX4_of_155 : decode cX4_of 155 = .ok (.aload_n 0, 1) := dk_42 (dk_at dksX4_of_6 11 rfl rfl)
theorem dX4_of_156 : decode cX4_of 156 = .ok (.getfield 151, 3) := dk_180 0 151 (dk_at dksX4_of_6 12 rfl rfl)
theorem dX4_of_159 : decode cX4_of 159 = .ok (.iload_n 3, 1) := dk_29 (dk_at dksX4_of_6 15 rfl rfl)
theorem dX4_of_160 : decode cX4_of 160 = .ok (.iconst 2, 1) := dk_5 (dk_at dksX4_of_6 16 rfl rfl)
theorem dX4_of_161 : decode cX4_of 161 = .ok (.iadd, 1) := dk_96 (dk_at dksX4_of_6 17 rfl rfl)
theorem dX4_of_162 : decode cX4_of 162 = .ok (.iload_n 2, 1) := dk_28 (dk_at dksX4_of_6 18 rfl rfl)
theorem dX4_of_163 : decode cX4_of 163 = .ok (.iadd, 1) := dk_96 (dk_at dksX4_of_6 19 rfl rfl)
theorem dX4_of_164 : decode cX4_of 164 = .ok (.bipush 8, 2) := dk_16 8 (dk_at dksX4_of_6 20 rfl rfl)
theorem dX4_of_166 : decode cX4_of 166 = .ok (.isub, 1) := dk_100 (dk_at dksX4_of_6 22 rfl rfl)
theorem dX4_of_167 : decode cX4_of 167 = .ok (.iaload, 1) := dk_46 (dk_at dksX4_of_6 23 rfl rfl)
theorem dX4_of_168 : decode cX4_of 168 = .ok (.ireturn, 1) := dk_172 (dk_at dksX4_of_7 0 rfl rfl)
abbrev cX4_hasPlay : ByteArray := prog_21_method_87_code
def yX4_hasPlay : MethodName := ⟨RX4, "hasPlay", "()Z"⟩
def dkwX4_hasPlay_1 : List UInt8 := [167, 0, 4, 3, 172]
abbrev dktX4_hasPlay_1 : List UInt8 := dkwX4_hasPlay_1 ++ []
def dkwX4_hasPlay_0 : List UInt8 := [42, 180, 0, 148, 42, 180, 0, 54, 160, 0, 18, 42, 180, 2, 1, 42, 180, 1, 63, 160, 0, 7, 4]
abbrev dktX4_hasPlay_0 : List UInt8 := dkwX4_hasPlay_0 ++ dktX4_hasPlay_1
theorem dksX4_hasPlay_0 : cX4_hasPlay.data.toList.drop 0 = dktX4_hasPlay_0 := by decide +kernel
theorem dksX4_hasPlay_1 : cX4_hasPlay.data.toList.drop 23 = dktX4_hasPlay_1 := dk_seg dksX4_hasPlay_0 23 rfl rfl
theorem dX4_hasPlay_0 : decode cX4_hasPlay 0 = .ok (.aload_n 0, 1) := dk_42 (dk_at dksX4_hasPlay_0 0 rfl rfl)
theorem dX4_hasPlay_1 : decode cX4_hasPlay 1 = .ok (.getfield 148, 3) := dk_180 0 148 (dk_at dksX4_hasPlay_0 1 rfl rfl)
theorem dX4_hasPlay_4 : decode cX4_hasPlay 4 = .ok (.aload_n 0, 1) := dk_42 (dk_at dksX4_hasPlay_0 4 rfl rfl)
theorem dX4_hasPlay_5 : decode cX4_hasPlay 5 = .ok (.getfield 54, 3) := dk_180 0 54 (dk_at dksX4_hasPlay_0 5 rfl rfl)
theorem dX4_hasPlay_8 : decode cX4_hasPlay 8 = .ok (.if_icmp .ne 18, 3) := dk_160 0 18 (dk_at dksX4_hasPlay_0 8 rfl rfl)
theorem dX4_hasPlay_11 : decode cX4_hasPlay 11 = .ok (.aload_n 0, 1) := dk_42 (dk_at dksX4_hasPlay_0 11 rfl rfl)
theorem dX4_hasPlay_12 : decode cX4_hasPlay 12 = .ok (.getfield 513, 3) := dk_180 2 1 (dk_at dksX4_hasPlay_0 12 rfl rfl)
theorem dX4_hasPlay_15 : decode cX4_hasPlay 15 = .ok (.aload_n 0, 1) := dk_42 (dk_at dksX4_hasPlay_0 15 rfl rfl)
theorem dX4_hasPlay_16 : decode cX4_hasPlay 16 = .ok (.getfield 319, 3) := dk_180 1 63 (dk_at dksX4_hasPlay_0 16 rfl rfl)
theorem dX4_hasPlay_19 : decode cX4_hasPlay 19 = .ok (.if_icmp .ne 7, 3) := dk_160 0 7 (dk_at dksX4_hasPlay_0 19 rfl rfl)
theorem dX4_hasPlay_22 : decode cX4_hasPlay 22 = .ok (.iconst 1, 1) := dk_4 (dk_at dksX4_hasPlay_0 22 rfl rfl)
theorem dX4_hasPlay_23 : decode cX4_hasPlay 23 = .ok (.goto 4, 3) := dk_167 0 4 (dk_at dksX4_hasPlay_1 0 rfl rfl)
theorem dX4_hasPlay_26 : decode cX4_hasPlay 26 = .ok (.iconst 0, 1) := dk_3 (dk_at dksX4_hasPlay_1 3 rfl rfl)
theorem dX4_hasPlay_27 : decode cX4_hasPlay 27 = .ok (.ireturn, 1) := dk_172 (dk_at dksX4_hasPlay_1 4 rfl rfl)
abbrev cX4_ring : ByteArray := prog_21_method_89_code
def yX4_ring : MethodName := ⟨RX4, "ring", "(I)I"⟩
def dkwX4_ring_2 : List UInt8 := [167, 0, 9, 42, 180, 0, 157, 27, 46, 172]
abbrev dktX4_ring_2 : List UInt8 := dkwX4_ring_2 ++ []
def dkwX4_ring_1 : List UInt8 := [100, 184, 1, 20, 154, 0, 9, 42, 4, 182, 1, 57, 172, 27, 2, 160, 0, 10, 42, 180, 1, 241]
abbrev dktX4_ring_1 : List UInt8 := dkwX4_ring_1 ++ dktX4_ring_2
def dkwX4_ring_0 : List UInt8 := [42, 3, 181, 0, 175, 42, 182, 2, 4, 153, 0, 22, 27, 2, 159, 0, 23, 27, 3, 42, 180, 1, 241, 4]
abbrev dktX4_ring_0 : List UInt8 := dkwX4_ring_0 ++ dktX4_ring_1
theorem dksX4_ring_0 : cX4_ring.data.toList.drop 0 = dktX4_ring_0 := by decide +kernel
theorem dksX4_ring_1 : cX4_ring.data.toList.drop 24 = dktX4_ring_1 := dk_seg dksX4_ring_0 24 rfl rfl
theorem dksX4_ring_2 : cX4_ring.data.toList.drop 46 = dktX4_ring_2 := dk_seg dksX4_ring_1 22 rfl rfl
theorem dX4_ring_0 : decode cX4_ring 0 = .ok (.aload_n 0, 1) := dk_42 (dk_at dksX4_ring_0 0 rfl rfl)
theorem dX4_ring_1 : decode cX4_ring 1 = .ok (.iconst 0, 1) := dk_3 (dk_at dksX4_ring_0 1 rfl rfl)
theorem dX4_ring_2 : decode cX4_ring 2 = .ok (.putfield 175, 3) := dk_181 0 175 (dk_at dksX4_ring_0 2 rfl rfl)
theorem dX4_ring_5 : decode cX4_ring 5 = .ok (.aload_n 0, 1) := dk_42 (dk_at dksX4_ring_0 5 rfl rfl)
theorem dX4_ring_6 : decode cX4_ring 6 = .ok (.invokevirtual 516, 3) := dk_182 2 4 (dk_at dksX4_ring_0 6 rfl rfl)
theorem dX4_ring_9 : decode cX4_ring 9 = .ok (.ifCond .eq 22, 3) := dk_153 0 22 (dk_at dksX4_ring_0 9 rfl rfl)
theorem dX4_ring_12 : decode cX4_ring 12 = .ok (.iload_n 1, 1) := dk_27 (dk_at dksX4_ring_0 12 rfl rfl)
theorem dX4_ring_13 : decode cX4_ring 13 = .ok (.iconst (-1), 1) := dk_2 (dk_at dksX4_ring_0 13 rfl rfl)
theorem dX4_ring_14 : decode cX4_ring 14 = .ok (.if_icmp .eq 23, 3) := dk_159 0 23 (dk_at dksX4_ring_0 14 rfl rfl)
theorem dX4_ring_17 : decode cX4_ring 17 = .ok (.iload_n 1, 1) := dk_27 (dk_at dksX4_ring_0 17 rfl rfl)
theorem dX4_ring_18 : decode cX4_ring 18 = .ok (.iconst 0, 1) := dk_3 (dk_at dksX4_ring_0 18 rfl rfl)
theorem dX4_ring_19 : decode cX4_ring 19 = .ok (.aload_n 0, 1) := dk_42 (dk_at dksX4_ring_0 19 rfl rfl)
theorem dX4_ring_20 : decode cX4_ring 20 = .ok (.getfield 497, 3) := dk_180 1 241 (dk_at dksX4_ring_0 20 rfl rfl)
theorem dX4_ring_23 : decode cX4_ring 23 = .ok (.iconst 1, 1) := dk_4 (dk_at dksX4_ring_0 23 rfl rfl)
theorem dX4_ring_24 : decode cX4_ring 24 = .ok (.isub, 1) := dk_100 (dk_at dksX4_ring_1 0 rfl rfl)
theorem dX4_ring_25 : decode cX4_ring 25 = .ok (.invokestatic 276, 3) := dk_184 1 20 (dk_at dksX4_ring_1 1 rfl rfl)
theorem dX4_ring_28 : decode cX4_ring 28 = .ok (.ifCond .ne 9, 3) := dk_154 0 9 (dk_at dksX4_ring_1 4 rfl rfl)
theorem dX4_ring_31 : decode cX4_ring 31 = .ok (.aload_n 0, 1) := dk_42 (dk_at dksX4_ring_1 7 rfl rfl)
theorem dX4_ring_32 : decode cX4_ring 32 = .ok (.iconst 1, 1) := dk_4 (dk_at dksX4_ring_1 8 rfl rfl)
theorem dX4_ring_33 : decode cX4_ring 33 = .ok (.invokevirtual 313, 3) := dk_182 1 57 (dk_at dksX4_ring_1 9 rfl rfl)
theorem dX4_ring_36 : decode cX4_ring 36 = .ok (.ireturn, 1) := dk_172 (dk_at dksX4_ring_1 12 rfl rfl)
theorem dX4_ring_37 : decode cX4_ring 37 = .ok (.iload_n 1, 1) := dk_27 (dk_at dksX4_ring_1 13 rfl rfl)
theorem dX4_ring_38 : decode cX4_ring 38 = .ok (.iconst (-1), 1) := dk_2 (dk_at dksX4_ring_1 14 rfl rfl)
theorem dX4_ring_39 : decode cX4_ring 39 = .ok (.if_icmp .ne 10, 3) := dk_160 0 10 (dk_at dksX4_ring_1 15 rfl rfl)
theorem dX4_ring_42 : decode cX4_ring 42 = .ok (.aload_n 0, 1) := dk_42 (dk_at dksX4_ring_1 18 rfl rfl)
theorem dX4_ring_43 : decode cX4_ring 43 = .ok (.getfield 497, 3) := dk_180 1 241 (dk_at dksX4_ring_1 19 rfl rfl)
theorem dX4_ring_46 : decode cX4_ring 46 = .ok (.goto 9, 3) := dk_167 0 9 (dk_at dksX4_ring_2 0 rfl rfl)
theorem dX4_ring_49 : decode cX4_ring 49 = .ok (.aload_n 0, 1) := dk_42 (dk_at dksX4_ring_2 3 rfl rfl)
theorem dX4_ring_50 : decode cX4_ring 50 = .ok (.getfield 157, 3) := dk_180 0 157 (dk_at dksX4_ring_2 4 rfl rfl)
theorem dX4_ring_53 : decode cX4_ring 53 = .ok (.iload_n 1, 1) := dk_27 (dk_at dksX4_ring_2 7 rfl rfl)
theorem dX4_ring_54 : decode cX4_ring 54 = .ok (.iaload, 1) := dk_46 (dk_at dksX4_ring_2 8 rfl rfl)
theorem dX4_ring_55 : decode cX4_ring 55 = .ok (.ireturn, 1) := dk_172 (dk_at dksX4_ring_2 9 rfl rfl)
abbrev cX4_chose : ByteArray := prog_21_method_90_code
def yX4_chose : MethodName := ⟨RX4, "chose", "(I)I"⟩
def dkwX4_chose_2 : List UInt8 := [167, 0, 9, 42, 180, 0, 172, 27, 46, 172]
abbrev dktX4_chose_2 : List UInt8 := dkwX4_chose_2 ++ []
def dkwX4_chose_1 : List UInt8 := [100, 184, 1, 20, 154, 0, 9, 42, 4, 182, 1, 57, 172, 27, 2, 160, 0, 10, 42, 180, 1, 254]
abbrev dktX4_chose_1 : List UInt8 := dkwX4_chose_1 ++ dktX4_chose_2
def dkwX4_chose_0 : List UInt8 := [42, 3, 181, 0, 175, 42, 182, 2, 4, 153, 0, 22, 27, 2, 159, 0, 23, 27, 3, 42, 180, 1, 254, 4]
abbrev dktX4_chose_0 : List UInt8 := dkwX4_chose_0 ++ dktX4_chose_1
theorem dksX4_chose_0 : cX4_chose.data.toList.drop 0 = dktX4_chose_0 := by decide +kernel
theorem dksX4_chose_1 : cX4_chose.data.toList.drop 24 = dktX4_chose_1 := dk_seg dksX4_chose_0 24 rfl rfl
theorem dksX4_chose_2 : cX4_chose.data.toList.drop 46 = dktX4_chose_2 := dk_seg dksX4_chose_1 22 rfl rfl
theorem dX4_chose_0 : decode cX4_chose 0 = .ok (.aload_n 0, 1) := dk_42 (dk_at dksX4_chose_0 0 rfl rfl)
theorem dX4_chose_1 : decode cX4_chose 1 = .ok (.iconst 0, 1) := dk_3 (dk_at dksX4_chose_0 1 rfl rfl)
theorem dX4_chose_2 : decode cX4_chose 2 = .ok (.putfield 175, 3) := dk_181 0 175 (dk_at dksX4_chose_0 2 rfl rfl)
theorem dX4_chose_5 : decode cX4_chose 5 = .ok (.aload_n 0, 1) := dk_42 (dk_at dksX4_chose_0 5 rfl rfl)
theorem dX4_chose_6 : decode cX4_chose 6 = .ok (.invokevirtual 516, 3) := dk_182 2 4 (dk_at dksX4_chose_0 6 rfl rfl)
theorem dX4_chose_9 : decode cX4_chose 9 = .ok (.ifCond .eq 22, 3) := dk_153 0 22 (dk_at dksX4_chose_0 9 rfl rfl)
theorem dX4_chose_12 : decode cX4_chose 12 = .ok (.iload_n 1, 1) := dk_27 (dk_at dksX4_chose_0 12 rfl rfl)
theorem dX4_chose_13 : decode cX4_chose 13 = .ok (.iconst (-1), 1) := dk_2 (dk_at dksX4_chose_0 13 rfl rfl)
theorem dX4_chose_14 : decode cX4_chose 14 = .ok (.if_icmp .eq 23, 3) := dk_159 0 23 (dk_at dksX4_chose_0 14 rfl rfl)
theorem dX4_chose_17 : decode cX4_chose 17 = .ok (.iload_n 1, 1) := dk_27 (dk_at dksX4_chose_0 17 rfl rfl)
theorem dX4_chose_18 : decode cX4_chose 18 = .ok (.iconst 0, 1) := dk_3 (dk_at dksX4_chose_0 18 rfl rfl)
theorem dX4_chose_19 : decode cX4_chose 19 = .ok (.aload_n 0, 1) := dk_42 (dk_at dksX4_chose_0 19 rfl rfl)
theorem dX4_chose_20 : decode cX4_chose 20 = .ok (.getfield 510, 3) := dk_180 1 254 (dk_at dksX4_chose_0 20 rfl rfl)
theorem dX4_chose_23 : decode cX4_chose 23 = .ok (.iconst 1, 1) := dk_4 (dk_at dksX4_chose_0 23 rfl rfl)
theorem dX4_chose_24 : decode cX4_chose 24 = .ok (.isub, 1) := dk_100 (dk_at dksX4_chose_1 0 rfl rfl)
theorem dX4_chose_25 : decode cX4_chose 25 = .ok (.invokestatic 276, 3) := dk_184 1 20 (dk_at dksX4_chose_1 1 rfl rfl)
theorem dX4_chose_28 : decode cX4_chose 28 = .ok (.ifCond .ne 9, 3) := dk_154 0 9 (dk_at dksX4_chose_1 4 rfl rfl)
theorem dX4_chose_31 : decode cX4_chose 31 = .ok (.aload_n 0, 1) := dk_42 (dk_at dksX4_chose_1 7 rfl rfl)
theorem dX4_chose_32 : decode cX4_chose 32 = .ok (.iconst 1, 1) := dk_4 (dk_at dksX4_chose_1 8 rfl rfl)
theorem dX4_chose_33 : decode cX4_chose 33 = .ok (.invokevirtual 313, 3) := dk_182 1 57 (dk_at dksX4_chose_1 9 rfl rfl)
theorem dX4_chose_36 : decode cX4_chose 36 = .ok (.ireturn, 1) := dk_172 (dk_at dksX4_chose_1 12 rfl rfl)
theorem dX4_chose_37 : decode cX4_chose 37 = .ok (.iload_n 1, 1) := dk_27 (dk_at dksX4_chose_1 13 rfl rfl)
theorem dX4_chose_38 : decode cX4_chose 38 = .ok (.iconst (-1), 1) := dk_2 (dk_at dksX4_chose_1 14 rfl rfl)
theorem dX4_chose_39 : decode cX4_chose 39 = .ok (.if_icmp .ne 10, 3) := dk_160 0 10 (dk_at dksX4_chose_1 15 rfl rfl)
theorem dX4_chose_42 : decode cX4_chose 42 = .ok (.aload_n 0, 1) := dk_42 (dk_at dksX4_chose_1 18 rfl rfl)
theorem dX4_chose_43 : decode cX4_chose 43 = .ok (.getfield 510, 3) := dk_180 1 254 (dk_at dksX4_chose_1 19 rfl rfl)
theorem dX4_chose_46 : decode cX4_chose 46 = .ok (.goto 9, 3) := dk_167 0 9 (dk_at dksX4_chose_2 0 rfl rfl)
theorem dX4_chose_49 : decode cX4_chose 49 = .ok (.aload_n 0, 1) := dk_42 (dk_at dksX4_chose_2 3 rfl rfl)
theorem dX4_chose_50 : decode cX4_chose 50 = .ok (.getfield 172, 3) := dk_180 0 172 (dk_at dksX4_chose_2 4 rfl rfl)
theorem dX4_chose_53 : decode cX4_chose 53 = .ok (.iload_n 1, 1) := dk_27 (dk_at dksX4_chose_2 7 rfl rfl)
theorem dX4_chose_54 : decode cX4_chose 54 = .ok (.iaload, 1) := dk_46 (dk_at dksX4_chose_2 8 rfl rfl)
theorem dX4_chose_55 : decode cX4_chose 55 = .ok (.ireturn, 1) := dk_172 (dk_at dksX4_chose_2 9 rfl rfl)
abbrev cX4_least : ByteArray := prog_21_method_91_code
def yX4_least : MethodName := ⟨RX4, "least", "(I)I"⟩
def dkwX4_least_4 : List UInt8 := [29, 181, 0, 54, 21, 4, 172]
abbrev dktX4_least_4 : List UInt8 := dkwX4_least_4 ++ []
def dkwX4_least_3 : List UInt8 := [9, 182, 1, 244, 5, 160, 0, 7, 21, 5, 54, 4, 132, 5, 1, 167, 255, 220, 42, 28, 181, 1, 66, 42]
abbrev dktX4_least_3 : List UInt8 := dkwX4_least_3 ++ dktX4_least_4
def dkwX4_least_2 : List UInt8 := [5, 54, 5, 21, 5, 16, 8, 163, 0, 35, 21, 4, 2, 160, 0, 29, 42, 21, 5, 181, 0, 54, 42, 3]
abbrev dktX4_least_2 : List UInt8 := dkwX4_least_2 ++ dktX4_least_3
def dkwX4_least_1 : List UInt8 := [158, 0, 6, 16, 254, 172, 42, 180, 1, 66, 61, 42, 180, 0, 54, 62, 42, 27, 181, 1, 66, 2, 54, 4]
abbrev dktX4_least_1 : List UInt8 := dkwX4_least_1 ++ dktX4_least_2
def dkwX4_least_0 : List UInt8 := [42, 3, 181, 0, 175, 27, 3, 6, 184, 1, 20, 154, 0, 9, 42, 4, 182, 1, 57, 172, 42, 182, 1, 75]
abbrev dktX4_least_0 : List UInt8 := dkwX4_least_0 ++ dktX4_least_1
theorem dksX4_least_0 : cX4_least.data.toList.drop 0 = dktX4_least_0 := by decide +kernel
theorem dksX4_least_1 : cX4_least.data.toList.drop 24 = dktX4_least_1 := dk_seg dksX4_least_0 24 rfl rfl
theorem dksX4_least_2 : cX4_least.data.toList.drop 48 = dktX4_least_2 := dk_seg dksX4_least_1 24 rfl rfl
theorem dksX4_least_3 : cX4_least.data.toList.drop 72 = dktX4_least_3 := dk_seg dksX4_least_2 24 rfl rfl
theorem dksX4_least_4 : cX4_least.data.toList.drop 96 = dktX4_least_4 := dk_seg dksX4_least_3 24 rfl rfl
theorem dX4_least_0 : decode cX4_least 0 = .ok (.aload_n 0, 1) := dk_42 (dk_at dksX4_least_0 0 rfl rfl)
theorem dX4_least_1 : decode cX4_least 1 = .ok (.iconst 0, 1) := dk_3 (dk_at dksX4_least_0 1 rfl rfl)
theorem dX4_least_2 : decode cX4_least 2 = .ok (.putfield 175, 3) := dk_181 0 175 (dk_at dksX4_least_0 2 rfl rfl)
theorem dX4_least_5 : decode cX4_least 5 = .ok (.iload_n 1, 1) := dk_27 (dk_at dksX4_least_0 5 rfl rfl)
theorem dX4_least_6 : decode cX4_least 6 = .ok (.iconst 0, 1) := dk_3 (dk_at dksX4_least_0 6 rfl rfl)
theorem dX4_least_7 : decode cX4_least 7 = .ok (.iconst 3, 1) := dk_6 (dk_at dksX4_least_0 7 rfl rfl)
theorem dX4_least_8 : decode cX4_least 8 = .ok (.invokestatic 276, 3) := dk_184 1 20 (dk_at dksX4_least_0 8 rfl rfl)
theorem dX4_least_11 : decode cX4_least 11 = .ok (.ifCond .ne 9, 3) := dk_154 0 9 (dk_at dksX4_least_0 11 rfl rfl)
theorem dX4_least_14 : decode cX4_least 14 = .ok (.aload_n 0, 1) := dk_42 (dk_at dksX4_least_0 14 rfl rfl)
theorem dX4_least_15 : decode cX4_least 15 = .ok (.iconst 1, 1) := dk_4 (dk_at dksX4_least_0 15 rfl rfl)
theorem dX4_least_16 : decode cX4_least 16 = .ok (.invokevirtual 313, 3) := dk_182 1 57 (dk_at dksX4_least_0 16 rfl rfl)
theorem dX4_least_19 : decode cX4_least 19 = .ok (.ireturn, 1) := dk_172 (dk_at dksX4_least_0 19 rfl rfl)
theorem dX4_least_20 : decode cX4_least 20 = .ok (.aload_n 0, 1) := dk_42 (dk_at dksX4_least_0 20 rfl rfl)
theorem dX4_least_21 : decode cX4_least 21 = .ok (.invokevirtual 331, 3) := dk_182 1 75 (dk_at dksX4_least_0 21 rfl rfl)
theorem dX4_least_24 : decode cX4_least 24 = .ok (.ifCond .le 6, 3) := dk_158 0 6 (dk_at dksX4_least_1 0 rfl rfl)
theorem dX4_least_27 : decode cX4_least 27 = .ok (.bipush (-2), 2) := dk_16 254 (dk_at dksX4_least_1 3 rfl rfl)
theorem dX4_least_29 : decode cX4_least 29 = .ok (.ireturn, 1) := dk_172 (dk_at dksX4_least_1 5 rfl rfl)
theorem dX4_least_30 : decode cX4_least 30 = .ok (.aload_n 0, 1) := dk_42 (dk_at dksX4_least_1 6 rfl rfl)
theorem dX4_least_31 : decode cX4_least 31 = .ok (.getfield 322, 3) := dk_180 1 66 (dk_at dksX4_least_1 7 rfl rfl)
theorem dX4_least_34 : decode cX4_least 34 = .ok (.istore_n 2, 1) := dk_61 (dk_at dksX4_least_1 10 rfl rfl)
theorem dX4_least_35 : decode cX4_least 35 = .ok (.aload_n 0, 1) := dk_42 (dk_at dksX4_least_1 11 rfl rfl)
theorem dX4_least_36 : decode cX4_least 36 = .ok (.getfield 54, 3) := dk_180 0 54 (dk_at dksX4_least_1 12 rfl rfl)
theorem dX4_least_39 : decode cX4_least 39 = .ok (.istore_n 3, 1) := dk_62 (dk_at dksX4_least_1 15 rfl rfl)
theorem dX4_least_40 : decode cX4_least 40 = .ok (.aload_n 0, 1) := dk_42 (dk_at dksX4_least_1 16 rfl rfl)
theorem dX4_least_41 : decode cX4_least 41 = .ok (.iload_n 1, 1) := dk_27 (dk_at dksX4_least_1 17 rfl rfl)
theorem dX4_least_42 : decode cX4_least 42 = .ok (.putfield 322, 3) := dk_181 1 66 (dk_at dksX4_least_1 18 rfl rfl)
theorem dX4_least_45 : decode cX4_least 45 = .ok (.iconst (-1), 1) := dk_2 (dk_at dksX4_least_1 21 rfl rfl)
theorem dX4_least_46 : decode cX4_least 46 = .ok (.istore 4, 2) := dk_54 4 (dk_at dksX4_least_1 22 rfl rfl)
theorem dX4_least_48 : decode cX4_least 48 = .ok (.iconst 2, 1) := dk_5 (dk_at dksX4_least_2 0 rfl rfl)
theorem dX4_least_49 : decode cX4_least 49 = .ok (.istore 5, 2) := dk_54 5 (dk_at dksX4_least_2 1 rfl rfl)
theorem dX4_least_51 : decode cX4_least 51 = .ok (.iload 5, 2) := dk_21 5 (dk_at dksX4_least_2 3 rfl rfl)
theorem dX4_least_53 : decode cX4_least 53 = .ok (.bipush 8, 2) := dk_16 8 (dk_at dksX4_least_2 5 rfl rfl)
theorem dX4_least_55 : decode cX4_least 55 = .ok (.if_icmp .gt 35, 3) := dk_163 0 35 (dk_at dksX4_least_2 7 rfl rfl)
theorem dX4_least_58 : decode cX4_least 58 = .ok (.iload 4, 2) := dk_21 4 (dk_at dksX4_least_2 10 rfl rfl)
theorem dX4_least_60 : decode cX4_least 60 = .ok (.iconst (-1), 1) := dk_2 (dk_at dksX4_least_2 12 rfl rfl)
theorem dX4_least_61 : decode cX4_least 61 = .ok (.if_icmp .ne 29, 3) := dk_160 0 29 (dk_at dksX4_least_2 13 rfl rfl)
theorem dX4_least_64 : decode cX4_least 64 = .ok (.aload_n 0, 1) := dk_42 (dk_at dksX4_least_2 16 rfl rfl)
theorem dX4_least_65 : decode cX4_least 65 = .ok (.iload 5, 2) := dk_21 5 (dk_at dksX4_least_2 17 rfl rfl)
theorem dX4_least_67 : decode cX4_least 67 = .ok (.putfield 54, 3) := dk_181 0 54 (dk_at dksX4_least_2 19 rfl rfl)
theorem dX4_least_70 : decode cX4_least 70 = .ok (.aload_n 0, 1) := dk_42 (dk_at dksX4_least_2 22 rfl rfl)
theorem dX4_least_71 : decode cX4_least 71 = .ok (.iconst 0, 1) := dk_3 (dk_at dksX4_least_2 23 rfl rfl)
theorem dX4_least_72 : decode cX4_least 72 = .ok (.lconst 0, 1) := dk_9 (dk_at dksX4_least_3 0 rfl rfl)
theorem dX4_least_73 : decode cX4_least 73 = .ok (.invokevirtual 500, 3) := dk_182 1 244 (dk_at dksX4_least_3 1 rfl rfl)
theorem dX4_least_76 : decode cX4_least 76 = .ok (.iconst 2, 1) := dk_5 (dk_at dksX4_least_3 4 rfl rfl)
theorem dX4_least_77 : decode cX4_least 77 = .ok (.if_icmp .ne 7, 3) := dk_160 0 7 (dk_at dksX4_least_3 5 rfl rfl)
theorem dX4_least_80 : decode cX4_least 80 = .ok (.iload 5, 2) := dk_21 5 (dk_at dksX4_least_3 8 rfl rfl)
theorem dX4_least_82 : decode cX4_least 82 = .ok (.istore 4, 2) := dk_54 4 (dk_at dksX4_least_3 10 rfl rfl)
theorem dX4_least_84 : decode cX4_least 84 = .ok (.iinc 5 1, 3) := dk_132 5 1 (dk_at dksX4_least_3 12 rfl rfl)
theorem dX4_least_87 : decode cX4_least 87 = .ok (.goto (-36), 3) := dk_167 255 220 (dk_at dksX4_least_3 15 rfl rfl)
theorem dX4_least_90 : decode cX4_least 90 = .ok (.aload_n 0, 1) := dk_42 (dk_at dksX4_least_3 18 rfl rfl)
theorem dX4_least_91 : decode cX4_least 91 = .ok (.iload_n 2, 1) := dk_28 (dk_at dksX4_least_3 19 rfl rfl)
theorem dX4_least_92 : decode cX4_least 92 = .ok (.putfield 322, 3) := dk_181 1 66 (dk_at dksX4_least_3 20 rfl rfl)
theorem dX4_least_95 : decode cX4_least 95 = .ok (.aload_n 0, 1) := dk_42 (dk_at dksX4_least_3 23 rfl rfl)
theorem dX4_least_96 : decode cX4_least 96 = .ok (.iload_n 3, 1) := dk_29 (dk_at dksX4_least_4 0 rfl rfl)
theorem dX4_least_97 : decode cX4_least 97 = .ok (.putfield 54, 3) := dk_181 0 54 (dk_at dksX4_least_4 1 rfl rfl)
theorem dX4_least_100 : decode cX4_least 100 = .ok (.iload 4, 2) := dk_21 4 (dk_at dksX4_least_4 4 rfl rfl)
theorem dX4_least_102 : decode cX4_least 102 = .ok (.ireturn, 1) := dk_172 (dk_at dksX4_least_4 6 rfl rfl)
theorem q135 : (Jvm.Cond.initialized "SendHallModel") ∈ lw_all := lw_g (lw_at lw_m1 23 rfl) rfl
theorem q1047 : (Jvm.Cond.selects "SendHallModel" ({ cls := "java/lang/Object", name := "getClass", desc := "()Ljava/lang/Class;" } : Jvm.MethodName) ({ cls := "java/lang/Object", name := "getClass", desc := "()Ljava/lang/Class;" } : Jvm.MethodName)) ∈ lw_all := lw_g (lw_at lw_m4 215 rfl) rfl
theorem q1839 : (Jvm.Cond.instantiable "SendHallModel" (70 : Nat)) ∈ lw_all := lw_g (lw_at lw_m8 47 rfl) rfl
theorem q1841 : (Jvm.Cond.instanceMethod ({ cls := "SendHallModel", name := "<init>", desc := "()V" } : Jvm.MethodName)) ∈ lw_all := lw_g (lw_at lw_m8 49 rfl) rfl
theorem q1842 : (Jvm.Cond.code ({ cls := "SendHallModel", name := "<init>", desc := "()V" } : Jvm.MethodName) prog_21_method_1_code (1 : Nat) (Option.none : Option Jvm.ClassFile.FieldType)) ∈ lw_all := lw_g (lw_at lw_m8 50 rfl) rfl
theorem q1843 : (Jvm.Cond.methodLink "SendHallModel" (3 : Nat) ({ cls := "java/lang/Object", name := "<init>", desc := "()V" } : Jvm.MethodName)) ∈ lw_all := lw_g (lw_at lw_m8 51 rfl) rfl
theorem q1844 : (Jvm.Cond.classLink "SendHallModel" (9 : Nat) "java/lang/String") ∈ lw_all := lw_g (lw_at lw_m8 52 rfl) rfl
theorem q1846 : (Jvm.Cond.stringRef "SendHallModel" (11 : Nat) "send") ∈ lw_tbl := lw_at lw_m8 54 rfl
theorem q1847 : (Jvm.Cond.stringRef "SendHallModel" (13 : Nat) "meet") ∈ lw_tbl := lw_at lw_m8 55 rfl
theorem q1848 : (Jvm.Cond.stringRef "SendHallModel" (15 : Nat) "begin") ∈ lw_tbl := lw_at lw_m8 56 rfl
theorem q1849 : (Jvm.Cond.stringRef "SendHallModel" (17 : Nat) "wait") ∈ lw_tbl := lw_at lw_m8 57 rfl
theorem q1850 : (Jvm.Cond.stringRef "SendHallModel" (19 : Nat) "any") ∈ lw_tbl := lw_at lw_m8 58 rfl
theorem q1851 : (Jvm.Cond.stringRef "SendHallModel" (21 : Nat) "done") ∈ lw_tbl := lw_at lw_m8 59 rfl
theorem q1852 : (Jvm.Cond.stringRef "SendHallModel" (23 : Nat) "all") ∈ lw_tbl := lw_at lw_m8 60 rfl
theorem q1853 : (Jvm.Cond.stringRef "SendHallModel" (25 : Nat) "sum") ∈ lw_tbl := lw_at lw_m8 61 rfl
theorem q1854 : (Jvm.Cond.stringRef "SendHallModel" (27 : Nat) "set") ∈ lw_tbl := lw_at lw_m8 62 rfl
theorem q1855 : (Jvm.Cond.stringRef "SendHallModel" (29 : Nat) "tell") ∈ lw_tbl := lw_at lw_m8 63 rfl
theorem q1856 : (Jvm.Cond.stringRef "SendHallModel" (31 : Nat) "if") ∈ lw_tbl := lw_at lw_m8 64 rfl
theorem q1857 : (Jvm.Cond.stringRef "SendHallModel" (37 : Nat) "a") ∈ lw_tbl := lw_at lw_m8 65 rfl
theorem q1858 : (Jvm.Cond.stringRef "SendHallModel" (39 : Nat) "b") ∈ lw_tbl := lw_at lw_m8 66 rfl
theorem q1859 : (Jvm.Cond.stringRef "SendHallModel" (41 : Nat) "c") ∈ lw_tbl := lw_at lw_m8 67 rfl
theorem q1860 : (Jvm.Cond.stringRef "SendHallModel" (43 : Nat) "d") ∈ lw_tbl := lw_at lw_m8 68 rfl
theorem q1861 : (Jvm.Cond.stringRef "SendHallModel" (45 : Nat) "me") ∈ lw_tbl := lw_at lw_m8 69 rfl
theorem q1862 : (Jvm.Cond.stringRef "SendHallModel" (47 : Nat) "n") ∈ lw_tbl := lw_at lw_m8 70 rfl
theorem q1863 : (Jvm.Cond.stringRef "SendHallModel" (49 : Nat) "from") ∈ lw_tbl := lw_at lw_m8 71 rfl
theorem q1864 : (Jvm.Cond.constant "SendHallModel" (120 : Nat) (397000 : Int32)) ∈ lw_all := lw_g (lw_at lw_m8 72 rfl) rfl
theorem q1865 : (Jvm.Cond.fieldLink "SendHallModel" (33 : Nat) "SendHallModel" "kinds" "[Ljava/lang/String;") ∈ lw_all := lw_g (lw_at lw_m8 73 rfl) rfl
theorem q1866 : (Jvm.Cond.fieldLink "SendHallModel" (51 : Nat) "SendHallModel" "values" "[Ljava/lang/String;") ∈ lw_all := lw_g (lw_at lw_m8 74 rfl) rfl
theorem q1867 : (Jvm.Cond.fieldLink "SendHallModel" (175 : Nat) "SendHallModel" "code" "I") ∈ lw_all := lw_g (lw_at lw_m8 75 rfl) rfl
theorem q1868 : (Jvm.Cond.fieldLink "SendHallModel" (54 : Nat) "SendHallModel" "hands" "I") ∈ lw_all := lw_g (lw_at lw_m8 76 rfl) rfl
theorem q1869 : (Jvm.Cond.fieldLink "SendHallModel" (322 : Nat) "SendHallModel" "room" "I") ∈ lw_all := lw_g (lw_at lw_m8 77 rfl) rfl
theorem q1870 : (Jvm.Cond.fieldLink "SendHallModel" (325 : Nat) "SendHallModel" "near" "I") ∈ lw_all := lw_g (lw_at lw_m8 78 rfl) rfl
theorem q1871 : (Jvm.Cond.fieldLink "SendHallModel" (328 : Nat) "SendHallModel" "wide" "I") ∈ lw_all := lw_g (lw_at lw_m8 79 rfl) rfl
theorem q1872 : (Jvm.Cond.fieldLink "SendHallModel" (316 : Nat) "SendHallModel" "version" "I") ∈ lw_all := lw_g (lw_at lw_m8 80 rfl) rfl
theorem q1873 : (Jvm.Cond.fieldLink "SendHallModel" (319 : Nat) "SendHallModel" "textVersion" "I") ∈ lw_all := lw_g (lw_at lw_m8 81 rfl) rfl
theorem q1874 : (Jvm.Cond.fieldLink "SendHallModel" (58 : Nat) "SendHallModel" "tape" "[I") ∈ lw_all := lw_g (lw_at lw_m8 82 rfl) rfl
theorem q1875 : (Jvm.Cond.fieldLink "SendHallModel" (178 : Nat) "SendHallModel" "taped" "I") ∈ lw_all := lw_g (lw_at lw_m8 83 rfl) rfl
theorem q1876 : (Jvm.Cond.fieldLink "SendHallModel" (184 : Nat) "SendHallModel" "at" "I") ∈ lw_all := lw_g (lw_at lw_m8 84 rfl) rfl
theorem q1877 : (Jvm.Cond.fieldLink "SendHallModel" (181 : Nat) "SendHallModel" "size" "I") ∈ lw_all := lw_g (lw_at lw_m8 85 rfl) rfl
theorem q1878 : (Jvm.Cond.fieldLink "SendHallModel" (197 : Nat) "SendHallModel" "token" "I") ∈ lw_all := lw_g (lw_at lw_m8 86 rfl) rfl
theorem q1879 : (Jvm.Cond.fieldLink "SendHallModel" (194 : Nat) "SendHallModel" "sign" "I") ∈ lw_all := lw_g (lw_at lw_m8 87 rfl) rfl
theorem q1880 : (Jvm.Cond.fieldLink "SendHallModel" (207 : Nat) "SendHallModel" "number" "I") ∈ lw_all := lw_g (lw_at lw_m8 88 rfl) rfl
theorem q1881 : (Jvm.Cond.fieldLink "SendHallModel" (191 : Nat) "SendHallModel" "begins" "I") ∈ lw_all := lw_g (lw_at lw_m8 89 rfl) rfl
theorem q1882 : (Jvm.Cond.fieldLink "SendHallModel" (217 : Nat) "SendHallModel" "ends" "I") ∈ lw_all := lw_g (lw_at lw_m8 90 rfl) rfl
theorem q1883 : (Jvm.Cond.fieldLink "SendHallModel" (220 : Nat) "SendHallModel" "bad" "I") ∈ lw_all := lw_g (lw_at lw_m8 91 rfl) rfl
theorem q1884 : (Jvm.Cond.fieldLink "SendHallModel" (223 : Nat) "SendHallModel" "badPlace" "I") ∈ lw_all := lw_g (lw_at lw_m8 92 rfl) rfl
theorem q1885 : (Jvm.Cond.fieldLink "SendHallModel" (62 : Nat) "SendHallModel" "faultPlace" "I") ∈ lw_all := lw_g (lw_at lw_m8 93 rfl) rfl
theorem q1886 : (Jvm.Cond.fieldLink "SendHallModel" (248 : Nat) "SendHallModel" "codes" "I") ∈ lw_all := lw_g (lw_at lw_m8 94 rfl) rfl
theorem q1887 : (Jvm.Cond.fieldLink "SendHallModel" (65 : Nat) "SendHallModel" "stepMany" "[I") ∈ lw_all := lw_g (lw_at lw_m8 95 rfl) rfl
theorem q1888 : (Jvm.Cond.fieldLink "SendHallModel" (68 : Nat) "SendHallModel" "codeRow" "[I") ∈ lw_all := lw_g (lw_at lw_m8 96 rfl) rfl
theorem q1889 : (Jvm.Cond.fieldLink "SendHallModel" (71 : Nat) "SendHallModel" "kind" "[I") ∈ lw_all := lw_g (lw_at lw_m8 97 rfl) rfl
theorem q1890 : (Jvm.Cond.fieldLink "SendHallModel" (74 : Nat) "SendHallModel" "exprFrom" "[I") ∈ lw_all := lw_g (lw_at lw_m8 98 rfl) rfl
theorem q1891 : (Jvm.Cond.fieldLink "SendHallModel" (77 : Nat) "SendHallModel" "exprTo" "[I") ∈ lw_all := lw_g (lw_at lw_m8 99 rfl) rfl
theorem q1892 : (Jvm.Cond.fieldLink "SendHallModel" (80 : Nat) "SendHallModel" "into" "[I") ∈ lw_all := lw_g (lw_at lw_m8 100 rfl) rfl
theorem q1893 : (Jvm.Cond.fieldLink "SendHallModel" (83 : Nat) "SendHallModel" "most" "[I") ∈ lw_all := lw_g (lw_at lw_m8 101 rfl) rfl
theorem q1894 : (Jvm.Cond.fieldLink "SendHallModel" (86 : Nat) "SendHallModel" "behind" "[I") ∈ lw_all := lw_g (lw_at lw_m8 102 rfl) rfl
theorem q1895 : (Jvm.Cond.fieldLink "SendHallModel" (89 : Nat) "SendHallModel" "then" "[I") ∈ lw_all := lw_g (lw_at lw_m8 103 rfl) rfl
theorem q1896 : (Jvm.Cond.fieldLink "SendHallModel" (92 : Nat) "SendHallModel" "other" "[I") ∈ lw_all := lw_g (lw_at lw_m8 104 rfl) rfl
theorem q1897 : (Jvm.Cond.fieldLink "SendHallModel" (95 : Nat) "SendHallModel" "isOut" "[Z") ∈ lw_all := lw_g (lw_at lw_m8 105 rfl) rfl
theorem q1898 : (Jvm.Cond.fieldLink "SendHallModel" (99 : Nat) "SendHallModel" "now" "[I") ∈ lw_all := lw_g (lw_at lw_m8 106 rfl) rfl
theorem q1899 : (Jvm.Cond.fieldLink "SendHallModel" (102 : Nat) "SendHallModel" "stack" "[I") ∈ lw_all := lw_g (lw_at lw_m8 107 rfl) rfl
theorem q1900 : (Jvm.Cond.fieldLink "SendHallModel" (105 : Nat) "SendHallModel" "choice" "I") ∈ lw_all := lw_g (lw_at lw_m8 108 rfl) rfl
theorem q1901 : (Jvm.Cond.fieldLink "SendHallModel" (108 : Nat) "SendHallModel" "clocks" "[I") ∈ lw_all := lw_g (lw_at lw_m8 109 rfl) rfl
theorem q1902 : (Jvm.Cond.fieldLink "SendHallModel" (111 : Nat) "SendHallModel" "waited" "[I") ∈ lw_all := lw_g (lw_at lw_m8 110 rfl) rfl
theorem q1903 : (Jvm.Cond.fieldLink "SendHallModel" (114 : Nat) "SendHallModel" "taken" "[I") ∈ lw_all := lw_g (lw_at lw_m8 111 rfl) rfl
theorem q1904 : (Jvm.Cond.fieldLink "SendHallModel" (117 : Nat) "SendHallModel" "theres" "[I") ∈ lw_all := lw_g (lw_at lw_m8 112 rfl) rfl
theorem q1905 : (Jvm.Cond.fieldLink "SendHallModel" (412 : Nat) "SendHallModel" "anyHand" "I") ∈ lw_all := lw_g (lw_at lw_m8 113 rfl) rfl
theorem q1906 : (Jvm.Cond.fieldLink "SendHallModel" (415 : Nat) "SendHallModel" "anyFrom" "I") ∈ lw_all := lw_g (lw_at lw_m8 114 rfl) rfl
theorem q1907 : (Jvm.Cond.fieldLink "SendHallModel" (418 : Nat) "SendHallModel" "anyStep" "I") ∈ lw_all := lw_g (lw_at lw_m8 115 rfl) rfl
theorem q1908 : (Jvm.Cond.fieldLink "SendHallModel" (121 : Nat) "SendHallModel" "states" "[I") ∈ lw_all := lw_g (lw_at lw_m8 116 rfl) rfl
theorem q1909 : (Jvm.Cond.fieldLink "SendHallModel" (124 : Nat) "SendHallModel" "marks" "[I") ∈ lw_all := lw_g (lw_at lw_m8 117 rfl) rfl
theorem q1910 : (Jvm.Cond.fieldLink "SendHallModel" (127 : Nat) "SendHallModel" "isEnding" "[Z") ∈ lw_all := lw_g (lw_at lw_m8 118 rfl) rfl
theorem q1911 : (Jvm.Cond.fieldLink "SendHallModel" (434 : Nat) "SendHallModel" "stateMany" "I") ∈ lw_all := lw_g (lw_at lw_m8 119 rfl) rfl
theorem q1912 : (Jvm.Cond.fieldLink "SendHallModel" (130 : Nat) "SendHallModel" "stateVersion" "I") ∈ lw_all := lw_g (lw_at lw_m8 120 rfl) rfl
theorem q1913 : (Jvm.Cond.fieldLink "SendHallModel" (440 : Nat) "SendHallModel" "isSpent" "Z") ∈ lw_all := lw_g (lw_at lw_m8 121 rfl) rfl
theorem q1914 : (Jvm.Cond.fieldLink "SendHallModel" (133 : Nat) "SendHallModel" "could" "[I") ∈ lw_all := lw_g (lw_at lw_m8 122 rfl) rfl
theorem q1915 : (Jvm.Cond.fieldLink "SendHallModel" (136 : Nat) "SendHallModel" "endings" "[I") ∈ lw_all := lw_g (lw_at lw_m8 123 rfl) rfl
theorem q1916 : (Jvm.Cond.fieldLink "SendHallModel" (463 : Nat) "SendHallModel" "endingMany" "I") ∈ lw_all := lw_g (lw_at lw_m8 124 rfl) rfl
theorem q1917 : (Jvm.Cond.fieldLink "SendHallModel" (477 : Nat) "SendHallModel" "spentThen" "Z") ∈ lw_all := lw_g (lw_at lw_m8 125 rfl) rfl
theorem q1918 : (Jvm.Cond.fieldLink "SendHallModel" (480 : Nat) "SendHallModel" "manyThen" "I") ∈ lw_all := lw_g (lw_at lw_m8 126 rfl) rfl
theorem q1919 : (Jvm.Cond.fieldLink "SendHallModel" (139 : Nat) "SendHallModel" "couldThen" "[I") ∈ lw_all := lw_g (lw_at lw_m8 127 rfl) rfl
theorem q1920 : (Jvm.Cond.fieldLink "SendHallModel" (142 : Nat) "SendHallModel" "isLeft" "[Z") ∈ lw_all := lw_g (lw_at lw_m8 128 rfl) rfl
theorem q1921 : (Jvm.Cond.fieldLink "SendHallModel" (145 : Nat) "SendHallModel" "leftVersion" "I") ∈ lw_all := lw_g (lw_at lw_m8 129 rfl) rfl
theorem q1922 : (Jvm.Cond.fieldLink "SendHallModel" (148 : Nat) "SendHallModel" "playHands" "I") ∈ lw_all := lw_g (lw_at lw_m8 130 rfl) rfl
theorem q1923 : (Jvm.Cond.fieldLink "SendHallModel" (513 : Nat) "SendHallModel" "playVersion" "I") ∈ lw_all := lw_g (lw_at lw_m8 131 rfl) rfl
theorem q1924 : (Jvm.Cond.fieldLink "SendHallModel" (494 : Nat) "SendHallModel" "madeMany" "I") ∈ lw_all := lw_g (lw_at lw_m8 132 rfl) rfl
theorem q1925 : (Jvm.Cond.fieldLink "SendHallModel" (497 : Nat) "SendHallModel" "ringMany" "I") ∈ lw_all := lw_g (lw_at lw_m8 133 rfl) rfl
theorem q1926 : (Jvm.Cond.fieldLink "SendHallModel" (151 : Nat) "SendHallModel" "played" "[I") ∈ lw_all := lw_g (lw_at lw_m8 134 rfl) rfl
theorem q1927 : (Jvm.Cond.fieldLink "SendHallModel" (154 : Nat) "SendHallModel" "made" "[I") ∈ lw_all := lw_g (lw_at lw_m8 135 rfl) rfl
theorem q1928 : (Jvm.Cond.fieldLink "SendHallModel" (157 : Nat) "SendHallModel" "ring" "[I") ∈ lw_all := lw_g (lw_at lw_m8 136 rfl) rfl
theorem q1929 : (Jvm.Cond.fieldLink "SendHallModel" (160 : Nat) "SendHallModel" "waits" "[I") ∈ lw_all := lw_g (lw_at lw_m8 137 rfl) rfl
theorem q1930 : (Jvm.Cond.fieldLink "SendHallModel" (163 : Nat) "SendHallModel" "seenAt" "[I") ∈ lw_all := lw_g (lw_at lw_m8 138 rfl) rfl
theorem q1931 : (Jvm.Cond.fieldLink "SendHallModel" (166 : Nat) "SendHallModel" "clocksThen" "[I") ∈ lw_all := lw_g (lw_at lw_m8 139 rfl) rfl
theorem q1932 : (Jvm.Cond.fieldLink "SendHallModel" (169 : Nat) "SendHallModel" "waitedThen" "[I") ∈ lw_all := lw_g (lw_at lw_m8 140 rfl) rfl
theorem q1933 : (Jvm.Cond.fieldLink "SendHallModel" (510 : Nat) "SendHallModel" "madeThen" "I") ∈ lw_all := lw_g (lw_at lw_m8 141 rfl) rfl
theorem q1934 : (Jvm.Cond.fieldLink "SendHallModel" (172 : Nat) "SendHallModel" "madeRow" "[I") ∈ lw_all := lw_g (lw_at lw_m8 142 rfl) rfl
theorem q1935 : (Jvm.Cond.laysFinal "SendHallModel" "SendHallModel" "kinds" "[Ljava/lang/String;") ∈ lw_all := lw_g (lw_at lw_m8 143 rfl) rfl
theorem q1936 : (Jvm.Cond.soleField "SendHallModel" "kinds") ∈ lw_all := lw_g (lw_at lw_m8 144 rfl) rfl
theorem q1937 : (Jvm.Cond.laysFinal "SendHallModel" "SendHallModel" "values" "[Ljava/lang/String;") ∈ lw_all := lw_g (lw_at lw_m8 145 rfl) rfl
theorem q1938 : (Jvm.Cond.soleField "SendHallModel" "values") ∈ lw_all := lw_g (lw_at lw_m8 146 rfl) rfl
theorem q1939 : (Jvm.Cond.lays "SendHallModel" "SendHallModel" "code" "I") ∈ lw_all := lw_g (lw_at lw_m8 147 rfl) rfl
theorem q1940 : (Jvm.Cond.soleField "SendHallModel" "code") ∈ lw_all := lw_g (lw_at lw_m8 148 rfl) rfl
theorem q1941 : (Jvm.Cond.lays "SendHallModel" "SendHallModel" "hands" "I") ∈ lw_all := lw_g (lw_at lw_m8 149 rfl) rfl
theorem q1942 : (Jvm.Cond.soleField "SendHallModel" "hands") ∈ lw_all := lw_g (lw_at lw_m8 150 rfl) rfl
theorem q1943 : (Jvm.Cond.lays "SendHallModel" "SendHallModel" "room" "I") ∈ lw_all := lw_g (lw_at lw_m8 151 rfl) rfl
theorem q1944 : (Jvm.Cond.soleField "SendHallModel" "room") ∈ lw_all := lw_g (lw_at lw_m8 152 rfl) rfl
theorem q1945 : (Jvm.Cond.lays "SendHallModel" "SendHallModel" "near" "I") ∈ lw_all := lw_g (lw_at lw_m8 153 rfl) rfl
theorem q1946 : (Jvm.Cond.soleField "SendHallModel" "near") ∈ lw_all := lw_g (lw_at lw_m8 154 rfl) rfl
theorem q1947 : (Jvm.Cond.lays "SendHallModel" "SendHallModel" "wide" "I") ∈ lw_all := lw_g (lw_at lw_m8 155 rfl) rfl
theorem q1948 : (Jvm.Cond.soleField "SendHallModel" "wide") ∈ lw_all := lw_g (lw_at lw_m8 156 rfl) rfl
theorem q1949 : (Jvm.Cond.lays "SendHallModel" "SendHallModel" "version" "I") ∈ lw_all := lw_g (lw_at lw_m8 157 rfl) rfl
theorem q1950 : (Jvm.Cond.soleField "SendHallModel" "version") ∈ lw_all := lw_g (lw_at lw_m8 158 rfl) rfl
theorem q1951 : (Jvm.Cond.lays "SendHallModel" "SendHallModel" "textVersion" "I") ∈ lw_all := lw_g (lw_at lw_m8 159 rfl) rfl
theorem q1952 : (Jvm.Cond.soleField "SendHallModel" "textVersion") ∈ lw_all := lw_g (lw_at lw_m8 160 rfl) rfl
theorem q1953 : (Jvm.Cond.laysFinal "SendHallModel" "SendHallModel" "tape" "[I") ∈ lw_all := lw_g (lw_at lw_m8 161 rfl) rfl
theorem q1954 : (Jvm.Cond.soleField "SendHallModel" "tape") ∈ lw_all := lw_g (lw_at lw_m8 162 rfl) rfl
theorem q1955 : (Jvm.Cond.lays "SendHallModel" "SendHallModel" "taped" "I") ∈ lw_all := lw_g (lw_at lw_m8 163 rfl) rfl
theorem q1956 : (Jvm.Cond.soleField "SendHallModel" "taped") ∈ lw_all := lw_g (lw_at lw_m8 164 rfl) rfl
theorem q1957 : (Jvm.Cond.lays "SendHallModel" "SendHallModel" "at" "I") ∈ lw_all := lw_g (lw_at lw_m8 165 rfl) rfl
theorem q1958 : (Jvm.Cond.soleField "SendHallModel" "at") ∈ lw_all := lw_g (lw_at lw_m8 166 rfl) rfl
theorem q1959 : (Jvm.Cond.lays "SendHallModel" "SendHallModel" "size" "I") ∈ lw_all := lw_g (lw_at lw_m8 167 rfl) rfl
theorem q1960 : (Jvm.Cond.soleField "SendHallModel" "size") ∈ lw_all := lw_g (lw_at lw_m8 168 rfl) rfl
theorem q1961 : (Jvm.Cond.lays "SendHallModel" "SendHallModel" "token" "I") ∈ lw_all := lw_g (lw_at lw_m8 169 rfl) rfl
theorem q1962 : (Jvm.Cond.soleField "SendHallModel" "token") ∈ lw_all := lw_g (lw_at lw_m8 170 rfl) rfl
theorem q1963 : (Jvm.Cond.lays "SendHallModel" "SendHallModel" "sign" "I") ∈ lw_all := lw_g (lw_at lw_m8 171 rfl) rfl
theorem q1964 : (Jvm.Cond.soleField "SendHallModel" "sign") ∈ lw_all := lw_g (lw_at lw_m8 172 rfl) rfl
theorem q1965 : (Jvm.Cond.lays "SendHallModel" "SendHallModel" "number" "I") ∈ lw_all := lw_g (lw_at lw_m8 173 rfl) rfl
theorem q1966 : (Jvm.Cond.soleField "SendHallModel" "number") ∈ lw_all := lw_g (lw_at lw_m8 174 rfl) rfl
theorem q1967 : (Jvm.Cond.lays "SendHallModel" "SendHallModel" "begins" "I") ∈ lw_all := lw_g (lw_at lw_m8 175 rfl) rfl
theorem q1968 : (Jvm.Cond.soleField "SendHallModel" "begins") ∈ lw_all := lw_g (lw_at lw_m8 176 rfl) rfl
theorem q1969 : (Jvm.Cond.lays "SendHallModel" "SendHallModel" "ends" "I") ∈ lw_all := lw_g (lw_at lw_m8 177 rfl) rfl
theorem q1970 : (Jvm.Cond.soleField "SendHallModel" "ends") ∈ lw_all := lw_g (lw_at lw_m8 178 rfl) rfl
theorem q1971 : (Jvm.Cond.lays "SendHallModel" "SendHallModel" "bad" "I") ∈ lw_all := lw_g (lw_at lw_m8 179 rfl) rfl
theorem q1972 : (Jvm.Cond.soleField "SendHallModel" "bad") ∈ lw_all := lw_g (lw_at lw_m8 180 rfl) rfl
theorem q1973 : (Jvm.Cond.lays "SendHallModel" "SendHallModel" "badPlace" "I") ∈ lw_all := lw_g (lw_at lw_m8 181 rfl) rfl
theorem q1974 : (Jvm.Cond.soleField "SendHallModel" "badPlace") ∈ lw_all := lw_g (lw_at lw_m8 182 rfl) rfl
theorem q1975 : (Jvm.Cond.lays "SendHallModel" "SendHallModel" "faultPlace" "I") ∈ lw_all := lw_g (lw_at lw_m8 183 rfl) rfl
theorem q1976 : (Jvm.Cond.soleField "SendHallModel" "faultPlace") ∈ lw_all := lw_g (lw_at lw_m8 184 rfl) rfl
theorem q1977 : (Jvm.Cond.lays "SendHallModel" "SendHallModel" "codes" "I") ∈ lw_all := lw_g (lw_at lw_m8 185 rfl) rfl
theorem q1978 : (Jvm.Cond.soleField "SendHallModel" "codes") ∈ lw_all := lw_g (lw_at lw_m8 186 rfl) rfl
theorem q1979 : (Jvm.Cond.laysFinal "SendHallModel" "SendHallModel" "stepMany" "[I") ∈ lw_all := lw_g (lw_at lw_m8 187 rfl) rfl
theorem q1980 : (Jvm.Cond.soleField "SendHallModel" "stepMany") ∈ lw_all := lw_g (lw_at lw_m8 188 rfl) rfl
theorem q1981 : (Jvm.Cond.laysFinal "SendHallModel" "SendHallModel" "codeRow" "[I") ∈ lw_all := lw_g (lw_at lw_m8 189 rfl) rfl
theorem q1982 : (Jvm.Cond.soleField "SendHallModel" "codeRow") ∈ lw_all := lw_g (lw_at lw_m8 190 rfl) rfl
theorem q1983 : (Jvm.Cond.laysFinal "SendHallModel" "SendHallModel" "kind" "[I") ∈ lw_all := lw_g (lw_at lw_m8 191 rfl) rfl
theorem q1984 : (Jvm.Cond.soleField "SendHallModel" "kind") ∈ lw_all := lw_g (lw_at lw_m8 192 rfl) rfl
theorem q1985 : (Jvm.Cond.laysFinal "SendHallModel" "SendHallModel" "exprFrom" "[I") ∈ lw_all := lw_g (lw_at lw_m8 193 rfl) rfl
theorem q1986 : (Jvm.Cond.soleField "SendHallModel" "exprFrom") ∈ lw_all := lw_g (lw_at lw_m8 194 rfl) rfl
theorem q1987 : (Jvm.Cond.laysFinal "SendHallModel" "SendHallModel" "exprTo" "[I") ∈ lw_all := lw_g (lw_at lw_m8 195 rfl) rfl
theorem q1988 : (Jvm.Cond.soleField "SendHallModel" "exprTo") ∈ lw_all := lw_g (lw_at lw_m8 196 rfl) rfl
theorem q1989 : (Jvm.Cond.laysFinal "SendHallModel" "SendHallModel" "into" "[I") ∈ lw_all := lw_g (lw_at lw_m8 197 rfl) rfl
theorem q1990 : (Jvm.Cond.soleField "SendHallModel" "into") ∈ lw_all := lw_g (lw_at lw_m8 198 rfl) rfl
theorem q1991 : (Jvm.Cond.laysFinal "SendHallModel" "SendHallModel" "most" "[I") ∈ lw_all := lw_g (lw_at lw_m8 199 rfl) rfl
theorem q1992 : (Jvm.Cond.soleField "SendHallModel" "most") ∈ lw_all := lw_g (lw_at lw_m8 200 rfl) rfl
theorem q1993 : (Jvm.Cond.laysFinal "SendHallModel" "SendHallModel" "behind" "[I") ∈ lw_all := lw_g (lw_at lw_m8 201 rfl) rfl
theorem q1994 : (Jvm.Cond.soleField "SendHallModel" "behind") ∈ lw_all := lw_g (lw_at lw_m8 202 rfl) rfl
theorem q1995 : (Jvm.Cond.laysFinal "SendHallModel" "SendHallModel" "then" "[I") ∈ lw_all := lw_g (lw_at lw_m8 203 rfl) rfl
theorem q1996 : (Jvm.Cond.soleField "SendHallModel" "then") ∈ lw_all := lw_g (lw_at lw_m8 204 rfl) rfl
theorem q1997 : (Jvm.Cond.laysFinal "SendHallModel" "SendHallModel" "other" "[I") ∈ lw_all := lw_g (lw_at lw_m8 205 rfl) rfl
theorem q1998 : (Jvm.Cond.soleField "SendHallModel" "other") ∈ lw_all := lw_g (lw_at lw_m8 206 rfl) rfl
theorem q1999 : (Jvm.Cond.laysFinal "SendHallModel" "SendHallModel" "isOut" "[Z") ∈ lw_all := lw_g (lw_at lw_m8 207 rfl) rfl
theorem q2000 : (Jvm.Cond.soleField "SendHallModel" "isOut") ∈ lw_all := lw_g (lw_at lw_m8 208 rfl) rfl
theorem q2001 : (Jvm.Cond.laysFinal "SendHallModel" "SendHallModel" "now" "[I") ∈ lw_all := lw_g (lw_at lw_m8 209 rfl) rfl
theorem q2002 : (Jvm.Cond.soleField "SendHallModel" "now") ∈ lw_all := lw_g (lw_at lw_m8 210 rfl) rfl
theorem q2003 : (Jvm.Cond.laysFinal "SendHallModel" "SendHallModel" "stack" "[I") ∈ lw_all := lw_g (lw_at lw_m8 211 rfl) rfl
theorem q2004 : (Jvm.Cond.soleField "SendHallModel" "stack") ∈ lw_all := lw_g (lw_at lw_m8 212 rfl) rfl
theorem q2005 : (Jvm.Cond.lays "SendHallModel" "SendHallModel" "choice" "I") ∈ lw_all := lw_g (lw_at lw_m8 213 rfl) rfl
theorem q2006 : (Jvm.Cond.soleField "SendHallModel" "choice") ∈ lw_all := lw_g (lw_at lw_m8 214 rfl) rfl
theorem q2007 : (Jvm.Cond.laysFinal "SendHallModel" "SendHallModel" "clocks" "[I") ∈ lw_all := lw_g (lw_at lw_m8 215 rfl) rfl
theorem q2008 : (Jvm.Cond.soleField "SendHallModel" "clocks") ∈ lw_all := lw_g (lw_at lw_m8 216 rfl) rfl
theorem q2009 : (Jvm.Cond.laysFinal "SendHallModel" "SendHallModel" "waited" "[I") ∈ lw_all := lw_g (lw_at lw_m8 217 rfl) rfl
theorem q2010 : (Jvm.Cond.soleField "SendHallModel" "waited") ∈ lw_all := lw_g (lw_at lw_m8 218 rfl) rfl
theorem q2011 : (Jvm.Cond.laysFinal "SendHallModel" "SendHallModel" "taken" "[I") ∈ lw_all := lw_g (lw_at lw_m8 219 rfl) rfl
theorem q2012 : (Jvm.Cond.soleField "SendHallModel" "taken") ∈ lw_all := lw_g (lw_at lw_m8 220 rfl) rfl
theorem q2013 : (Jvm.Cond.laysFinal "SendHallModel" "SendHallModel" "theres" "[I") ∈ lw_all := lw_g (lw_at lw_m8 221 rfl) rfl
theorem q2014 : (Jvm.Cond.soleField "SendHallModel" "theres") ∈ lw_all := lw_g (lw_at lw_m8 222 rfl) rfl
theorem q2015 : (Jvm.Cond.lays "SendHallModel" "SendHallModel" "anyHand" "I") ∈ lw_all := lw_g (lw_at lw_m8 223 rfl) rfl
theorem q2016 : (Jvm.Cond.soleField "SendHallModel" "anyHand") ∈ lw_all := lw_g (lw_at lw_m8 224 rfl) rfl
theorem q2017 : (Jvm.Cond.lays "SendHallModel" "SendHallModel" "anyFrom" "I") ∈ lw_all := lw_g (lw_at lw_m8 225 rfl) rfl
theorem q2018 : (Jvm.Cond.soleField "SendHallModel" "anyFrom") ∈ lw_all := lw_g (lw_at lw_m8 226 rfl) rfl
theorem q2019 : (Jvm.Cond.lays "SendHallModel" "SendHallModel" "anyStep" "I") ∈ lw_all := lw_g (lw_at lw_m8 227 rfl) rfl
theorem q2020 : (Jvm.Cond.soleField "SendHallModel" "anyStep") ∈ lw_all := lw_g (lw_at lw_m8 228 rfl) rfl
theorem q2021 : (Jvm.Cond.laysFinal "SendHallModel" "SendHallModel" "states" "[I") ∈ lw_all := lw_g (lw_at lw_m8 229 rfl) rfl
theorem q2022 : (Jvm.Cond.soleField "SendHallModel" "states") ∈ lw_all := lw_g (lw_at lw_m8 230 rfl) rfl
theorem q2023 : (Jvm.Cond.laysFinal "SendHallModel" "SendHallModel" "marks" "[I") ∈ lw_all := lw_g (lw_at lw_m8 231 rfl) rfl
theorem q2024 : (Jvm.Cond.soleField "SendHallModel" "marks") ∈ lw_all := lw_g (lw_at lw_m8 232 rfl) rfl
theorem q2025 : (Jvm.Cond.laysFinal "SendHallModel" "SendHallModel" "isEnding" "[Z") ∈ lw_all := lw_g (lw_at lw_m8 233 rfl) rfl
theorem q2026 : (Jvm.Cond.soleField "SendHallModel" "isEnding") ∈ lw_all := lw_g (lw_at lw_m8 234 rfl) rfl
theorem q2027 : (Jvm.Cond.lays "SendHallModel" "SendHallModel" "stateMany" "I") ∈ lw_all := lw_g (lw_at lw_m8 235 rfl) rfl
theorem q2028 : (Jvm.Cond.soleField "SendHallModel" "stateMany") ∈ lw_all := lw_g (lw_at lw_m8 236 rfl) rfl
theorem q2029 : (Jvm.Cond.lays "SendHallModel" "SendHallModel" "stateVersion" "I") ∈ lw_all := lw_g (lw_at lw_m8 237 rfl) rfl
theorem q2030 : (Jvm.Cond.soleField "SendHallModel" "stateVersion") ∈ lw_all := lw_g (lw_at lw_m8 238 rfl) rfl
theorem q2031 : (Jvm.Cond.lays "SendHallModel" "SendHallModel" "isSpent" "Z") ∈ lw_all := lw_g (lw_at lw_m8 239 rfl) rfl
theorem q2032 : (Jvm.Cond.soleField "SendHallModel" "isSpent") ∈ lw_all := lw_g (lw_at lw_m9 0 rfl) rfl
theorem q2033 : (Jvm.Cond.laysFinal "SendHallModel" "SendHallModel" "could" "[I") ∈ lw_all := lw_g (lw_at lw_m9 1 rfl) rfl
theorem q2034 : (Jvm.Cond.soleField "SendHallModel" "could") ∈ lw_all := lw_g (lw_at lw_m9 2 rfl) rfl
theorem q2035 : (Jvm.Cond.laysFinal "SendHallModel" "SendHallModel" "endings" "[I") ∈ lw_all := lw_g (lw_at lw_m9 3 rfl) rfl
theorem q2036 : (Jvm.Cond.soleField "SendHallModel" "endings") ∈ lw_all := lw_g (lw_at lw_m9 4 rfl) rfl
theorem q2037 : (Jvm.Cond.lays "SendHallModel" "SendHallModel" "endingMany" "I") ∈ lw_all := lw_g (lw_at lw_m9 5 rfl) rfl
theorem q2038 : (Jvm.Cond.soleField "SendHallModel" "endingMany") ∈ lw_all := lw_g (lw_at lw_m9 6 rfl) rfl
theorem q2039 : (Jvm.Cond.lays "SendHallModel" "SendHallModel" "spentThen" "Z") ∈ lw_all := lw_g (lw_at lw_m9 7 rfl) rfl
theorem q2040 : (Jvm.Cond.soleField "SendHallModel" "spentThen") ∈ lw_all := lw_g (lw_at lw_m9 8 rfl) rfl
theorem q2041 : (Jvm.Cond.lays "SendHallModel" "SendHallModel" "manyThen" "I") ∈ lw_all := lw_g (lw_at lw_m9 9 rfl) rfl
theorem q2042 : (Jvm.Cond.soleField "SendHallModel" "manyThen") ∈ lw_all := lw_g (lw_at lw_m9 10 rfl) rfl
theorem q2043 : (Jvm.Cond.laysFinal "SendHallModel" "SendHallModel" "couldThen" "[I") ∈ lw_all := lw_g (lw_at lw_m9 11 rfl) rfl
theorem q2044 : (Jvm.Cond.soleField "SendHallModel" "couldThen") ∈ lw_all := lw_g (lw_at lw_m9 12 rfl) rfl
theorem q2045 : (Jvm.Cond.laysFinal "SendHallModel" "SendHallModel" "isLeft" "[Z") ∈ lw_all := lw_g (lw_at lw_m9 13 rfl) rfl
theorem q2046 : (Jvm.Cond.soleField "SendHallModel" "isLeft") ∈ lw_all := lw_g (lw_at lw_m9 14 rfl) rfl
theorem q2047 : (Jvm.Cond.lays "SendHallModel" "SendHallModel" "leftVersion" "I") ∈ lw_all := lw_g (lw_at lw_m9 15 rfl) rfl
theorem q2048 : (Jvm.Cond.soleField "SendHallModel" "leftVersion") ∈ lw_all := lw_g (lw_at lw_m9 16 rfl) rfl
theorem q2049 : (Jvm.Cond.lays "SendHallModel" "SendHallModel" "playHands" "I") ∈ lw_all := lw_g (lw_at lw_m9 17 rfl) rfl
theorem q2050 : (Jvm.Cond.soleField "SendHallModel" "playHands") ∈ lw_all := lw_g (lw_at lw_m9 18 rfl) rfl
theorem q2051 : (Jvm.Cond.lays "SendHallModel" "SendHallModel" "playVersion" "I") ∈ lw_all := lw_g (lw_at lw_m9 19 rfl) rfl
theorem q2052 : (Jvm.Cond.soleField "SendHallModel" "playVersion") ∈ lw_all := lw_g (lw_at lw_m9 20 rfl) rfl
theorem q2053 : (Jvm.Cond.lays "SendHallModel" "SendHallModel" "madeMany" "I") ∈ lw_all := lw_g (lw_at lw_m9 21 rfl) rfl
theorem q2054 : (Jvm.Cond.soleField "SendHallModel" "madeMany") ∈ lw_all := lw_g (lw_at lw_m9 22 rfl) rfl
theorem q2055 : (Jvm.Cond.lays "SendHallModel" "SendHallModel" "ringMany" "I") ∈ lw_all := lw_g (lw_at lw_m9 23 rfl) rfl
theorem q2056 : (Jvm.Cond.soleField "SendHallModel" "ringMany") ∈ lw_all := lw_g (lw_at lw_m9 24 rfl) rfl
theorem q2057 : (Jvm.Cond.laysFinal "SendHallModel" "SendHallModel" "played" "[I") ∈ lw_all := lw_g (lw_at lw_m9 25 rfl) rfl
theorem q2058 : (Jvm.Cond.soleField "SendHallModel" "played") ∈ lw_all := lw_g (lw_at lw_m9 26 rfl) rfl
theorem q2059 : (Jvm.Cond.laysFinal "SendHallModel" "SendHallModel" "made" "[I") ∈ lw_all := lw_g (lw_at lw_m9 27 rfl) rfl
theorem q2060 : (Jvm.Cond.soleField "SendHallModel" "made") ∈ lw_all := lw_g (lw_at lw_m9 28 rfl) rfl
theorem q2061 : (Jvm.Cond.laysFinal "SendHallModel" "SendHallModel" "ring" "[I") ∈ lw_all := lw_g (lw_at lw_m9 29 rfl) rfl
theorem q2062 : (Jvm.Cond.soleField "SendHallModel" "ring") ∈ lw_all := lw_g (lw_at lw_m9 30 rfl) rfl
theorem q2063 : (Jvm.Cond.laysFinal "SendHallModel" "SendHallModel" "waits" "[I") ∈ lw_all := lw_g (lw_at lw_m9 31 rfl) rfl
theorem q2064 : (Jvm.Cond.soleField "SendHallModel" "waits") ∈ lw_all := lw_g (lw_at lw_m9 32 rfl) rfl
theorem q2065 : (Jvm.Cond.laysFinal "SendHallModel" "SendHallModel" "seenAt" "[I") ∈ lw_all := lw_g (lw_at lw_m9 33 rfl) rfl
theorem q2066 : (Jvm.Cond.soleField "SendHallModel" "seenAt") ∈ lw_all := lw_g (lw_at lw_m9 34 rfl) rfl
theorem q2067 : (Jvm.Cond.laysFinal "SendHallModel" "SendHallModel" "clocksThen" "[I") ∈ lw_all := lw_g (lw_at lw_m9 35 rfl) rfl
theorem q2068 : (Jvm.Cond.soleField "SendHallModel" "clocksThen") ∈ lw_all := lw_g (lw_at lw_m9 36 rfl) rfl
theorem q2069 : (Jvm.Cond.laysFinal "SendHallModel" "SendHallModel" "waitedThen" "[I") ∈ lw_all := lw_g (lw_at lw_m9 37 rfl) rfl
theorem q2070 : (Jvm.Cond.soleField "SendHallModel" "waitedThen") ∈ lw_all := lw_g (lw_at lw_m9 38 rfl) rfl
theorem q2071 : (Jvm.Cond.lays "SendHallModel" "SendHallModel" "madeThen" "I") ∈ lw_all := lw_g (lw_at lw_m9 39 rfl) rfl
theorem q2072 : (Jvm.Cond.soleField "SendHallModel" "madeThen") ∈ lw_all := lw_g (lw_at lw_m9 40 rfl) rfl
theorem q2073 : (Jvm.Cond.laysFinal "SendHallModel" "SendHallModel" "madeRow" "[I") ∈ lw_all := lw_g (lw_at lw_m9 41 rfl) rfl
theorem q2074 : (Jvm.Cond.soleField "SendHallModel" "madeRow") ∈ lw_all := lw_g (lw_at lw_m9 42 rfl) rfl
theorem q2075 : (Jvm.Cond.superclass "SendHallModel" "java/lang/Object") ∈ lw_all := lw_g (lw_at lw_m9 43 rfl) rfl
theorem q2077 : (Jvm.Cond.instanceMethod ({ cls := "SendHallModel", name := "thrown", desc := "()I" } : Jvm.MethodName)) ∈ lw_all := lw_g (lw_at lw_m9 45 rfl) rfl
theorem q2078 : (Jvm.Cond.selects "SendHallModel" ({ cls := "SendHallModel", name := "thrown", desc := "()I" } : Jvm.MethodName) ({ cls := "SendHallModel", name := "thrown", desc := "()I" } : Jvm.MethodName)) ∈ lw_all := lw_g (lw_at lw_m9 46 rfl) rfl
theorem q2079 : (Jvm.Cond.code ({ cls := "SendHallModel", name := "thrown", desc := "()I" } : Jvm.MethodName) prog_21_method_2_code (1 : Nat) (Option.some Jvm.ClassFile.FieldType.int)) ∈ lw_all := lw_g (lw_at lw_m9 47 rfl) rfl
theorem q2081 : (Jvm.Cond.instanceMethod ({ cls := "SendHallModel", name := "feed", desc := "(IIIII)I" } : Jvm.MethodName)) ∈ lw_all := lw_g (lw_at lw_m9 49 rfl) rfl
theorem q2082 : (Jvm.Cond.selects "SendHallModel" ({ cls := "SendHallModel", name := "feed", desc := "(IIIII)I" } : Jvm.MethodName) ({ cls := "SendHallModel", name := "feed", desc := "(IIIII)I" } : Jvm.MethodName)) ∈ lw_all := lw_g (lw_at lw_m9 50 rfl) rfl
theorem q2083 : (Jvm.Cond.code ({ cls := "SendHallModel", name := "feed", desc := "(IIIII)I" } : Jvm.MethodName) prog_21_method_6_code (8 : Nat) (Option.some Jvm.ClassFile.FieldType.int)) ∈ lw_all := lw_g (lw_at lw_m9 51 rfl) rfl
theorem q2085 : (Jvm.Cond.instanceMethod ({ cls := "SendHallModel", name := "text", desc := "(I)I" } : Jvm.MethodName)) ∈ lw_all := lw_g (lw_at lw_m9 53 rfl) rfl
theorem q2086 : (Jvm.Cond.selects "SendHallModel" ({ cls := "SendHallModel", name := "text", desc := "(I)I" } : Jvm.MethodName) ({ cls := "SendHallModel", name := "text", desc := "(I)I" } : Jvm.MethodName)) ∈ lw_all := lw_g (lw_at lw_m9 54 rfl) rfl
theorem q2087 : (Jvm.Cond.code ({ cls := "SendHallModel", name := "text", desc := "(I)I" } : Jvm.MethodName) prog_21_method_28_code (4 : Nat) (Option.some Jvm.ClassFile.FieldType.int)) ∈ lw_all := lw_g (lw_at lw_m9 55 rfl) rfl
theorem q2088 : (Jvm.Cond.methodLink "SendHallModel" (313 : Nat) ({ cls := "SendHallModel", name := "fail", desc := "(I)I" } : Jvm.MethodName)) ∈ lw_all := lw_g (lw_at lw_m9 56 rfl) rfl
theorem q2089 : (Jvm.Cond.privateMethod ({ cls := "SendHallModel", name := "fail", desc := "(I)I" } : Jvm.MethodName)) ∈ lw_tbl := lw_at lw_m9 57 rfl
theorem q2090 : (Jvm.Cond.instanceMethod ({ cls := "SendHallModel", name := "fail", desc := "(I)I" } : Jvm.MethodName)) ∈ lw_all := lw_g (lw_at lw_m9 58 rfl) rfl
theorem q2091 : (Jvm.Cond.code ({ cls := "SendHallModel", name := "fail", desc := "(I)I" } : Jvm.MethodName) prog_21_method_3_code (2 : Nat) (Option.some Jvm.ClassFile.FieldType.int)) ∈ lw_all := lw_g (lw_at lw_m9 59 rfl) rfl
theorem q2092 : (Jvm.Cond.methodLink "SendHallModel" (245 : Nat) ({ cls := "SendHallModel", name := "stepOn", desc := "()V" } : Jvm.MethodName)) ∈ lw_all := lw_g (lw_at lw_m9 60 rfl) rfl
theorem q2093 : (Jvm.Cond.privateMethod ({ cls := "SendHallModel", name := "stepOn", desc := "()V" } : Jvm.MethodName)) ∈ lw_tbl := lw_at lw_m9 61 rfl
theorem q2094 : (Jvm.Cond.instanceMethod ({ cls := "SendHallModel", name := "stepOn", desc := "()V" } : Jvm.MethodName)) ∈ lw_all := lw_g (lw_at lw_m9 62 rfl) rfl
theorem q2095 : (Jvm.Cond.code ({ cls := "SendHallModel", name := "stepOn", desc := "()V" } : Jvm.MethodName) prog_21_method_10_code (3 : Nat) (Option.none : Option Jvm.ClassFile.FieldType)) ∈ lw_all := lw_g (lw_at lw_m9 63 rfl) rfl
theorem q2096 : (Jvm.Cond.methodLink "SendHallModel" (187 : Nat) ({ cls := "SendHallModel", name := "byteAt", desc := "(I)I" } : Jvm.MethodName)) ∈ lw_all := lw_g (lw_at lw_m9 64 rfl) rfl
theorem q2097 : (Jvm.Cond.privateMethod ({ cls := "SendHallModel", name := "byteAt", desc := "(I)I" } : Jvm.MethodName)) ∈ lw_tbl := lw_at lw_m9 65 rfl
theorem q2098 : (Jvm.Cond.instanceMethod ({ cls := "SendHallModel", name := "byteAt", desc := "(I)I" } : Jvm.MethodName)) ∈ lw_all := lw_g (lw_at lw_m9 66 rfl) rfl
theorem q2099 : (Jvm.Cond.code ({ cls := "SendHallModel", name := "byteAt", desc := "(I)I" } : Jvm.MethodName) prog_21_method_7_code (2 : Nat) (Option.some Jvm.ClassFile.FieldType.int)) ∈ lw_all := lw_g (lw_at lw_m9 67 rfl) rfl
theorem q2100 : (Jvm.Cond.methodLink "SendHallModel" (200 : Nat) ({ cls := "SendHallModel", name := "isLetter", desc := "(I)Z" } : Jvm.MethodName)) ∈ lw_all := lw_g (lw_at lw_m9 68 rfl) rfl
theorem q2101 : (Jvm.Cond.static ({ cls := "SendHallModel", name := "isLetter", desc := "(I)Z" } : Jvm.MethodName)) ∈ lw_all := lw_g (lw_at lw_m9 69 rfl) rfl
theorem q2102 : (Jvm.Cond.code ({ cls := "SendHallModel", name := "isLetter", desc := "(I)Z" } : Jvm.MethodName) prog_21_method_8_code (1 : Nat) (Option.some Jvm.ClassFile.FieldType.boolean)) ∈ lw_all := lw_g (lw_at lw_m9 70 rfl) rfl
theorem q2103 : (Jvm.Cond.methodLink "SendHallModel" (204 : Nat) ({ cls := "SendHallModel", name := "isDigit", desc := "(I)Z" } : Jvm.MethodName)) ∈ lw_all := lw_g (lw_at lw_m9 71 rfl) rfl
theorem q2104 : (Jvm.Cond.static ({ cls := "SendHallModel", name := "isDigit", desc := "(I)Z" } : Jvm.MethodName)) ∈ lw_all := lw_g (lw_at lw_m9 72 rfl) rfl
theorem q2105 : (Jvm.Cond.code ({ cls := "SendHallModel", name := "isDigit", desc := "(I)Z" } : Jvm.MethodName) prog_21_method_9_code (1 : Nat) (Option.some Jvm.ClassFile.FieldType.boolean)) ∈ lw_all := lw_g (lw_at lw_m9 73 rfl) rfl
theorem q2106 : (Jvm.Cond.constant "SendHallModel" (210 : Nat) (100000 : Int32)) ∈ lw_all := lw_g (lw_at lw_m9 74 rfl) rfl
theorem q2107 : (Jvm.Cond.methodLink "SendHallModel" (211 : Nat) ({ cls := "java/lang/Math", name := "min", desc := "(II)I" } : Jvm.MethodName)) ∈ lw_all := lw_g (lw_at lw_m9 75 rfl) rfl
theorem q2108 : (Jvm.Cond.methodLink "SendHallModel" (303 : Nat) ({ cls := "SendHallModel", name := "readSteps", desc := "(II)I" } : Jvm.MethodName)) ∈ lw_all := lw_g (lw_at lw_m9 76 rfl) rfl
theorem q2109 : (Jvm.Cond.privateMethod ({ cls := "SendHallModel", name := "readSteps", desc := "(II)I" } : Jvm.MethodName)) ∈ lw_tbl := lw_at lw_m9 77 rfl
theorem q2110 : (Jvm.Cond.instanceMethod ({ cls := "SendHallModel", name := "readSteps", desc := "(II)I" } : Jvm.MethodName)) ∈ lw_all := lw_g (lw_at lw_m9 78 rfl) rfl
theorem q2111 : (Jvm.Cond.code ({ cls := "SendHallModel", name := "readSteps", desc := "(II)I" } : Jvm.MethodName) prog_21_method_27_code (6 : Nat) (Option.some Jvm.ClassFile.FieldType.int)) ∈ lw_all := lw_g (lw_at lw_m9 79 rfl) rfl
theorem q2112 : (Jvm.Cond.stringRef "SendHallModel" (306 : Nat) "else") ∈ lw_tbl := lw_at lw_m9 80 rfl
theorem q2113 : (Jvm.Cond.methodLink "SendHallModel" (234 : Nat) ({ cls := "SendHallModel", name := "is", desc := "(Ljava/lang/String;)Z" } : Jvm.MethodName)) ∈ lw_all := lw_g (lw_at lw_m9 81 rfl) rfl
theorem q2114 : (Jvm.Cond.privateMethod ({ cls := "SendHallModel", name := "is", desc := "(Ljava/lang/String;)Z" } : Jvm.MethodName)) ∈ lw_tbl := lw_at lw_m9 82 rfl
theorem q2115 : (Jvm.Cond.instanceMethod ({ cls := "SendHallModel", name := "is", desc := "(Ljava/lang/String;)Z" } : Jvm.MethodName)) ∈ lw_all := lw_g (lw_at lw_m9 83 rfl) rfl
theorem q2116 : (Jvm.Cond.code ({ cls := "SendHallModel", name := "is", desc := "(Ljava/lang/String;)Z" } : Jvm.MethodName) prog_21_method_13_code (4 : Nat) (Option.some Jvm.ClassFile.FieldType.boolean)) ∈ lw_all := lw_g (lw_at lw_m9 84 rfl) rfl
theorem q2117 : (Jvm.Cond.methodLink "SendHallModel" (226 : Nat) ({ cls := "java/lang/String", name := "length", desc := "()I" } : Jvm.MethodName)) ∈ lw_all := lw_g (lw_at lw_m9 85 rfl) rfl
theorem q2118 : (Jvm.Cond.methodLink "SendHallModel" (230 : Nat) ({ cls := "java/lang/String", name := "charAt", desc := "(I)C" } : Jvm.MethodName)) ∈ lw_all := lw_g (lw_at lw_m9 86 rfl) rfl
theorem q2119 : (Jvm.Cond.stringRef "SendHallModel" (308 : Nat) "end") ∈ lw_tbl := lw_at lw_m9 87 rfl
theorem q2120 : (Jvm.Cond.methodLink "SendHallModel" (310 : Nat) ({ cls := "SendHallModel", name := "readStep", desc := "(I)V" } : Jvm.MethodName)) ∈ lw_all := lw_g (lw_at lw_m9 88 rfl) rfl
theorem q2121 : (Jvm.Cond.privateMethod ({ cls := "SendHallModel", name := "readStep", desc := "(I)V" } : Jvm.MethodName)) ∈ lw_tbl := lw_at lw_m9 89 rfl
theorem q2122 : (Jvm.Cond.instanceMethod ({ cls := "SendHallModel", name := "readStep", desc := "(I)V" } : Jvm.MethodName)) ∈ lw_all := lw_g (lw_at lw_m9 90 rfl) rfl
theorem q2123 : (Jvm.Cond.code ({ cls := "SendHallModel", name := "readStep", desc := "(I)V" } : Jvm.MethodName) prog_21_method_25_code (5 : Nat) (Option.none : Option Jvm.ClassFile.FieldType)) ∈ lw_all := lw_g (lw_at lw_m9 91 rfl) rfl
theorem q2124 : (Jvm.Cond.methodLink "SendHallModel" (257 : Nat) ({ cls := "SendHallModel", name := "which", desc := "([Ljava/lang/String;)I" } : Jvm.MethodName)) ∈ lw_all := lw_g (lw_at lw_m9 92 rfl) rfl
theorem q2125 : (Jvm.Cond.privateMethod ({ cls := "SendHallModel", name := "which", desc := "([Ljava/lang/String;)I" } : Jvm.MethodName)) ∈ lw_tbl := lw_at lw_m9 93 rfl
theorem q2126 : (Jvm.Cond.instanceMethod ({ cls := "SendHallModel", name := "which", desc := "([Ljava/lang/String;)I" } : Jvm.MethodName)) ∈ lw_all := lw_g (lw_at lw_m9 94 rfl) rfl
theorem q2127 : (Jvm.Cond.code ({ cls := "SendHallModel", name := "which", desc := "([Ljava/lang/String;)I" } : Jvm.MethodName) prog_21_method_14_code (3 : Nat) (Option.some Jvm.ClassFile.FieldType.int)) ∈ lw_all := lw_g (lw_at lw_m9 95 rfl) rfl
theorem q2128 : (Jvm.Cond.methodLink "SendHallModel" (241 : Nat) ({ cls := "SendHallModel", name := "wrong", desc := "(I)V" } : Jvm.MethodName)) ∈ lw_all := lw_g (lw_at lw_m9 96 rfl) rfl
theorem q2129 : (Jvm.Cond.privateMethod ({ cls := "SendHallModel", name := "wrong", desc := "(I)V" } : Jvm.MethodName)) ∈ lw_tbl := lw_at lw_m9 97 rfl
theorem q2130 : (Jvm.Cond.instanceMethod ({ cls := "SendHallModel", name := "wrong", desc := "(I)V" } : Jvm.MethodName)) ∈ lw_all := lw_g (lw_at lw_m9 98 rfl) rfl
theorem q2131 : (Jvm.Cond.code ({ cls := "SendHallModel", name := "wrong", desc := "(I)V" } : Jvm.MethodName) prog_21_method_11_code (2 : Nat) (Option.none : Option Jvm.ClassFile.FieldType)) ∈ lw_all := lw_g (lw_at lw_m9 99 rfl) rfl
theorem q2132 : (Jvm.Cond.methodLink "SendHallModel" (280 : Nat) ({ cls := "SendHallModel", name := "readInto", desc := "(IIZ)V" } : Jvm.MethodName)) ∈ lw_all := lw_g (lw_at lw_m9 100 rfl) rfl
theorem q2133 : (Jvm.Cond.privateMethod ({ cls := "SendHallModel", name := "readInto", desc := "(IIZ)V" } : Jvm.MethodName)) ∈ lw_tbl := lw_at lw_m9 101 rfl
theorem q2134 : (Jvm.Cond.instanceMethod ({ cls := "SendHallModel", name := "readInto", desc := "(IIZ)V" } : Jvm.MethodName)) ∈ lw_all := lw_g (lw_at lw_m9 102 rfl) rfl
theorem q2135 : (Jvm.Cond.code ({ cls := "SendHallModel", name := "readInto", desc := "(IIZ)V" } : Jvm.MethodName) prog_21_method_23_code (4 : Nat) (Option.none : Option Jvm.ClassFile.FieldType)) ∈ lw_all := lw_g (lw_at lw_m9 103 rfl) rfl
theorem q2136 : (Jvm.Cond.methodLink "SendHallModel" (261 : Nat) ({ cls := "SendHallModel", name := "readExpression", desc := "(I)V" } : Jvm.MethodName)) ∈ lw_all := lw_g (lw_at lw_m9 104 rfl) rfl
theorem q2137 : (Jvm.Cond.privateMethod ({ cls := "SendHallModel", name := "readExpression", desc := "(I)V" } : Jvm.MethodName)) ∈ lw_tbl := lw_at lw_m9 105 rfl
theorem q2138 : (Jvm.Cond.instanceMethod ({ cls := "SendHallModel", name := "readExpression", desc := "(I)V" } : Jvm.MethodName)) ∈ lw_all := lw_g (lw_at lw_m9 106 rfl) rfl
theorem q2139 : (Jvm.Cond.code ({ cls := "SendHallModel", name := "readExpression", desc := "(I)V" } : Jvm.MethodName) prog_21_method_22_code (4 : Nat) (Option.none : Option Jvm.ClassFile.FieldType)) ∈ lw_all := lw_g (lw_at lw_m9 107 rfl) rfl
theorem q2140 : (Jvm.Cond.methodLink "SendHallModel" (238 : Nat) ({ cls := "SendHallModel", name := "isSign", desc := "(I)Z" } : Jvm.MethodName)) ∈ lw_all := lw_g (lw_at lw_m9 108 rfl) rfl
theorem q2141 : (Jvm.Cond.privateMethod ({ cls := "SendHallModel", name := "isSign", desc := "(I)Z" } : Jvm.MethodName)) ∈ lw_tbl := lw_at lw_m9 109 rfl
theorem q2142 : (Jvm.Cond.instanceMethod ({ cls := "SendHallModel", name := "isSign", desc := "(I)Z" } : Jvm.MethodName)) ∈ lw_all := lw_g (lw_at lw_m9 110 rfl) rfl
theorem q2143 : (Jvm.Cond.code ({ cls := "SendHallModel", name := "isSign", desc := "(I)Z" } : Jvm.MethodName) prog_21_method_12_code (2 : Nat) (Option.some Jvm.ClassFile.FieldType.boolean)) ∈ lw_all := lw_g (lw_at lw_m9 111 rfl) rfl
theorem q2144 : (Jvm.Cond.methodLink "SendHallModel" (273 : Nat) ({ cls := "SendHallModel", name := "readSum", desc := "(I)V" } : Jvm.MethodName)) ∈ lw_all := lw_g (lw_at lw_m9 112 rfl) rfl
theorem q2145 : (Jvm.Cond.privateMethod ({ cls := "SendHallModel", name := "readSum", desc := "(I)V" } : Jvm.MethodName)) ∈ lw_tbl := lw_at lw_m9 113 rfl
theorem q2146 : (Jvm.Cond.instanceMethod ({ cls := "SendHallModel", name := "readSum", desc := "(I)V" } : Jvm.MethodName)) ∈ lw_all := lw_g (lw_at lw_m9 114 rfl) rfl
theorem q2147 : (Jvm.Cond.code ({ cls := "SendHallModel", name := "readSum", desc := "(I)V" } : Jvm.MethodName) prog_21_method_21_code (3 : Nat) (Option.none : Option Jvm.ClassFile.FieldType)) ∈ lw_all := lw_g (lw_at lw_m9 115 rfl) rfl
theorem q2148 : (Jvm.Cond.methodLink "SendHallModel" (270 : Nat) ({ cls := "SendHallModel", name := "readProduct", desc := "(I)V" } : Jvm.MethodName)) ∈ lw_all := lw_g (lw_at lw_m9 116 rfl) rfl
theorem q2149 : (Jvm.Cond.privateMethod ({ cls := "SendHallModel", name := "readProduct", desc := "(I)V" } : Jvm.MethodName)) ∈ lw_tbl := lw_at lw_m9 117 rfl
theorem q2150 : (Jvm.Cond.instanceMethod ({ cls := "SendHallModel", name := "readProduct", desc := "(I)V" } : Jvm.MethodName)) ∈ lw_all := lw_g (lw_at lw_m9 118 rfl) rfl
theorem q2151 : (Jvm.Cond.code ({ cls := "SendHallModel", name := "readProduct", desc := "(I)V" } : Jvm.MethodName) prog_21_method_20_code (3 : Nat) (Option.none : Option Jvm.ClassFile.FieldType)) ∈ lw_all := lw_g (lw_at lw_m9 119 rfl) rfl
theorem q2152 : (Jvm.Cond.methodLink "SendHallModel" (267 : Nat) ({ cls := "SendHallModel", name := "readPart", desc := "(I)V" } : Jvm.MethodName)) ∈ lw_all := lw_g (lw_at lw_m9 120 rfl) rfl
theorem q2153 : (Jvm.Cond.privateMethod ({ cls := "SendHallModel", name := "readPart", desc := "(I)V" } : Jvm.MethodName)) ∈ lw_tbl := lw_at lw_m9 121 rfl
theorem q2154 : (Jvm.Cond.instanceMethod ({ cls := "SendHallModel", name := "readPart", desc := "(I)V" } : Jvm.MethodName)) ∈ lw_all := lw_g (lw_at lw_m9 122 rfl) rfl
theorem q2155 : (Jvm.Cond.code ({ cls := "SendHallModel", name := "readPart", desc := "(I)V" } : Jvm.MethodName) prog_21_method_19_code (3 : Nat) (Option.none : Option Jvm.ClassFile.FieldType)) ∈ lw_all := lw_g (lw_at lw_m9 123 rfl) rfl
theorem q2156 : (Jvm.Cond.methodLink "SendHallModel" (251 : Nat) ({ cls := "SendHallModel", name := "readNumber", desc := "(II)I" } : Jvm.MethodName)) ∈ lw_all := lw_g (lw_at lw_m9 124 rfl) rfl
theorem q2157 : (Jvm.Cond.privateMethod ({ cls := "SendHallModel", name := "readNumber", desc := "(II)I" } : Jvm.MethodName)) ∈ lw_tbl := lw_at lw_m9 125 rfl
theorem q2158 : (Jvm.Cond.instanceMethod ({ cls := "SendHallModel", name := "readNumber", desc := "(II)I" } : Jvm.MethodName)) ∈ lw_all := lw_g (lw_at lw_m9 126 rfl) rfl
theorem q2159 : (Jvm.Cond.code ({ cls := "SendHallModel", name := "readNumber", desc := "(II)I" } : Jvm.MethodName) prog_21_method_17_code (4 : Nat) (Option.some Jvm.ClassFile.FieldType.int)) ∈ lw_all := lw_g (lw_at lw_m9 127 rfl) rfl
theorem q2160 : (Jvm.Cond.methodLink "SendHallModel" (254 : Nat) ({ cls := "SendHallModel", name := "emit", desc := "(I)V" } : Jvm.MethodName)) ∈ lw_all := lw_g (lw_at lw_m9 128 rfl) rfl
theorem q2161 : (Jvm.Cond.privateMethod ({ cls := "SendHallModel", name := "emit", desc := "(I)V" } : Jvm.MethodName)) ∈ lw_tbl := lw_at lw_m9 129 rfl
theorem q2162 : (Jvm.Cond.instanceMethod ({ cls := "SendHallModel", name := "emit", desc := "(I)V" } : Jvm.MethodName)) ∈ lw_all := lw_g (lw_at lw_m9 130 rfl) rfl
theorem q2163 : (Jvm.Cond.code ({ cls := "SendHallModel", name := "emit", desc := "(I)V" } : Jvm.MethodName) prog_21_method_18_code (2 : Nat) (Option.none : Option Jvm.ClassFile.FieldType)) ∈ lw_all := lw_g (lw_at lw_m9 131 rfl) rfl
theorem q2164 : (Jvm.Cond.methodLink "SendHallModel" (264 : Nat) ({ cls := "SendHallModel", name := "need", desc := "(I)V" } : Jvm.MethodName)) ∈ lw_all := lw_g (lw_at lw_m9 132 rfl) rfl
theorem q2165 : (Jvm.Cond.privateMethod ({ cls := "SendHallModel", name := "need", desc := "(I)V" } : Jvm.MethodName)) ∈ lw_tbl := lw_at lw_m9 133 rfl
theorem q2166 : (Jvm.Cond.instanceMethod ({ cls := "SendHallModel", name := "need", desc := "(I)V" } : Jvm.MethodName)) ∈ lw_all := lw_g (lw_at lw_m9 134 rfl) rfl
theorem q2167 : (Jvm.Cond.code ({ cls := "SendHallModel", name := "need", desc := "(I)V" } : Jvm.MethodName) prog_21_method_15_code (2 : Nat) (Option.none : Option Jvm.ClassFile.FieldType)) ∈ lw_all := lw_g (lw_at lw_m9 135 rfl) rfl
theorem q2168 : (Jvm.Cond.stringRef "SendHallModel" (284 : Nat) "mark") ∈ lw_tbl := lw_at lw_m9 136 rfl
theorem q2169 : (Jvm.Cond.methodLink "SendHallModel" (286 : Nat) ({ cls := "SendHallModel", name := "word", desc := "(Ljava/lang/String;)V" } : Jvm.MethodName)) ∈ lw_all := lw_g (lw_at lw_m9 137 rfl) rfl
theorem q2170 : (Jvm.Cond.privateMethod ({ cls := "SendHallModel", name := "word", desc := "(Ljava/lang/String;)V" } : Jvm.MethodName)) ∈ lw_tbl := lw_at lw_m9 138 rfl
theorem q2171 : (Jvm.Cond.instanceMethod ({ cls := "SendHallModel", name := "word", desc := "(Ljava/lang/String;)V" } : Jvm.MethodName)) ∈ lw_all := lw_g (lw_at lw_m9 139 rfl) rfl
theorem q2172 : (Jvm.Cond.code ({ cls := "SendHallModel", name := "word", desc := "(Ljava/lang/String;)V" } : Jvm.MethodName) prog_21_method_16_code (2 : Nat) (Option.none : Option Jvm.ClassFile.FieldType)) ∈ lw_all := lw_g (lw_at lw_m9 140 rfl) rfl
theorem q2173 : (Jvm.Cond.stringRef "SendHallModel" (290 : Nat) "word") ∈ lw_tbl := lw_at lw_m9 141 rfl
theorem q2174 : (Jvm.Cond.stringRef "SendHallModel" (291 : Nat) "long") ∈ lw_tbl := lw_at lw_m9 142 rfl
theorem q2175 : (Jvm.Cond.stringRef "SendHallModel" (293 : Nat) "into") ∈ lw_tbl := lw_at lw_m9 143 rfl
theorem q2176 : (Jvm.Cond.methodLink "SendHallModel" (294 : Nat) ({ cls := "SendHallModel", name := "readVar", desc := "()I" } : Jvm.MethodName)) ∈ lw_all := lw_g (lw_at lw_m9 144 rfl) rfl
theorem q2177 : (Jvm.Cond.privateMethod ({ cls := "SendHallModel", name := "readVar", desc := "()I" } : Jvm.MethodName)) ∈ lw_tbl := lw_at lw_m9 145 rfl
theorem q2178 : (Jvm.Cond.instanceMethod ({ cls := "SendHallModel", name := "readVar", desc := "()I" } : Jvm.MethodName)) ∈ lw_all := lw_g (lw_at lw_m9 146 rfl) rfl
theorem q2179 : (Jvm.Cond.code ({ cls := "SendHallModel", name := "readVar", desc := "()I" } : Jvm.MethodName) prog_21_method_24_code (2 : Nat) (Option.some Jvm.ClassFile.FieldType.int)) ∈ lw_all := lw_g (lw_at lw_m9 147 rfl) rfl
theorem q2180 : (Jvm.Cond.methodLink "SendHallModel" (276 : Nat) ({ cls := "SendHallModel", name := "isIn", desc := "(III)Z" } : Jvm.MethodName)) ∈ lw_all := lw_g (lw_at lw_m9 148 rfl) rfl
theorem q2181 : (Jvm.Cond.static ({ cls := "SendHallModel", name := "isIn", desc := "(III)Z" } : Jvm.MethodName)) ∈ lw_all := lw_g (lw_at lw_m9 149 rfl) rfl
theorem q2182 : (Jvm.Cond.code ({ cls := "SendHallModel", name := "isIn", desc := "(III)Z" } : Jvm.MethodName) prog_21_method_5_code (3 : Nat) (Option.some Jvm.ClassFile.FieldType.boolean)) ∈ lw_all := lw_g (lw_at lw_m9 150 rfl) rfl
theorem q2183 : (Jvm.Cond.stringRef "SendHallModel" (297 : Nat) "most") ∈ lw_tbl := lw_at lw_m9 151 rfl
theorem q2184 : (Jvm.Cond.methodLink "SendHallModel" (298 : Nat) ({ cls := "SendHallModel", name := "readBranches", desc := "(II)V" } : Jvm.MethodName)) ∈ lw_all := lw_g (lw_at lw_m9 152 rfl) rfl
theorem q2185 : (Jvm.Cond.privateMethod ({ cls := "SendHallModel", name := "readBranches", desc := "(II)V" } : Jvm.MethodName)) ∈ lw_tbl := lw_at lw_m9 153 rfl
theorem q2186 : (Jvm.Cond.instanceMethod ({ cls := "SendHallModel", name := "readBranches", desc := "(II)V" } : Jvm.MethodName)) ∈ lw_all := lw_g (lw_at lw_m9 154 rfl) rfl
theorem q2187 : (Jvm.Cond.code ({ cls := "SendHallModel", name := "readBranches", desc := "(II)V" } : Jvm.MethodName) prog_21_method_26_code (3 : Nat) (Option.none : Option Jvm.ClassFile.FieldType)) ∈ lw_all := lw_g (lw_at lw_m9 155 rfl) rfl
theorem q2188 : (Jvm.Cond.stringRef "SendHallModel" (302 : Nat) "then") ∈ lw_tbl := lw_at lw_m9 156 rfl
theorem q2190 : (Jvm.Cond.instanceMethod ({ cls := "SendHallModel", name := "fault", desc := "()I" } : Jvm.MethodName)) ∈ lw_all := lw_g (lw_at lw_m9 158 rfl) rfl
theorem q2191 : (Jvm.Cond.selects "SendHallModel" ({ cls := "SendHallModel", name := "fault", desc := "()I" } : Jvm.MethodName) ({ cls := "SendHallModel", name := "fault", desc := "()I" } : Jvm.MethodName)) ∈ lw_all := lw_g (lw_at lw_m9 159 rfl) rfl
theorem q2192 : (Jvm.Cond.code ({ cls := "SendHallModel", name := "fault", desc := "()I" } : Jvm.MethodName) prog_21_method_29_code (1 : Nat) (Option.some Jvm.ClassFile.FieldType.int)) ∈ lw_all := lw_g (lw_at lw_m9 160 rfl) rfl
theorem q2194 : (Jvm.Cond.instanceMethod ({ cls := "SendHallModel", name := "world", desc := "(IIII)Z" } : Jvm.MethodName)) ∈ lw_all := lw_g (lw_at lw_m9 162 rfl) rfl
theorem q2195 : (Jvm.Cond.selects "SendHallModel" ({ cls := "SendHallModel", name := "world", desc := "(IIII)Z" } : Jvm.MethodName) ({ cls := "SendHallModel", name := "world", desc := "(IIII)Z" } : Jvm.MethodName)) ∈ lw_all := lw_g (lw_at lw_m9 163 rfl) rfl
theorem q2196 : (Jvm.Cond.code ({ cls := "SendHallModel", name := "world", desc := "(IIII)Z" } : Jvm.MethodName) prog_21_method_30_code (5 : Nat) (Option.some Jvm.ClassFile.FieldType.boolean)) ∈ lw_all := lw_g (lw_at lw_m9 164 rfl) rfl
theorem q2198 : (Jvm.Cond.instanceMethod ({ cls := "SendHallModel", name := "count", desc := "(I)I" } : Jvm.MethodName)) ∈ lw_all := lw_g (lw_at lw_m9 166 rfl) rfl
theorem q2199 : (Jvm.Cond.selects "SendHallModel" ({ cls := "SendHallModel", name := "count", desc := "(I)I" } : Jvm.MethodName) ({ cls := "SendHallModel", name := "count", desc := "(I)I" } : Jvm.MethodName)) ∈ lw_all := lw_g (lw_at lw_m9 167 rfl) rfl
theorem q2200 : (Jvm.Cond.code ({ cls := "SendHallModel", name := "count", desc := "(I)I" } : Jvm.MethodName) prog_21_method_32_code (2 : Nat) (Option.some Jvm.ClassFile.FieldType.int)) ∈ lw_all := lw_g (lw_at lw_m9 168 rfl) rfl
theorem q2201 : (Jvm.Cond.methodLink "SendHallModel" (331 : Nat) ({ cls := "SendHallModel", name := "anySteps", desc := "()I" } : Jvm.MethodName)) ∈ lw_all := lw_g (lw_at lw_m9 169 rfl) rfl
theorem q2202 : (Jvm.Cond.privateMethod ({ cls := "SendHallModel", name := "anySteps", desc := "()I" } : Jvm.MethodName)) ∈ lw_tbl := lw_at lw_m9 170 rfl
theorem q2203 : (Jvm.Cond.instanceMethod ({ cls := "SendHallModel", name := "anySteps", desc := "()I" } : Jvm.MethodName)) ∈ lw_all := lw_g (lw_at lw_m9 171 rfl) rfl
theorem q2204 : (Jvm.Cond.code ({ cls := "SendHallModel", name := "anySteps", desc := "()I" } : Jvm.MethodName) prog_21_method_31_code (3 : Nat) (Option.some Jvm.ClassFile.FieldType.int)) ∈ lw_all := lw_g (lw_at lw_m9 172 rfl) rfl
theorem q2206 : (Jvm.Cond.instanceMethod ({ cls := "SendHallModel", name := "step", desc := "(I)I" } : Jvm.MethodName)) ∈ lw_all := lw_g (lw_at lw_m9 174 rfl) rfl
theorem q2207 : (Jvm.Cond.selects "SendHallModel" ({ cls := "SendHallModel", name := "step", desc := "(I)I" } : Jvm.MethodName) ({ cls := "SendHallModel", name := "step", desc := "(I)I" } : Jvm.MethodName)) ∈ lw_all := lw_g (lw_at lw_m9 175 rfl) rfl
theorem q2208 : (Jvm.Cond.code ({ cls := "SendHallModel", name := "step", desc := "(I)I" } : Jvm.MethodName) prog_21_method_34_code (2 : Nat) (Option.some Jvm.ClassFile.FieldType.int)) ∈ lw_all := lw_g (lw_at lw_m9 176 rfl) rfl
theorem q2209 : (Jvm.Cond.methodLink "SendHallModel" (334 : Nat) ({ cls := "SendHallModel", name := "isStep", desc := "(I)Z" } : Jvm.MethodName)) ∈ lw_all := lw_g (lw_at lw_m9 177 rfl) rfl
theorem q2210 : (Jvm.Cond.privateMethod ({ cls := "SendHallModel", name := "isStep", desc := "(I)Z" } : Jvm.MethodName)) ∈ lw_tbl := lw_at lw_m9 178 rfl
theorem q2211 : (Jvm.Cond.instanceMethod ({ cls := "SendHallModel", name := "isStep", desc := "(I)Z" } : Jvm.MethodName)) ∈ lw_all := lw_g (lw_at lw_m9 179 rfl) rfl
theorem q2212 : (Jvm.Cond.code ({ cls := "SendHallModel", name := "isStep", desc := "(I)Z" } : Jvm.MethodName) prog_21_method_33_code (2 : Nat) (Option.some Jvm.ClassFile.FieldType.boolean)) ∈ lw_all := lw_g (lw_at lw_m9 180 rfl) rfl
theorem q2214 : (Jvm.Cond.instanceMethod ({ cls := "SendHallModel", name := "reached", desc := "()I" } : Jvm.MethodName)) ∈ lw_all := lw_g (lw_at lw_m9 182 rfl) rfl
theorem q2215 : (Jvm.Cond.selects "SendHallModel" ({ cls := "SendHallModel", name := "reached", desc := "()I" } : Jvm.MethodName) ({ cls := "SendHallModel", name := "reached", desc := "()I" } : Jvm.MethodName)) ∈ lw_all := lw_g (lw_at lw_m9 183 rfl) rfl
theorem q2216 : (Jvm.Cond.code ({ cls := "SendHallModel", name := "reached", desc := "()I" } : Jvm.MethodName) prog_21_method_74_code (1 : Nat) (Option.some Jvm.ClassFile.FieldType.int)) ∈ lw_all := lw_g (lw_at lw_m9 184 rfl) rfl
theorem q2217 : (Jvm.Cond.methodLink "SendHallModel" (483 : Nat) ({ cls := "SendHallModel", name := "tell", desc := "()Z" } : Jvm.MethodName)) ∈ lw_all := lw_g (lw_at lw_m9 185 rfl) rfl
theorem q2218 : (Jvm.Cond.privateMethod ({ cls := "SendHallModel", name := "tell", desc := "()Z" } : Jvm.MethodName)) ∈ lw_tbl := lw_at lw_m9 186 rfl
theorem q2219 : (Jvm.Cond.instanceMethod ({ cls := "SendHallModel", name := "tell", desc := "()Z" } : Jvm.MethodName)) ∈ lw_all := lw_g (lw_at lw_m9 187 rfl) rfl
theorem q2220 : (Jvm.Cond.code ({ cls := "SendHallModel", name := "tell", desc := "()Z" } : Jvm.MethodName) prog_21_method_73_code (2 : Nat) (Option.some Jvm.ClassFile.FieldType.boolean)) ∈ lw_all := lw_g (lw_at lw_m9 188 rfl) rfl
theorem q2221 : (Jvm.Cond.methodLink "SendHallModel" (470 : Nat) ({ cls := "SendHallModel", name := "go", desc := "()Z" } : Jvm.MethodName)) ∈ lw_all := lw_g (lw_at lw_m9 189 rfl) rfl
theorem q2222 : (Jvm.Cond.privateMethod ({ cls := "SendHallModel", name := "go", desc := "()Z" } : Jvm.MethodName)) ∈ lw_tbl := lw_at lw_m9 190 rfl
theorem q2223 : (Jvm.Cond.instanceMethod ({ cls := "SendHallModel", name := "go", desc := "()Z" } : Jvm.MethodName)) ∈ lw_all := lw_g (lw_at lw_m9 191 rfl) rfl
theorem q2224 : (Jvm.Cond.code ({ cls := "SendHallModel", name := "go", desc := "()Z" } : Jvm.MethodName) prog_21_method_68_code (2 : Nat) (Option.some Jvm.ClassFile.FieldType.boolean)) ∈ lw_all := lw_g (lw_at lw_m9 192 rfl) rfl
theorem q2225 : (Jvm.Cond.methodLink "SendHallModel" (456 : Nat) ({ cls := "SendHallModel", name := "begin", desc := "()V" } : Jvm.MethodName)) ∈ lw_all := lw_g (lw_at lw_m9 193 rfl) rfl
theorem q2226 : (Jvm.Cond.privateMethod ({ cls := "SendHallModel", name := "begin", desc := "()V" } : Jvm.MethodName)) ∈ lw_tbl := lw_at lw_m9 194 rfl
theorem q2227 : (Jvm.Cond.instanceMethod ({ cls := "SendHallModel", name := "begin", desc := "()V" } : Jvm.MethodName)) ∈ lw_all := lw_g (lw_at lw_m9 195 rfl) rfl
theorem q2228 : (Jvm.Cond.code ({ cls := "SendHallModel", name := "begin", desc := "()V" } : Jvm.MethodName) prog_21_method_46_code (2 : Nat) (Option.none : Option Jvm.ClassFile.FieldType)) ∈ lw_all := lw_g (lw_at lw_m9 196 rfl) rfl
theorem q2229 : (Jvm.Cond.methodLink "SendHallModel" (360 : Nat) ({ cls := "SendHallModel", name := "come", desc := "(II)V" } : Jvm.MethodName)) ∈ lw_all := lw_g (lw_at lw_m9 197 rfl) rfl
theorem q2230 : (Jvm.Cond.privateMethod ({ cls := "SendHallModel", name := "come", desc := "(II)V" } : Jvm.MethodName)) ∈ lw_tbl := lw_at lw_m9 198 rfl
theorem q2231 : (Jvm.Cond.instanceMethod ({ cls := "SendHallModel", name := "come", desc := "(II)V" } : Jvm.MethodName)) ∈ lw_all := lw_g (lw_at lw_m9 199 rfl) rfl
theorem q2232 : (Jvm.Cond.code ({ cls := "SendHallModel", name := "come", desc := "(II)V" } : Jvm.MethodName) prog_21_method_44_code (8 : Nat) (Option.none : Option Jvm.ClassFile.FieldType)) ∈ lw_all := lw_g (lw_at lw_m9 200 rfl) rfl
theorem q2233 : (Jvm.Cond.methodLink "SendHallModel" (350 : Nat) ({ cls := "SendHallModel", name := "put", desc := "(III)V" } : Jvm.MethodName)) ∈ lw_all := lw_g (lw_at lw_m9 201 rfl) rfl
theorem q2234 : (Jvm.Cond.privateMethod ({ cls := "SendHallModel", name := "put", desc := "(III)V" } : Jvm.MethodName)) ∈ lw_tbl := lw_at lw_m9 202 rfl
theorem q2235 : (Jvm.Cond.instanceMethod ({ cls := "SendHallModel", name := "put", desc := "(III)V" } : Jvm.MethodName)) ∈ lw_all := lw_g (lw_at lw_m9 203 rfl) rfl
theorem q2236 : (Jvm.Cond.code ({ cls := "SendHallModel", name := "put", desc := "(III)V" } : Jvm.MethodName) prog_21_method_36_code (4 : Nat) (Option.none : Option Jvm.ClassFile.FieldType)) ∈ lw_all := lw_g (lw_at lw_m9 204 rfl) rfl
theorem q2237 : (Jvm.Cond.methodLink "SendHallModel" (354 : Nat) ({ cls := "SendHallModel", name := "following", desc := "(I)I" } : Jvm.MethodName)) ∈ lw_all := lw_g (lw_at lw_m9 205 rfl) rfl
theorem q2238 : (Jvm.Cond.privateMethod ({ cls := "SendHallModel", name := "following", desc := "(I)I" } : Jvm.MethodName)) ∈ lw_tbl := lw_at lw_m9 206 rfl
theorem q2239 : (Jvm.Cond.instanceMethod ({ cls := "SendHallModel", name := "following", desc := "(I)I" } : Jvm.MethodName)) ∈ lw_all := lw_g (lw_at lw_m9 207 rfl) rfl
theorem q2240 : (Jvm.Cond.code ({ cls := "SendHallModel", name := "following", desc := "(I)I" } : Jvm.MethodName) prog_21_method_42_code (3 : Nat) (Option.some Jvm.ClassFile.FieldType.int)) ∈ lw_all := lw_g (lw_at lw_m9 208 rfl) rfl
theorem q2241 : (Jvm.Cond.methodLink "SendHallModel" (347 : Nat) ({ cls := "SendHallModel", name := "asked", desc := "(II)I" } : Jvm.MethodName)) ∈ lw_all := lw_g (lw_at lw_m9 209 rfl) rfl
theorem q2242 : (Jvm.Cond.privateMethod ({ cls := "SendHallModel", name := "asked", desc := "(II)I" } : Jvm.MethodName)) ∈ lw_tbl := lw_at lw_m9 210 rfl
theorem q2243 : (Jvm.Cond.instanceMethod ({ cls := "SendHallModel", name := "asked", desc := "(II)I" } : Jvm.MethodName)) ∈ lw_all := lw_g (lw_at lw_m9 211 rfl) rfl
theorem q2244 : (Jvm.Cond.code ({ cls := "SendHallModel", name := "asked", desc := "(II)I" } : Jvm.MethodName) prog_21_method_41_code (7 : Nat) (Option.some Jvm.ClassFile.FieldType.int)) ∈ lw_all := lw_g (lw_at lw_m9 212 rfl) rfl
theorem q2245 : (Jvm.Cond.methodLink "SendHallModel" (337 : Nat) ({ cls := "SendHallModel", name := "own", desc := "(II)I" } : Jvm.MethodName)) ∈ lw_all := lw_g (lw_at lw_m9 213 rfl) rfl
theorem q2246 : (Jvm.Cond.privateMethod ({ cls := "SendHallModel", name := "own", desc := "(II)I" } : Jvm.MethodName)) ∈ lw_tbl := lw_at lw_m9 214 rfl
theorem q2247 : (Jvm.Cond.instanceMethod ({ cls := "SendHallModel", name := "own", desc := "(II)I" } : Jvm.MethodName)) ∈ lw_all := lw_g (lw_at lw_m9 215 rfl) rfl
theorem q2248 : (Jvm.Cond.code ({ cls := "SendHallModel", name := "own", desc := "(II)I" } : Jvm.MethodName) prog_21_method_35_code (3 : Nat) (Option.some Jvm.ClassFile.FieldType.int)) ∈ lw_all := lw_g (lw_at lw_m9 216 rfl) rfl
theorem q2249 : (Jvm.Cond.methodLink "SendHallModel" (340 : Nat) ({ cls := "SendHallModel", name := "valueOf", desc := "(II)I" } : Jvm.MethodName)) ∈ lw_all := lw_g (lw_at lw_m9 217 rfl) rfl
theorem q2250 : (Jvm.Cond.privateMethod ({ cls := "SendHallModel", name := "valueOf", desc := "(II)I" } : Jvm.MethodName)) ∈ lw_tbl := lw_at lw_m9 218 rfl
theorem q2251 : (Jvm.Cond.instanceMethod ({ cls := "SendHallModel", name := "valueOf", desc := "(II)I" } : Jvm.MethodName)) ∈ lw_all := lw_g (lw_at lw_m9 219 rfl) rfl
theorem q2252 : (Jvm.Cond.code ({ cls := "SendHallModel", name := "valueOf", desc := "(II)I" } : Jvm.MethodName) prog_21_method_39_code (3 : Nat) (Option.some Jvm.ClassFile.FieldType.int)) ∈ lw_all := lw_g (lw_at lw_m9 220 rfl) rfl
theorem q2253 : (Jvm.Cond.methodLink "SendHallModel" (343 : Nat) ({ cls := "SendHallModel", name := "two", desc := "(III)I" } : Jvm.MethodName)) ∈ lw_all := lw_g (lw_at lw_m9 221 rfl) rfl
theorem q2254 : (Jvm.Cond.static ({ cls := "SendHallModel", name := "two", desc := "(III)I" } : Jvm.MethodName)) ∈ lw_all := lw_g (lw_at lw_m9 222 rfl) rfl
theorem q2255 : (Jvm.Cond.code ({ cls := "SendHallModel", name := "two", desc := "(III)I" } : Jvm.MethodName) prog_21_method_40_code (3 : Nat) (Option.some Jvm.ClassFile.FieldType.int)) ∈ lw_all := lw_g (lw_at lw_m9 223 rfl) rfl
theorem q2256 : (Jvm.Cond.methodLink "SendHallModel" (357 : Nat) ({ cls := "SendHallModel", name := "hasOther", desc := "(I)Z" } : Jvm.MethodName)) ∈ lw_all := lw_g (lw_at lw_m9 224 rfl) rfl
theorem q2257 : (Jvm.Cond.privateMethod ({ cls := "SendHallModel", name := "hasOther", desc := "(I)Z" } : Jvm.MethodName)) ∈ lw_tbl := lw_at lw_m9 225 rfl
theorem q2258 : (Jvm.Cond.instanceMethod ({ cls := "SendHallModel", name := "hasOther", desc := "(I)Z" } : Jvm.MethodName)) ∈ lw_all := lw_g (lw_at lw_m9 226 rfl) rfl
theorem q2259 : (Jvm.Cond.code ({ cls := "SendHallModel", name := "hasOther", desc := "(I)Z" } : Jvm.MethodName) prog_21_method_43_code (3 : Nat) (Option.some Jvm.ClassFile.FieldType.boolean)) ∈ lw_all := lw_g (lw_at lw_m9 227 rfl) rfl
theorem q2260 : (Jvm.Cond.methodLink "SendHallModel" (453 : Nat) ({ cls := "SendHallModel", name := "keep", desc := "()V" } : Jvm.MethodName)) ∈ lw_all := lw_g (lw_at lw_m9 228 rfl) rfl
theorem q2261 : (Jvm.Cond.privateMethod ({ cls := "SendHallModel", name := "keep", desc := "()V" } : Jvm.MethodName)) ∈ lw_tbl := lw_at lw_m9 229 rfl
theorem q2262 : (Jvm.Cond.instanceMethod ({ cls := "SendHallModel", name := "keep", desc := "()V" } : Jvm.MethodName)) ∈ lw_all := lw_g (lw_at lw_m9 230 rfl) rfl
theorem q2263 : (Jvm.Cond.code ({ cls := "SendHallModel", name := "keep", desc := "()V" } : Jvm.MethodName) prog_21_method_65_code (6 : Nat) (Option.none : Option Jvm.ClassFile.FieldType)) ∈ lw_all := lw_g (lw_at lw_m9 231 rfl) rfl
theorem q2264 : (Jvm.Cond.methodLink "SendHallModel" (363 : Nat) ({ cls := "SendHallModel", name := "words", desc := "()I" } : Jvm.MethodName)) ∈ lw_all := lw_g (lw_at lw_m9 232 rfl) rfl
theorem q2265 : (Jvm.Cond.privateMethod ({ cls := "SendHallModel", name := "words", desc := "()I" } : Jvm.MethodName)) ∈ lw_tbl := lw_at lw_m9 233 rfl
theorem q2266 : (Jvm.Cond.instanceMethod ({ cls := "SendHallModel", name := "words", desc := "()I" } : Jvm.MethodName)) ∈ lw_all := lw_g (lw_at lw_m9 234 rfl) rfl
theorem q2267 : (Jvm.Cond.code ({ cls := "SendHallModel", name := "words", desc := "()I" } : Jvm.MethodName) prog_21_method_38_code (1 : Nat) (Option.some Jvm.ClassFile.FieldType.int)) ∈ lw_all := lw_g (lw_at lw_m9 235 rfl) rfl
theorem q2268 : (Jvm.Cond.methodLink "SendHallModel" (437 : Nat) ({ cls := "SendHallModel", name := "used", desc := "(I)I" } : Jvm.MethodName)) ∈ lw_all := lw_g (lw_at lw_m9 236 rfl) rfl
theorem q2269 : (Jvm.Cond.privateMethod ({ cls := "SendHallModel", name := "used", desc := "(I)I" } : Jvm.MethodName)) ∈ lw_tbl := lw_at lw_m9 237 rfl
theorem q2270 : (Jvm.Cond.instanceMethod ({ cls := "SendHallModel", name := "used", desc := "(I)I" } : Jvm.MethodName)) ∈ lw_all := lw_g (lw_at lw_m9 238 rfl) rfl
theorem q2271 : (Jvm.Cond.code ({ cls := "SendHallModel", name := "used", desc := "(I)I" } : Jvm.MethodName) prog_21_method_64_code (2 : Nat) (Option.some Jvm.ClassFile.FieldType.int)) ∈ lw_all := lw_g (lw_at lw_m9 239 rfl) rfl
theorem q2272 : (Jvm.Cond.methodLink "SendHallModel" (458 : Nat) ({ cls := "SendHallModel", name := "from", desc := "(I)V" } : Jvm.MethodName)) ∈ lw_all := lw_g (lw_at lw_m10 0 rfl) rfl
theorem q2273 : (Jvm.Cond.privateMethod ({ cls := "SendHallModel", name := "from", desc := "(I)V" } : Jvm.MethodName)) ∈ lw_tbl := lw_at lw_m10 1 rfl
theorem q2274 : (Jvm.Cond.instanceMethod ({ cls := "SendHallModel", name := "from", desc := "(I)V" } : Jvm.MethodName)) ∈ lw_all := lw_g (lw_at lw_m10 2 rfl) rfl
theorem q2275 : (Jvm.Cond.code ({ cls := "SendHallModel", name := "from", desc := "(I)V" } : Jvm.MethodName) prog_21_method_67_code (5 : Nat) (Option.none : Option Jvm.ClassFile.FieldType)) ∈ lw_all := lw_g (lw_at lw_m10 3 rfl) rfl
theorem q2276 : (Jvm.Cond.methodLink "SendHallModel" (444 : Nat) ({ cls := "SendHallModel", name := "bring", desc := "(I)V" } : Jvm.MethodName)) ∈ lw_all := lw_g (lw_at lw_m10 4 rfl) rfl
theorem q2277 : (Jvm.Cond.privateMethod ({ cls := "SendHallModel", name := "bring", desc := "(I)V" } : Jvm.MethodName)) ∈ lw_tbl := lw_at lw_m10 5 rfl
theorem q2278 : (Jvm.Cond.instanceMethod ({ cls := "SendHallModel", name := "bring", desc := "(I)V" } : Jvm.MethodName)) ∈ lw_all := lw_g (lw_at lw_m10 6 rfl) rfl
theorem q2279 : (Jvm.Cond.code ({ cls := "SendHallModel", name := "bring", desc := "(I)V" } : Jvm.MethodName) prog_21_method_66_code (5 : Nat) (Option.none : Option Jvm.ClassFile.FieldType)) ∈ lw_all := lw_g (lw_at lw_m10 7 rfl) rfl
theorem q2280 : (Jvm.Cond.methodLink "SendHallModel" (375 : Nat) ({ cls := "SendHallModel", name := "isAt", desc := "(II)Z" } : Jvm.MethodName)) ∈ lw_all := lw_g (lw_at lw_m10 8 rfl) rfl
theorem q2281 : (Jvm.Cond.privateMethod ({ cls := "SendHallModel", name := "isAt", desc := "(II)Z" } : Jvm.MethodName)) ∈ lw_tbl := lw_at lw_m10 9 rfl
theorem q2282 : (Jvm.Cond.instanceMethod ({ cls := "SendHallModel", name := "isAt", desc := "(II)Z" } : Jvm.MethodName)) ∈ lw_all := lw_g (lw_at lw_m10 10 rfl) rfl
theorem q2283 : (Jvm.Cond.code ({ cls := "SendHallModel", name := "isAt", desc := "(II)Z" } : Jvm.MethodName) prog_21_method_47_code (4 : Nat) (Option.some Jvm.ClassFile.FieldType.boolean)) ∈ lw_all := lw_g (lw_at lw_m10 11 rfl) rfl
theorem q2284 : (Jvm.Cond.methodLink "SendHallModel" (447 : Nat) ({ cls := "SendHallModel", name := "can", desc := "(II)Z" } : Jvm.MethodName)) ∈ lw_all := lw_g (lw_at lw_m10 12 rfl) rfl
theorem q2285 : (Jvm.Cond.privateMethod ({ cls := "SendHallModel", name := "can", desc := "(II)Z" } : Jvm.MethodName)) ∈ lw_tbl := lw_at lw_m10 13 rfl
theorem q2286 : (Jvm.Cond.instanceMethod ({ cls := "SendHallModel", name := "can", desc := "(II)Z" } : Jvm.MethodName)) ∈ lw_all := lw_g (lw_at lw_m10 14 rfl) rfl
theorem q2287 : (Jvm.Cond.code ({ cls := "SendHallModel", name := "can", desc := "(II)Z" } : Jvm.MethodName) prog_21_method_56_code (4 : Nat) (Option.some Jvm.ClassFile.FieldType.boolean)) ∈ lw_all := lw_g (lw_at lw_m10 15 rfl) rfl
theorem q2288 : (Jvm.Cond.methodLink "SendHallModel" (382 : Nat) ({ cls := "SendHallModel", name := "sent", desc := "(II)I" } : Jvm.MethodName)) ∈ lw_all := lw_g (lw_at lw_m10 16 rfl) rfl
theorem q2289 : (Jvm.Cond.privateMethod ({ cls := "SendHallModel", name := "sent", desc := "(II)I" } : Jvm.MethodName)) ∈ lw_tbl := lw_at lw_m10 17 rfl
theorem q2290 : (Jvm.Cond.instanceMethod ({ cls := "SendHallModel", name := "sent", desc := "(II)I" } : Jvm.MethodName)) ∈ lw_all := lw_g (lw_at lw_m10 18 rfl) rfl
theorem q2291 : (Jvm.Cond.code ({ cls := "SendHallModel", name := "sent", desc := "(II)I" } : Jvm.MethodName) prog_21_method_49_code (6 : Nat) (Option.some Jvm.ClassFile.FieldType.int)) ∈ lw_all := lw_g (lw_at lw_m10 19 rfl) rfl
theorem q2292 : (Jvm.Cond.methodLink "SendHallModel" (366 : Nat) ({ cls := "SendHallModel", name := "wordAt", desc := "(I)I" } : Jvm.MethodName)) ∈ lw_all := lw_g (lw_at lw_m10 20 rfl) rfl
theorem q2293 : (Jvm.Cond.static ({ cls := "SendHallModel", name := "wordAt", desc := "(I)I" } : Jvm.MethodName)) ∈ lw_all := lw_g (lw_at lw_m10 21 rfl) rfl
theorem q2294 : (Jvm.Cond.code ({ cls := "SendHallModel", name := "wordAt", desc := "(I)I" } : Jvm.MethodName) prog_21_method_37_code (1 : Nat) (Option.some Jvm.ClassFile.FieldType.int)) ∈ lw_all := lw_g (lw_at lw_m10 22 rfl) rfl
theorem q2295 : (Jvm.Cond.methodLink "SendHallModel" (385 : Nat) ({ cls := "SendHallModel", name := "hands", desc := "(I)Z" } : Jvm.MethodName)) ∈ lw_all := lw_g (lw_at lw_m10 23 rfl) rfl
theorem q2296 : (Jvm.Cond.privateMethod ({ cls := "SendHallModel", name := "hands", desc := "(I)Z" } : Jvm.MethodName)) ∈ lw_tbl := lw_at lw_m10 24 rfl
theorem q2297 : (Jvm.Cond.instanceMethod ({ cls := "SendHallModel", name := "hands", desc := "(I)Z" } : Jvm.MethodName)) ∈ lw_all := lw_g (lw_at lw_m10 25 rfl) rfl
theorem q2298 : (Jvm.Cond.code ({ cls := "SendHallModel", name := "hands", desc := "(I)Z" } : Jvm.MethodName) prog_21_method_54_code (5 : Nat) (Option.some Jvm.ClassFile.FieldType.boolean)) ∈ lw_all := lw_g (lw_at lw_m10 26 rfl) rfl
theorem q2299 : (Jvm.Cond.methodLink "SendHallModel" (379 : Nat) ({ cls := "SendHallModel", name := "lying", desc := "(III)I" } : Jvm.MethodName)) ∈ lw_all := lw_g (lw_at lw_m10 27 rfl) rfl
theorem q2300 : (Jvm.Cond.privateMethod ({ cls := "SendHallModel", name := "lying", desc := "(III)I" } : Jvm.MethodName)) ∈ lw_tbl := lw_at lw_m10 28 rfl
theorem q2301 : (Jvm.Cond.instanceMethod ({ cls := "SendHallModel", name := "lying", desc := "(III)I" } : Jvm.MethodName)) ∈ lw_all := lw_g (lw_at lw_m10 29 rfl) rfl
theorem q2302 : (Jvm.Cond.code ({ cls := "SendHallModel", name := "lying", desc := "(III)I" } : Jvm.MethodName) prog_21_method_48_code (6 : Nat) (Option.some Jvm.ClassFile.FieldType.int)) ∈ lw_all := lw_g (lw_at lw_m10 30 rfl) rfl
theorem q2303 : (Jvm.Cond.methodLink "SendHallModel" (387 : Nat) ({ cls := "SendHallModel", name := "begun", desc := "(I)I" } : Jvm.MethodName)) ∈ lw_all := lw_g (lw_at lw_m10 31 rfl) rfl
theorem q2304 : (Jvm.Cond.privateMethod ({ cls := "SendHallModel", name := "begun", desc := "(I)I" } : Jvm.MethodName)) ∈ lw_tbl := lw_at lw_m10 32 rfl
theorem q2305 : (Jvm.Cond.instanceMethod ({ cls := "SendHallModel", name := "begun", desc := "(I)I" } : Jvm.MethodName)) ∈ lw_all := lw_g (lw_at lw_m10 33 rfl) rfl
theorem q2306 : (Jvm.Cond.code ({ cls := "SendHallModel", name := "begun", desc := "(I)I" } : Jvm.MethodName) prog_21_method_50_code (5 : Nat) (Option.some Jvm.ClassFile.FieldType.int)) ∈ lw_all := lw_g (lw_at lw_m10 34 rfl) rfl
theorem q2307 : (Jvm.Cond.methodLink "SendHallModel" (390 : Nat) ({ cls := "SendHallModel", name := "areAll", desc := "(I)Z" } : Jvm.MethodName)) ∈ lw_all := lw_g (lw_at lw_m10 35 rfl) rfl
theorem q2308 : (Jvm.Cond.privateMethod ({ cls := "SendHallModel", name := "areAll", desc := "(I)Z" } : Jvm.MethodName)) ∈ lw_tbl := lw_at lw_m10 36 rfl
theorem q2309 : (Jvm.Cond.instanceMethod ({ cls := "SendHallModel", name := "areAll", desc := "(I)Z" } : Jvm.MethodName)) ∈ lw_all := lw_g (lw_at lw_m10 37 rfl) rfl
theorem q2310 : (Jvm.Cond.code ({ cls := "SendHallModel", name := "areAll", desc := "(I)Z" } : Jvm.MethodName) prog_21_method_55_code (3 : Nat) (Option.some Jvm.ClassFile.FieldType.boolean)) ∈ lw_all := lw_g (lw_at lw_m10 38 rfl) rfl
theorem q2311 : (Jvm.Cond.methodLink "SendHallModel" (450 : Nat) ({ cls := "SendHallModel", name := "move", desc := "(II)V" } : Jvm.MethodName)) ∈ lw_all := lw_g (lw_at lw_m10 39 rfl) rfl
theorem q2312 : (Jvm.Cond.privateMethod ({ cls := "SendHallModel", name := "move", desc := "(II)V" } : Jvm.MethodName)) ∈ lw_tbl := lw_at lw_m10 40 rfl
theorem q2313 : (Jvm.Cond.instanceMethod ({ cls := "SendHallModel", name := "move", desc := "(II)V" } : Jvm.MethodName)) ∈ lw_all := lw_g (lw_at lw_m10 41 rfl) rfl
theorem q2314 : (Jvm.Cond.code ({ cls := "SendHallModel", name := "move", desc := "(II)V" } : Jvm.MethodName) prog_21_method_63_code (6 : Nat) (Option.none : Option Jvm.ClassFile.FieldType)) ∈ lw_all := lw_g (lw_at lw_m10 42 rfl) rfl
theorem q2315 : (Jvm.Cond.methodLink "SendHallModel" (421 : Nat) ({ cls := "SendHallModel", name := "lay", desc := "(IZ)V" } : Jvm.MethodName)) ∈ lw_all := lw_g (lw_at lw_m10 43 rfl) rfl
theorem q2316 : (Jvm.Cond.privateMethod ({ cls := "SendHallModel", name := "lay", desc := "(IZ)V" } : Jvm.MethodName)) ∈ lw_tbl := lw_at lw_m10 44 rfl
theorem q2317 : (Jvm.Cond.instanceMethod ({ cls := "SendHallModel", name := "lay", desc := "(IZ)V" } : Jvm.MethodName)) ∈ lw_all := lw_g (lw_at lw_m10 45 rfl) rfl
theorem q2318 : (Jvm.Cond.code ({ cls := "SendHallModel", name := "lay", desc := "(IZ)V" } : Jvm.MethodName) prog_21_method_51_code (8 : Nat) (Option.none : Option Jvm.ClassFile.FieldType)) ∈ lw_all := lw_g (lw_at lw_m10 46 rfl) rfl
theorem q2319 : (Jvm.Cond.methodLink "SendHallModel" (369 : Nat) ({ cls := "SendHallModel", name := "farOf", desc := "(II)I" } : Jvm.MethodName)) ∈ lw_all := lw_g (lw_at lw_m10 47 rfl) rfl
theorem q2320 : (Jvm.Cond.privateMethod ({ cls := "SendHallModel", name := "farOf", desc := "(II)I" } : Jvm.MethodName)) ∈ lw_tbl := lw_at lw_m10 48 rfl
theorem q2321 : (Jvm.Cond.instanceMethod ({ cls := "SendHallModel", name := "farOf", desc := "(II)I" } : Jvm.MethodName)) ∈ lw_all := lw_g (lw_at lw_m10 49 rfl) rfl
theorem q2322 : (Jvm.Cond.code ({ cls := "SendHallModel", name := "farOf", desc := "(II)I" } : Jvm.MethodName) prog_21_method_57_code (3 : Nat) (Option.some Jvm.ClassFile.FieldType.int)) ∈ lw_all := lw_g (lw_at lw_m10 50 rfl) rfl
theorem q2323 : (Jvm.Cond.methodLink "SendHallModel" (393 : Nat) ({ cls := "java/lang/Math", name := "abs", desc := "(I)I" } : Jvm.MethodName)) ∈ lw_all := lw_g (lw_at lw_m10 51 rfl) rfl
theorem q2324 : (Jvm.Cond.methodLink "SendHallModel" (372 : Nat) ({ cls := "SendHallModel", name := "goOn", desc := "(I)V" } : Jvm.MethodName)) ∈ lw_all := lw_g (lw_at lw_m10 52 rfl) rfl
theorem q2325 : (Jvm.Cond.privateMethod ({ cls := "SendHallModel", name := "goOn", desc := "(I)V" } : Jvm.MethodName)) ∈ lw_tbl := lw_at lw_m10 53 rfl
theorem q2326 : (Jvm.Cond.instanceMethod ({ cls := "SendHallModel", name := "goOn", desc := "(I)V" } : Jvm.MethodName)) ∈ lw_all := lw_g (lw_at lw_m10 54 rfl) rfl
theorem q2327 : (Jvm.Cond.code ({ cls := "SendHallModel", name := "goOn", desc := "(I)V" } : Jvm.MethodName) prog_21_method_45_code (3 : Nat) (Option.none : Option Jvm.ClassFile.FieldType)) ∈ lw_all := lw_g (lw_at lw_m10 55 rfl) rfl
theorem q2328 : (Jvm.Cond.methodLink "SendHallModel" (425 : Nat) ({ cls := "SendHallModel", name := "handOver", desc := "(I)V" } : Jvm.MethodName)) ∈ lw_all := lw_g (lw_at lw_m10 56 rfl) rfl
theorem q2329 : (Jvm.Cond.privateMethod ({ cls := "SendHallModel", name := "handOver", desc := "(I)V" } : Jvm.MethodName)) ∈ lw_tbl := lw_at lw_m10 57 rfl
theorem q2330 : (Jvm.Cond.instanceMethod ({ cls := "SendHallModel", name := "handOver", desc := "(I)V" } : Jvm.MethodName)) ∈ lw_all := lw_g (lw_at lw_m10 58 rfl) rfl
theorem q2331 : (Jvm.Cond.code ({ cls := "SendHallModel", name := "handOver", desc := "(I)V" } : Jvm.MethodName) prog_21_method_60_code (6 : Nat) (Option.none : Option Jvm.ClassFile.FieldType)) ∈ lw_all := lw_g (lw_at lw_m10 59 rfl) rfl
theorem q2332 : (Jvm.Cond.methodLink "SendHallModel" (396 : Nat) ({ cls := "java/lang/Math", name := "max", desc := "(II)I" } : Jvm.MethodName)) ∈ lw_all := lw_g (lw_at lw_m10 60 rfl) rfl
theorem q2333 : (Jvm.Cond.methodLink "SendHallModel" (399 : Nat) ({ cls := "SendHallModel", name := "upTo", desc := "(II)V" } : Jvm.MethodName)) ∈ lw_all := lw_g (lw_at lw_m10 61 rfl) rfl
theorem q2334 : (Jvm.Cond.privateMethod ({ cls := "SendHallModel", name := "upTo", desc := "(II)V" } : Jvm.MethodName)) ∈ lw_tbl := lw_at lw_m10 62 rfl
theorem q2335 : (Jvm.Cond.instanceMethod ({ cls := "SendHallModel", name := "upTo", desc := "(II)V" } : Jvm.MethodName)) ∈ lw_all := lw_g (lw_at lw_m10 63 rfl) rfl
theorem q2336 : (Jvm.Cond.code ({ cls := "SendHallModel", name := "upTo", desc := "(II)V" } : Jvm.MethodName) prog_21_method_58_code (4 : Nat) (Option.none : Option Jvm.ClassFile.FieldType)) ∈ lw_all := lw_g (lw_at lw_m10 64 rfl) rfl
theorem q2337 : (Jvm.Cond.methodLink "SendHallModel" (409 : Nat) ({ cls := "SendHallModel", name := "noteAny", desc := "(II)V" } : Jvm.MethodName)) ∈ lw_all := lw_g (lw_at lw_m10 65 rfl) rfl
theorem q2338 : (Jvm.Cond.privateMethod ({ cls := "SendHallModel", name := "noteAny", desc := "(II)V" } : Jvm.MethodName)) ∈ lw_tbl := lw_at lw_m10 66 rfl
theorem q2339 : (Jvm.Cond.instanceMethod ({ cls := "SendHallModel", name := "noteAny", desc := "(II)V" } : Jvm.MethodName)) ∈ lw_all := lw_g (lw_at lw_m10 67 rfl) rfl
theorem q2340 : (Jvm.Cond.code ({ cls := "SendHallModel", name := "noteAny", desc := "(II)V" } : Jvm.MethodName) prog_21_method_61_code (3 : Nat) (Option.none : Option Jvm.ClassFile.FieldType)) ∈ lw_all := lw_g (lw_at lw_m10 68 rfl) rfl
theorem q2341 : (Jvm.Cond.methodLink "SendHallModel" (405 : Nat) ({ cls := "SendHallModel", name := "has", desc := "(IIII)V" } : Jvm.MethodName)) ∈ lw_all := lw_g (lw_at lw_m10 69 rfl) rfl
theorem q2342 : (Jvm.Cond.privateMethod ({ cls := "SendHallModel", name := "has", desc := "(IIII)V" } : Jvm.MethodName)) ∈ lw_tbl := lw_at lw_m10 70 rfl
theorem q2343 : (Jvm.Cond.instanceMethod ({ cls := "SendHallModel", name := "has", desc := "(IIII)V" } : Jvm.MethodName)) ∈ lw_all := lw_g (lw_at lw_m10 71 rfl) rfl
theorem q2344 : (Jvm.Cond.code ({ cls := "SendHallModel", name := "has", desc := "(IIII)V" } : Jvm.MethodName) prog_21_method_53_code (6 : Nat) (Option.none : Option Jvm.ClassFile.FieldType)) ∈ lw_all := lw_g (lw_at lw_m10 72 rfl) rfl
theorem q2345 : (Jvm.Cond.methodLink "SendHallModel" (428 : Nat) ({ cls := "SendHallModel", name := "take", desc := "(III)V" } : Jvm.MethodName)) ∈ lw_all := lw_g (lw_at lw_m10 73 rfl) rfl
theorem q2346 : (Jvm.Cond.privateMethod ({ cls := "SendHallModel", name := "take", desc := "(III)V" } : Jvm.MethodName)) ∈ lw_tbl := lw_at lw_m10 74 rfl
theorem q2347 : (Jvm.Cond.instanceMethod ({ cls := "SendHallModel", name := "take", desc := "(III)V" } : Jvm.MethodName)) ∈ lw_all := lw_g (lw_at lw_m10 75 rfl) rfl
theorem q2348 : (Jvm.Cond.code ({ cls := "SendHallModel", name := "take", desc := "(III)V" } : Jvm.MethodName) prog_21_method_59_code (8 : Nat) (Option.none : Option Jvm.ClassFile.FieldType)) ∈ lw_all := lw_g (lw_at lw_m10 76 rfl) rfl
theorem q2349 : (Jvm.Cond.methodLink "SendHallModel" (402 : Nat) ({ cls := "SendHallModel", name := "takeAway", desc := "(I)V" } : Jvm.MethodName)) ∈ lw_all := lw_g (lw_at lw_m10 77 rfl) rfl
theorem q2350 : (Jvm.Cond.privateMethod ({ cls := "SendHallModel", name := "takeAway", desc := "(I)V" } : Jvm.MethodName)) ∈ lw_tbl := lw_at lw_m10 78 rfl
theorem q2351 : (Jvm.Cond.instanceMethod ({ cls := "SendHallModel", name := "takeAway", desc := "(I)V" } : Jvm.MethodName)) ∈ lw_all := lw_g (lw_at lw_m10 79 rfl) rfl
theorem q2352 : (Jvm.Cond.code ({ cls := "SendHallModel", name := "takeAway", desc := "(I)V" } : Jvm.MethodName) prog_21_method_52_code (5 : Nat) (Option.none : Option Jvm.ClassFile.FieldType)) ∈ lw_all := lw_g (lw_at lw_m10 80 rfl) rfl
theorem q2353 : (Jvm.Cond.methodLink "SendHallModel" (431 : Nat) ({ cls := "SendHallModel", name := "together", desc := "(I)V" } : Jvm.MethodName)) ∈ lw_all := lw_g (lw_at lw_m10 81 rfl) rfl
theorem q2354 : (Jvm.Cond.privateMethod ({ cls := "SendHallModel", name := "together", desc := "(I)V" } : Jvm.MethodName)) ∈ lw_tbl := lw_at lw_m10 82 rfl
theorem q2355 : (Jvm.Cond.instanceMethod ({ cls := "SendHallModel", name := "together", desc := "(I)V" } : Jvm.MethodName)) ∈ lw_all := lw_g (lw_at lw_m10 83 rfl) rfl
theorem q2356 : (Jvm.Cond.code ({ cls := "SendHallModel", name := "together", desc := "(I)V" } : Jvm.MethodName) prog_21_method_62_code (5 : Nat) (Option.none : Option Jvm.ClassFile.FieldType)) ∈ lw_all := lw_g (lw_at lw_m10 84 rfl) rfl
theorem q2357 : (Jvm.Cond.methodLink "SendHallModel" (474 : Nat) ({ cls := "SendHallModel", name := "showEnding", desc := "()V" } : Jvm.MethodName)) ∈ lw_all := lw_g (lw_at lw_m10 85 rfl) rfl
theorem q2358 : (Jvm.Cond.privateMethod ({ cls := "SendHallModel", name := "showEnding", desc := "()V" } : Jvm.MethodName)) ∈ lw_tbl := lw_at lw_m10 86 rfl
theorem q2359 : (Jvm.Cond.instanceMethod ({ cls := "SendHallModel", name := "showEnding", desc := "()V" } : Jvm.MethodName)) ∈ lw_all := lw_g (lw_at lw_m10 87 rfl) rfl
theorem q2360 : (Jvm.Cond.code ({ cls := "SendHallModel", name := "showEnding", desc := "()V" } : Jvm.MethodName) prog_21_method_72_code (6 : Nat) (Option.none : Option Jvm.ClassFile.FieldType)) ∈ lw_all := lw_g (lw_at lw_m10 88 rfl) rfl
theorem q2361 : (Jvm.Cond.methodLink "SendHallModel" (460 : Nat) ({ cls := "SendHallModel", name := "kindNow", desc := "()I" } : Jvm.MethodName)) ∈ lw_all := lw_g (lw_at lw_m10 89 rfl) rfl
theorem q2362 : (Jvm.Cond.privateMethod ({ cls := "SendHallModel", name := "kindNow", desc := "()I" } : Jvm.MethodName)) ∈ lw_tbl := lw_at lw_m10 90 rfl
theorem q2363 : (Jvm.Cond.instanceMethod ({ cls := "SendHallModel", name := "kindNow", desc := "()I" } : Jvm.MethodName)) ∈ lw_all := lw_g (lw_at lw_m10 91 rfl) rfl
theorem q2364 : (Jvm.Cond.code ({ cls := "SendHallModel", name := "kindNow", desc := "()I" } : Jvm.MethodName) prog_21_method_69_code (4 : Nat) (Option.some Jvm.ClassFile.FieldType.int)) ∈ lw_all := lw_g (lw_at lw_m10 92 rfl) rfl
theorem q2365 : (Jvm.Cond.methodLink "SendHallModel" (466 : Nat) ({ cls := "SendHallModel", name := "compare", desc := "([III)I" } : Jvm.MethodName)) ∈ lw_all := lw_g (lw_at lw_m10 93 rfl) rfl
theorem q2366 : (Jvm.Cond.static ({ cls := "SendHallModel", name := "compare", desc := "([III)I" } : Jvm.MethodName)) ∈ lw_all := lw_g (lw_at lw_m10 94 rfl) rfl
theorem q2367 : (Jvm.Cond.code ({ cls := "SendHallModel", name := "compare", desc := "([III)I" } : Jvm.MethodName) prog_21_method_71_code (4 : Nat) (Option.some Jvm.ClassFile.FieldType.int)) ∈ lw_all := lw_g (lw_at lw_m10 95 rfl) rfl
theorem q2369 : (Jvm.Cond.instanceMethod ({ cls := "SendHallModel", name := "endings", desc := "(I)I" } : Jvm.MethodName)) ∈ lw_all := lw_g (lw_at lw_m10 97 rfl) rfl
theorem q2370 : (Jvm.Cond.selects "SendHallModel" ({ cls := "SendHallModel", name := "endings", desc := "(I)I" } : Jvm.MethodName) ({ cls := "SendHallModel", name := "endings", desc := "(I)I" } : Jvm.MethodName)) ∈ lw_all := lw_g (lw_at lw_m10 98 rfl) rfl
theorem q2371 : (Jvm.Cond.code ({ cls := "SendHallModel", name := "endings", desc := "(I)I" } : Jvm.MethodName) prog_21_method_75_code (4 : Nat) (Option.some Jvm.ClassFile.FieldType.int)) ∈ lw_all := lw_g (lw_at lw_m10 99 rfl) rfl
theorem q2373 : (Jvm.Cond.instanceMethod ({ cls := "SendHallModel", name := "ending", desc := "(II)I" } : Jvm.MethodName)) ∈ lw_all := lw_g (lw_at lw_m10 101 rfl) rfl
theorem q2374 : (Jvm.Cond.selects "SendHallModel" ({ cls := "SendHallModel", name := "ending", desc := "(II)I" } : Jvm.MethodName) ({ cls := "SendHallModel", name := "ending", desc := "(II)I" } : Jvm.MethodName)) ∈ lw_all := lw_g (lw_at lw_m10 102 rfl) rfl
theorem q2375 : (Jvm.Cond.code ({ cls := "SendHallModel", name := "ending", desc := "(II)I" } : Jvm.MethodName) prog_21_method_76_code (5 : Nat) (Option.some Jvm.ClassFile.FieldType.int)) ∈ lw_all := lw_g (lw_at lw_m10 103 rfl) rfl
theorem q2377 : (Jvm.Cond.instanceMethod ({ cls := "SendHallModel", name := "differs", desc := "()Z" } : Jvm.MethodName)) ∈ lw_all := lw_g (lw_at lw_m10 105 rfl) rfl
theorem q2378 : (Jvm.Cond.selects "SendHallModel" ({ cls := "SendHallModel", name := "differs", desc := "()Z" } : Jvm.MethodName) ({ cls := "SendHallModel", name := "differs", desc := "()Z" } : Jvm.MethodName)) ∈ lw_all := lw_g (lw_at lw_m10 106 rfl) rfl
theorem q2379 : (Jvm.Cond.code ({ cls := "SendHallModel", name := "differs", desc := "()Z" } : Jvm.MethodName) prog_21_method_77_code (3 : Nat) (Option.some Jvm.ClassFile.FieldType.boolean)) ∈ lw_all := lw_g (lw_at lw_m10 107 rfl) rfl
theorem q2381 : (Jvm.Cond.instanceMethod ({ cls := "SendHallModel", name := "could", desc := "(II)I" } : Jvm.MethodName)) ∈ lw_all := lw_g (lw_at lw_m10 109 rfl) rfl
theorem q2382 : (Jvm.Cond.selects "SendHallModel" ({ cls := "SendHallModel", name := "could", desc := "(II)I" } : Jvm.MethodName) ({ cls := "SendHallModel", name := "could", desc := "(II)I" } : Jvm.MethodName)) ∈ lw_all := lw_g (lw_at lw_m10 110 rfl) rfl
theorem q2383 : (Jvm.Cond.code ({ cls := "SendHallModel", name := "could", desc := "(II)I" } : Jvm.MethodName) prog_21_method_79_code (3 : Nat) (Option.some Jvm.ClassFile.FieldType.int)) ∈ lw_all := lw_g (lw_at lw_m10 111 rfl) rfl
theorem q2384 : (Jvm.Cond.methodLink "SendHallModel" (485 : Nat) ({ cls := "SendHallModel", name := "isHand", desc := "(I)Z" } : Jvm.MethodName)) ∈ lw_all := lw_g (lw_at lw_m10 112 rfl) rfl
theorem q2385 : (Jvm.Cond.privateMethod ({ cls := "SendHallModel", name := "isHand", desc := "(I)Z" } : Jvm.MethodName)) ∈ lw_tbl := lw_at lw_m10 113 rfl
theorem q2386 : (Jvm.Cond.instanceMethod ({ cls := "SendHallModel", name := "isHand", desc := "(I)Z" } : Jvm.MethodName)) ∈ lw_all := lw_g (lw_at lw_m10 114 rfl) rfl
theorem q2387 : (Jvm.Cond.code ({ cls := "SendHallModel", name := "isHand", desc := "(I)Z" } : Jvm.MethodName) prog_21_method_78_code (2 : Nat) (Option.some Jvm.ClassFile.FieldType.boolean)) ∈ lw_all := lw_g (lw_at lw_m10 115 rfl) rfl
theorem q2389 : (Jvm.Cond.instanceMethod ({ cls := "SendHallModel", name := "needs", desc := "()I" } : Jvm.MethodName)) ∈ lw_all := lw_g (lw_at lw_m10 117 rfl) rfl
theorem q2390 : (Jvm.Cond.selects "SendHallModel" ({ cls := "SendHallModel", name := "needs", desc := "()I" } : Jvm.MethodName) ({ cls := "SendHallModel", name := "needs", desc := "()I" } : Jvm.MethodName)) ∈ lw_all := lw_g (lw_at lw_m10 118 rfl) rfl
theorem q2391 : (Jvm.Cond.code ({ cls := "SendHallModel", name := "needs", desc := "()I" } : Jvm.MethodName) prog_21_method_80_code (6 : Nat) (Option.some Jvm.ClassFile.FieldType.int)) ∈ lw_all := lw_g (lw_at lw_m10 119 rfl) rfl
theorem q2392 : (Jvm.Cond.methodLink "SendHallModel" (488 : Nat) ({ cls := "SendHallModel", name := "someLocks", desc := "()Z" } : Jvm.MethodName)) ∈ lw_all := lw_g (lw_at lw_m10 120 rfl) rfl
theorem q2393 : (Jvm.Cond.privateMethod ({ cls := "SendHallModel", name := "someLocks", desc := "()Z" } : Jvm.MethodName)) ∈ lw_tbl := lw_at lw_m10 121 rfl
theorem q2394 : (Jvm.Cond.instanceMethod ({ cls := "SendHallModel", name := "someLocks", desc := "()Z" } : Jvm.MethodName)) ∈ lw_all := lw_g (lw_at lw_m10 122 rfl) rfl
theorem q2395 : (Jvm.Cond.code ({ cls := "SendHallModel", name := "someLocks", desc := "()Z" } : Jvm.MethodName) prog_21_method_70_code (2 : Nat) (Option.some Jvm.ClassFile.FieldType.boolean)) ∈ lw_all := lw_g (lw_at lw_m10 123 rfl) rfl
theorem q2397 : (Jvm.Cond.instanceMethod ({ cls := "SendHallModel", name := "cut", desc := "()I" } : Jvm.MethodName)) ∈ lw_all := lw_g (lw_at lw_m10 125 rfl) rfl
theorem q2398 : (Jvm.Cond.selects "SendHallModel" ({ cls := "SendHallModel", name := "cut", desc := "()I" } : Jvm.MethodName) ({ cls := "SendHallModel", name := "cut", desc := "()I" } : Jvm.MethodName)) ∈ lw_all := lw_g (lw_at lw_m10 126 rfl) rfl
theorem q2399 : (Jvm.Cond.code ({ cls := "SendHallModel", name := "cut", desc := "()I" } : Jvm.MethodName) prog_21_method_81_code (4 : Nat) (Option.some Jvm.ClassFile.FieldType.int)) ∈ lw_all := lw_g (lw_at lw_m10 127 rfl) rfl
theorem q2401 : (Jvm.Cond.instanceMethod ({ cls := "SendHallModel", name := "left", desc := "(I)Z" } : Jvm.MethodName)) ∈ lw_all := lw_g (lw_at lw_m10 129 rfl) rfl
theorem q2402 : (Jvm.Cond.selects "SendHallModel" ({ cls := "SendHallModel", name := "left", desc := "(I)Z" } : Jvm.MethodName) ({ cls := "SendHallModel", name := "left", desc := "(I)Z" } : Jvm.MethodName)) ∈ lw_all := lw_g (lw_at lw_m10 130 rfl) rfl
theorem q2403 : (Jvm.Cond.code ({ cls := "SendHallModel", name := "left", desc := "(I)Z" } : Jvm.MethodName) prog_21_method_82_code (2 : Nat) (Option.some Jvm.ClassFile.FieldType.boolean)) ∈ lw_all := lw_g (lw_at lw_m10 131 rfl) rfl
theorem q2404 : (Jvm.Cond.methodLink "SendHallModel" (491 : Nat) ({ cls := "SendHallModel", name := "refuse", desc := "(I)Z" } : Jvm.MethodName)) ∈ lw_all := lw_g (lw_at lw_m10 132 rfl) rfl
theorem q2405 : (Jvm.Cond.privateMethod ({ cls := "SendHallModel", name := "refuse", desc := "(I)Z" } : Jvm.MethodName)) ∈ lw_tbl := lw_at lw_m10 133 rfl
theorem q2406 : (Jvm.Cond.instanceMethod ({ cls := "SendHallModel", name := "refuse", desc := "(I)Z" } : Jvm.MethodName)) ∈ lw_all := lw_g (lw_at lw_m10 134 rfl) rfl
theorem q2407 : (Jvm.Cond.code ({ cls := "SendHallModel", name := "refuse", desc := "(I)Z" } : Jvm.MethodName) prog_21_method_4_code (2 : Nat) (Option.some Jvm.ClassFile.FieldType.boolean)) ∈ lw_all := lw_g (lw_at lw_m10 135 rfl) rfl
theorem q2409 : (Jvm.Cond.instanceMethod ({ cls := "SendHallModel", name := "play", desc := "(IJ)I" } : Jvm.MethodName)) ∈ lw_all := lw_g (lw_at lw_m10 137 rfl) rfl
theorem q2410 : (Jvm.Cond.selects "SendHallModel" ({ cls := "SendHallModel", name := "play", desc := "(IJ)I" } : Jvm.MethodName) ({ cls := "SendHallModel", name := "play", desc := "(IJ)I" } : Jvm.MethodName)) ∈ lw_all := lw_g (lw_at lw_m10 138 rfl) rfl
theorem q2411 : (Jvm.Cond.code ({ cls := "SendHallModel", name := "play", desc := "(IJ)I" } : Jvm.MethodName) prog_21_method_86_code (6 : Nat) (Option.some Jvm.ClassFile.FieldType.int)) ∈ lw_all := lw_g (lw_at lw_m10 139 rfl) rfl
theorem q2412 : (Jvm.Cond.methodLink "SendHallModel" (500 : Nat) ({ cls := "SendHallModel", name := "run", desc := "(IJ)I" } : Jvm.MethodName)) ∈ lw_all := lw_g (lw_at lw_m10 140 rfl) rfl
theorem q2413 : (Jvm.Cond.privateMethod ({ cls := "SendHallModel", name := "run", desc := "(IJ)I" } : Jvm.MethodName)) ∈ lw_tbl := lw_at lw_m10 141 rfl
theorem q2414 : (Jvm.Cond.instanceMethod ({ cls := "SendHallModel", name := "run", desc := "(IJ)I" } : Jvm.MethodName)) ∈ lw_all := lw_g (lw_at lw_m10 142 rfl) rfl
theorem q2415 : (Jvm.Cond.code ({ cls := "SendHallModel", name := "run", desc := "(IJ)I" } : Jvm.MethodName) prog_21_method_83_code (9 : Nat) (Option.some Jvm.ClassFile.FieldType.int)) ∈ lw_all := lw_g (lw_at lw_m10 143 rfl) rfl
theorem q2416 : (Jvm.Cond.methodLink "SendHallModel" (504 : Nat) ({ cls := "SendHallModel", name := "waitsFor", desc := "(I)I" } : Jvm.MethodName)) ∈ lw_all := lw_g (lw_at lw_m10 144 rfl) rfl
theorem q2417 : (Jvm.Cond.privateMethod ({ cls := "SendHallModel", name := "waitsFor", desc := "(I)I" } : Jvm.MethodName)) ∈ lw_tbl := lw_at lw_m10 145 rfl
theorem q2418 : (Jvm.Cond.instanceMethod ({ cls := "SendHallModel", name := "waitsFor", desc := "(I)I" } : Jvm.MethodName)) ∈ lw_all := lw_g (lw_at lw_m10 146 rfl) rfl
theorem q2419 : (Jvm.Cond.code ({ cls := "SendHallModel", name := "waitsFor", desc := "(I)I" } : Jvm.MethodName) prog_21_method_84_code (5 : Nat) (Option.some Jvm.ClassFile.FieldType.int)) ∈ lw_all := lw_g (lw_at lw_m10 147 rfl) rfl
theorem q2420 : (Jvm.Cond.methodLink "SendHallModel" (507 : Nat) ({ cls := "SendHallModel", name := "tellRing", desc := "()V" } : Jvm.MethodName)) ∈ lw_all := lw_g (lw_at lw_m10 148 rfl) rfl
theorem q2421 : (Jvm.Cond.privateMethod ({ cls := "SendHallModel", name := "tellRing", desc := "()V" } : Jvm.MethodName)) ∈ lw_tbl := lw_at lw_m10 149 rfl
theorem q2422 : (Jvm.Cond.instanceMethod ({ cls := "SendHallModel", name := "tellRing", desc := "()V" } : Jvm.MethodName)) ∈ lw_all := lw_g (lw_at lw_m10 150 rfl) rfl
theorem q2423 : (Jvm.Cond.code ({ cls := "SendHallModel", name := "tellRing", desc := "()V" } : Jvm.MethodName) prog_21_method_85_code (5 : Nat) (Option.none : Option Jvm.ClassFile.FieldType)) ∈ lw_all := lw_g (lw_at lw_m10 151 rfl) rfl
theorem q2425 : (Jvm.Cond.instanceMethod ({ cls := "SendHallModel", name := "of", desc := "(II)I" } : Jvm.MethodName)) ∈ lw_all := lw_g (lw_at lw_m10 153 rfl) rfl
theorem q2426 : (Jvm.Cond.selects "SendHallModel" ({ cls := "SendHallModel", name := "of", desc := "(II)I" } : Jvm.MethodName) ({ cls := "SendHallModel", name := "of", desc := "(II)I" } : Jvm.MethodName)) ∈ lw_all := lw_g (lw_at lw_m10 154 rfl) rfl
theorem q2427 : (Jvm.Cond.code ({ cls := "SendHallModel", name := "of", desc := "(II)I" } : Jvm.MethodName) prog_21_method_88_code (4 : Nat) (Option.some Jvm.ClassFile.FieldType.int)) ∈ lw_all := lw_g (lw_at lw_m10 155 rfl) rfl
theorem q2428 : (Jvm.Cond.methodLink "SendHallModel" (516 : Nat) ({ cls := "SendHallModel", name := "hasPlay", desc := "()Z" } : Jvm.MethodName)) ∈ lw_all := lw_g (lw_at lw_m10 156 rfl) rfl
theorem q2429 : (Jvm.Cond.privateMethod ({ cls := "SendHallModel", name := "hasPlay", desc := "()Z" } : Jvm.MethodName)) ∈ lw_tbl := lw_at lw_m10 157 rfl
theorem q2430 : (Jvm.Cond.instanceMethod ({ cls := "SendHallModel", name := "hasPlay", desc := "()Z" } : Jvm.MethodName)) ∈ lw_all := lw_g (lw_at lw_m10 158 rfl) rfl
theorem q2431 : (Jvm.Cond.code ({ cls := "SendHallModel", name := "hasPlay", desc := "()Z" } : Jvm.MethodName) prog_21_method_87_code (1 : Nat) (Option.some Jvm.ClassFile.FieldType.boolean)) ∈ lw_all := lw_g (lw_at lw_m10 159 rfl) rfl
theorem q2433 : (Jvm.Cond.instanceMethod ({ cls := "SendHallModel", name := "ring", desc := "(I)I" } : Jvm.MethodName)) ∈ lw_all := lw_g (lw_at lw_m10 161 rfl) rfl
theorem q2434 : (Jvm.Cond.selects "SendHallModel" ({ cls := "SendHallModel", name := "ring", desc := "(I)I" } : Jvm.MethodName) ({ cls := "SendHallModel", name := "ring", desc := "(I)I" } : Jvm.MethodName)) ∈ lw_all := lw_g (lw_at lw_m10 162 rfl) rfl
theorem q2435 : (Jvm.Cond.code ({ cls := "SendHallModel", name := "ring", desc := "(I)I" } : Jvm.MethodName) prog_21_method_89_code (2 : Nat) (Option.some Jvm.ClassFile.FieldType.int)) ∈ lw_all := lw_g (lw_at lw_m10 163 rfl) rfl
theorem q2437 : (Jvm.Cond.instanceMethod ({ cls := "SendHallModel", name := "chose", desc := "(I)I" } : Jvm.MethodName)) ∈ lw_all := lw_g (lw_at lw_m10 165 rfl) rfl
theorem q2438 : (Jvm.Cond.selects "SendHallModel" ({ cls := "SendHallModel", name := "chose", desc := "(I)I" } : Jvm.MethodName) ({ cls := "SendHallModel", name := "chose", desc := "(I)I" } : Jvm.MethodName)) ∈ lw_all := lw_g (lw_at lw_m10 166 rfl) rfl
theorem q2439 : (Jvm.Cond.code ({ cls := "SendHallModel", name := "chose", desc := "(I)I" } : Jvm.MethodName) prog_21_method_90_code (2 : Nat) (Option.some Jvm.ClassFile.FieldType.int)) ∈ lw_all := lw_g (lw_at lw_m10 167 rfl) rfl
theorem q2441 : (Jvm.Cond.instanceMethod ({ cls := "SendHallModel", name := "least", desc := "(I)I" } : Jvm.MethodName)) ∈ lw_all := lw_g (lw_at lw_m10 169 rfl) rfl
theorem q2442 : (Jvm.Cond.selects "SendHallModel" ({ cls := "SendHallModel", name := "least", desc := "(I)I" } : Jvm.MethodName) ({ cls := "SendHallModel", name := "least", desc := "(I)I" } : Jvm.MethodName)) ∈ lw_all := lw_g (lw_at lw_m10 170 rfl) rfl
theorem q2443 : (Jvm.Cond.code ({ cls := "SendHallModel", name := "least", desc := "(I)I" } : Jvm.MethodName) prog_21_method_91_code (6 : Nat) (Option.some Jvm.ClassFile.FieldType.int)) ∈ lw_all := lw_g (lw_at lw_m10 171 rfl) rfl
theorem q2472 : (Jvm.Cond.castable "SendHallModel" "java/lang/Object") ∈ lw_tbl := lw_at lw_m10 200 rfl
theorem in_X4 : ∀ w ∈ wsX40, w ∈ lw_all := lw_in wsX40 [1935, 1937, 1939, 1941, 1943, 1945, 1947, 1949, 1951, 1953, 1955, 1957, 1959, 1961, 1963, 1965, 1967, 1969, 1971, 1973, 1975, 1977, 1979, 1981, 1983, 1985, 1987, 1989, 1991, 1993, 1995, 1997, 1999, 2001, 2003, 2005, 2007, 2009, 2011, 2013, 2015, 2017, 2019, 2021, 2023, 2025, 2027, 2029, 2031, 2033, 2035, 2037, 2039, 2041, 2043, 2045, 2047, 2049, 2051, 2053, 2055, 2057, 2059, 2061, 2063, 2065, 2067, 2069, 2071, 2073] (by decide +kernel) (by decide +kernel)
