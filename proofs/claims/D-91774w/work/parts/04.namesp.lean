/-! SendHall -/
set_option maxRecDepth 100000
def RX1 : String := "SendHall"
def TX1 : u_T := fun k => match k with
  | 0 => ("SendHall", "n", "I", false)
  | 1 => ("SendHall", "room", "I", false)
  | 2 => ("SendHall", "near", "I", false)
  | 3 => ("SendHall", "wide", "I", false)
  | 4 => ("SendHall", "text", "LSendHall$Text;", false)
  | 5 => ("SendHall", "out", "[Z", true)
  | 6 => ("SendHall", "clock", "[I", true)
  | 7 => ("SendHall", "waited", "[I", true)
  | 8 => ("SendHall", "doneAt", "[I", true)
  | 9 => ("SendHall", "tape", "[B", true)
  | 10 => ("SendHall", "taped", "I", false)
  | 11 => ("SendHall", "faultPlace", "I", false)
  | 12 => ("SendHall", "pool", "[LSendHall$Life;", true)
  | 13 => ("SendHall", "isFound", "Z", false)
  | 14 => ("SendHall", "isSpent", "Z", false)
  | 15 => ("SendHall", "reached", "I", false)
  | 16 => ("SendHall", "endings", "Ljava/util/ArrayList;", true)
  | 17 => ("SendHall", "could", "[I", true)
  | 18 => ("SendHall", "hasCut", "Z", false)
  | 19 => ("SendHall", "cutOut", "[Z", true)
  | 20 => ("SendHall", "played", "LSendHall$Life;", true)
  | 21 => ("SendHall", "hasPlay", "Z", false)
  | 22 => ("SendHall", "chosen", "[I", true)
  | 23 => ("SendHall", "told", "[I", true)
  | 24 => ("SendHall", "ring", "[I", true)
  | 25 => ("SendHall", "choices", "I", false)
  | 26 => ("SendHall", "toldMany", "I", false)
  | 27 => ("SendHall", "rings", "I", false)
  | 28 => ("SendHall", "keptClock", "[I", true)
  | 29 => ("SendHall", "keptWaited", "[I", true)
  | 30 => ("SendHall", "keptChosen", "[I", true)
  | 31 => ("SendHall", "keptChoices", "I", false)
  | _ => ("SendHall", "trying", "LSendHall$Life;", true)
def tyX1 : Nat → FieldType := fun k => match k with
  | 0 => .int
  | 1 => .int
  | 2 => .int
  | 3 => .int
  | 4 => .object "SendHall$Text"
  | 5 => .array .boolean
  | 6 => .array .int
  | 7 => .array .int
  | 8 => .array .int
  | 9 => .array .byte
  | 10 => .int
  | 11 => .int
  | 12 => .array (.object "SendHall$Life")
  | 13 => .boolean
  | 14 => .boolean
  | 15 => .int
  | 16 => .object "java/util/ArrayList"
  | 17 => .array .int
  | 18 => .boolean
  | 19 => .array .boolean
  | 20 => .object "SendHall$Life"
  | 21 => .boolean
  | 22 => .array .int
  | 23 => .array .int
  | 24 => .array .int
  | 25 => .int
  | 26 => .int
  | 27 => .int
  | 28 => .array .int
  | 29 => .array .int
  | 30 => .array .int
  | 31 => .int
  | _ => .object "SendHall$Life"
abbrev wsX10 : List Cond := u_ws RX1 TX1 33
set_option maxRecDepth 100000 in
theorem nmX1 : ∀ a, a < 33 → ∀ b, b < 33 → a ≠ b → (TX1 a).2.1 ≠ (TX1 b).2.1 := by decide +kernel
set_option maxRecDepth 100000 in
theorem tyX1_ok : ∀ k, k < 33 → parseFieldDescriptor (TX1 k).2.2.1 = some (tyX1 k) := by decide +kernel
abbrev cX1_init : ByteArray := prog_1_method_17_code
def yX1_init : MethodName := ⟨RX1, "<init>", "()V"⟩
def dkwX1_init_8 : List UInt8 := [180, 0, 225, 27, 187, 0, 22, 89, 183, 0, 240, 83, 132, 1, 1, 167, 255, 233, 177]
abbrev dktX1_init_8 : List UInt8 := dkwX1_init_8 ++ []
def dkwX1_init_7 : List UInt8 := [181, 1, 2, 42, 187, 0, 22, 89, 183, 0, 240, 181, 1, 5, 3, 60, 27, 17, 0, 200, 163, 0, 22, 42]
abbrev dktX1_init_7 : List UInt8 := dkwX1_init_7 ++ dktX1_init_8
def dkwX1_init_6 : List UInt8 := [42, 16, 8, 188, 10, 181, 0, 252, 42, 16, 8, 188, 10, 181, 0, 255, 42, 17, 1, 64, 188, 10]
abbrev dktX1_init_6 : List UInt8 := dkwX1_init_6 ++ dktX1_init_7
def dkwX1_init_5 : List UInt8 := [17, 1, 64, 188, 10, 181, 0, 245, 42, 16, 16, 188, 10, 181, 0, 248, 42, 16, 8, 188, 10, 181, 0, 249]
abbrev dktX1_init_5 : List UInt8 := dkwX1_init_5 ++ dktX1_init_6
def dkwX1_init_4 : List UInt8 := [181, 0, 234, 42, 16, 40, 188, 4, 181, 0, 237, 42, 187, 0, 22, 89, 183, 0, 240, 181, 0, 241, 42]
abbrev dktX1_init_4 : List UInt8 := dkwX1_init_4 ++ dktX1_init_5
def dkwX1_init_3 : List UInt8 := [189, 0, 22, 181, 0, 225, 42, 187, 0, 208, 89, 5, 183, 0, 229, 181, 0, 231, 42, 17, 1, 64, 188, 10]
abbrev dktX1_init_3 : List UInt8 := dkwX1_init_3 ++ dktX1_init_4
def dkwX1_init_2 : List UInt8 := [188, 10, 181, 0, 129, 42, 17, 2, 188, 188, 8, 181, 0, 218, 42, 2, 181, 0, 222, 42, 17, 0, 201]
abbrev dktX1_init_2 : List UInt8 := dkwX1_init_2 ++ dktX1_init_3
def dkwX1_init_1 : List UInt8 := [188, 4, 181, 0, 1, 42, 16, 8, 188, 10, 181, 0, 136, 42, 16, 8, 188, 10, 181, 0, 191, 42, 16, 8]
abbrev dktX1_init_1 : List UInt8 := dkwX1_init_1 ++ dktX1_init_2
def dkwX1_init_0 : List UInt8 := [42, 183, 0, 213, 42, 5, 181, 0, 216, 42, 187, 0, 51, 89, 183, 0, 217, 181, 0, 46, 42, 16, 40]
abbrev dktX1_init_0 : List UInt8 := dkwX1_init_0 ++ dktX1_init_1
theorem dksX1_init_0 : cX1_init.data.toList.drop 0 = dktX1_init_0 := by decide +kernel
theorem dksX1_init_1 : cX1_init.data.toList.drop 23 = dktX1_init_1 := dk_seg dksX1_init_0 23 rfl rfl
theorem dksX1_init_2 : cX1_init.data.toList.drop 47 = dktX1_init_2 := dk_seg dksX1_init_1 24 rfl rfl
theorem dksX1_init_3 : cX1_init.data.toList.drop 70 = dktX1_init_3 := dk_seg dksX1_init_2 23 rfl rfl
theorem dksX1_init_4 : cX1_init.data.toList.drop 94 = dktX1_init_4 := dk_seg dksX1_init_3 24 rfl rfl
theorem dksX1_init_5 : cX1_init.data.toList.drop 117 = dktX1_init_5 := dk_seg dksX1_init_4 23 rfl rfl
theorem dksX1_init_6 : cX1_init.data.toList.drop 141 = dktX1_init_6 := dk_seg dksX1_init_5 24 rfl rfl
theorem dksX1_init_7 : cX1_init.data.toList.drop 163 = dktX1_init_7 := dk_seg dksX1_init_6 22 rfl rfl
theorem dksX1_init_8 : cX1_init.data.toList.drop 187 = dktX1_init_8 := dk_seg dksX1_init_7 24 rfl rfl
theorem dX1_init_0 : decode cX1_init 0 = .ok (.aload_n 0, 1) := dk_42 (dk_at dksX1_init_0 0 rfl rfl)
theorem dX1_init_1 : decode cX1_init 1 = .ok (.invokespecial 213, 3) := dk_183 0 213 (dk_at dksX1_init_0 1 rfl rfl)
theorem dX1_init_4 : decode cX1_init 4 = .ok (.aload_n 0, 1) := dk_42 (dk_at dksX1_init_0 4 rfl rfl)
theorem dX1_init_5 : decode cX1_init 5 = .ok (.iconst 2, 1) := dk_5 (dk_at dksX1_init_0 5 rfl rfl)
theorem dX1_init_6 : decode cX1_init 6 = .ok (.putfield 216, 3) := dk_181 0 216 (dk_at dksX1_init_0 6 rfl rfl)
theorem dX1_init_9 : decode cX1_init 9 = .ok (.aload_n 0, 1) := dk_42 (dk_at dksX1_init_0 9 rfl rfl)
theorem dX1_init_10 : decode cX1_init 10 = .ok (.new 51, 3) := dk_187 0 51 (dk_at dksX1_init_0 10 rfl rfl)
theorem dX1_init_13 : decode cX1_init 13 = .ok (.dup, 1) := dk_89 (dk_at dksX1_init_0 13 rfl rfl)
theorem dX1_init_14 : decode cX1_init 14 = .ok (.invokespecial 217, 3) := dk_183 0 217 (dk_at dksX1_init_0 14 rfl rfl)
theorem dX1_init_17 : decode cX1_init 17 = .ok (.putfield 46, 3) := dk_181 0 46 (dk_at dksX1_init_0 17 rfl rfl)
theorem dX1_init_20 : decode cX1_init 20 = .ok (.aload_n 0, 1) := dk_42 (dk_at dksX1_init_0 20 rfl rfl)
theorem dX1_init_21 : decode cX1_init 21 = .ok (.bipush 40, 2) := dk_16 40 (dk_at dksX1_init_0 21 rfl rfl)
theorem dX1_init_23 : decode cX1_init 23 = .ok (.newarray .boolean, 2) := dk_188_4 (dk_at dksX1_init_1 0 rfl rfl)
theorem dX1_init_25 : decode cX1_init 25 = .ok (.putfield 1, 3) := dk_181 0 1 (dk_at dksX1_init_1 2 rfl rfl)
theorem dX1_init_28 : decode cX1_init 28 = .ok (.aload_n 0, 1) := dk_42 (dk_at dksX1_init_1 5 rfl rfl)
theorem dX1_init_29 : decode cX1_init 29 = .ok (.bipush 8, 2) := dk_16 8 (dk_at dksX1_init_1 6 rfl rfl)
theorem dX1_init_31 : decode cX1_init 31 = .ok (.newarray .int, 2) := dk_188_10 (dk_at dksX1_init_1 8 rfl rfl)
theorem dX1_init_33 : decode cX1_init 33 = .ok (.putfield 136, 3) := dk_181 0 136 (dk_at dksX1_init_1 10 rfl rfl)
theorem dX1_init_36 : decode cX1_init 36 = .ok (.aload_n 0, 1) := dk_42 (dk_at dksX1_init_1 13 rfl rfl)
theorem dX1_init_37 : decode cX1_init 37 = .ok (.bipush 8, 2) := dk_16 8 (dk_at dksX1_init_1 14 rfl rfl)
theorem dX1_init_39 : decode cX1_init 39 = .ok (.newarray .int, 2) := dk_188_10 (dk_at dksX1_init_1 16 rfl rfl)
theorem dX1_init_41 : decode cX1_init 41 = .ok (.putfield 191, 3) := dk_181 0 191 (dk_at dksX1_init_1 18 rfl rfl)
theorem dX1_init_44 : decode cX1_init 44 = .ok (.aload_n 0, 1) := dk_42 (dk_at dksX1_init_1 21 rfl rfl)
theorem dX1_init_45 : decode cX1_init 45 = .ok (.bipush 8, 2) := dk_16 8 (dk_at dksX1_init_1 22 rfl rfl)
theorem dX1_init_47 : decode cX1_init 47 = .ok (.newarray .int, 2) := dk_188_10 (dk_at dksX1_init_2 0 rfl rfl)
theorem dX1_init_49 : decode cX1_init 49 = .ok (.putfield 129, 3) := dk_181 0 129 (dk_at dksX1_init_2 2 rfl rfl)
theorem dX1_init_52 : decode cX1_init 52 = .ok (.aload_n 0, 1) := dk_42 (dk_at dksX1_init_2 5 rfl rfl)
theorem dX1_init_53 : decode cX1_init 53 = .ok (.sipush 700, 3) := dk_17 2 188 (dk_at dksX1_init_2 6 rfl rfl)
theorem dX1_init_56 : decode cX1_init 56 = .ok (.newarray .byte, 2) := dk_188_8 (dk_at dksX1_init_2 9 rfl rfl)
theorem dX1_init_58 : decode cX1_init 58 = .ok (.putfield 218, 3) := dk_181 0 218 (dk_at dksX1_init_2 11 rfl rfl)
theorem dX1_init_61 : decode cX1_init 61 = .ok (.aload_n 0, 1) := dk_42 (dk_at dksX1_init_2 14 rfl rfl)
theorem dX1_init_62 : decode cX1_init 62 = .ok (.iconst (-1), 1) := dk_2 (dk_at dksX1_init_2 15 rfl rfl)
theorem dX1_init_63 : decode cX1_init 63 = .ok (.putfield 222, 3) := dk_181 0 222 (dk_at dksX1_init_2 16 rfl rfl)
theorem dX1_init_66 : decode cX1_init 66 = .ok (.aload_n 0, 1) := dk_42 (dk_at dksX1_init_2 19 rfl rfl)
theorem dX1_init_67 : decode cX1_init 67 = .ok (.sipush 201, 3) := dk_17 0 201 (dk_at dksX1_init_2 20 rfl rfl)
theorem dX1_init_70 : decode cX1_init 70 = .ok (.anewarray 22, 3) := dk_189 0 22 (dk_at dksX1_init_3 0 rfl rfl)
theorem dX1_init_73 : decode cX1_init 73 = .ok (.putfield 225, 3) := dk_181 0 225 (dk_at dksX1_init_3 3 rfl rfl)
theorem dX1_init_76 : decode cX1_init 76 = .ok (.aload_n 0, 1) := dk_42 (dk_at dksX1_init_3 6 rfl rfl)
theorem dX1_init_77 : decode cX1_init 77 = .ok (.new 208, 3) := dk_187 0 208 (dk_at dksX1_init_3 7 rfl rfl)
theorem dX1_init_80 : decode cX1_init 80 = .ok (.dup, 1) := dk_89 (dk_at dksX1_init_3 10 rfl rfl)
theorem dX1_init_81 : decode cX1_init 81 = .ok (.iconst 2, 1) := dk_5 (dk_at dksX1_init_3 11 rfl rfl)
theorem dX1_init_82 : decode cX1_init 82 = .ok (.invokespecial 229, 3) := dk_183 0 229 (dk_at dksX1_init_3 12 rfl rfl)
theorem dX1_init_85 : decode cX1_init 85 = .ok (.putfield 231, 3) := dk_181 0 231 (dk_at dksX1_init_3 15 rfl rfl)
theorem dX1_init_88 : decode cX1_init 88 = .ok (.aload_n 0, 1) := dk_42 (dk_at dksX1_init_3 18 rfl rfl)
theorem dX1_init_89 : decode cX1_init 89 = .ok (.sipush 320, 3) := dk_17 1 64 (dk_at dksX1_init_3 19 rfl rfl)
theorem dX1_init_92 : decode cX1_init 92 = .ok (.newarray .int, 2) := dk_188_10 (dk_at dksX1_init_3 22 rfl rfl)
theorem dX1_init_94 : decode cX1_init 94 = .ok (.putfield 234, 3) := dk_181 0 234 (dk_at dksX1_init_4 0 rfl rfl)
theorem dX1_init_97 : decode cX1_init 97 = .ok (.aload_n 0, 1) := dk_42 (dk_at dksX1_init_4 3 rfl rfl)
theorem dX1_init_98 : decode cX1_init 98 = .ok (.bipush 40, 2) := dk_16 40 (dk_at dksX1_init_4 4 rfl rfl)
theorem dX1_init_100 : decode cX1_init 100 = .ok (.newarray .boolean, 2) := dk_188_4 (dk_at dksX1_init_4 6 rfl rfl)
theorem dX1_init_102 : decode cX1_init 102 = .ok (.putfield 237, 3) := dk_181 0 237 (dk_at dksX1_init_4 8 rfl rfl)
theorem dX1_init_105 : decode cX1_init 105 = .ok (.aload_n 0, 1) := dk_42 (dk_at dksX1_init_4 11 rfl rfl)
theorem dX1_init_106 : decode cX1_init 106 = .ok (.new 22, 3) := dk_187 0 22 (dk_at dksX1_init_4 12 rfl rfl)
theorem dX1_init_109 : decode cX1_init 109 = .ok (.dup, 1) := dk_89 (dk_at dksX1_init_4 15 rfl rfl)
theorem dX1_init_110 : decode cX1_init 110 = .ok (.invokespecial 240, 3) := dk_183 0 240 (dk_at dksX1_init_4 16 rfl rfl)
theorem dX1_init_113 : decode cX1_init 113 = .ok (.putfield 241, 3) := dk_181 0 241 (dk_at dksX1_init_4 19 rfl rfl)
theorem dX1_init_116 : decode cX1_init 116 = .ok (.aload_n 0, 1) := dk_42 (dk_at dksX1_init_4 22 rfl rfl)
theorem dX1_init_117 : decode cX1_init 117 = .ok (.sipush 320, 3) := dk_17 1 64 (dk_at dksX1_init_5 0 rfl rfl)
theorem dX1_init_120 : decode cX1_init 120 = .ok (.newarray .int, 2) := dk_188_10 (dk_at dksX1_init_5 3 rfl rfl)
theorem dX1_init_122 : decode cX1_init 122 = .ok (.putfield 245, 3) := dk_181 0 245 (dk_at dksX1_init_5 5 rfl rfl)
theorem dX1_init_125 : decode cX1_init 125 = .ok (.aload_n 0, 1) := dk_42 (dk_at dksX1_init_5 8 rfl rfl)
theorem dX1_init_126 : decode cX1_init 126 = .ok (.bipush 16, 2) := dk_16 16 (dk_at dksX1_init_5 9 rfl rfl)
theorem dX1_init_128 : decode cX1_init 128 = .ok (.newarray .int, 2) := dk_188_10 (dk_at dksX1_init_5 11 rfl rfl)
theorem dX1_init_130 : decode cX1_init 130 = .ok (.putfield 248, 3) := dk_181 0 248 (dk_at dksX1_init_5 13 rfl rfl)
theorem dX1_init_133 : decode cX1_init 133 = .ok (.aload_n 0, 1) := dk_42 (dk_at dksX1_init_5 16 rfl rfl)
theorem dX1_init_134 : decode cX1_init 134 = .ok (.bipush 8, 2) := dk_16 8 (dk_at dksX1_init_5 17 rfl rfl)
theorem dX1_init_136 : decode cX1_init 136 = .ok (.newarray .int, 2) := dk_188_10 (dk_at dksX1_init_5 19 rfl rfl)
theorem dX1_init_138 : decode cX1_init 138 = .ok (.putfield 249, 3) := dk_181 0 249 (dk_at dksX1_init_5 21 rfl rfl)
theorem dX1_init_141 : decode cX1_init 141 = .ok (.aload_n 0, 1) := dk_42 (dk_at dksX1_init_6 0 rfl rfl)
theorem dX1_init_142 : decode cX1_init 142 = .ok (.bipush 8, 2) := dk_16 8 (dk_at dksX1_init_6 1 rfl rfl)
theorem dX1_init_144 : decode cX1_init 144 = .ok (.newarray .int, 2) := dk_188_10 (dk_at dksX1_init_6 3 rfl rfl)
theorem dX1_init_146 : decode cX1_init 146 = .ok (.putfield 252, 3) := dk_181 0 252 (dk_at dksX1_init_6 5 rfl rfl)
theorem dX1_init_149 : decode cX1_init 149 = .ok (.aload_n 0, 1) := dk_42 (dk_at dksX1_init_6 8 rfl rfl)
theorem dX1_init_150 : decode cX1_init 150 = .ok (.bipush 8, 2) := dk_16 8 (dk_at dksX1_init_6 9 rfl rfl)
theorem dX1_init_152 : decode cX1_init 152 = .ok (.newarray .int, 2) := dk_188_10 (dk_at dksX1_init_6 11 rfl rfl)
theorem dX1_init_154 : decode cX1_init 154 = .ok (.putfield 255, 3) := dk_181 0 255 (dk_at dksX1_init_6 13 rfl rfl)
theorem dX1_init_157 : decode cX1_init 157 = .ok (.aload_n 0, 1) := dk_42 (dk_at dksX1_init_6 16 rfl rfl)
theorem dX1_init_158 : decode cX1_init 158 = .ok (.sipush 320, 3) := dk_17 1 64 (dk_at dksX1_init_6 17 rfl rfl)
theorem dX1_init_161 : decode cX1_init 161 = .ok (.newarray .int, 2) := dk_188_10 (dk_at dksX1_init_6 20 rfl rfl)
theorem dX1_init_163 : decode cX1_init 163 = .ok (.putfield 258, 3) := dk_181 1 2 (dk_at dksX1_init_7 0 rfl rfl)
theorem dX1_init_166 : decode cX1_init 166 = .ok (.aload_n 0, 1) := dk_42 (dk_at dksX1_init_7 3 rfl rfl)
theorem dX1_init_167 : decode cX1_init 167 = .ok (.new 22, 3) := dk_187 0 22 (dk_at dksX1_init_7 4 rfl rfl)
theorem dX1_init_170 : decode cX1_init 170 = .ok (.dup, 1) := dk_89 (dk_at dksX1_init_7 7 rfl rfl)
theorem dX1_init_171 : decode cX1_init 171 = .ok (.invokespecial 240, 3) := dk_183 0 240 (dk_at dksX1_init_7 8 rfl rfl)
theorem dX1_init_174 : decode cX1_init 174 = .ok (.putfield 261, 3) := dk_181 1 5 (dk_at dksX1_init_7 11 rfl rfl)
theorem dX1_init_177 : decode cX1_init 177 = .ok (.iconst 0, 1) := dk_3 (dk_at dksX1_init_7 14 rfl rfl)
theorem dX1_init_178 : decode cX1_init 178 = .ok (.istore_n 1, 1) := dk_60 (dk_at dksX1_init_7 15 rfl rfl)
theorem dX1_init_179 : decode cX1_init 179 = .ok (.iload_n 1, 1) := dk_27 (dk_at dksX1_init_7 16 rfl rfl)
theorem dX1_init_180 : decode cX1_init 180 = .ok (.sipush 200, 3) := dk_17 0 200 (dk_at dksX1_init_7 17 rfl rfl)
theorem dX1_init_183 : decode cX1_init 183 = .ok (.if_icmp .gt 22, 3) := dk_163 0 22 (dk_at dksX1_init_7 20 rfl rfl)
theorem dX1_init_186 : decode cX1_init 186 = .ok (.aload_n 0, 1) := dk_42 (dk_at dksX1_init_7 23 rfl rfl)
theorem dX1_init_187 : decode cX1_init 187 = .ok (.getfield 225, 3) := dk_180 0 225 (dk_at dksX1_init_8 0 rfl rfl)
theorem dX1_init_190 : decode cX1_init 190 = .ok (.iload_n 1, 1) := dk_27 (dk_at dksX1_init_8 3 rfl rfl)
theorem dX1_init_191 : decode cX1_init 191 = .ok (.new 22, 3) := dk_187 0 22 (dk_at dksX1_init_8 4 rfl rfl)
theorem dX1_init_194 : decode cX1_init 194 = .ok (.dup, 1) := dk_89 (dk_at dksX1_init_8 7 rfl rfl)
theorem dX1_init_195 : decode cX1_init 195 = .ok (.invokespecial 240, 3) := dk_183 0 240 (dk_at dksX1_init_8 8 rfl rfl)
theorem dX1_init_198 : decode cX1_init 198 = .ok (.aastore, 1) := dk_83 (dk_at dksX1_init_8 11 rfl rfl)
theorem dX1_init_199 : decode cX1_init 199 = .ok (.iinc 1 1, 3) := dk_132 1 1 (dk_at dksX1_init_8 12 rfl rfl)
theorem dX1_init_202 : decode cX1_init 202 = .ok (.goto (-23), 3) := dk_167 255 233 (dk_at dksX1_init_8 15 rfl rfl)
theorem dX1_init_205 : decode cX1_init 205 = .ok (.return_, 1) := dk_177 (dk_at dksX1_init_8 18 rfl rfl)
abbrev cX1_feed : ByteArray := prog_1_method_18_code
def yX1_feed : MethodName := ⟨RX1, "feed", "(IIIII)I"⟩
def dkwX1_feed_2 : List UInt8 := [172]
abbrev dktX1_feed_2 : List UInt8 := dkwX1_feed_2 ++ []
def dkwX1_feed_1 : List UInt8 := [182, 1, 11, 42, 29, 182, 1, 11, 42, 21, 4, 182, 1, 11, 42, 21, 5, 182, 1, 11, 42, 180, 1, 8]
abbrev dktX1_feed_1 : List UInt8 := dkwX1_feed_1 ++ dktX1_feed_2
def dkwX1_feed_0 : List UInt8 := [42, 180, 1, 8, 16, 20, 96, 17, 2, 188, 164, 0, 5, 2, 172, 42, 27, 182, 1, 11, 42, 28]
abbrev dktX1_feed_0 : List UInt8 := dkwX1_feed_0 ++ dktX1_feed_1
theorem dksX1_feed_0 : cX1_feed.data.toList.drop 0 = dktX1_feed_0 := by decide +kernel
theorem dksX1_feed_1 : cX1_feed.data.toList.drop 22 = dktX1_feed_1 := dk_seg dksX1_feed_0 22 rfl rfl
theorem dksX1_feed_2 : cX1_feed.data.toList.drop 46 = dktX1_feed_2 := dk_seg dksX1_feed_1 24 rfl rfl
theorem dX1_feed_0 : decode cX1_feed 0 = .ok (.aload_n 0, 1) := dk_42 (dk_at dksX1_feed_0 0 rfl rfl)
theorem dX1_feed_1 : decode cX1_feed 1 = .ok (.getfield 264, 3) := dk_180 1 8 (dk_at dksX1_feed_0 1 rfl rfl)
theorem dX1_feed_4 : decode cX1_feed 4 = .ok (.bipush 20, 2) := dk_16 20 (dk_at dksX1_feed_0 4 rfl rfl)
theorem dX1_feed_6 : decode cX1_feed 6 = .ok (.iadd, 1) := dk_96 (dk_at dksX1_feed_0 6 rfl rfl)
theorem dX1_feed_7 : decode cX1_feed 7 = .ok (.sipush 700, 3) := dk_17 2 188 (dk_at dksX1_feed_0 7 rfl rfl)
theorem dX1_feed_10 : decode cX1_feed 10 = .ok (.if_icmp .le 5, 3) := dk_164 0 5 (dk_at dksX1_feed_0 10 rfl rfl)
theorem dX1_feed_13 : decode cX1_feed 13 = .ok (.iconst (-1), 1) := dk_2 (dk_at dksX1_feed_0 13 rfl rfl)
theorem dX1_feed_14 : decode cX1_feed 14 = .ok (.ireturn, 1) := dk_172 (dk_at dksX1_feed_0 14 rfl rfl)
theorem dX1_feed_15 : decode cX1_feed 15 = .ok (.aload_n 0, 1) := dk_42 (dk_at dksX1_feed_0 15 rfl rfl)
theorem dX1_feed_16 : decode cX1_feed 16 = .ok (.iload_n 1, 1) := dk_27 (dk_at dksX1_feed_0 16 rfl rfl)
theorem dX1_feed_17 : decode cX1_feed 17 = .ok (.invokevirtual 267, 3) := dk_182 1 11 (dk_at dksX1_feed_0 17 rfl rfl)
theorem dX1_feed_20 : decode cX1_feed 20 = .ok (.aload_n 0, 1) := dk_42 (dk_at dksX1_feed_0 20 rfl rfl)
theorem dX1_feed_21 : decode cX1_feed 21 = .ok (.iload_n 2, 1) := dk_28 (dk_at dksX1_feed_0 21 rfl rfl)
theorem dX1_feed_22 : decode cX1_feed 22 = .ok (.invokevirtual 267, 3) := dk_182 1 11 (dk_at dksX1_feed_1 0 rfl rfl)
theorem dX1_feed_25 : decode cX1_feed 25 = .ok (.aload_n 0, 1) := dk_42 (dk_at dksX1_feed_1 3 rfl rfl)
theorem dX1_feed_26 : decode cX1_feed 26 = .ok (.iload_n 3, 1) := dk_29 (dk_at dksX1_feed_1 4 rfl rfl)
theorem dX1_feed_27 : decode cX1_feed 27 = .ok (.invokevirtual 267, 3) := dk_182 1 11 (dk_at dksX1_feed_1 5 rfl rfl)
theorem dX1_feed_30 : decode cX1_feed 30 = .ok (.aload_n 0, 1) := dk_42 (dk_at dksX1_feed_1 8 rfl rfl)
theorem dX1_feed_31 : decode cX1_feed 31 = .ok (.iload 4, 2) := dk_21 4 (dk_at dksX1_feed_1 9 rfl rfl)
theorem dX1_feed_33 : decode cX1_feed 33 = .ok (.invokevirtual 267, 3) := dk_182 1 11 (dk_at dksX1_feed_1 11 rfl rfl)
theorem dX1_feed_36 : decode cX1_feed 36 = .ok (.aload_n 0, 1) := dk_42 (dk_at dksX1_feed_1 14 rfl rfl)
theorem dX1_feed_37 : decode cX1_feed 37 = .ok (.iload 5, 2) := dk_21 5 (dk_at dksX1_feed_1 15 rfl rfl)
theorem dX1_feed_39 : decode cX1_feed 39 = .ok (.invokevirtual 267, 3) := dk_182 1 11 (dk_at dksX1_feed_1 17 rfl rfl)
theorem dX1_feed_42 : decode cX1_feed 42 = .ok (.aload_n 0, 1) := dk_42 (dk_at dksX1_feed_1 20 rfl rfl)
theorem dX1_feed_43 : decode cX1_feed 43 = .ok (.getfield 264, 3) := dk_180 1 8 (dk_at dksX1_feed_1 21 rfl rfl)
theorem dX1_feed_46 : decode cX1_feed 46 = .ok (.ireturn, 1) := dk_172 (dk_at dksX1_feed_2 0 rfl rfl)
abbrev cX1_lay : ByteArray := prog_1_method_19_code
def yX1_lay : MethodName := ⟨RX1, "lay", "(I)V"⟩
def dkwX1_lay_1 : List UInt8 := [180, 1, 8, 4, 96, 181, 1, 8, 132, 2, 248, 167, 255, 226, 177]
abbrev dktX1_lay_1 : List UInt8 := dkwX1_lay_1 ++ []
def dkwX1_lay_0 : List UInt8 := [16, 24, 61, 28, 155, 0, 32, 42, 180, 0, 218, 42, 180, 1, 8, 27, 28, 122, 145, 84, 42, 89]
abbrev dktX1_lay_0 : List UInt8 := dkwX1_lay_0 ++ dktX1_lay_1
theorem dksX1_lay_0 : cX1_lay.data.toList.drop 0 = dktX1_lay_0 := by decide +kernel
theorem dksX1_lay_1 : cX1_lay.data.toList.drop 22 = dktX1_lay_1 := dk_seg dksX1_lay_0 22 rfl rfl
theorem dX1_lay_0 : decode cX1_lay 0 = .ok (.bipush 24, 2) := dk_16 24 (dk_at dksX1_lay_0 0 rfl rfl)
theorem dX1_lay_2 : decode cX1_lay 2 = .ok (.istore_n 2, 1) := dk_61 (dk_at dksX1_lay_0 2 rfl rfl)
theorem dX1_lay_3 : decode cX1_lay 3 = .ok (.iload_n 2, 1) := dk_28 (dk_at dksX1_lay_0 3 rfl rfl)
theorem dX1_lay_4 : decode cX1_lay 4 = .ok (.ifCond .lt 32, 3) := dk_155 0 32 (dk_at dksX1_lay_0 4 rfl rfl)
theorem dX1_lay_7 : decode cX1_lay 7 = .ok (.aload_n 0, 1) := dk_42 (dk_at dksX1_lay_0 7 rfl rfl)
theorem dX1_lay_8 : decode cX1_lay 8 = .ok (.getfield 218, 3) := dk_180 0 218 (dk_at dksX1_lay_0 8 rfl rfl)
theorem dX1_lay_11 : decode cX1_lay 11 = .ok (.aload_n 0, 1) := dk_42 (dk_at dksX1_lay_0 11 rfl rfl)
theorem dX1_lay_12 : decode cX1_lay 12 = .ok (.getfield 264, 3) := dk_180 1 8 (dk_at dksX1_lay_0 12 rfl rfl)
theorem dX1_lay_15 : decode cX1_lay 15 = .ok (.iload_n 1, 1) := dk_27 (dk_at dksX1_lay_0 15 rfl rfl)
theorem dX1_lay_16 : decode cX1_lay 16 = .ok (.iload_n 2, 1) := dk_28 (dk_at dksX1_lay_0 16 rfl rfl)
theorem dX1_lay_17 : decode cX1_lay 17 = .ok (.ishr, 1) := dk_122 (dk_at dksX1_lay_0 17 rfl rfl)
theorem dX1_lay_18 : decode cX1_lay 18 = .ok (.i2b, 1) := dk_145 (dk_at dksX1_lay_0 18 rfl rfl)
theorem dX1_lay_19 : decode cX1_lay 19 = .ok (.bastore, 1) := dk_84 (dk_at dksX1_lay_0 19 rfl rfl)
theorem dX1_lay_20 : decode cX1_lay 20 = .ok (.aload_n 0, 1) := dk_42 (dk_at dksX1_lay_0 20 rfl rfl)
theorem dX1_lay_21 : decode cX1_lay 21 = .ok (.dup, 1) := dk_89 (dk_at dksX1_lay_0 21 rfl rfl)
theorem dX1_lay_22 : decode cX1_lay 22 = .ok (.getfield 264, 3) := dk_180 1 8 (dk_at dksX1_lay_1 0 rfl rfl)
theorem dX1_lay_25 : decode cX1_lay 25 = .ok (.iconst 1, 1) := dk_4 (dk_at dksX1_lay_1 3 rfl rfl)
theorem dX1_lay_26 : decode cX1_lay 26 = .ok (.iadd, 1) := dk_96 (dk_at dksX1_lay_1 4 rfl rfl)
theorem dX1_lay_27 : decode cX1_lay 27 = .ok (.putfield 264, 3) := dk_181 1 8 (dk_at dksX1_lay_1 5 rfl rfl)
theorem dX1_lay_30 : decode cX1_lay 30 = .ok (.iinc 2 (-8), 3) := dk_132 2 248 (dk_at dksX1_lay_1 8 rfl rfl)
theorem dX1_lay_33 : decode cX1_lay 33 = .ok (.goto (-30), 3) := dk_167 255 226 (dk_at dksX1_lay_1 11 rfl rfl)
theorem dX1_lay_36 : decode cX1_lay 36 = .ok (.return_, 1) := dk_177 (dk_at dksX1_lay_1 14 rfl rfl)
abbrev cX1_fault : ByteArray := prog_1_method_21_code
def yX1_fault : MethodName := ⟨RX1, "fault", "()I"⟩
theorem dX1_fault_0 : decode cX1_fault 0 = .ok (.aload_n 0, 1) := by decide +kernel
theorem dX1_fault_1 : decode cX1_fault 1 = .ok (.getfield 222, 3) := by decide +kernel
theorem dX1_fault_4 : decode cX1_fault 4 = .ok (.ireturn, 1) := by decide +kernel
abbrev cX1_world : ByteArray := prog_1_method_22_code
def yX1_world : MethodName := ⟨RX1, "world", "(IIII)Z"⟩
def dkwX1_world_4 : List UInt8 := [181, 0, 146, 4, 172]
abbrev dktX1_world_4 : List UInt8 := dkwX1_world_4 ++ []
def dkwX1_world_3 : List UInt8 := [42, 3, 181, 1, 27, 42, 27, 181, 0, 216, 42, 28, 181, 1, 47, 42, 29, 181, 0, 143, 42, 21, 4]
abbrev dktX1_world_3 : List UInt8 := dkwX1_world_3 ++ dktX1_world_4
def dkwX1_world_2 : List UInt8 := [159, 0, 8, 42, 3, 181, 1, 34, 27, 42, 180, 0, 216, 160, 0, 11, 28, 42, 180, 1, 47, 159, 0, 8]
abbrev dktX1_world_2 : List UInt8 := dkwX1_world_2 ++ dktX1_world_3
def dkwX1_world_1 : List UInt8 := [184, 1, 43, 153, 0, 14, 21, 4, 3, 16, 99, 184, 1, 43, 154, 0, 5, 3, 172, 27, 42, 180, 0, 216]
abbrev dktX1_world_1 : List UInt8 := dkwX1_world_1 ++ dktX1_world_2
def dkwX1_world_0 : List UInt8 := [27, 5, 16, 8, 184, 1, 43, 153, 0, 33, 28, 3, 6, 184, 1, 43, 153, 0, 24, 29, 3, 16, 99]
abbrev dktX1_world_0 : List UInt8 := dkwX1_world_0 ++ dktX1_world_1
theorem dksX1_world_0 : cX1_world.data.toList.drop 0 = dktX1_world_0 := by decide +kernel
theorem dksX1_world_1 : cX1_world.data.toList.drop 23 = dktX1_world_1 := dk_seg dksX1_world_0 23 rfl rfl
theorem dksX1_world_2 : cX1_world.data.toList.drop 47 = dktX1_world_2 := dk_seg dksX1_world_1 24 rfl rfl
theorem dksX1_world_3 : cX1_world.data.toList.drop 71 = dktX1_world_3 := dk_seg dksX1_world_2 24 rfl rfl
theorem dksX1_world_4 : cX1_world.data.toList.drop 94 = dktX1_world_4 := dk_seg dksX1_world_3 23 rfl rfl
theorem dX1_world_0 : decode cX1_world 0 = .ok (.iload_n 1, 1) := dk_27 (dk_at dksX1_world_0 0 rfl rfl)
theorem dX1_world_1 : decode cX1_world 1 = .ok (.iconst 2, 1) := dk_5 (dk_at dksX1_world_0 1 rfl rfl)
theorem dX1_world_2 : decode cX1_world 2 = .ok (.bipush 8, 2) := dk_16 8 (dk_at dksX1_world_0 2 rfl rfl)
theorem dX1_world_4 : decode cX1_world 4 = .ok (.invokestatic 299, 3) := dk_184 1 43 (dk_at dksX1_world_0 4 rfl rfl)
theorem dX1_world_7 : decode cX1_world 7 = .ok (.ifCond .eq 33, 3) := dk_153 0 33 (dk_at dksX1_world_0 7 rfl rfl)
theorem dX1_world_10 : decode cX1_world 10 = .ok (.iload_n 2, 1) := dk_28 (dk_at dksX1_world_0 10 rfl rfl)
theorem dX1_world_11 : decode cX1_world 11 = .ok (.iconst 0, 1) := dk_3 (dk_at dksX1_world_0 11 rfl rfl)
theorem dX1_world_12 : decode cX1_world 12 = .ok (.iconst 3, 1) := dk_6 (dk_at dksX1_world_0 12 rfl rfl)
theorem dX1_world_13 : decode cX1_world 13 = .ok (.invokestatic 299, 3) := dk_184 1 43 (dk_at dksX1_world_0 13 rfl rfl)
theorem dX1_world_16 : decode cX1_world 16 = .ok (.ifCond .eq 24, 3) := dk_153 0 24 (dk_at dksX1_world_0 16 rfl rfl)
theorem dX1_world_19 : decode cX1_world 19 = .ok (.iload_n 3, 1) := dk_29 (dk_at dksX1_world_0 19 rfl rfl)
theorem dX1_world_20 : decode cX1_world 20 = .ok (.iconst 0, 1) := dk_3 (dk_at dksX1_world_0 20 rfl rfl)
theorem dX1_world_21 : decode cX1_world 21 = .ok (.bipush 99, 2) := dk_16 99 (dk_at dksX1_world_0 21 rfl rfl)
theorem dX1_world_23 : decode cX1_world 23 = .ok (.invokestatic 299, 3) := dk_184 1 43 (dk_at dksX1_world_1 0 rfl rfl)
theorem dX1_world_26 : decode cX1_world 26 = .ok (.ifCond .eq 14, 3) := dk_153 0 14 (dk_at dksX1_world_1 3 rfl rfl)
theorem dX1_world_29 : decode cX1_world 29 = .ok (.iload 4, 2) := dk_21 4 (dk_at dksX1_world_1 6 rfl rfl)
theorem dX1_world_31 : decode cX1_world 31 = .ok (.iconst 0, 1) := dk_3 (dk_at dksX1_world_1 8 rfl rfl)
theorem dX1_world_32 : decode cX1_world 32 = .ok (.bipush 99, 2) := dk_16 99 (dk_at dksX1_world_1 9 rfl rfl)
theorem dX1_world_34 : decode cX1_world 34 = .ok (.invokestatic 299, 3) := dk_184 1 43 (dk_at dksX1_world_1 11 rfl rfl)
theorem dX1_world_37 : decode cX1_world 37 = .ok (.ifCond .ne 5, 3) := dk_154 0 5 (dk_at dksX1_world_1 14 rfl rfl)
theorem dX1_world_40 : decode cX1_world 40 = .ok (.iconst 0, 1) := dk_3 (dk_at dksX1_world_1 17 rfl rfl)
theorem dX1_world_41 : decode cX1_world 41 = .ok (.ireturn, 1) := dk_172 (dk_at dksX1_world_1 18 rfl rfl)
theorem dX1_world_42 : decode cX1_world 42 = .ok (.iload_n 1, 1) := dk_27 (dk_at dksX1_world_1 19 rfl rfl)
theorem dX1_world_43 : decode cX1_world 43 = .ok (.aload_n 0, 1) := dk_42 (dk_at dksX1_world_1 20 rfl rfl)
theorem dX1_world_44 : decode cX1_world 44 = .ok (.getfield 216, 3) := dk_180 0 216 (dk_at dksX1_world_1 21 rfl rfl)
theorem dX1_world_47 : decode cX1_world 47 = .ok (.if_icmp .eq 8, 3) := dk_159 0 8 (dk_at dksX1_world_2 0 rfl rfl)
theorem dX1_world_50 : decode cX1_world 50 = .ok (.aload_n 0, 1) := dk_42 (dk_at dksX1_world_2 3 rfl rfl)
theorem dX1_world_51 : decode cX1_world 51 = .ok (.iconst 0, 1) := dk_3 (dk_at dksX1_world_2 4 rfl rfl)
theorem dX1_world_52 : decode cX1_world 52 = .ok (.putfield 290, 3) := dk_181 1 34 (dk_at dksX1_world_2 5 rfl rfl)
theorem dX1_world_55 : decode cX1_world 55 = .ok (.iload_n 1, 1) := dk_27 (dk_at dksX1_world_2 8 rfl rfl)
theorem dX1_world_56 : decode cX1_world 56 = .ok (.aload_n 0, 1) := dk_42 (dk_at dksX1_world_2 9 rfl rfl)
theorem dX1_world_57 : decode cX1_world 57 = .ok (.getfield 216, 3) := dk_180 0 216 (dk_at dksX1_world_2 10 rfl rfl)
theorem dX1_world_60 : decode cX1_world 60 = .ok (.if_icmp .ne 11, 3) := dk_160 0 11 (dk_at dksX1_world_2 13 rfl rfl)
theorem dX1_world_63 : decode cX1_world 63 = .ok (.iload_n 2, 1) := dk_28 (dk_at dksX1_world_2 16 rfl rfl)
theorem dX1_world_64 : decode cX1_world 64 = .ok (.aload_n 0, 1) := dk_42 (dk_at dksX1_world_2 17 rfl rfl)
theorem dX1_world_65 : decode cX1_world 65 = .ok (.getfield 303, 3) := dk_180 1 47 (dk_at dksX1_world_2 18 rfl rfl)
theorem dX1_world_68 : decode cX1_world 68 = .ok (.if_icmp .eq 8, 3) := dk_159 0 8 (dk_at dksX1_world_2 21 rfl rfl)
theorem dX1_world_71 : decode cX1_world 71 = .ok (.aload_n 0, 1) := dk_42 (dk_at dksX1_world_3 0 rfl rfl)
theorem dX1_world_72 : decode cX1_world 72 = .ok (.iconst 0, 1) := dk_3 (dk_at dksX1_world_3 1 rfl rfl)
theorem dX1_world_73 : decode cX1_world 73 = .ok (.putfield 283, 3) := dk_181 1 27 (dk_at dksX1_world_3 2 rfl rfl)
theorem dX1_world_76 : decode cX1_world 76 = .ok (.aload_n 0, 1) := dk_42 (dk_at dksX1_world_3 5 rfl rfl)
theorem dX1_world_77 : decode cX1_world 77 = .ok (.iload_n 1, 1) := dk_27 (dk_at dksX1_world_3 6 rfl rfl)
theorem dX1_world_78 : decode cX1_world 78 = .ok (.putfield 216, 3) := dk_181 0 216 (dk_at dksX1_world_3 7 rfl rfl)
theorem dX1_world_81 : decode cX1_world 81 = .ok (.aload_n 0, 1) := dk_42 (dk_at dksX1_world_3 10 rfl rfl)
theorem dX1_world_82 : decode cX1_world 82 = .ok (.iload_n 2, 1) := dk_28 (dk_at dksX1_world_3 11 rfl rfl)
theorem dX1_world_83 : decode cX1_world 83 = .ok (.putfield 303, 3) := dk_181 1 47 (dk_at dksX1_world_3 12 rfl rfl)
theorem dX1_world_86 : decode cX1_world 86 = .ok (.aload_n 0, 1) := dk_42 (dk_at dksX1_world_3 15 rfl rfl)
theorem dX1_world_87 : decode cX1_world 87 = .ok (.iload_n 3, 1) := dk_29 (dk_at dksX1_world_3 16 rfl rfl)
theorem dX1_world_88 : decode cX1_world 88 = .ok (.putfield 143, 3) := dk_181 0 143 (dk_at dksX1_world_3 17 rfl rfl)
theorem dX1_world_91 : decode cX1_world 91 = .ok (.aload_n 0, 1) := dk_42 (dk_at dksX1_world_3 20 rfl rfl)
theorem dX1_world_92 : decode cX1_world 92 = .ok (.iload 4, 2) := dk_21 4 (dk_at dksX1_world_3 21 rfl rfl)
theorem dX1_world_94 : decode cX1_world 94 = .ok (.putfield 146, 3) := dk_181 0 146 (dk_at dksX1_world_4 0 rfl rfl)
theorem dX1_world_97 : decode cX1_world 97 = .ok (.iconst 1, 1) := dk_4 (dk_at dksX1_world_4 3 rfl rfl)
theorem dX1_world_98 : decode cX1_world 98 = .ok (.ireturn, 1) := dk_172 (dk_at dksX1_world_4 4 rfl rfl)
abbrev cX1_within : ByteArray := prog_1_method_15_code
def yX1_within : MethodName := ⟨RX1, "within", "(III)Z"⟩
def dkwX1_within_0 : List UInt8 := [26, 27, 161, 0, 12, 26, 28, 163, 0, 7, 4, 167, 0, 4, 3, 172]
abbrev dktX1_within_0 : List UInt8 := dkwX1_within_0 ++ []
theorem dksX1_within_0 : cX1_within.data.toList.drop 0 = dktX1_within_0 := by decide +kernel
theorem dX1_within_0 : decode cX1_within 0 = .ok (.iload_n 0, 1) := dk_26 (dk_at dksX1_within_0 0 rfl rfl)
theorem dX1_within_1 : decode cX1_within 1 = .ok (.iload_n 1, 1) := dk_27 (dk_at dksX1_within_0 1 rfl rfl)
theorem dX1_within_2 : decode cX1_within 2 = .ok (.if_icmp .lt 12, 3) := dk_161 0 12 (dk_at dksX1_within_0 2 rfl rfl)
theorem dX1_within_5 : decode cX1_within 5 = .ok (.iload_n 0, 1) := dk_26 (dk_at dksX1_within_0 5 rfl rfl)
theorem dX1_within_6 : decode cX1_within 6 = .ok (.iload_n 2, 1) := dk_28 (dk_at dksX1_within_0 6 rfl rfl)
theorem dX1_within_7 : decode cX1_within 7 = .ok (.if_icmp .gt 7, 3) := dk_163 0 7 (dk_at dksX1_within_0 7 rfl rfl)
theorem dX1_within_10 : decode cX1_within 10 = .ok (.iconst 1, 1) := dk_4 (dk_at dksX1_within_0 10 rfl rfl)
theorem dX1_within_11 : decode cX1_within 11 = .ok (.goto 4, 3) := dk_167 0 4 (dk_at dksX1_within_0 11 rfl rfl)
theorem dX1_within_14 : decode cX1_within 14 = .ok (.iconst 0, 1) := dk_3 (dk_at dksX1_within_0 14 rfl rfl)
theorem dX1_within_15 : decode cX1_within 15 = .ok (.ireturn, 1) := dk_172 (dk_at dksX1_within_0 15 rfl rfl)
abbrev cX1_reached : ByteArray := prog_1_method_31_code
def yX1_reached : MethodName := ⟨RX1, "reached", "()I"⟩
def dkwX1_reached_0 : List UInt8 := [42, 182, 1, 133, 153, 0, 10, 42, 180, 1, 68, 167, 0, 4, 2, 172]
abbrev dktX1_reached_0 : List UInt8 := dkwX1_reached_0 ++ []
theorem dksX1_reached_0 : cX1_reached.data.toList.drop 0 = dktX1_reached_0 := by decide +kernel
theorem dX1_reached_0 : decode cX1_reached 0 = .ok (.aload_n 0, 1) := dk_42 (dk_at dksX1_reached_0 0 rfl rfl)
theorem dX1_reached_1 : decode cX1_reached 1 = .ok (.invokevirtual 389, 3) := dk_182 1 133 (dk_at dksX1_reached_0 1 rfl rfl)
theorem dX1_reached_4 : decode cX1_reached 4 = .ok (.ifCond .eq 10, 3) := dk_153 0 10 (dk_at dksX1_reached_0 4 rfl rfl)
theorem dX1_reached_7 : decode cX1_reached 7 = .ok (.aload_n 0, 1) := dk_42 (dk_at dksX1_reached_0 7 rfl rfl)
theorem dX1_reached_8 : decode cX1_reached 8 = .ok (.getfield 324, 3) := dk_180 1 68 (dk_at dksX1_reached_0 8 rfl rfl)
theorem dX1_reached_11 : decode cX1_reached 11 = .ok (.goto 4, 3) := dk_167 0 4 (dk_at dksX1_reached_0 11 rfl rfl)
theorem dX1_reached_14 : decode cX1_reached 14 = .ok (.iconst (-1), 1) := dk_2 (dk_at dksX1_reached_0 14 rfl rfl)
theorem dX1_reached_15 : decode cX1_reached 15 = .ok (.ireturn, 1) := dk_172 (dk_at dksX1_reached_0 15 rfl rfl)
abbrev cX1_finds : ByteArray := prog_1_method_29_code
def yX1_finds : MethodName := ⟨RX1, "finds", "()Z"⟩
def dkwX1_finds_1 : List UInt8 := [181, 1, 126, 42, 4, 181, 1, 27, 42, 180, 1, 126, 154, 0, 7, 4, 167, 0, 4, 3, 172]
abbrev dktX1_finds_1 : List UInt8 := dkwX1_finds_1 ++ []
def dkwX1_finds_0 : List UInt8 := [42, 180, 1, 27, 154, 0, 23, 42, 42, 42, 180, 1, 47, 182, 1, 123, 154, 0, 7, 4, 167, 0, 4, 3]
abbrev dktX1_finds_0 : List UInt8 := dkwX1_finds_0 ++ dktX1_finds_1
theorem dksX1_finds_0 : cX1_finds.data.toList.drop 0 = dktX1_finds_0 := by decide +kernel
theorem dksX1_finds_1 : cX1_finds.data.toList.drop 24 = dktX1_finds_1 := dk_seg dksX1_finds_0 24 rfl rfl
theorem dX1_finds_0 : decode cX1_finds 0 = .ok (.aload_n 0, 1) := dk_42 (dk_at dksX1_finds_0 0 rfl rfl)
theorem dX1_finds_1 : decode cX1_finds 1 = .ok (.getfield 283, 3) := dk_180 1 27 (dk_at dksX1_finds_0 1 rfl rfl)
theorem dX1_finds_4 : decode cX1_finds 4 = .ok (.ifCond .ne 23, 3) := dk_154 0 23 (dk_at dksX1_finds_0 4 rfl rfl)
theorem dX1_finds_7 : decode cX1_finds 7 = .ok (.aload_n 0, 1) := dk_42 (dk_at dksX1_finds_0 7 rfl rfl)
theorem dX1_finds_8 : decode cX1_finds 8 = .ok (.aload_n 0, 1) := dk_42 (dk_at dksX1_finds_0 8 rfl rfl)
theorem dX1_finds_9 : decode cX1_finds 9 = .ok (.aload_n 0, 1) := dk_42 (dk_at dksX1_finds_0 9 rfl rfl)
theorem dX1_finds_10 : decode cX1_finds 10 = .ok (.getfield 303, 3) := dk_180 1 47 (dk_at dksX1_finds_0 10 rfl rfl)
theorem dX1_finds_13 : decode cX1_finds 13 = .ok (.invokevirtual 379, 3) := dk_182 1 123 (dk_at dksX1_finds_0 13 rfl rfl)
theorem dX1_finds_16 : decode cX1_finds 16 = .ok (.ifCond .ne 7, 3) := dk_154 0 7 (dk_at dksX1_finds_0 16 rfl rfl)
theorem dX1_finds_19 : decode cX1_finds 19 = .ok (.iconst 1, 1) := dk_4 (dk_at dksX1_finds_0 19 rfl rfl)
theorem dX1_finds_20 : decode cX1_finds 20 = .ok (.goto 4, 3) := dk_167 0 4 (dk_at dksX1_finds_0 20 rfl rfl)
theorem dX1_finds_23 : decode cX1_finds 23 = .ok (.iconst 0, 1) := dk_3 (dk_at dksX1_finds_0 23 rfl rfl)
theorem dX1_finds_24 : decode cX1_finds 24 = .ok (.putfield 382, 3) := dk_181 1 126 (dk_at dksX1_finds_1 0 rfl rfl)
theorem dX1_finds_27 : decode cX1_finds 27 = .ok (.aload_n 0, 1) := dk_42 (dk_at dksX1_finds_1 3 rfl rfl)
theorem dX1_finds_28 : decode cX1_finds 28 = .ok (.iconst 1, 1) := dk_4 (dk_at dksX1_finds_1 4 rfl rfl)
theorem dX1_finds_29 : decode cX1_finds 29 = .ok (.putfield 283, 3) := dk_181 1 27 (dk_at dksX1_finds_1 5 rfl rfl)
theorem dX1_finds_32 : decode cX1_finds 32 = .ok (.aload_n 0, 1) := dk_42 (dk_at dksX1_finds_1 8 rfl rfl)
theorem dX1_finds_33 : decode cX1_finds 33 = .ok (.getfield 382, 3) := dk_180 1 126 (dk_at dksX1_finds_1 9 rfl rfl)
theorem dX1_finds_36 : decode cX1_finds 36 = .ok (.ifCond .ne 7, 3) := dk_154 0 7 (dk_at dksX1_finds_1 12 rfl rfl)
theorem dX1_finds_39 : decode cX1_finds 39 = .ok (.iconst 1, 1) := dk_4 (dk_at dksX1_finds_1 15 rfl rfl)
theorem dX1_finds_40 : decode cX1_finds 40 = .ok (.goto 4, 3) := dk_167 0 4 (dk_at dksX1_finds_1 16 rfl rfl)
theorem dX1_finds_43 : decode cX1_finds 43 = .ok (.iconst 0, 1) := dk_3 (dk_at dksX1_finds_1 19 rfl rfl)
theorem dX1_finds_44 : decode cX1_finds 44 = .ok (.ireturn, 1) := dk_172 (dk_at dksX1_finds_1 20 rfl rfl)
abbrev cX1_goesThrough : ByteArray := prog_1_method_25_code
def yX1_goesThrough : MethodName := ⟨RX1, "goesThrough", "(I)Z"⟩
def dkwX1_goesThrough_7 : List UInt8 := [132, 2, 1, 167, 255, 148, 4, 172]
abbrev dktX1_goesThrough_7 : List UInt8 := dkwX1_goesThrough_7 ++ []
def dkwX1_goesThrough_6 : List UInt8 := [167, 255, 214, 132, 4, 1, 167, 255, 181, 29, 153, 0, 13, 42, 42, 180, 0, 225, 28, 50, 182, 1, 82]
abbrev dktX1_goesThrough_6 : List UInt8 := dkwX1_goesThrough_6 ++ dktX1_goesThrough_7
def dkwX1_goesThrough_5 : List UInt8 := [167, 0, 20, 3, 62, 42, 28, 21, 4, 21, 6, 27, 182, 1, 78, 154, 0, 5, 3, 172, 132, 6, 1]
abbrev dktX1_goesThrough_5 : List UInt8 := dkwX1_goesThrough_5 ++ dktX1_goesThrough_6
def dkwX1_goesThrough_4 : List UInt8 := [3, 54, 6, 21, 6, 42, 180, 0, 216, 162, 0, 39, 21, 5, 21, 6, 122, 4, 126, 154, 0, 6]
abbrev dktX1_goesThrough_4 : List UInt8 := dkwX1_goesThrough_4 ++ dktX1_goesThrough_5
def dkwX1_goesThrough_3 : List UInt8 := [21, 4, 42, 180, 0, 216, 162, 0, 72, 42, 42, 180, 0, 225, 28, 50, 21, 4, 27, 182, 1, 74, 54, 5]
abbrev dktX1_goesThrough_3 : List UInt8 := dkwX1_goesThrough_3 ++ dktX1_goesThrough_4
def dkwX1_goesThrough_2 : List UInt8 := [28, 3, 79, 132, 2, 1, 167, 255, 239, 3, 61, 28, 42, 180, 1, 68, 162, 0, 106, 4, 62, 3, 54, 4]
abbrev dktX1_goesThrough_2 : List UInt8 := dkwX1_goesThrough_2 ++ dktX1_goesThrough_3
def dkwX1_goesThrough_1 : List UInt8 := [4, 181, 1, 68, 42, 180, 0, 231, 182, 1, 71, 3, 61, 28, 17, 1, 64, 162, 0, 16, 42, 180, 0, 234]
abbrev dktX1_goesThrough_1 : List UInt8 := dkwX1_goesThrough_1 ++ dktX1_goesThrough_2
def dkwX1_goesThrough_0 : List UInt8 := [42, 42, 180, 0, 225, 3, 50, 42, 180, 0, 216, 182, 1, 62, 42, 180, 0, 225, 3, 50, 182, 1, 65, 42]
abbrev dktX1_goesThrough_0 : List UInt8 := dkwX1_goesThrough_0 ++ dktX1_goesThrough_1
theorem dksX1_goesThrough_0 : cX1_goesThrough.data.toList.drop 0 = dktX1_goesThrough_0 := by decide +kernel
theorem dksX1_goesThrough_1 : cX1_goesThrough.data.toList.drop 24 = dktX1_goesThrough_1 := dk_seg dksX1_goesThrough_0 24 rfl rfl
theorem dksX1_goesThrough_2 : cX1_goesThrough.data.toList.drop 48 = dktX1_goesThrough_2 := dk_seg dksX1_goesThrough_1 24 rfl rfl
theorem dksX1_goesThrough_3 : cX1_goesThrough.data.toList.drop 72 = dktX1_goesThrough_3 := dk_seg dksX1_goesThrough_2 24 rfl rfl
theorem dksX1_goesThrough_4 : cX1_goesThrough.data.toList.drop 96 = dktX1_goesThrough_4 := dk_seg dksX1_goesThrough_3 24 rfl rfl
theorem dksX1_goesThrough_5 : cX1_goesThrough.data.toList.drop 118 = dktX1_goesThrough_5 := dk_seg dksX1_goesThrough_4 22 rfl rfl
theorem dksX1_goesThrough_6 : cX1_goesThrough.data.toList.drop 141 = dktX1_goesThrough_6 := dk_seg dksX1_goesThrough_5 23 rfl rfl
theorem dksX1_goesThrough_7 : cX1_goesThrough.data.toList.drop 164 = dktX1_goesThrough_7 := dk_seg dksX1_goesThrough_6 23 rfl rfl
theorem dX1_goesThrough_0 : decode cX1_goesThrough 0 = .ok (.aload_n 0, 1) := dk_42 (dk_at dksX1_goesThrough_0 0 rfl rfl)
theorem dX1_goesThrough_1 : decode cX1_goesThrough 1 = .ok (.aload_n 0, 1) := dk_42 (dk_at dksX1_goesThrough_0 1 rfl rfl)
theorem dX1_goesThrough_2 : decode cX1_goesThrough 2 = .ok (.getfield 225, 3) := dk_180 0 225 (dk_at dksX1_goesThrough_0 2 rfl rfl)
theorem dX1_goesThrough_5 : decode cX1_goesThrough 5 = .ok (.iconst 0, 1) := dk_3 (dk_at dksX1_goesThrough_0 5 rfl rfl)
theorem dX1_goesThrough_6 : decode cX1_goesThrough 6 = .ok (.aaload, 1) := dk_50 (dk_at dksX1_goesThrough_0 6 rfl rfl)
theorem dX1_goesThrough_7 : decode cX1_goesThrough 7 = .ok (.aload_n 0, 1) := dk_42 (dk_at dksX1_goesThrough_0 7 rfl rfl)
theorem dX1_goesThrough_8 : decode cX1_goesThrough 8 = .ok (.getfield 216, 3) := dk_180 0 216 (dk_at dksX1_goesThrough_0 8 rfl rfl)
theorem dX1_goesThrough_11 : decode cX1_goesThrough 11 = .ok (.invokevirtual 318, 3) := dk_182 1 62 (dk_at dksX1_goesThrough_0 11 rfl rfl)
theorem dX1_goesThrough_14 : decode cX1_goesThrough 14 = .ok (.aload_n 0, 1) := dk_42 (dk_at dksX1_goesThrough_0 14 rfl rfl)
theorem dX1_goesThrough_15 : decode cX1_goesThrough 15 = .ok (.getfield 225, 3) := dk_180 0 225 (dk_at dksX1_goesThrough_0 15 rfl rfl)
theorem dX1_goesThrough_18 : decode cX1_goesThrough 18 = .ok (.iconst 0, 1) := dk_3 (dk_at dksX1_goesThrough_0 18 rfl rfl)
theorem dX1_goesThrough_19 : decode cX1_goesThrough 19 = .ok (.aaload, 1) := dk_50 (dk_at dksX1_goesThrough_0 19 rfl rfl)
theorem dX1_goesThrough_20 : decode cX1_goesThrough 20 = .ok (.invokevirtual 321, 3) := dk_182 1 65 (dk_at dksX1_goesThrough_0 20 rfl rfl)
theorem dX1_goesThrough_23 : decode cX1_goesThrough 23 = .ok (.aload_n 0, 1) := dk_42 (dk_at dksX1_goesThrough_0 23 rfl rfl)
theorem dX1_goesThrough_24 : decode cX1_goesThrough 24 = .ok (.iconst 1, 1) := dk_4 (dk_at dksX1_goesThrough_1 0 rfl rfl)
theorem dX1_goesThrough_25 : decode cX1_goesThrough 25 = .ok (.putfield 324, 3) := dk_181 1 68 (dk_at dksX1_goesThrough_1 1 rfl rfl)
theorem dX1_goesThrough_28 : decode cX1_goesThrough 28 = .ok (.aload_n 0, 1) := dk_42 (dk_at dksX1_goesThrough_1 4 rfl rfl)
theorem dX1_goesThrough_29 : decode cX1_goesThrough 29 = .ok (.getfield 231, 3) := dk_180 0 231 (dk_at dksX1_goesThrough_1 5 rfl rfl)
theorem dX1_goesThrough_32 : decode cX1_goesThrough 32 = .ok (.invokevirtual 327, 3) := dk_182 1 71 (dk_at dksX1_goesThrough_1 8 rfl rfl)
theorem dX1_goesThrough_35 : decode cX1_goesThrough 35 = .ok (.iconst 0, 1) := dk_3 (dk_at dksX1_goesThrough_1 11 rfl rfl)
theorem dX1_goesThrough_36 : decode cX1_goesThrough 36 = .ok (.istore_n 2, 1) := dk_61 (dk_at dksX1_goesThrough_1 12 rfl rfl)
theorem dX1_goesThrough_37 : decode cX1_goesThrough 37 = .ok (.iload_n 2, 1) := dk_28 (dk_at dksX1_goesThrough_1 13 rfl rfl)
theorem dX1_goesThrough_38 : decode cX1_goesThrough 38 = .ok (.sipush 320, 3) := dk_17 1 64 (dk_at dksX1_goesThrough_1 14 rfl rfl)
theorem dX1_goesThrough_41 : decode cX1_goesThrough 41 = .ok (.if_icmp .ge 16, 3) := dk_162 0 16 (dk_at dksX1_goesThrough_1 17 rfl rfl)
theorem dX1_goesThrough_44 : decode cX1_goesThrough 44 = .ok (.aload_n 0, 1) := dk_42 (dk_at dksX1_goesThrough_1 20 rfl rfl)
theorem dX1_goesThrough_45 : decode cX1_goesThrough 45 = .ok (.getfield 234, 3) := dk_180 0 234 (dk_at dksX1_goesThrough_1 21 rfl rfl)
theorem dX1_goesThrough_48 : decode cX1_goesThrough 48 = .ok (.iload_n 2, 1) := dk_28 (dk_at dksX1_goesThrough_2 0 rfl rfl)
theorem dX1_goesThrough_49 : decode cX1_goesThrough 49 = .ok (.iconst 0, 1) := dk_3 (dk_at dksX1_goesThrough_2 1 rfl rfl)
theorem dX1_goesThrough_50 : decode cX1_goesThrough 50 = .ok (.iastore, 1) := dk_79 (dk_at dksX1_goesThrough_2 2 rfl rfl)
theorem dX1_goesThrough_51 : decode cX1_goesThrough 51 = .ok (.iinc 2 1, 3) := dk_132 2 1 (dk_at dksX1_goesThrough_2 3 rfl rfl)
theorem dX1_goesThrough_54 : decode cX1_goesThrough 54 = .ok (.goto (-17), 3) := dk_167 255 239 (dk_at dksX1_goesThrough_2 6 rfl rfl)
theorem dX1_goesThrough_57 : decode cX1_goesThrough 57 = .ok (.iconst 0, 1) := dk_3 (dk_at dksX1_goesThrough_2 9 rfl rfl)
theorem dX1_goesThrough_58 : decode cX1_goesThrough 58 = .ok (.istore_n 2, 1) := dk_61 (dk_at dksX1_goesThrough_2 10 rfl rfl)
theorem dX1_goesThrough_59 : decode cX1_goesThrough 59 = .ok (.iload_n 2, 1) := dk_28 (dk_at dksX1_goesThrough_2 11 rfl rfl)
theorem dX1_goesThrough_60 : decode cX1_goesThrough 60 = .ok (.aload_n 0, 1) := dk_42 (dk_at dksX1_goesThrough_2 12 rfl rfl)
theorem dX1_goesThrough_61 : decode cX1_goesThrough 61 = .ok (.getfield 324, 3) := dk_180 1 68 (dk_at dksX1_goesThrough_2 13 rfl rfl)
theorem dX1_goesThrough_64 : decode cX1_goesThrough 64 = .ok (.if_icmp .ge 106, 3) := dk_162 0 106 (dk_at dksX1_goesThrough_2 16 rfl rfl)
theorem dX1_goesThrough_67 : decode cX1_goesThrough 67 = .ok (.iconst 1, 1) := dk_4 (dk_at dksX1_goesThrough_2 19 rfl rfl)
theorem dX1_goesThrough_68 : decode cX1_goesThrough 68 = .ok (.istore_n 3, 1) := dk_62 (dk_at dksX1_goesThrough_2 20 rfl rfl)
theorem dX1_goesThrough_69 : decode cX1_goesThrough 69 = .ok (.iconst 0, 1) := dk_3 (dk_at dksX1_goesThrough_2 21 rfl rfl)
theorem dX1_goesThrough_70 : decode cX1_goesThrough 70 = .ok (.istore 4, 2) := dk_54 4 (dk_at dksX1_goesThrough_2 22 rfl rfl)
theorem dX1_goesThrough_72 : decode cX1_goesThrough 72 = .ok (.iload 4, 2) := dk_21 4 (dk_at dksX1_goesThrough_3 0 rfl rfl)
theorem dX1_goesThrough_74 : decode cX1_goesThrough 74 = .ok (.aload_n 0, 1) := dk_42 (dk_at dksX1_goesThrough_3 2 rfl rfl)
theorem dX1_goesThrough_75 : decode cX1_goesThrough 75 = .ok (.getfield 216, 3) := dk_180 0 216 (dk_at dksX1_goesThrough_3 3 rfl rfl)
theorem dX1_goesThrough_78 : decode cX1_goesThrough 78 = .ok (.if_icmp .ge 72, 3) := dk_162 0 72 (dk_at dksX1_goesThrough_3 6 rfl rfl)
theorem dX1_goesThrough_81 : decode cX1_goesThrough 81 = .ok (.aload_n 0, 1) := dk_42 (dk_at dksX1_goesThrough_3 9 rfl rfl)
theorem dX1_goesThrough_82 : decode cX1_goesThrough 82 = .ok (.aload_n 0, 1) := dk_42 (dk_at dksX1_goesThrough_3 10 rfl rfl)
theorem dX1_goesThrough_83 : decode cX1_goesThrough 83 = .ok (.getfield 225, 3) := dk_180 0 225 (dk_at dksX1_goesThrough_3 11 rfl rfl)
theorem dX1_goesThrough_86 : decode cX1_goesThrough 86 = .ok (.iload_n 2, 1) := dk_28 (dk_at dksX1_goesThrough_3 14 rfl rfl)
theorem dX1_goesThrough_87 : decode cX1_goesThrough 87 = .ok (.aaload, 1) := dk_50 (dk_at dksX1_goesThrough_3 15 rfl rfl)
theorem dX1_goesThrough_88 : decode cX1_goesThrough 88 = .ok (.iload 4, 2) := dk_21 4 (dk_at dksX1_goesThrough_3 16 rfl rfl)
theorem dX1_goesThrough_90 : decode cX1_goesThrough 90 = .ok (.iload_n 1, 1) := dk_27 (dk_at dksX1_goesThrough_3 18 rfl rfl)
theorem dX1_goesThrough_91 : decode cX1_goesThrough 91 = .ok (.invokevirtual 330, 3) := dk_182 1 74 (dk_at dksX1_goesThrough_3 19 rfl rfl)
theorem dX1_goesThrough_94 : decode cX1_goesThrough 94 = .ok (.istore 5, 2) := dk_54 5 (dk_at dksX1_goesThrough_3 22 rfl rfl)
theorem dX1_goesThrough_96 : decode cX1_goesThrough 96 = .ok (.iconst 0, 1) := dk_3 (dk_at dksX1_goesThrough_4 0 rfl rfl)
theorem dX1_goesThrough_97 : decode cX1_goesThrough 97 = .ok (.istore 6, 2) := dk_54 6 (dk_at dksX1_goesThrough_4 1 rfl rfl)
theorem dX1_goesThrough_99 : decode cX1_goesThrough 99 = .ok (.iload 6, 2) := dk_21 6 (dk_at dksX1_goesThrough_4 3 rfl rfl)
theorem dX1_goesThrough_101 : decode cX1_goesThrough 101 = .ok (.aload_n 0, 1) := dk_42 (dk_at dksX1_goesThrough_4 5 rfl rfl)
theorem dX1_goesThrough_102 : decode cX1_goesThrough 102 = .ok (.getfield 216, 3) := dk_180 0 216 (dk_at dksX1_goesThrough_4 6 rfl rfl)
theorem dX1_goesThrough_105 : decode cX1_goesThrough 105 = .ok (.if_icmp .ge 39, 3) := dk_162 0 39 (dk_at dksX1_goesThrough_4 9 rfl rfl)
theorem dX1_goesThrough_108 : decode cX1_goesThrough 108 = .ok (.iload 5, 2) := dk_21 5 (dk_at dksX1_goesThrough_4 12 rfl rfl)
theorem dX1_goesThrough_110 : decode cX1_goesThrough 110 = .ok (.iload 6, 2) := dk_21 6 (dk_at dksX1_goesThrough_4 14 rfl rfl)
theorem dX1_goesThrough_112 : decode cX1_goesThrough 112 = .ok (.ishr, 1) := dk_122 (dk_at dksX1_goesThrough_4 16 rfl rfl)
theorem dX1_goesThrough_113 : decode cX1_goesThrough 113 = .ok (.iconst 1, 1) := dk_4 (dk_at dksX1_goesThrough_4 17 rfl rfl)
theorem dX1_goesThrough_114 : decode cX1_goesThrough 114 = .ok (.iand, 1) := dk_126 (dk_at dksX1_goesThrough_4 18 rfl rfl)
theorem dX1_goesThrough_115 : decode cX1_goesThrough 115 = .ok (.ifCond .ne 6, 3) := dk_154 0 6 (dk_at dksX1_goesThrough_4 19 rfl rfl)
theorem dX1_goesThrough_118 : decode cX1_goesThrough 118 = .ok (.goto 20, 3) := dk_167 0 20 (dk_at dksX1_goesThrough_5 0 rfl rfl)
theorem dX1_goesThrough_121 : decode cX1_goesThrough 121 = .ok (.iconst 0, 1) := dk_3 (dk_at dksX1_goesThrough_5 3 rfl rfl)
theorem dX1_goesThrough_122 : decode cX1_goesThrough 122 = .ok (.istore_n 3, 1) := dk_62 (dk_at dksX1_goesThrough_5 4 rfl rfl)
theorem dX1_goesThrough_123 : decode cX1_goesThrough 123 = .ok (.aload_n 0, 1) := dk_42 (dk_at dksX1_goesThrough_5 5 rfl rfl)
theorem dX1_goesThrough_124 : decode cX1_goesThrough 124 = .ok (.iload_n 2, 1) := dk_28 (dk_at dksX1_goesThrough_5 6 rfl rfl)
theorem dX1_goesThrough_125 : decode cX1_goesThrough 125 = .ok (.iload 4, 2) := dk_21 4 (dk_at dksX1_goesThrough_5 7 rfl rfl)
theorem dX1_goesThrough_127 : decode cX1_goesThrough 127 = .ok (.iload 6, 2) := dk_21 6 (dk_at dksX1_goesThrough_5 9 rfl rfl)
theorem dX1_goesThrough_129 : decode cX1_goesThrough 129 = .ok (.iload_n 1, 1) := dk_27 (dk_at dksX1_goesThrough_5 11 rfl rfl)
theorem dX1_goesThrough_130 : decode cX1_goesThrough 130 = .ok (.invokevirtual 334, 3) := dk_182 1 78 (dk_at dksX1_goesThrough_5 12 rfl rfl)
theorem dX1_goesThrough_133 : decode cX1_goesThrough 133 = .ok (.ifCond .ne 5, 3) := dk_154 0 5 (dk_at dksX1_goesThrough_5 15 rfl rfl)
theorem dX1_goesThrough_136 : decode cX1_goesThrough 136 = .ok (.iconst 0, 1) := dk_3 (dk_at dksX1_goesThrough_5 18 rfl rfl)
theorem dX1_goesThrough_137 : decode cX1_goesThrough 137 = .ok (.ireturn, 1) := dk_172 (dk_at dksX1_goesThrough_5 19 rfl rfl)
theorem dX1_goesThrough_138 : decode cX1_goesThrough 138 = .ok (.iinc 6 1, 3) := dk_132 6 1 (dk_at dksX1_goesThrough_5 20 rfl rfl)
theorem dX1_goesThrough_141 : decode cX1_goesThrough 141 = .ok (.goto (-42), 3) := dk_167 255 214 (dk_at dksX1_goesThrough_6 0 rfl rfl)
theorem dX1_goesThrough_144 : decode cX1_goesThrough 144 = .ok (.iinc 4 1, 3) := dk_132 4 1 (dk_at dksX1_goesThrough_6 3 rfl rfl)
theorem dX1_goesThrough_147 : decode cX1_goesThrough 147 = .ok (.goto (-75), 3) := dk_167 255 181 (dk_at dksX1_goesThrough_6 6 rfl rfl)
theorem dX1_goesThrough_150 : decode cX1_goesThrough 150 = .ok (.iload_n 3, 1) := dk_29 (dk_at dksX1_goesThrough_6 9 rfl rfl)
theorem dX1_goesThrough_151 : decode cX1_goesThrough 151 = .ok (.ifCond .eq 13, 3) := dk_153 0 13 (dk_at dksX1_goesThrough_6 10 rfl rfl)
theorem dX1_goesThrough_154 : decode cX1_goesThrough 154 = .ok (.aload_n 0, 1) := dk_42 (dk_at dksX1_goesThrough_6 13 rfl rfl)
theorem dX1_goesThrough_155 : decode cX1_goesThrough 155 = .ok (.aload_n 0, 1) := dk_42 (dk_at dksX1_goesThrough_6 14 rfl rfl)
theorem dX1_goesThrough_156 : decode cX1_goesThrough 156 = .ok (.getfield 225, 3) := dk_180 0 225 (dk_at dksX1_goesThrough_6 15 rfl rfl)
theorem dX1_goesThrough_159 : decode cX1_goesThrough 159 = .ok (.iload_n 2, 1) := dk_28 (dk_at dksX1_goesThrough_6 18 rfl rfl)
theorem dX1_goesThrough_160 : decode cX1_goesThrough 160 = .ok (.aaload, 1) := dk_50 (dk_at dksX1_goesThrough_6 19 rfl rfl)
theorem dX1_goesThrough_161 : decode cX1_goesThrough 161 = .ok (.invokevirtual 338, 3) := dk_182 1 82 (dk_at dksX1_goesThrough_6 20 rfl rfl)
theorem dX1_goesThrough_164 : decode cX1_goesThrough 164 = .ok (.iinc 2 1, 3) := dk_132 2 1 (dk_at dksX1_goesThrough_7 0 rfl rfl)
theorem dX1_goesThrough_167 : decode cX1_goesThrough 167 = .ok (.goto (-108), 3) := dk_167 255 148 (dk_at dksX1_goesThrough_7 3 rfl rfl)
theorem dX1_goesThrough_170 : decode cX1_goesThrough 170 = .ok (.iconst 1, 1) := dk_4 (dk_at dksX1_goesThrough_7 6 rfl rfl)
theorem dX1_goesThrough_171 : decode cX1_goesThrough 171 = .ok (.ireturn, 1) := dk_172 (dk_at dksX1_goesThrough_7 7 rfl rfl)
abbrev cX1_begins : ByteArray := prog_1_method_2_code
def yX1_begins : MethodName := ⟨RX1, "begins", "(LSendHall$Life;I)V"⟩
def dkwX1_begins_4 : List UInt8 := [167, 255, 235, 177]
abbrev dktX1_begins_4 : List UInt8 := dkwX1_begins_4 ++ []
def dkwX1_begins_3 : List UInt8 := [62, 29, 28, 162, 0, 22, 42, 43, 29, 42, 180, 0, 46, 180, 0, 50, 182, 0, 55, 132, 3, 1]
abbrev dktX1_begins_3 : List UInt8 := dkwX1_begins_3 ++ dktX1_begins_4
def dkwX1_begins_2 : List UInt8 := [180, 0, 43, 7, 29, 104, 21, 4, 96, 3, 79, 132, 4, 1, 167, 255, 235, 132, 3, 1, 167, 255, 200, 3]
abbrev dktX1_begins_2 : List UInt8 := dkwX1_begins_2 ++ dktX1_begins_3
def dkwX1_begins_1 : List UInt8 := [43, 180, 0, 36, 29, 3, 79, 43, 180, 0, 40, 29, 3, 79, 3, 54, 4, 21, 4, 7, 162, 0, 21, 43]
abbrev dktX1_begins_1 : List UInt8 := dkwX1_begins_1 ++ dktX1_begins_2
def dkwX1_begins_0 : List UInt8 := [43, 28, 181, 0, 27, 43, 3, 181, 0, 30, 3, 62, 29, 28, 162, 0, 57, 43, 180, 0, 33, 29, 3, 84]
abbrev dktX1_begins_0 : List UInt8 := dkwX1_begins_0 ++ dktX1_begins_1
theorem dksX1_begins_0 : cX1_begins.data.toList.drop 0 = dktX1_begins_0 := by decide +kernel
theorem dksX1_begins_1 : cX1_begins.data.toList.drop 24 = dktX1_begins_1 := dk_seg dksX1_begins_0 24 rfl rfl
theorem dksX1_begins_2 : cX1_begins.data.toList.drop 48 = dktX1_begins_2 := dk_seg dksX1_begins_1 24 rfl rfl
theorem dksX1_begins_3 : cX1_begins.data.toList.drop 72 = dktX1_begins_3 := dk_seg dksX1_begins_2 24 rfl rfl
theorem dksX1_begins_4 : cX1_begins.data.toList.drop 94 = dktX1_begins_4 := dk_seg dksX1_begins_3 22 rfl rfl
theorem dX1_begins_0 : decode cX1_begins 0 = .ok (.aload_n 1, 1) := dk_43 (dk_at dksX1_begins_0 0 rfl rfl)
theorem dX1_begins_1 : decode cX1_begins 1 = .ok (.iload_n 2, 1) := dk_28 (dk_at dksX1_begins_0 1 rfl rfl)
theorem dX1_begins_2 : decode cX1_begins 2 = .ok (.putfield 27, 3) := dk_181 0 27 (dk_at dksX1_begins_0 2 rfl rfl)
theorem dX1_begins_5 : decode cX1_begins 5 = .ok (.aload_n 1, 1) := dk_43 (dk_at dksX1_begins_0 5 rfl rfl)
theorem dX1_begins_6 : decode cX1_begins 6 = .ok (.iconst 0, 1) := dk_3 (dk_at dksX1_begins_0 6 rfl rfl)
theorem dX1_begins_7 : decode cX1_begins 7 = .ok (.putfield 30, 3) := dk_181 0 30 (dk_at dksX1_begins_0 7 rfl rfl)
theorem dX1_begins_10 : decode cX1_begins 10 = .ok (.iconst 0, 1) := dk_3 (dk_at dksX1_begins_0 10 rfl rfl)
theorem dX1_begins_11 : decode cX1_begins 11 = .ok (.istore_n 3, 1) := dk_62 (dk_at dksX1_begins_0 11 rfl rfl)
theorem dX1_begins_12 : decode cX1_begins 12 = .ok (.iload_n 3, 1) := dk_29 (dk_at dksX1_begins_0 12 rfl rfl)
theorem dX1_begins_13 : decode cX1_begins 13 = .ok (.iload_n 2, 1) := dk_28 (dk_at dksX1_begins_0 13 rfl rfl)
theorem dX1_begins_14 : decode cX1_begins 14 = .ok (.if_icmp .ge 57, 3) := dk_162 0 57 (dk_at dksX1_begins_0 14 rfl rfl)
theorem dX1_begins_17 : decode cX1_begins 17 = .ok (.aload_n 1, 1) := dk_43 (dk_at dksX1_begins_0 17 rfl rfl)
theorem dX1_begins_18 : decode cX1_begins 18 = .ok (.getfield 33, 3) := dk_180 0 33 (dk_at dksX1_begins_0 18 rfl rfl)
theorem dX1_begins_21 : decode cX1_begins 21 = .ok (.iload_n 3, 1) := dk_29 (dk_at dksX1_begins_0 21 rfl rfl)
theorem dX1_begins_22 : decode cX1_begins 22 = .ok (.iconst 0, 1) := dk_3 (dk_at dksX1_begins_0 22 rfl rfl)
theorem dX1_begins_23 : decode cX1_begins 23 = .ok (.bastore, 1) := dk_84 (dk_at dksX1_begins_0 23 rfl rfl)
theorem dX1_begins_24 : decode cX1_begins 24 = .ok (.aload_n 1, 1) := dk_43 (dk_at dksX1_begins_1 0 rfl rfl)
theorem dX1_begins_25 : decode cX1_begins 25 = .ok (.getfield 36, 3) := dk_180 0 36 (dk_at dksX1_begins_1 1 rfl rfl)
theorem dX1_begins_28 : decode cX1_begins 28 = .ok (.iload_n 3, 1) := dk_29 (dk_at dksX1_begins_1 4 rfl rfl)
theorem dX1_begins_29 : decode cX1_begins 29 = .ok (.iconst 0, 1) := dk_3 (dk_at dksX1_begins_1 5 rfl rfl)
theorem dX1_begins_30 : decode cX1_begins 30 = .ok (.iastore, 1) := dk_79 (dk_at dksX1_begins_1 6 rfl rfl)
theorem dX1_begins_31 : decode cX1_begins 31 = .ok (.aload_n 1, 1) := dk_43 (dk_at dksX1_begins_1 7 rfl rfl)
theorem dX1_begins_32 : decode cX1_begins 32 = .ok (.getfield 40, 3) := dk_180 0 40 (dk_at dksX1_begins_1 8 rfl rfl)
theorem dX1_begins_35 : decode cX1_begins 35 = .ok (.iload_n 3, 1) := dk_29 (dk_at dksX1_begins_1 11 rfl rfl)
theorem dX1_begins_36 : decode cX1_begins 36 = .ok (.iconst 0, 1) := dk_3 (dk_at dksX1_begins_1 12 rfl rfl)
theorem dX1_begins_37 : decode cX1_begins 37 = .ok (.iastore, 1) := dk_79 (dk_at dksX1_begins_1 13 rfl rfl)
theorem dX1_begins_38 : decode cX1_begins 38 = .ok (.iconst 0, 1) := dk_3 (dk_at dksX1_begins_1 14 rfl rfl)
theorem dX1_begins_39 : decode cX1_begins 39 = .ok (.istore 4, 2) := dk_54 4 (dk_at dksX1_begins_1 15 rfl rfl)
theorem dX1_begins_41 : decode cX1_begins 41 = .ok (.iload 4, 2) := dk_21 4 (dk_at dksX1_begins_1 17 rfl rfl)
theorem dX1_begins_43 : decode cX1_begins 43 = .ok (.iconst 4, 1) := dk_7 (dk_at dksX1_begins_1 19 rfl rfl)
theorem dX1_begins_44 : decode cX1_begins 44 = .ok (.if_icmp .ge 21, 3) := dk_162 0 21 (dk_at dksX1_begins_1 20 rfl rfl)
theorem dX1_begins_47 : decode cX1_begins 47 = .ok (.aload_n 1, 1) := dk_43 (dk_at dksX1_begins_1 23 rfl rfl)
theorem dX1_begins_48 : decode cX1_begins 48 = .ok (.getfield 43, 3) := dk_180 0 43 (dk_at dksX1_begins_2 0 rfl rfl)
theorem dX1_begins_51 : decode cX1_begins 51 = .ok (.iconst 4, 1) := dk_7 (dk_at dksX1_begins_2 3 rfl rfl)
theorem dX1_begins_52 : decode cX1_begins 52 = .ok (.iload_n 3, 1) := dk_29 (dk_at dksX1_begins_2 4 rfl rfl)
theorem dX1_begins_53 : decode cX1_begins 53 = .ok (.imul, 1) := dk_104 (dk_at dksX1_begins_2 5 rfl rfl)
theorem dX1_begins_54 : decode cX1_begins 54 = .ok (.iload 4, 2) := dk_21 4 (dk_at dksX1_begins_2 6 rfl rfl)
theorem dX1_begins_56 : decode cX1_begins 56 = .ok (.iadd, 1) := dk_96 (dk_at dksX1_begins_2 8 rfl rfl)
theorem dX1_begins_57 : decode cX1_begins 57 = .ok (.iconst 0, 1) := dk_3 (dk_at dksX1_begins_2 9 rfl rfl)
theorem dX1_begins_58 : decode cX1_begins 58 = .ok (.iastore, 1) := dk_79 (dk_at dksX1_begins_2 10 rfl rfl)
theorem dX1_begins_59 : decode cX1_begins 59 = .ok (.iinc 4 1, 3) := dk_132 4 1 (dk_at dksX1_begins_2 11 rfl rfl)
theorem dX1_begins_62 : decode cX1_begins 62 = .ok (.goto (-21), 3) := dk_167 255 235 (dk_at dksX1_begins_2 14 rfl rfl)
theorem dX1_begins_65 : decode cX1_begins 65 = .ok (.iinc 3 1, 3) := dk_132 3 1 (dk_at dksX1_begins_2 17 rfl rfl)
theorem dX1_begins_68 : decode cX1_begins 68 = .ok (.goto (-56), 3) := dk_167 255 200 (dk_at dksX1_begins_2 20 rfl rfl)
theorem dX1_begins_71 : decode cX1_begins 71 = .ok (.iconst 0, 1) := dk_3 (dk_at dksX1_begins_2 23 rfl rfl)
theorem dX1_begins_72 : decode cX1_begins 72 = .ok (.istore_n 3, 1) := dk_62 (dk_at dksX1_begins_3 0 rfl rfl)
theorem dX1_begins_73 : decode cX1_begins 73 = .ok (.iload_n 3, 1) := dk_29 (dk_at dksX1_begins_3 1 rfl rfl)
theorem dX1_begins_74 : decode cX1_begins 74 = .ok (.iload_n 2, 1) := dk_28 (dk_at dksX1_begins_3 2 rfl rfl)
theorem dX1_begins_75 : decode cX1_begins 75 = .ok (.if_icmp .ge 22, 3) := dk_162 0 22 (dk_at dksX1_begins_3 3 rfl rfl)
theorem dX1_begins_78 : decode cX1_begins 78 = .ok (.aload_n 0, 1) := dk_42 (dk_at dksX1_begins_3 6 rfl rfl)
theorem dX1_begins_79 : decode cX1_begins 79 = .ok (.aload_n 1, 1) := dk_43 (dk_at dksX1_begins_3 7 rfl rfl)
theorem dX1_begins_80 : decode cX1_begins 80 = .ok (.iload_n 3, 1) := dk_29 (dk_at dksX1_begins_3 8 rfl rfl)
theorem dX1_begins_81 : decode cX1_begins 81 = .ok (.aload_n 0, 1) := dk_42 (dk_at dksX1_begins_3 9 rfl rfl)
theorem dX1_begins_82 : decode cX1_begins 82 = .ok (.getfield 46, 3) := dk_180 0 46 (dk_at dksX1_begins_3 10 rfl rfl)
theorem dX1_begins_85 : decode cX1_begins 85 = .ok (.getfield 50, 3) := dk_180 0 50 (dk_at dksX1_begins_3 13 rfl rfl)
theorem dX1_begins_88 : decode cX1_begins 88 = .ok (.invokevirtual 55, 3) := dk_182 0 55 (dk_at dksX1_begins_3 16 rfl rfl)
theorem dX1_begins_91 : decode cX1_begins 91 = .ok (.iinc 3 1, 3) := dk_132 3 1 (dk_at dksX1_begins_3 19 rfl rfl)
theorem dX1_begins_94 : decode cX1_begins 94 = .ok (.goto (-21), 3) := dk_167 255 235 (dk_at dksX1_begins_4 0 rfl rfl)
theorem dX1_begins_97 : decode cX1_begins 97 = .ok (.return_, 1) := dk_177 (dk_at dksX1_begins_4 3 rfl rfl)
abbrev cX1_goes : ByteArray := prog_1_method_1_code
def yX1_goes : MethodName := ⟨RX1, "goes", "(LSendHall$Life;ILSendHall$Step;)V"⟩
def dkwX1_goes_3 : List UInt8 := [180, 0, 21, 28, 25, 4, 83, 177]
abbrev dktX1_goes_3 : List UInt8 := dkwX1_goes_3 ++ []
def dkwX1_goes_2 : List UInt8 := [25, 6, 25, 4, 165, 0, 7, 4, 167, 0, 4, 3, 54, 5, 25, 6, 58, 4, 167, 255, 198, 43]
abbrev dktX1_goes_2 : List UInt8 := dkwX1_goes_2 ++ dktX1_goes_3
def dkwX1_goes_1 : List UInt8 := [180, 0, 7, 51, 153, 0, 11, 25, 4, 180, 0, 13, 167, 0, 10, 25, 4, 43, 28, 182, 0, 17, 58, 6]
abbrev dktX1_goes_1 : List UInt8 := dkwX1_goes_1 ++ dktX1_goes_2
def dkwX1_goes_0 : List UInt8 := [45, 58, 4, 4, 54, 5, 21, 5, 153, 0, 59, 25, 4, 198, 0, 54, 42, 180, 0, 1, 25, 4]
abbrev dktX1_goes_0 : List UInt8 := dkwX1_goes_0 ++ dktX1_goes_1
theorem dksX1_goes_0 : cX1_goes.data.toList.drop 0 = dktX1_goes_0 := by decide +kernel
theorem dksX1_goes_1 : cX1_goes.data.toList.drop 22 = dktX1_goes_1 := dk_seg dksX1_goes_0 22 rfl rfl
theorem dksX1_goes_2 : cX1_goes.data.toList.drop 46 = dktX1_goes_2 := dk_seg dksX1_goes_1 24 rfl rfl
theorem dksX1_goes_3 : cX1_goes.data.toList.drop 68 = dktX1_goes_3 := dk_seg dksX1_goes_2 22 rfl rfl
theorem dX1_goes_0 : decode cX1_goes 0 = .ok (.aload_n 3, 1) := dk_45 (dk_at dksX1_goes_0 0 rfl rfl)
theorem dX1_goes_1 : decode cX1_goes 1 = .ok (.astore 4, 2) := dk_58 4 (dk_at dksX1_goes_0 1 rfl rfl)
theorem dX1_goes_3 : decode cX1_goes 3 = .ok (.iconst 1, 1) := dk_4 (dk_at dksX1_goes_0 3 rfl rfl)
theorem dX1_goes_4 : decode cX1_goes 4 = .ok (.istore 5, 2) := dk_54 5 (dk_at dksX1_goes_0 4 rfl rfl)
theorem dX1_goes_6 : decode cX1_goes 6 = .ok (.iload 5, 2) := dk_21 5 (dk_at dksX1_goes_0 6 rfl rfl)
theorem dX1_goes_8 : decode cX1_goes 8 = .ok (.ifCond .eq 59, 3) := dk_153 0 59 (dk_at dksX1_goes_0 8 rfl rfl)
theorem dX1_goes_11 : decode cX1_goes 11 = .ok (.aload 4, 2) := dk_25 4 (dk_at dksX1_goes_0 11 rfl rfl)
theorem dX1_goes_13 : decode cX1_goes 13 = .ok (.ifnull 54, 3) := dk_198 0 54 (dk_at dksX1_goes_0 13 rfl rfl)
theorem dX1_goes_16 : decode cX1_goes 16 = .ok (.aload_n 0, 1) := dk_42 (dk_at dksX1_goes_0 16 rfl rfl)
theorem dX1_goes_17 : decode cX1_goes 17 = .ok (.getfield 1, 3) := dk_180 0 1 (dk_at dksX1_goes_0 17 rfl rfl)
theorem dX1_goes_20 : decode cX1_goes 20 = .ok (.aload 4, 2) := dk_25 4 (dk_at dksX1_goes_0 20 rfl rfl)
theorem dX1_goes_22 : decode cX1_goes 22 = .ok (.getfield 7, 3) := dk_180 0 7 (dk_at dksX1_goes_1 0 rfl rfl)
theorem dX1_goes_25 : decode cX1_goes 25 = .ok (.baload, 1) := dk_51 (dk_at dksX1_goes_1 3 rfl rfl)
theorem dX1_goes_26 : decode cX1_goes 26 = .ok (.ifCond .eq 11, 3) := dk_153 0 11 (dk_at dksX1_goes_1 4 rfl rfl)
theorem dX1_goes_29 : decode cX1_goes 29 = .ok (.aload 4, 2) := dk_25 4 (dk_at dksX1_goes_1 7 rfl rfl)
theorem dX1_goes_31 : decode cX1_goes 31 = .ok (.getfield 13, 3) := dk_180 0 13 (dk_at dksX1_goes_1 9 rfl rfl)
theorem dX1_goes_34 : decode cX1_goes 34 = .ok (.goto 10, 3) := dk_167 0 10 (dk_at dksX1_goes_1 12 rfl rfl)
theorem dX1_goes_37 : decode cX1_goes 37 = .ok (.aload 4, 2) := dk_25 4 (dk_at dksX1_goes_1 15 rfl rfl)
theorem dX1_goes_39 : decode cX1_goes 39 = .ok (.aload_n 1, 1) := dk_43 (dk_at dksX1_goes_1 17 rfl rfl)
theorem dX1_goes_40 : decode cX1_goes 40 = .ok (.iload_n 2, 1) := dk_28 (dk_at dksX1_goes_1 18 rfl rfl)
theorem dX1_goes_41 : decode cX1_goes 41 = .ok (.invokevirtual 17, 3) := dk_182 0 17 (dk_at dksX1_goes_1 19 rfl rfl)
theorem dX1_goes_44 : decode cX1_goes 44 = .ok (.astore 6, 2) := dk_58 6 (dk_at dksX1_goes_1 22 rfl rfl)
theorem dX1_goes_46 : decode cX1_goes 46 = .ok (.aload 6, 2) := dk_25 6 (dk_at dksX1_goes_2 0 rfl rfl)
theorem dX1_goes_48 : decode cX1_goes 48 = .ok (.aload 4, 2) := dk_25 4 (dk_at dksX1_goes_2 2 rfl rfl)
theorem dX1_goes_50 : decode cX1_goes 50 = .ok (.if_acmp .eq 7, 3) := dk_165 0 7 (dk_at dksX1_goes_2 4 rfl rfl)
theorem dX1_goes_53 : decode cX1_goes 53 = .ok (.iconst 1, 1) := dk_4 (dk_at dksX1_goes_2 7 rfl rfl)
theorem dX1_goes_54 : decode cX1_goes 54 = .ok (.goto 4, 3) := dk_167 0 4 (dk_at dksX1_goes_2 8 rfl rfl)
theorem dX1_goes_57 : decode cX1_goes 57 = .ok (.iconst 0, 1) := dk_3 (dk_at dksX1_goes_2 11 rfl rfl)
theorem dX1_goes_58 : decode cX1_goes 58 = .ok (.istore 5, 2) := dk_54 5 (dk_at dksX1_goes_2 12 rfl rfl)
theorem dX1_goes_60 : decode cX1_goes 60 = .ok (.aload 6, 2) := dk_25 6 (dk_at dksX1_goes_2 14 rfl rfl)
theorem dX1_goes_62 : decode cX1_goes 62 = .ok (.astore 4, 2) := dk_58 4 (dk_at dksX1_goes_2 16 rfl rfl)
theorem dX1_goes_64 : decode cX1_goes 64 = .ok (.goto (-58), 3) := dk_167 255 198 (dk_at dksX1_goes_2 18 rfl rfl)
theorem dX1_goes_67 : decode cX1_goes 67 = .ok (.aload_n 1, 1) := dk_43 (dk_at dksX1_goes_2 21 rfl rfl)
theorem dX1_goes_68 : decode cX1_goes 68 = .ok (.getfield 21, 3) := dk_180 0 21 (dk_at dksX1_goes_3 0 rfl rfl)
theorem dX1_goes_71 : decode cX1_goes 71 = .ok (.iload_n 2, 1) := dk_28 (dk_at dksX1_goes_3 3 rfl rfl)
theorem dX1_goes_72 : decode cX1_goes 72 = .ok (.aload 4, 2) := dk_25 4 (dk_at dksX1_goes_3 4 rfl rfl)
theorem dX1_goes_74 : decode cX1_goes 74 = .ok (.aastore, 1) := dk_83 (dk_at dksX1_goes_3 6 rfl rfl)
theorem dX1_goes_75 : decode cX1_goes 75 = .ok (.return_, 1) := dk_177 (dk_at dksX1_goes_3 7 rfl rfl)
abbrev cX1_moves : ByteArray := prog_1_method_7_code
def yX1_moves : MethodName := ⟨RX1, "moves", "(LSendHall$Life;II)I"⟩
def dkwX1_moves_10 : List UInt8 := [182, 0, 119, 153, 0, 8, 21, 4, 167, 0, 4, 3, 172]
abbrev dktX1_moves_10 : List UInt8 := dkwX1_moves_10 ++ []
def dkwX1_moves_9 : List UInt8 := [21, 4, 167, 0, 4, 3, 172, 28, 154, 0, 25, 42, 43, 43, 180, 0, 21, 28, 50, 180, 0, 105]
abbrev dktX1_moves_9 : List UInt8 := dkwX1_moves_9 ++ dktX1_moves_10
def dkwX1_moves_8 : List UInt8 := [21, 6, 120, 128, 54, 5, 132, 6, 1, 167, 255, 204, 21, 5, 172, 43, 28, 182, 0, 116, 154, 0, 8]
abbrev dktX1_moves_8 : List UInt8 := dkwX1_moves_8 ++ dktX1_moves_9
def dkwX1_moves_7 : List UInt8 := [180, 0, 21, 28, 50, 192, 0, 59, 43, 28, 182, 0, 90, 182, 0, 91, 2, 159, 0, 12, 21, 5, 4]
abbrev dktX1_moves_7 : List UInt8 := dkwX1_moves_7 ++ dktX1_moves_8
def dkwX1_moves_6 : List UInt8 := [54, 6, 21, 6, 43, 180, 0, 27, 162, 0, 49, 21, 6, 28, 159, 0, 37, 43, 21, 6, 28, 43]
abbrev dktX1_moves_6 : List UInt8 := dkwX1_moves_6 ++ dktX1_moves_7
def dkwX1_moves_5 : List UInt8 := [43, 28, 182, 0, 90, 182, 0, 91, 2, 160, 0, 7, 3, 167, 0, 5, 21, 4, 172, 3, 54, 5, 3]
abbrev dktX1_moves_5 : List UInt8 := dkwX1_moves_5 ++ dktX1_moves_6
def dkwX1_moves_4 : List UInt8 := [3, 172, 43, 180, 0, 21, 28, 50, 192, 0, 59, 58, 5, 43, 25, 5, 43, 28, 182, 0, 113, 28, 25, 5]
abbrev dktX1_moves_4 : List UInt8 := dkwX1_moves_4 ++ dktX1_moves_5
def dkwX1_moves_3 : List UInt8 := [42, 43, 28, 29, 182, 0, 106, 154, 0, 12, 42, 43, 28, 182, 0, 109, 153, 0, 8, 21, 4, 167, 0, 4]
abbrev dktX1_moves_3 : List UInt8 := dkwX1_moves_3 ++ dktX1_moves_4
def dkwX1_moves_2 : List UInt8 := [170, 0, 0, 0, 0, 0, 185, 0, 0, 0, 0, 0, 0, 0, 5, 0, 0, 0, 39, 0, 0, 0, 39, 0, 0, 0, 39, 0, 0, 0, 65, 0, 0, 0, 106, 0, 0, 0, 170]
abbrev dktX1_moves_2 : List UInt8 := dkwX1_moves_2 ++ dktX1_moves_3
def dkwX1_moves_1 : List UInt8 := [43, 180, 0, 21, 28, 50, 180, 0, 105]
abbrev dktX1_moves_1 : List UInt8 := dkwX1_moves_1 ++ dktX1_moves_2
def dkwX1_moves_0 : List UInt8 := [43, 28, 182, 0, 101, 154, 0, 12, 43, 180, 0, 33, 28, 51, 153, 0, 5, 3, 172, 4, 28, 120, 54, 4]
abbrev dktX1_moves_0 : List UInt8 := dkwX1_moves_0 ++ dktX1_moves_1
theorem dksX1_moves_0 : cX1_moves.data.toList.drop 0 = dktX1_moves_0 := by decide +kernel
theorem dksX1_moves_1 : cX1_moves.data.toList.drop 24 = dktX1_moves_1 := dk_seg dksX1_moves_0 24 rfl rfl
theorem dksX1_moves_2 : cX1_moves.data.toList.drop 33 = dktX1_moves_2 := dk_seg dksX1_moves_1 9 rfl rfl
theorem dksX1_moves_3 : cX1_moves.data.toList.drop 72 = dktX1_moves_3 := dk_seg dksX1_moves_2 39 rfl rfl
theorem dksX1_moves_4 : cX1_moves.data.toList.drop 96 = dktX1_moves_4 := dk_seg dksX1_moves_3 24 rfl rfl
theorem dksX1_moves_5 : cX1_moves.data.toList.drop 120 = dktX1_moves_5 := dk_seg dksX1_moves_4 24 rfl rfl
theorem dksX1_moves_6 : cX1_moves.data.toList.drop 143 = dktX1_moves_6 := dk_seg dksX1_moves_5 23 rfl rfl
theorem dksX1_moves_7 : cX1_moves.data.toList.drop 165 = dktX1_moves_7 := dk_seg dksX1_moves_6 22 rfl rfl
theorem dksX1_moves_8 : cX1_moves.data.toList.drop 188 = dktX1_moves_8 := dk_seg dksX1_moves_7 23 rfl rfl
theorem dksX1_moves_9 : cX1_moves.data.toList.drop 211 = dktX1_moves_9 := dk_seg dksX1_moves_8 23 rfl rfl
theorem dksX1_moves_10 : cX1_moves.data.toList.drop 233 = dktX1_moves_10 := dk_seg dksX1_moves_9 22 rfl rfl
theorem dX1_moves_0 : decode cX1_moves 0 = .ok (.aload_n 1, 1) := dk_43 (dk_at dksX1_moves_0 0 rfl rfl)
theorem dX1_moves_1 : decode cX1_moves 1 = .ok (.iload_n 2, 1) := dk_28 (dk_at dksX1_moves_0 1 rfl rfl)
theorem dX1_moves_2 : decode cX1_moves 2 = .ok (.invokevirtual 101, 3) := dk_182 0 101 (dk_at dksX1_moves_0 2 rfl rfl)
theorem dX1_moves_5 : decode cX1_moves 5 = .ok (.ifCond .ne 12, 3) := dk_154 0 12 (dk_at dksX1_moves_0 5 rfl rfl)
theorem dX1_moves_8 : decode cX1_moves 8 = .ok (.aload_n 1, 1) := dk_43 (dk_at dksX1_moves_0 8 rfl rfl)
theorem dX1_moves_9 : decode cX1_moves 9 = .ok (.getfield 33, 3) := dk_180 0 33 (dk_at dksX1_moves_0 9 rfl rfl)
theorem dX1_moves_12 : decode cX1_moves 12 = .ok (.iload_n 2, 1) := dk_28 (dk_at dksX1_moves_0 12 rfl rfl)
theorem dX1_moves_13 : decode cX1_moves 13 = .ok (.baload, 1) := dk_51 (dk_at dksX1_moves_0 13 rfl rfl)
theorem dX1_moves_14 : decode cX1_moves 14 = .ok (.ifCond .eq 5, 3) := dk_153 0 5 (dk_at dksX1_moves_0 14 rfl rfl)
theorem dX1_moves_17 : decode cX1_moves 17 = .ok (.iconst 0, 1) := dk_3 (dk_at dksX1_moves_0 17 rfl rfl)
theorem dX1_moves_18 : decode cX1_moves 18 = .ok (.ireturn, 1) := dk_172 (dk_at dksX1_moves_0 18 rfl rfl)
theorem dX1_moves_19 : decode cX1_moves 19 = .ok (.iconst 1, 1) := dk_4 (dk_at dksX1_moves_0 19 rfl rfl)
theorem dX1_moves_20 : decode cX1_moves 20 = .ok (.iload_n 2, 1) := dk_28 (dk_at dksX1_moves_0 20 rfl rfl)
theorem dX1_moves_21 : decode cX1_moves 21 = .ok (.ishl, 1) := dk_120 (dk_at dksX1_moves_0 21 rfl rfl)
theorem dX1_moves_22 : decode cX1_moves 22 = .ok (.istore 4, 2) := dk_54 4 (dk_at dksX1_moves_0 22 rfl rfl)
theorem dX1_moves_24 : decode cX1_moves 24 = .ok (.aload_n 1, 1) := dk_43 (dk_at dksX1_moves_1 0 rfl rfl)
theorem dX1_moves_25 : decode cX1_moves 25 = .ok (.getfield 21, 3) := dk_180 0 21 (dk_at dksX1_moves_1 1 rfl rfl)
theorem dX1_moves_28 : decode cX1_moves 28 = .ok (.iload_n 2, 1) := dk_28 (dk_at dksX1_moves_1 4 rfl rfl)
theorem dX1_moves_29 : decode cX1_moves 29 = .ok (.aaload, 1) := dk_50 (dk_at dksX1_moves_1 5 rfl rfl)
theorem dX1_moves_30 : decode cX1_moves 30 = .ok (.getfield 105, 3) := dk_180 0 105 (dk_at dksX1_moves_1 6 rfl rfl)
theorem dX1_moves_33 : decode cX1_moves 33 = .ok (.tableswitch 185 0 5 #[39, 39, 39, 65, 106, 170], 39) := by decide +kernel
theorem dX1_moves_72 : decode cX1_moves 72 = .ok (.aload_n 0, 1) := dk_42 (dk_at dksX1_moves_3 0 rfl rfl)
theorem dX1_moves_73 : decode cX1_moves 73 = .ok (.aload_n 1, 1) := dk_43 (dk_at dksX1_moves_3 1 rfl rfl)
theorem dX1_moves_74 : decode cX1_moves 74 = .ok (.iload_n 2, 1) := dk_28 (dk_at dksX1_moves_3 2 rfl rfl)
theorem dX1_moves_75 : decode cX1_moves 75 = .ok (.iload_n 3, 1) := dk_29 (dk_at dksX1_moves_3 3 rfl rfl)
theorem dX1_moves_76 : decode cX1_moves 76 = .ok (.invokevirtual 106, 3) := dk_182 0 106 (dk_at dksX1_moves_3 4 rfl rfl)
theorem dX1_moves_79 : decode cX1_moves 79 = .ok (.ifCond .ne 12, 3) := dk_154 0 12 (dk_at dksX1_moves_3 7 rfl rfl)
theorem dX1_moves_82 : decode cX1_moves 82 = .ok (.aload_n 0, 1) := dk_42 (dk_at dksX1_moves_3 10 rfl rfl)
theorem dX1_moves_83 : decode cX1_moves 83 = .ok (.aload_n 1, 1) := dk_43 (dk_at dksX1_moves_3 11 rfl rfl)
theorem dX1_moves_84 : decode cX1_moves 84 = .ok (.iload_n 2, 1) := dk_28 (dk_at dksX1_moves_3 12 rfl rfl)
theorem dX1_moves_85 : decode cX1_moves 85 = .ok (.invokevirtual 109, 3) := dk_182 0 109 (dk_at dksX1_moves_3 13 rfl rfl)
theorem dX1_moves_88 : decode cX1_moves 88 = .ok (.ifCond .eq 8, 3) := dk_153 0 8 (dk_at dksX1_moves_3 16 rfl rfl)
theorem dX1_moves_91 : decode cX1_moves 91 = .ok (.iload 4, 2) := dk_21 4 (dk_at dksX1_moves_3 19 rfl rfl)
theorem dX1_moves_93 : decode cX1_moves 93 = .ok (.goto 4, 3) := dk_167 0 4 (dk_at dksX1_moves_3 21 rfl rfl)
theorem dX1_moves_96 : decode cX1_moves 96 = .ok (.iconst 0, 1) := dk_3 (dk_at dksX1_moves_4 0 rfl rfl)
theorem dX1_moves_97 : decode cX1_moves 97 = .ok (.ireturn, 1) := dk_172 (dk_at dksX1_moves_4 1 rfl rfl)
theorem dX1_moves_98 : decode cX1_moves 98 = .ok (.aload_n 1, 1) := dk_43 (dk_at dksX1_moves_4 2 rfl rfl)
theorem dX1_moves_99 : decode cX1_moves 99 = .ok (.getfield 21, 3) := dk_180 0 21 (dk_at dksX1_moves_4 3 rfl rfl)
theorem dX1_moves_102 : decode cX1_moves 102 = .ok (.iload_n 2, 1) := dk_28 (dk_at dksX1_moves_4 6 rfl rfl)
theorem dX1_moves_103 : decode cX1_moves 103 = .ok (.aaload, 1) := dk_50 (dk_at dksX1_moves_4 7 rfl rfl)
theorem dX1_moves_104 : decode cX1_moves 104 = .ok (.checkcast 59, 3) := dk_192 0 59 (dk_at dksX1_moves_4 8 rfl rfl)
theorem dX1_moves_107 : decode cX1_moves 107 = .ok (.astore 5, 2) := dk_58 5 (dk_at dksX1_moves_4 11 rfl rfl)
theorem dX1_moves_109 : decode cX1_moves 109 = .ok (.aload_n 1, 1) := dk_43 (dk_at dksX1_moves_4 13 rfl rfl)
theorem dX1_moves_110 : decode cX1_moves 110 = .ok (.aload 5, 2) := dk_25 5 (dk_at dksX1_moves_4 14 rfl rfl)
theorem dX1_moves_112 : decode cX1_moves 112 = .ok (.aload_n 1, 1) := dk_43 (dk_at dksX1_moves_4 16 rfl rfl)
theorem dX1_moves_113 : decode cX1_moves 113 = .ok (.iload_n 2, 1) := dk_28 (dk_at dksX1_moves_4 17 rfl rfl)
theorem dX1_moves_114 : decode cX1_moves 114 = .ok (.invokevirtual 113, 3) := dk_182 0 113 (dk_at dksX1_moves_4 18 rfl rfl)
theorem dX1_moves_117 : decode cX1_moves 117 = .ok (.iload_n 2, 1) := dk_28 (dk_at dksX1_moves_4 21 rfl rfl)
theorem dX1_moves_118 : decode cX1_moves 118 = .ok (.aload 5, 2) := dk_25 5 (dk_at dksX1_moves_4 22 rfl rfl)
theorem dX1_moves_120 : decode cX1_moves 120 = .ok (.aload_n 1, 1) := dk_43 (dk_at dksX1_moves_5 0 rfl rfl)
theorem dX1_moves_121 : decode cX1_moves 121 = .ok (.iload_n 2, 1) := dk_28 (dk_at dksX1_moves_5 1 rfl rfl)
theorem dX1_moves_122 : decode cX1_moves 122 = .ok (.invokevirtual 90, 3) := dk_182 0 90 (dk_at dksX1_moves_5 2 rfl rfl)
theorem dX1_moves_125 : decode cX1_moves 125 = .ok (.invokevirtual 91, 3) := dk_182 0 91 (dk_at dksX1_moves_5 5 rfl rfl)
theorem dX1_moves_128 : decode cX1_moves 128 = .ok (.iconst (-1), 1) := dk_2 (dk_at dksX1_moves_5 8 rfl rfl)
theorem dX1_moves_129 : decode cX1_moves 129 = .ok (.if_icmp .ne 7, 3) := dk_160 0 7 (dk_at dksX1_moves_5 9 rfl rfl)
theorem dX1_moves_132 : decode cX1_moves 132 = .ok (.iconst 0, 1) := dk_3 (dk_at dksX1_moves_5 12 rfl rfl)
theorem dX1_moves_133 : decode cX1_moves 133 = .ok (.goto 5, 3) := dk_167 0 5 (dk_at dksX1_moves_5 13 rfl rfl)
theorem dX1_moves_136 : decode cX1_moves 136 = .ok (.iload 4, 2) := dk_21 4 (dk_at dksX1_moves_5 16 rfl rfl)
theorem dX1_moves_138 : decode cX1_moves 138 = .ok (.ireturn, 1) := dk_172 (dk_at dksX1_moves_5 18 rfl rfl)
theorem dX1_moves_139 : decode cX1_moves 139 = .ok (.iconst 0, 1) := dk_3 (dk_at dksX1_moves_5 19 rfl rfl)
theorem dX1_moves_140 : decode cX1_moves 140 = .ok (.istore 5, 2) := dk_54 5 (dk_at dksX1_moves_5 20 rfl rfl)
theorem dX1_moves_142 : decode cX1_moves 142 = .ok (.iconst 0, 1) := dk_3 (dk_at dksX1_moves_5 22 rfl rfl)
theorem dX1_moves_143 : decode cX1_moves 143 = .ok (.istore 6, 2) := dk_54 6 (dk_at dksX1_moves_6 0 rfl rfl)
theorem dX1_moves_145 : decode cX1_moves 145 = .ok (.iload 6, 2) := dk_21 6 (dk_at dksX1_moves_6 2 rfl rfl)
theorem dX1_moves_147 : decode cX1_moves 147 = .ok (.aload_n 1, 1) := dk_43 (dk_at dksX1_moves_6 4 rfl rfl)
theorem dX1_moves_148 : decode cX1_moves 148 = .ok (.getfield 27, 3) := dk_180 0 27 (dk_at dksX1_moves_6 5 rfl rfl)
theorem dX1_moves_151 : decode cX1_moves 151 = .ok (.if_icmp .ge 49, 3) := dk_162 0 49 (dk_at dksX1_moves_6 8 rfl rfl)
theorem dX1_moves_154 : decode cX1_moves 154 = .ok (.iload 6, 2) := dk_21 6 (dk_at dksX1_moves_6 11 rfl rfl)
theorem dX1_moves_156 : decode cX1_moves 156 = .ok (.iload_n 2, 1) := dk_28 (dk_at dksX1_moves_6 13 rfl rfl)
theorem dX1_moves_157 : decode cX1_moves 157 = .ok (.if_icmp .eq 37, 3) := dk_159 0 37 (dk_at dksX1_moves_6 14 rfl rfl)
theorem dX1_moves_160 : decode cX1_moves 160 = .ok (.aload_n 1, 1) := dk_43 (dk_at dksX1_moves_6 17 rfl rfl)
theorem dX1_moves_161 : decode cX1_moves 161 = .ok (.iload 6, 2) := dk_21 6 (dk_at dksX1_moves_6 18 rfl rfl)
theorem dX1_moves_163 : decode cX1_moves 163 = .ok (.iload_n 2, 1) := dk_28 (dk_at dksX1_moves_6 20 rfl rfl)
theorem dX1_moves_164 : decode cX1_moves 164 = .ok (.aload_n 1, 1) := dk_43 (dk_at dksX1_moves_6 21 rfl rfl)
theorem dX1_moves_165 : decode cX1_moves 165 = .ok (.getfield 21, 3) := dk_180 0 21 (dk_at dksX1_moves_7 0 rfl rfl)
theorem dX1_moves_168 : decode cX1_moves 168 = .ok (.iload_n 2, 1) := dk_28 (dk_at dksX1_moves_7 3 rfl rfl)
theorem dX1_moves_169 : decode cX1_moves 169 = .ok (.aaload, 1) := dk_50 (dk_at dksX1_moves_7 4 rfl rfl)
theorem dX1_moves_170 : decode cX1_moves 170 = .ok (.checkcast 59, 3) := dk_192 0 59 (dk_at dksX1_moves_7 5 rfl rfl)
theorem dX1_moves_173 : decode cX1_moves 173 = .ok (.aload_n 1, 1) := dk_43 (dk_at dksX1_moves_7 8 rfl rfl)
theorem dX1_moves_174 : decode cX1_moves 174 = .ok (.iload_n 2, 1) := dk_28 (dk_at dksX1_moves_7 9 rfl rfl)
theorem dX1_moves_175 : decode cX1_moves 175 = .ok (.invokevirtual 90, 3) := dk_182 0 90 (dk_at dksX1_moves_7 10 rfl rfl)
theorem dX1_moves_178 : decode cX1_moves 178 = .ok (.invokevirtual 91, 3) := dk_182 0 91 (dk_at dksX1_moves_7 13 rfl rfl)
theorem dX1_moves_181 : decode cX1_moves 181 = .ok (.iconst (-1), 1) := dk_2 (dk_at dksX1_moves_7 16 rfl rfl)
theorem dX1_moves_182 : decode cX1_moves 182 = .ok (.if_icmp .eq 12, 3) := dk_159 0 12 (dk_at dksX1_moves_7 17 rfl rfl)
theorem dX1_moves_185 : decode cX1_moves 185 = .ok (.iload 5, 2) := dk_21 5 (dk_at dksX1_moves_7 20 rfl rfl)
theorem dX1_moves_187 : decode cX1_moves 187 = .ok (.iconst 1, 1) := dk_4 (dk_at dksX1_moves_7 22 rfl rfl)
theorem dX1_moves_188 : decode cX1_moves 188 = .ok (.iload 6, 2) := dk_21 6 (dk_at dksX1_moves_8 0 rfl rfl)
theorem dX1_moves_190 : decode cX1_moves 190 = .ok (.ishl, 1) := dk_120 (dk_at dksX1_moves_8 2 rfl rfl)
theorem dX1_moves_191 : decode cX1_moves 191 = .ok (.ior, 1) := dk_128 (dk_at dksX1_moves_8 3 rfl rfl)
theorem dX1_moves_192 : decode cX1_moves 192 = .ok (.istore 5, 2) := dk_54 5 (dk_at dksX1_moves_8 4 rfl rfl)
theorem dX1_moves_194 : decode cX1_moves 194 = .ok (.iinc 6 1, 3) := dk_132 6 1 (dk_at dksX1_moves_8 6 rfl rfl)
theorem dX1_moves_197 : decode cX1_moves 197 = .ok (.goto (-52), 3) := dk_167 255 204 (dk_at dksX1_moves_8 9 rfl rfl)
theorem dX1_moves_200 : decode cX1_moves 200 = .ok (.iload 5, 2) := dk_21 5 (dk_at dksX1_moves_8 12 rfl rfl)
theorem dX1_moves_202 : decode cX1_moves 202 = .ok (.ireturn, 1) := dk_172 (dk_at dksX1_moves_8 14 rfl rfl)
theorem dX1_moves_203 : decode cX1_moves 203 = .ok (.aload_n 1, 1) := dk_43 (dk_at dksX1_moves_8 15 rfl rfl)
theorem dX1_moves_204 : decode cX1_moves 204 = .ok (.iload_n 2, 1) := dk_28 (dk_at dksX1_moves_8 16 rfl rfl)
theorem dX1_moves_205 : decode cX1_moves 205 = .ok (.invokevirtual 116, 3) := dk_182 0 116 (dk_at dksX1_moves_8 17 rfl rfl)
theorem dX1_moves_208 : decode cX1_moves 208 = .ok (.ifCond .ne 8, 3) := dk_154 0 8 (dk_at dksX1_moves_8 20 rfl rfl)
theorem dX1_moves_211 : decode cX1_moves 211 = .ok (.iload 4, 2) := dk_21 4 (dk_at dksX1_moves_9 0 rfl rfl)
theorem dX1_moves_213 : decode cX1_moves 213 = .ok (.goto 4, 3) := dk_167 0 4 (dk_at dksX1_moves_9 2 rfl rfl)
theorem dX1_moves_216 : decode cX1_moves 216 = .ok (.iconst 0, 1) := dk_3 (dk_at dksX1_moves_9 5 rfl rfl)
theorem dX1_moves_217 : decode cX1_moves 217 = .ok (.ireturn, 1) := dk_172 (dk_at dksX1_moves_9 6 rfl rfl)
theorem dX1_moves_218 : decode cX1_moves 218 = .ok (.iload_n 2, 1) := dk_28 (dk_at dksX1_moves_9 7 rfl rfl)
theorem dX1_moves_219 : decode cX1_moves 219 = .ok (.ifCond .ne 25, 3) := dk_154 0 25 (dk_at dksX1_moves_9 8 rfl rfl)
theorem dX1_moves_222 : decode cX1_moves 222 = .ok (.aload_n 0, 1) := dk_42 (dk_at dksX1_moves_9 11 rfl rfl)
theorem dX1_moves_223 : decode cX1_moves 223 = .ok (.aload_n 1, 1) := dk_43 (dk_at dksX1_moves_9 12 rfl rfl)
theorem dX1_moves_224 : decode cX1_moves 224 = .ok (.aload_n 1, 1) := dk_43 (dk_at dksX1_moves_9 13 rfl rfl)
theorem dX1_moves_225 : decode cX1_moves 225 = .ok (.getfield 21, 3) := dk_180 0 21 (dk_at dksX1_moves_9 14 rfl rfl)
theorem dX1_moves_228 : decode cX1_moves 228 = .ok (.iload_n 2, 1) := dk_28 (dk_at dksX1_moves_9 17 rfl rfl)
theorem dX1_moves_229 : decode cX1_moves 229 = .ok (.aaload, 1) := dk_50 (dk_at dksX1_moves_9 18 rfl rfl)
theorem dX1_moves_230 : decode cX1_moves 230 = .ok (.getfield 105, 3) := dk_180 0 105 (dk_at dksX1_moves_9 19 rfl rfl)
theorem dX1_moves_233 : decode cX1_moves 233 = .ok (.invokevirtual 119, 3) := dk_182 0 119 (dk_at dksX1_moves_10 0 rfl rfl)
theorem dX1_moves_236 : decode cX1_moves 236 = .ok (.ifCond .eq 8, 3) := dk_153 0 8 (dk_at dksX1_moves_10 3 rfl rfl)
theorem dX1_moves_239 : decode cX1_moves 239 = .ok (.iload 4, 2) := dk_21 4 (dk_at dksX1_moves_10 6 rfl rfl)
theorem dX1_moves_241 : decode cX1_moves 241 = .ok (.goto 4, 3) := dk_167 0 4 (dk_at dksX1_moves_10 8 rfl rfl)
theorem dX1_moves_244 : decode cX1_moves 244 = .ok (.iconst 0, 1) := dk_3 (dk_at dksX1_moves_10 11 rfl rfl)
theorem dX1_moves_245 : decode cX1_moves 245 = .ok (.ireturn, 1) := dk_172 (dk_at dksX1_moves_10 12 rfl rfl)
abbrev cX1_mayLie : ByteArray := prog_1_method_6_code
def yX1_mayLie : MethodName := ⟨RX1, "mayLie", "(LSendHall$Life;II)Z"⟩
def dkwX1_mayLie_2 : List UInt8 := [167, 0, 4, 3, 172]
abbrev dktX1_mayLie_2 : List UInt8 := dkwX1_mayLie_2 ++ []
def dkwX1_mayLie_1 : List UInt8 := [180, 0, 94, 154, 0, 23, 43, 28, 25, 4, 43, 28, 182, 0, 75, 182, 0, 97, 29, 162, 0, 7, 4]
abbrev dktX1_mayLie_1 : List UInt8 := dkwX1_mayLie_1 ++ dktX1_mayLie_2
def dkwX1_mayLie_0 : List UInt8 := [43, 180, 0, 21, 28, 50, 192, 0, 73, 58, 4, 25, 4, 180, 0, 94, 5, 159, 0, 27, 25, 4]
abbrev dktX1_mayLie_0 : List UInt8 := dkwX1_mayLie_0 ++ dktX1_mayLie_1
theorem dksX1_mayLie_0 : cX1_mayLie.data.toList.drop 0 = dktX1_mayLie_0 := by decide +kernel
theorem dksX1_mayLie_1 : cX1_mayLie.data.toList.drop 22 = dktX1_mayLie_1 := dk_seg dksX1_mayLie_0 22 rfl rfl
theorem dksX1_mayLie_2 : cX1_mayLie.data.toList.drop 45 = dktX1_mayLie_2 := dk_seg dksX1_mayLie_1 23 rfl rfl
theorem dX1_mayLie_0 : decode cX1_mayLie 0 = .ok (.aload_n 1, 1) := dk_43 (dk_at dksX1_mayLie_0 0 rfl rfl)
theorem dX1_mayLie_1 : decode cX1_mayLie 1 = .ok (.getfield 21, 3) := dk_180 0 21 (dk_at dksX1_mayLie_0 1 rfl rfl)
theorem dX1_mayLie_4 : decode cX1_mayLie 4 = .ok (.iload_n 2, 1) := dk_28 (dk_at dksX1_mayLie_0 4 rfl rfl)
theorem dX1_mayLie_5 : decode cX1_mayLie 5 = .ok (.aaload, 1) := dk_50 (dk_at dksX1_mayLie_0 5 rfl rfl)
theorem dX1_mayLie_6 : decode cX1_mayLie 6 = .ok (.checkcast 73, 3) := dk_192 0 73 (dk_at dksX1_mayLie_0 6 rfl rfl)
theorem dX1_mayLie_9 : decode cX1_mayLie 9 = .ok (.astore 4, 2) := dk_58 4 (dk_at dksX1_mayLie_0 9 rfl rfl)
theorem dX1_mayLie_11 : decode cX1_mayLie 11 = .ok (.aload 4, 2) := dk_25 4 (dk_at dksX1_mayLie_0 11 rfl rfl)
theorem dX1_mayLie_13 : decode cX1_mayLie 13 = .ok (.getfield 94, 3) := dk_180 0 94 (dk_at dksX1_mayLie_0 13 rfl rfl)
theorem dX1_mayLie_16 : decode cX1_mayLie 16 = .ok (.iconst 2, 1) := dk_5 (dk_at dksX1_mayLie_0 16 rfl rfl)
theorem dX1_mayLie_17 : decode cX1_mayLie 17 = .ok (.if_icmp .eq 27, 3) := dk_159 0 27 (dk_at dksX1_mayLie_0 17 rfl rfl)
theorem dX1_mayLie_20 : decode cX1_mayLie 20 = .ok (.aload 4, 2) := dk_25 4 (dk_at dksX1_mayLie_0 20 rfl rfl)
theorem dX1_mayLie_22 : decode cX1_mayLie 22 = .ok (.getfield 94, 3) := dk_180 0 94 (dk_at dksX1_mayLie_1 0 rfl rfl)
theorem dX1_mayLie_25 : decode cX1_mayLie 25 = .ok (.ifCond .ne 23, 3) := dk_154 0 23 (dk_at dksX1_mayLie_1 3 rfl rfl)
theorem dX1_mayLie_28 : decode cX1_mayLie 28 = .ok (.aload_n 1, 1) := dk_43 (dk_at dksX1_mayLie_1 6 rfl rfl)
theorem dX1_mayLie_29 : decode cX1_mayLie 29 = .ok (.iload_n 2, 1) := dk_28 (dk_at dksX1_mayLie_1 7 rfl rfl)
theorem dX1_mayLie_30 : decode cX1_mayLie 30 = .ok (.aload 4, 2) := dk_25 4 (dk_at dksX1_mayLie_1 8 rfl rfl)
theorem dX1_mayLie_32 : decode cX1_mayLie 32 = .ok (.aload_n 1, 1) := dk_43 (dk_at dksX1_mayLie_1 10 rfl rfl)
theorem dX1_mayLie_33 : decode cX1_mayLie 33 = .ok (.iload_n 2, 1) := dk_28 (dk_at dksX1_mayLie_1 11 rfl rfl)
theorem dX1_mayLie_34 : decode cX1_mayLie 34 = .ok (.invokevirtual 75, 3) := dk_182 0 75 (dk_at dksX1_mayLie_1 12 rfl rfl)
theorem dX1_mayLie_37 : decode cX1_mayLie 37 = .ok (.invokevirtual 97, 3) := dk_182 0 97 (dk_at dksX1_mayLie_1 15 rfl rfl)
theorem dX1_mayLie_40 : decode cX1_mayLie 40 = .ok (.iload_n 3, 1) := dk_29 (dk_at dksX1_mayLie_1 18 rfl rfl)
theorem dX1_mayLie_41 : decode cX1_mayLie 41 = .ok (.if_icmp .ge 7, 3) := dk_162 0 7 (dk_at dksX1_mayLie_1 19 rfl rfl)
theorem dX1_mayLie_44 : decode cX1_mayLie 44 = .ok (.iconst 1, 1) := dk_4 (dk_at dksX1_mayLie_1 22 rfl rfl)
theorem dX1_mayLie_45 : decode cX1_mayLie 45 = .ok (.goto 4, 3) := dk_167 0 4 (dk_at dksX1_mayLie_2 0 rfl rfl)
theorem dX1_mayLie_48 : decode cX1_mayLie 48 = .ok (.iconst 0, 1) := dk_3 (dk_at dksX1_mayLie_2 3 rfl rfl)
theorem dX1_mayLie_49 : decode cX1_mayLie 49 = .ok (.ireturn, 1) := dk_172 (dk_at dksX1_mayLie_2 4 rfl rfl)
abbrev cX1_handsOver : ByteArray := prog_1_method_4_code
def yX1_handsOver : MethodName := ⟨RX1, "handsOver", "(LSendHall$Life;I)Z"⟩
def dkwX1_handsOver_4 : List UInt8 := [160, 0, 7, 4, 167, 0, 4, 3, 172]
abbrev dktX1_handsOver_4 : List UInt8 := dkwX1_handsOver_4 ++ []
def dkwX1_handsOver_3 : List UInt8 := [25, 6, 43, 21, 4, 182, 0, 90, 21, 5, 160, 0, 20, 43, 28, 21, 4, 21, 5, 182, 0, 91, 2]
abbrev dktX1_handsOver_3 : List UInt8 := dkwX1_handsOver_3 ++ dktX1_handsOver_4
def dkwX1_handsOver_2 : List UInt8 := [43, 180, 0, 21, 21, 4, 50, 192, 0, 59, 58, 6, 25, 6, 43, 21, 4, 28, 182, 0, 86, 153, 0, 33]
abbrev dktX1_handsOver_2 : List UInt8 := dkwX1_handsOver_2 ++ dktX1_handsOver_3
def dkwX1_handsOver_1 : List UInt8 := [54, 5, 43, 21, 4, 6, 182, 0, 82, 154, 0, 15, 43, 21, 4, 7, 182, 0, 82, 154, 0, 5, 3, 172]
abbrev dktX1_handsOver_1 : List UInt8 := dkwX1_handsOver_1 ++ dktX1_handsOver_2
def dkwX1_handsOver_0 : List UInt8 := [43, 180, 0, 21, 28, 50, 192, 0, 73, 78, 45, 43, 28, 182, 0, 75, 54, 4, 45, 43, 28, 182, 0, 79]
abbrev dktX1_handsOver_0 : List UInt8 := dkwX1_handsOver_0 ++ dktX1_handsOver_1
theorem dksX1_handsOver_0 : cX1_handsOver.data.toList.drop 0 = dktX1_handsOver_0 := by decide +kernel
theorem dksX1_handsOver_1 : cX1_handsOver.data.toList.drop 24 = dktX1_handsOver_1 := dk_seg dksX1_handsOver_0 24 rfl rfl
theorem dksX1_handsOver_2 : cX1_handsOver.data.toList.drop 48 = dktX1_handsOver_2 := dk_seg dksX1_handsOver_1 24 rfl rfl
theorem dksX1_handsOver_3 : cX1_handsOver.data.toList.drop 72 = dktX1_handsOver_3 := dk_seg dksX1_handsOver_2 24 rfl rfl
theorem dksX1_handsOver_4 : cX1_handsOver.data.toList.drop 95 = dktX1_handsOver_4 := dk_seg dksX1_handsOver_3 23 rfl rfl
theorem dX1_handsOver_0 : decode cX1_handsOver 0 = .ok (.aload_n 1, 1) := dk_43 (dk_at dksX1_handsOver_0 0 rfl rfl)
theorem dX1_handsOver_1 : decode cX1_handsOver 1 = .ok (.getfield 21, 3) := dk_180 0 21 (dk_at dksX1_handsOver_0 1 rfl rfl)
theorem dX1_handsOver_4 : decode cX1_handsOver 4 = .ok (.iload_n 2, 1) := dk_28 (dk_at dksX1_handsOver_0 4 rfl rfl)
theorem dX1_handsOver_5 : decode cX1_handsOver 5 = .ok (.aaload, 1) := dk_50 (dk_at dksX1_handsOver_0 5 rfl rfl)
theorem dX1_handsOver_6 : decode cX1_handsOver 6 = .ok (.checkcast 73, 3) := dk_192 0 73 (dk_at dksX1_handsOver_0 6 rfl rfl)
theorem dX1_handsOver_9 : decode cX1_handsOver 9 = .ok (.astore_n 3, 1) := dk_78 (dk_at dksX1_handsOver_0 9 rfl rfl)
theorem dX1_handsOver_10 : decode cX1_handsOver 10 = .ok (.aload_n 3, 1) := dk_45 (dk_at dksX1_handsOver_0 10 rfl rfl)
theorem dX1_handsOver_11 : decode cX1_handsOver 11 = .ok (.aload_n 1, 1) := dk_43 (dk_at dksX1_handsOver_0 11 rfl rfl)
theorem dX1_handsOver_12 : decode cX1_handsOver 12 = .ok (.iload_n 2, 1) := dk_28 (dk_at dksX1_handsOver_0 12 rfl rfl)
theorem dX1_handsOver_13 : decode cX1_handsOver 13 = .ok (.invokevirtual 75, 3) := dk_182 0 75 (dk_at dksX1_handsOver_0 13 rfl rfl)
theorem dX1_handsOver_16 : decode cX1_handsOver 16 = .ok (.istore 4, 2) := dk_54 4 (dk_at dksX1_handsOver_0 16 rfl rfl)
theorem dX1_handsOver_18 : decode cX1_handsOver 18 = .ok (.aload_n 3, 1) := dk_45 (dk_at dksX1_handsOver_0 18 rfl rfl)
theorem dX1_handsOver_19 : decode cX1_handsOver 19 = .ok (.aload_n 1, 1) := dk_43 (dk_at dksX1_handsOver_0 19 rfl rfl)
theorem dX1_handsOver_20 : decode cX1_handsOver 20 = .ok (.iload_n 2, 1) := dk_28 (dk_at dksX1_handsOver_0 20 rfl rfl)
theorem dX1_handsOver_21 : decode cX1_handsOver 21 = .ok (.invokevirtual 79, 3) := dk_182 0 79 (dk_at dksX1_handsOver_0 21 rfl rfl)
theorem dX1_handsOver_24 : decode cX1_handsOver 24 = .ok (.istore 5, 2) := dk_54 5 (dk_at dksX1_handsOver_1 0 rfl rfl)
theorem dX1_handsOver_26 : decode cX1_handsOver 26 = .ok (.aload_n 1, 1) := dk_43 (dk_at dksX1_handsOver_1 2 rfl rfl)
theorem dX1_handsOver_27 : decode cX1_handsOver 27 = .ok (.iload 4, 2) := dk_21 4 (dk_at dksX1_handsOver_1 3 rfl rfl)
theorem dX1_handsOver_29 : decode cX1_handsOver 29 = .ok (.iconst 3, 1) := dk_6 (dk_at dksX1_handsOver_1 5 rfl rfl)
theorem dX1_handsOver_30 : decode cX1_handsOver 30 = .ok (.invokevirtual 82, 3) := dk_182 0 82 (dk_at dksX1_handsOver_1 6 rfl rfl)
theorem dX1_handsOver_33 : decode cX1_handsOver 33 = .ok (.ifCond .ne 15, 3) := dk_154 0 15 (dk_at dksX1_handsOver_1 9 rfl rfl)
theorem dX1_handsOver_36 : decode cX1_handsOver 36 = .ok (.aload_n 1, 1) := dk_43 (dk_at dksX1_handsOver_1 12 rfl rfl)
theorem dX1_handsOver_37 : decode cX1_handsOver 37 = .ok (.iload 4, 2) := dk_21 4 (dk_at dksX1_handsOver_1 13 rfl rfl)
theorem dX1_handsOver_39 : decode cX1_handsOver 39 = .ok (.iconst 4, 1) := dk_7 (dk_at dksX1_handsOver_1 15 rfl rfl)
theorem dX1_handsOver_40 : decode cX1_handsOver 40 = .ok (.invokevirtual 82, 3) := dk_182 0 82 (dk_at dksX1_handsOver_1 16 rfl rfl)
theorem dX1_handsOver_43 : decode cX1_handsOver 43 = .ok (.ifCond .ne 5, 3) := dk_154 0 5 (dk_at dksX1_handsOver_1 19 rfl rfl)
theorem dX1_handsOver_46 : decode cX1_handsOver 46 = .ok (.iconst 0, 1) := dk_3 (dk_at dksX1_handsOver_1 22 rfl rfl)
theorem dX1_handsOver_47 : decode cX1_handsOver 47 = .ok (.ireturn, 1) := dk_172 (dk_at dksX1_handsOver_1 23 rfl rfl)
theorem dX1_handsOver_48 : decode cX1_handsOver 48 = .ok (.aload_n 1, 1) := dk_43 (dk_at dksX1_handsOver_2 0 rfl rfl)
theorem dX1_handsOver_49 : decode cX1_handsOver 49 = .ok (.getfield 21, 3) := dk_180 0 21 (dk_at dksX1_handsOver_2 1 rfl rfl)
theorem dX1_handsOver_52 : decode cX1_handsOver 52 = .ok (.iload 4, 2) := dk_21 4 (dk_at dksX1_handsOver_2 4 rfl rfl)
theorem dX1_handsOver_54 : decode cX1_handsOver 54 = .ok (.aaload, 1) := dk_50 (dk_at dksX1_handsOver_2 6 rfl rfl)
theorem dX1_handsOver_55 : decode cX1_handsOver 55 = .ok (.checkcast 59, 3) := dk_192 0 59 (dk_at dksX1_handsOver_2 7 rfl rfl)
theorem dX1_handsOver_58 : decode cX1_handsOver 58 = .ok (.astore 6, 2) := dk_58 6 (dk_at dksX1_handsOver_2 10 rfl rfl)
theorem dX1_handsOver_60 : decode cX1_handsOver 60 = .ok (.aload 6, 2) := dk_25 6 (dk_at dksX1_handsOver_2 12 rfl rfl)
theorem dX1_handsOver_62 : decode cX1_handsOver 62 = .ok (.aload_n 1, 1) := dk_43 (dk_at dksX1_handsOver_2 14 rfl rfl)
theorem dX1_handsOver_63 : decode cX1_handsOver 63 = .ok (.iload 4, 2) := dk_21 4 (dk_at dksX1_handsOver_2 15 rfl rfl)
theorem dX1_handsOver_65 : decode cX1_handsOver 65 = .ok (.iload_n 2, 1) := dk_28 (dk_at dksX1_handsOver_2 17 rfl rfl)
theorem dX1_handsOver_66 : decode cX1_handsOver 66 = .ok (.invokevirtual 86, 3) := dk_182 0 86 (dk_at dksX1_handsOver_2 18 rfl rfl)
theorem dX1_handsOver_69 : decode cX1_handsOver 69 = .ok (.ifCond .eq 33, 3) := dk_153 0 33 (dk_at dksX1_handsOver_2 21 rfl rfl)
theorem dX1_handsOver_72 : decode cX1_handsOver 72 = .ok (.aload 6, 2) := dk_25 6 (dk_at dksX1_handsOver_3 0 rfl rfl)
theorem dX1_handsOver_74 : decode cX1_handsOver 74 = .ok (.aload_n 1, 1) := dk_43 (dk_at dksX1_handsOver_3 2 rfl rfl)
theorem dX1_handsOver_75 : decode cX1_handsOver 75 = .ok (.iload 4, 2) := dk_21 4 (dk_at dksX1_handsOver_3 3 rfl rfl)
theorem dX1_handsOver_77 : decode cX1_handsOver 77 = .ok (.invokevirtual 90, 3) := dk_182 0 90 (dk_at dksX1_handsOver_3 5 rfl rfl)
theorem dX1_handsOver_80 : decode cX1_handsOver 80 = .ok (.iload 5, 2) := dk_21 5 (dk_at dksX1_handsOver_3 8 rfl rfl)
theorem dX1_handsOver_82 : decode cX1_handsOver 82 = .ok (.if_icmp .ne 20, 3) := dk_160 0 20 (dk_at dksX1_handsOver_3 10 rfl rfl)
theorem dX1_handsOver_85 : decode cX1_handsOver 85 = .ok (.aload_n 1, 1) := dk_43 (dk_at dksX1_handsOver_3 13 rfl rfl)
theorem dX1_handsOver_86 : decode cX1_handsOver 86 = .ok (.iload_n 2, 1) := dk_28 (dk_at dksX1_handsOver_3 14 rfl rfl)
theorem dX1_handsOver_87 : decode cX1_handsOver 87 = .ok (.iload 4, 2) := dk_21 4 (dk_at dksX1_handsOver_3 15 rfl rfl)
theorem dX1_handsOver_89 : decode cX1_handsOver 89 = .ok (.iload 5, 2) := dk_21 5 (dk_at dksX1_handsOver_3 17 rfl rfl)
theorem dX1_handsOver_91 : decode cX1_handsOver 91 = .ok (.invokevirtual 91, 3) := dk_182 0 91 (dk_at dksX1_handsOver_3 19 rfl rfl)
theorem dX1_handsOver_94 : decode cX1_handsOver 94 = .ok (.iconst (-1), 1) := dk_2 (dk_at dksX1_handsOver_3 22 rfl rfl)
theorem dX1_handsOver_95 : decode cX1_handsOver 95 = .ok (.if_icmp .ne 7, 3) := dk_160 0 7 (dk_at dksX1_handsOver_4 0 rfl rfl)
theorem dX1_handsOver_98 : decode cX1_handsOver 98 = .ok (.iconst 1, 1) := dk_4 (dk_at dksX1_handsOver_4 3 rfl rfl)
theorem dX1_handsOver_99 : decode cX1_handsOver 99 = .ok (.goto 4, 3) := dk_167 0 4 (dk_at dksX1_handsOver_4 4 rfl rfl)
theorem dX1_handsOver_102 : decode cX1_handsOver 102 = .ok (.iconst 0, 1) := dk_3 (dk_at dksX1_handsOver_4 7 rfl rfl)
theorem dX1_handsOver_103 : decode cX1_handsOver 103 = .ok (.ireturn, 1) := dk_172 (dk_at dksX1_handsOver_4 8 rfl rfl)
abbrev cX1_areAllAt : ByteArray := prog_1_method_5_code
def yX1_areAllAt : MethodName := ⟨RX1, "areAllAt", "(LSendHall$Life;I)Z"⟩
def dkwX1_areAllAt_1 : List UInt8 := [167, 255, 234, 4, 172]
abbrev dktX1_areAllAt_1 : List UInt8 := dkwX1_areAllAt_1 ++ []
def dkwX1_areAllAt_0 : List UInt8 := [3, 62, 29, 43, 180, 0, 27, 162, 0, 20, 43, 29, 28, 182, 0, 82, 154, 0, 5, 3, 172, 132, 3, 1]
abbrev dktX1_areAllAt_0 : List UInt8 := dkwX1_areAllAt_0 ++ dktX1_areAllAt_1
theorem dksX1_areAllAt_0 : cX1_areAllAt.data.toList.drop 0 = dktX1_areAllAt_0 := by decide +kernel
theorem dksX1_areAllAt_1 : cX1_areAllAt.data.toList.drop 24 = dktX1_areAllAt_1 := dk_seg dksX1_areAllAt_0 24 rfl rfl
theorem dX1_areAllAt_0 : decode cX1_areAllAt 0 = .ok (.iconst 0, 1) := dk_3 (dk_at dksX1_areAllAt_0 0 rfl rfl)
theorem dX1_areAllAt_1 : decode cX1_areAllAt 1 = .ok (.istore_n 3, 1) := dk_62 (dk_at dksX1_areAllAt_0 1 rfl rfl)
theorem dX1_areAllAt_2 : decode cX1_areAllAt 2 = .ok (.iload_n 3, 1) := dk_29 (dk_at dksX1_areAllAt_0 2 rfl rfl)
theorem dX1_areAllAt_3 : decode cX1_areAllAt 3 = .ok (.aload_n 1, 1) := dk_43 (dk_at dksX1_areAllAt_0 3 rfl rfl)
theorem dX1_areAllAt_4 : decode cX1_areAllAt 4 = .ok (.getfield 27, 3) := dk_180 0 27 (dk_at dksX1_areAllAt_0 4 rfl rfl)
theorem dX1_areAllAt_7 : decode cX1_areAllAt 7 = .ok (.if_icmp .ge 20, 3) := dk_162 0 20 (dk_at dksX1_areAllAt_0 7 rfl rfl)
theorem dX1_areAllAt_10 : decode cX1_areAllAt 10 = .ok (.aload_n 1, 1) := dk_43 (dk_at dksX1_areAllAt_0 10 rfl rfl)
theorem dX1_areAllAt_11 : decode cX1_areAllAt 11 = .ok (.iload_n 3, 1) := dk_29 (dk_at dksX1_areAllAt_0 11 rfl rfl)
theorem dX1_areAllAt_12 : decode cX1_areAllAt 12 = .ok (.iload_n 2, 1) := dk_28 (dk_at dksX1_areAllAt_0 12 rfl rfl)
theorem dX1_areAllAt_13 : decode cX1_areAllAt 13 = .ok (.invokevirtual 82, 3) := dk_182 0 82 (dk_at dksX1_areAllAt_0 13 rfl rfl)
theorem dX1_areAllAt_16 : decode cX1_areAllAt 16 = .ok (.ifCond .ne 5, 3) := dk_154 0 5 (dk_at dksX1_areAllAt_0 16 rfl rfl)
theorem dX1_areAllAt_19 : decode cX1_areAllAt 19 = .ok (.iconst 0, 1) := dk_3 (dk_at dksX1_areAllAt_0 19 rfl rfl)
theorem dX1_areAllAt_20 : decode cX1_areAllAt 20 = .ok (.ireturn, 1) := dk_172 (dk_at dksX1_areAllAt_0 20 rfl rfl)
theorem dX1_areAllAt_21 : decode cX1_areAllAt 21 = .ok (.iinc 3 1, 3) := dk_132 3 1 (dk_at dksX1_areAllAt_0 21 rfl rfl)
theorem dX1_areAllAt_24 : decode cX1_areAllAt 24 = .ok (.goto (-22), 3) := dk_167 255 234 (dk_at dksX1_areAllAt_1 0 rfl rfl)
theorem dX1_areAllAt_27 : decode cX1_areAllAt 27 = .ok (.iconst 1, 1) := dk_4 (dk_at dksX1_areAllAt_1 3 rfl rfl)
theorem dX1_areAllAt_28 : decode cX1_areAllAt 28 = .ok (.ireturn, 1) := dk_172 (dk_at dksX1_areAllAt_1 4 rfl rfl)
abbrev cX1_tries : ByteArray := prog_1_method_26_code
def yX1_tries : MethodName := ⟨RX1, "tries", "(IIII)Z"⟩
def dkwX1_tries_4 : List UInt8 := [180, 1, 68, 17, 0, 200, 163, 0, 7, 4, 167, 0, 4, 3, 172]
abbrev dktX1_tries_4 : List UInt8 := dkwX1_tries_4 ++ []
def dkwX1_tries_3 : List UInt8 := [153, 0, 5, 4, 172, 132, 6, 1, 167, 255, 227, 42, 89, 180, 1, 68, 4, 96, 181, 1, 68, 42]
abbrev dktX1_tries_3 : List UInt8 := dkwX1_tries_3 ++ dktX1_tries_4
def dkwX1_tries_2 : List UInt8 := [3, 54, 6, 21, 6, 42, 180, 1, 68, 162, 0, 26, 42, 180, 0, 225, 21, 6, 50, 25, 5, 182, 1, 96]
abbrev dktX1_tries_2 : List UInt8 := dkwX1_tries_2 ++ dktX1_tries_3
def dkwX1_tries_1 : List UInt8 := [25, 5, 28, 29, 21, 4, 182, 1, 89, 42, 25, 5, 28, 29, 21, 4, 182, 1, 93, 25, 5, 182, 1, 65]
abbrev dktX1_tries_1 : List UInt8 := dkwX1_tries_1 ++ dktX1_tries_2
def dkwX1_tries_0 : List UInt8 := [42, 180, 0, 225, 42, 180, 1, 68, 50, 58, 5, 25, 5, 42, 180, 0, 225, 27, 50, 182, 1, 86, 42]
abbrev dktX1_tries_0 : List UInt8 := dkwX1_tries_0 ++ dktX1_tries_1
theorem dksX1_tries_0 : cX1_tries.data.toList.drop 0 = dktX1_tries_0 := by decide +kernel
theorem dksX1_tries_1 : cX1_tries.data.toList.drop 23 = dktX1_tries_1 := dk_seg dksX1_tries_0 23 rfl rfl
theorem dksX1_tries_2 : cX1_tries.data.toList.drop 47 = dktX1_tries_2 := dk_seg dksX1_tries_1 24 rfl rfl
theorem dksX1_tries_3 : cX1_tries.data.toList.drop 71 = dktX1_tries_3 := dk_seg dksX1_tries_2 24 rfl rfl
theorem dksX1_tries_4 : cX1_tries.data.toList.drop 93 = dktX1_tries_4 := dk_seg dksX1_tries_3 22 rfl rfl
theorem dX1_tries_0 : decode cX1_tries 0 = .ok (.aload_n 0, 1) := dk_42 (dk_at dksX1_tries_0 0 rfl rfl)
theorem dX1_tries_1 : decode cX1_tries 1 = .ok (.getfield 225, 3) := dk_180 0 225 (dk_at dksX1_tries_0 1 rfl rfl)
theorem dX1_tries_4 : decode cX1_tries 4 = .ok (.aload_n 0, 1) := dk_42 (dk_at dksX1_tries_0 4 rfl rfl)
theorem dX1_tries_5 : decode cX1_tries 5 = .ok (.getfield 324, 3) := dk_180 1 68 (dk_at dksX1_tries_0 5 rfl rfl)
theorem dX1_tries_8 : decode cX1_tries 8 = .ok (.aaload, 1) := dk_50 (dk_at dksX1_tries_0 8 rfl rfl)
theorem dX1_tries_9 : decode cX1_tries 9 = .ok (.astore 5, 2) := dk_58 5 (dk_at dksX1_tries_0 9 rfl rfl)
theorem dX1_tries_11 : decode cX1_tries 11 = .ok (.aload 5, 2) := dk_25 5 (dk_at dksX1_tries_0 11 rfl rfl)
theorem dX1_tries_13 : decode cX1_tries 13 = .ok (.aload_n 0, 1) := dk_42 (dk_at dksX1_tries_0 13 rfl rfl)
theorem dX1_tries_14 : decode cX1_tries 14 = .ok (.getfield 225, 3) := dk_180 0 225 (dk_at dksX1_tries_0 14 rfl rfl)
theorem dX1_tries_17 : decode cX1_tries 17 = .ok (.iload_n 1, 1) := dk_27 (dk_at dksX1_tries_0 17 rfl rfl)
theorem dX1_tries_18 : decode cX1_tries 18 = .ok (.aaload, 1) := dk_50 (dk_at dksX1_tries_0 18 rfl rfl)
theorem dX1_tries_19 : decode cX1_tries 19 = .ok (.invokevirtual 342, 3) := dk_182 1 86 (dk_at dksX1_tries_0 19 rfl rfl)
theorem dX1_tries_22 : decode cX1_tries 22 = .ok (.aload_n 0, 1) := dk_42 (dk_at dksX1_tries_0 22 rfl rfl)
theorem dX1_tries_23 : decode cX1_tries 23 = .ok (.aload 5, 2) := dk_25 5 (dk_at dksX1_tries_1 0 rfl rfl)
theorem dX1_tries_25 : decode cX1_tries 25 = .ok (.iload_n 2, 1) := dk_28 (dk_at dksX1_tries_1 2 rfl rfl)
theorem dX1_tries_26 : decode cX1_tries 26 = .ok (.iload_n 3, 1) := dk_29 (dk_at dksX1_tries_1 3 rfl rfl)
theorem dX1_tries_27 : decode cX1_tries 27 = .ok (.iload 4, 2) := dk_21 4 (dk_at dksX1_tries_1 4 rfl rfl)
theorem dX1_tries_29 : decode cX1_tries 29 = .ok (.invokevirtual 345, 3) := dk_182 1 89 (dk_at dksX1_tries_1 6 rfl rfl)
theorem dX1_tries_32 : decode cX1_tries 32 = .ok (.aload_n 0, 1) := dk_42 (dk_at dksX1_tries_1 9 rfl rfl)
theorem dX1_tries_33 : decode cX1_tries 33 = .ok (.aload 5, 2) := dk_25 5 (dk_at dksX1_tries_1 10 rfl rfl)
theorem dX1_tries_35 : decode cX1_tries 35 = .ok (.iload_n 2, 1) := dk_28 (dk_at dksX1_tries_1 12 rfl rfl)
theorem dX1_tries_36 : decode cX1_tries 36 = .ok (.iload_n 3, 1) := dk_29 (dk_at dksX1_tries_1 13 rfl rfl)
theorem dX1_tries_37 : decode cX1_tries 37 = .ok (.iload 4, 2) := dk_21 4 (dk_at dksX1_tries_1 14 rfl rfl)
theorem dX1_tries_39 : decode cX1_tries 39 = .ok (.invokevirtual 349, 3) := dk_182 1 93 (dk_at dksX1_tries_1 16 rfl rfl)
theorem dX1_tries_42 : decode cX1_tries 42 = .ok (.aload 5, 2) := dk_25 5 (dk_at dksX1_tries_1 19 rfl rfl)
theorem dX1_tries_44 : decode cX1_tries 44 = .ok (.invokevirtual 321, 3) := dk_182 1 65 (dk_at dksX1_tries_1 21 rfl rfl)
theorem dX1_tries_47 : decode cX1_tries 47 = .ok (.iconst 0, 1) := dk_3 (dk_at dksX1_tries_2 0 rfl rfl)
theorem dX1_tries_48 : decode cX1_tries 48 = .ok (.istore 6, 2) := dk_54 6 (dk_at dksX1_tries_2 1 rfl rfl)
theorem dX1_tries_50 : decode cX1_tries 50 = .ok (.iload 6, 2) := dk_21 6 (dk_at dksX1_tries_2 3 rfl rfl)
theorem dX1_tries_52 : decode cX1_tries 52 = .ok (.aload_n 0, 1) := dk_42 (dk_at dksX1_tries_2 5 rfl rfl)
theorem dX1_tries_53 : decode cX1_tries 53 = .ok (.getfield 324, 3) := dk_180 1 68 (dk_at dksX1_tries_2 6 rfl rfl)
theorem dX1_tries_56 : decode cX1_tries 56 = .ok (.if_icmp .ge 26, 3) := dk_162 0 26 (dk_at dksX1_tries_2 9 rfl rfl)
theorem dX1_tries_59 : decode cX1_tries 59 = .ok (.aload_n 0, 1) := dk_42 (dk_at dksX1_tries_2 12 rfl rfl)
theorem dX1_tries_60 : decode cX1_tries 60 = .ok (.getfield 225, 3) := dk_180 0 225 (dk_at dksX1_tries_2 13 rfl rfl)
theorem dX1_tries_63 : decode cX1_tries 63 = .ok (.iload 6, 2) := dk_21 6 (dk_at dksX1_tries_2 16 rfl rfl)
theorem dX1_tries_65 : decode cX1_tries 65 = .ok (.aaload, 1) := dk_50 (dk_at dksX1_tries_2 18 rfl rfl)
theorem dX1_tries_66 : decode cX1_tries 66 = .ok (.aload 5, 2) := dk_25 5 (dk_at dksX1_tries_2 19 rfl rfl)
theorem dX1_tries_68 : decode cX1_tries 68 = .ok (.invokevirtual 352, 3) := dk_182 1 96 (dk_at dksX1_tries_2 21 rfl rfl)
theorem dX1_tries_71 : decode cX1_tries 71 = .ok (.ifCond .eq 5, 3) := dk_153 0 5 (dk_at dksX1_tries_3 0 rfl rfl)
theorem dX1_tries_74 : decode cX1_tries 74 = .ok (.iconst 1, 1) := dk_4 (dk_at dksX1_tries_3 3 rfl rfl)
theorem dX1_tries_75 : decode cX1_tries 75 = .ok (.ireturn, 1) := dk_172 (dk_at dksX1_tries_3 4 rfl rfl)
theorem dX1_tries_76 : decode cX1_tries 76 = .ok (.iinc 6 1, 3) := dk_132 6 1 (dk_at dksX1_tries_3 5 rfl rfl)
theorem dX1_tries_79 : decode cX1_tries 79 = .ok (.goto (-29), 3) := dk_167 255 227 (dk_at dksX1_tries_3 8 rfl rfl)
theorem dX1_tries_82 : decode cX1_tries 82 = .ok (.aload_n 0, 1) := dk_42 (dk_at dksX1_tries_3 11 rfl rfl)
theorem dX1_tries_83 : decode cX1_tries 83 = .ok (.dup, 1) := dk_89 (dk_at dksX1_tries_3 12 rfl rfl)
theorem dX1_tries_84 : decode cX1_tries 84 = .ok (.getfield 324, 3) := dk_180 1 68 (dk_at dksX1_tries_3 13 rfl rfl)
theorem dX1_tries_87 : decode cX1_tries 87 = .ok (.iconst 1, 1) := dk_4 (dk_at dksX1_tries_3 16 rfl rfl)
theorem dX1_tries_88 : decode cX1_tries 88 = .ok (.iadd, 1) := dk_96 (dk_at dksX1_tries_3 17 rfl rfl)
theorem dX1_tries_89 : decode cX1_tries 89 = .ok (.putfield 324, 3) := dk_181 1 68 (dk_at dksX1_tries_3 18 rfl rfl)
theorem dX1_tries_92 : decode cX1_tries 92 = .ok (.aload_n 0, 1) := dk_42 (dk_at dksX1_tries_3 21 rfl rfl)
theorem dX1_tries_93 : decode cX1_tries 93 = .ok (.getfield 324, 3) := dk_180 1 68 (dk_at dksX1_tries_4 0 rfl rfl)
theorem dX1_tries_96 : decode cX1_tries 96 = .ok (.sipush 200, 3) := dk_17 0 200 (dk_at dksX1_tries_4 3 rfl rfl)
theorem dX1_tries_99 : decode cX1_tries 99 = .ok (.if_icmp .gt 7, 3) := dk_163 0 7 (dk_at dksX1_tries_4 6 rfl rfl)
theorem dX1_tries_102 : decode cX1_tries 102 = .ok (.iconst 1, 1) := dk_4 (dk_at dksX1_tries_4 9 rfl rfl)
theorem dX1_tries_103 : decode cX1_tries 103 = .ok (.goto 4, 3) := dk_167 0 4 (dk_at dksX1_tries_4 10 rfl rfl)
theorem dX1_tries_106 : decode cX1_tries 106 = .ok (.iconst 0, 1) := dk_3 (dk_at dksX1_tries_4 13 rfl rfl)
theorem dX1_tries_107 : decode cX1_tries 107 = .ok (.ireturn, 1) := dk_172 (dk_at dksX1_tries_4 14 rfl rfl)
abbrev cX1_notes : ByteArray := prog_1_method_27_code
def yX1_notes : MethodName := ⟨RX1, "notes", "(LSendHall$Life;III)V"⟩
def dkwX1_notes_5 : List UInt8 := [128, 79, 177]
abbrev dktX1_notes_5 : List UInt8 := dkwX1_notes_5 ++ []
def dkwX1_notes_4 : List UInt8 := [180, 0, 234, 16, 8, 43, 180, 0, 21, 21, 5, 50, 180, 0, 7, 104, 21, 5, 96, 92, 46, 4, 28, 120]
abbrev dktX1_notes_4 : List UInt8 := dkwX1_notes_4 ++ dktX1_notes_5
def dkwX1_notes_3 : List UInt8 := [43, 28, 182, 0, 75, 54, 5, 43, 180, 0, 21, 21, 5, 50, 180, 0, 105, 7, 160, 0, 30, 42]
abbrev dktX1_notes_3 : List UInt8 := dkwX1_notes_3 ++ dktX1_notes_4
def dkwX1_notes_2 : List UInt8 := [163, 0, 14, 42, 43, 28, 21, 4, 182, 0, 106, 153, 0, 4, 177, 43, 180, 0, 21, 28, 50, 192, 0, 73]
abbrev dktX1_notes_2 : List UInt8 := dkwX1_notes_2 ++ dktX1_notes_3
def dkwX1_notes_1 : List UInt8 := [50, 180, 0, 7, 104, 28, 96, 92, 46, 4, 29, 120, 128, 79, 43, 180, 0, 21, 28, 50, 180, 0, 105, 5]
abbrev dktX1_notes_1 : List UInt8 := dkwX1_notes_1 ++ dktX1_notes_2
def dkwX1_notes_0 : List UInt8 := [43, 180, 0, 21, 28, 50, 180, 0, 105, 7, 160, 0, 28, 42, 180, 0, 234, 16, 8, 43, 180, 0, 21, 28]
abbrev dktX1_notes_0 : List UInt8 := dkwX1_notes_0 ++ dktX1_notes_1
theorem dksX1_notes_0 : cX1_notes.data.toList.drop 0 = dktX1_notes_0 := by decide +kernel
theorem dksX1_notes_1 : cX1_notes.data.toList.drop 24 = dktX1_notes_1 := dk_seg dksX1_notes_0 24 rfl rfl
theorem dksX1_notes_2 : cX1_notes.data.toList.drop 48 = dktX1_notes_2 := dk_seg dksX1_notes_1 24 rfl rfl
theorem dksX1_notes_3 : cX1_notes.data.toList.drop 72 = dktX1_notes_3 := dk_seg dksX1_notes_2 24 rfl rfl
theorem dksX1_notes_4 : cX1_notes.data.toList.drop 94 = dktX1_notes_4 := dk_seg dksX1_notes_3 22 rfl rfl
theorem dksX1_notes_5 : cX1_notes.data.toList.drop 118 = dktX1_notes_5 := dk_seg dksX1_notes_4 24 rfl rfl
theorem dX1_notes_0 : decode cX1_notes 0 = .ok (.aload_n 1, 1) := dk_43 (dk_at dksX1_notes_0 0 rfl rfl)
theorem dX1_notes_1 : decode cX1_notes 1 = .ok (.getfield 21, 3) := dk_180 0 21 (dk_at dksX1_notes_0 1 rfl rfl)
theorem dX1_notes_4 : decode cX1_notes 4 = .ok (.iload_n 2, 1) := dk_28 (dk_at dksX1_notes_0 4 rfl rfl)
theorem dX1_notes_5 : decode cX1_notes 5 = .ok (.aaload, 1) := dk_50 (dk_at dksX1_notes_0 5 rfl rfl)
theorem dX1_notes_6 : decode cX1_notes 6 = .ok (.getfield 105, 3) := dk_180 0 105 (dk_at dksX1_notes_0 6 rfl rfl)
theorem dX1_notes_9 : decode cX1_notes 9 = .ok (.iconst 4, 1) := dk_7 (dk_at dksX1_notes_0 9 rfl rfl)
theorem dX1_notes_10 : decode cX1_notes 10 = .ok (.if_icmp .ne 28, 3) := dk_160 0 28 (dk_at dksX1_notes_0 10 rfl rfl)
theorem dX1_notes_13 : decode cX1_notes 13 = .ok (.aload_n 0, 1) := dk_42 (dk_at dksX1_notes_0 13 rfl rfl)
theorem dX1_notes_14 : decode cX1_notes 14 = .ok (.getfield 234, 3) := dk_180 0 234 (dk_at dksX1_notes_0 14 rfl rfl)
theorem dX1_notes_17 : decode cX1_notes 17 = .ok (.bipush 8, 2) := dk_16 8 (dk_at dksX1_notes_0 17 rfl rfl)
theorem dX1_notes_19 : decode cX1_notes 19 = .ok (.aload_n 1, 1) := dk_43 (dk_at dksX1_notes_0 19 rfl rfl)
theorem dX1_notes_20 : decode cX1_notes 20 = .ok (.getfield 21, 3) := dk_180 0 21 (dk_at dksX1_notes_0 20 rfl rfl)
theorem dX1_notes_23 : decode cX1_notes 23 = .ok (.iload_n 2, 1) := dk_28 (dk_at dksX1_notes_0 23 rfl rfl)
theorem dX1_notes_24 : decode cX1_notes 24 = .ok (.aaload, 1) := dk_50 (dk_at dksX1_notes_1 0 rfl rfl)
theorem dX1_notes_25 : decode cX1_notes 25 = .ok (.getfield 7, 3) := dk_180 0 7 (dk_at dksX1_notes_1 1 rfl rfl)
theorem dX1_notes_28 : decode cX1_notes 28 = .ok (.imul, 1) := dk_104 (dk_at dksX1_notes_1 4 rfl rfl)
theorem dX1_notes_29 : decode cX1_notes 29 = .ok (.iload_n 2, 1) := dk_28 (dk_at dksX1_notes_1 5 rfl rfl)
theorem dX1_notes_30 : decode cX1_notes 30 = .ok (.iadd, 1) := dk_96 (dk_at dksX1_notes_1 6 rfl rfl)
theorem dX1_notes_31 : decode cX1_notes 31 = .ok (.dup2, 1) := dk_92 (dk_at dksX1_notes_1 7 rfl rfl)
theorem dX1_notes_32 : decode cX1_notes 32 = .ok (.iaload, 1) := dk_46 (dk_at dksX1_notes_1 8 rfl rfl)
theorem dX1_notes_33 : decode cX1_notes 33 = .ok (.iconst 1, 1) := dk_4 (dk_at dksX1_notes_1 9 rfl rfl)
theorem dX1_notes_34 : decode cX1_notes 34 = .ok (.iload_n 3, 1) := dk_29 (dk_at dksX1_notes_1 10 rfl rfl)
theorem dX1_notes_35 : decode cX1_notes 35 = .ok (.ishl, 1) := dk_120 (dk_at dksX1_notes_1 11 rfl rfl)
theorem dX1_notes_36 : decode cX1_notes 36 = .ok (.ior, 1) := dk_128 (dk_at dksX1_notes_1 12 rfl rfl)
theorem dX1_notes_37 : decode cX1_notes 37 = .ok (.iastore, 1) := dk_79 (dk_at dksX1_notes_1 13 rfl rfl)
theorem dX1_notes_38 : decode cX1_notes 38 = .ok (.aload_n 1, 1) := dk_43 (dk_at dksX1_notes_1 14 rfl rfl)
theorem dX1_notes_39 : decode cX1_notes 39 = .ok (.getfield 21, 3) := dk_180 0 21 (dk_at dksX1_notes_1 15 rfl rfl)
theorem dX1_notes_42 : decode cX1_notes 42 = .ok (.iload_n 2, 1) := dk_28 (dk_at dksX1_notes_1 18 rfl rfl)
theorem dX1_notes_43 : decode cX1_notes 43 = .ok (.aaload, 1) := dk_50 (dk_at dksX1_notes_1 19 rfl rfl)
theorem dX1_notes_44 : decode cX1_notes 44 = .ok (.getfield 105, 3) := dk_180 0 105 (dk_at dksX1_notes_1 20 rfl rfl)
theorem dX1_notes_47 : decode cX1_notes 47 = .ok (.iconst 2, 1) := dk_5 (dk_at dksX1_notes_1 23 rfl rfl)
theorem dX1_notes_48 : decode cX1_notes 48 = .ok (.if_icmp .gt 14, 3) := dk_163 0 14 (dk_at dksX1_notes_2 0 rfl rfl)
theorem dX1_notes_51 : decode cX1_notes 51 = .ok (.aload_n 0, 1) := dk_42 (dk_at dksX1_notes_2 3 rfl rfl)
theorem dX1_notes_52 : decode cX1_notes 52 = .ok (.aload_n 1, 1) := dk_43 (dk_at dksX1_notes_2 4 rfl rfl)
theorem dX1_notes_53 : decode cX1_notes 53 = .ok (.iload_n 2, 1) := dk_28 (dk_at dksX1_notes_2 5 rfl rfl)
theorem dX1_notes_54 : decode cX1_notes 54 = .ok (.iload 4, 2) := dk_21 4 (dk_at dksX1_notes_2 6 rfl rfl)
theorem dX1_notes_56 : decode cX1_notes 56 = .ok (.invokevirtual 106, 3) := dk_182 0 106 (dk_at dksX1_notes_2 8 rfl rfl)
theorem dX1_notes_59 : decode cX1_notes 59 = .ok (.ifCond .eq 4, 3) := dk_153 0 4 (dk_at dksX1_notes_2 11 rfl rfl)
theorem dX1_notes_62 : decode cX1_notes 62 = .ok (.return_, 1) := dk_177 (dk_at dksX1_notes_2 14 rfl rfl)
theorem dX1_notes_63 : decode cX1_notes 63 = .ok (.aload_n 1, 1) := dk_43 (dk_at dksX1_notes_2 15 rfl rfl)
theorem dX1_notes_64 : decode cX1_notes 64 = .ok (.getfield 21, 3) := dk_180 0 21 (dk_at dksX1_notes_2 16 rfl rfl)
theorem dX1_notes_67 : decode cX1_notes 67 = .ok (.iload_n 2, 1) := dk_28 (dk_at dksX1_notes_2 19 rfl rfl)
theorem dX1_notes_68 : decode cX1_notes 68 = .ok (.aaload, 1) := dk_50 (dk_at dksX1_notes_2 20 rfl rfl)
theorem dX1_notes_69 : decode cX1_notes 69 = .ok (.checkcast 73, 3) := dk_192 0 73 (dk_at dksX1_notes_2 21 rfl rfl)
theorem dX1_notes_72 : decode cX1_notes 72 = .ok (.aload_n 1, 1) := dk_43 (dk_at dksX1_notes_3 0 rfl rfl)
theorem dX1_notes_73 : decode cX1_notes 73 = .ok (.iload_n 2, 1) := dk_28 (dk_at dksX1_notes_3 1 rfl rfl)
theorem dX1_notes_74 : decode cX1_notes 74 = .ok (.invokevirtual 75, 3) := dk_182 0 75 (dk_at dksX1_notes_3 2 rfl rfl)
theorem dX1_notes_77 : decode cX1_notes 77 = .ok (.istore 5, 2) := dk_54 5 (dk_at dksX1_notes_3 5 rfl rfl)
theorem dX1_notes_79 : decode cX1_notes 79 = .ok (.aload_n 1, 1) := dk_43 (dk_at dksX1_notes_3 7 rfl rfl)
theorem dX1_notes_80 : decode cX1_notes 80 = .ok (.getfield 21, 3) := dk_180 0 21 (dk_at dksX1_notes_3 8 rfl rfl)
theorem dX1_notes_83 : decode cX1_notes 83 = .ok (.iload 5, 2) := dk_21 5 (dk_at dksX1_notes_3 11 rfl rfl)
theorem dX1_notes_85 : decode cX1_notes 85 = .ok (.aaload, 1) := dk_50 (dk_at dksX1_notes_3 13 rfl rfl)
theorem dX1_notes_86 : decode cX1_notes 86 = .ok (.getfield 105, 3) := dk_180 0 105 (dk_at dksX1_notes_3 14 rfl rfl)
theorem dX1_notes_89 : decode cX1_notes 89 = .ok (.iconst 4, 1) := dk_7 (dk_at dksX1_notes_3 17 rfl rfl)
theorem dX1_notes_90 : decode cX1_notes 90 = .ok (.if_icmp .ne 30, 3) := dk_160 0 30 (dk_at dksX1_notes_3 18 rfl rfl)
theorem dX1_notes_93 : decode cX1_notes 93 = .ok (.aload_n 0, 1) := dk_42 (dk_at dksX1_notes_3 21 rfl rfl)
theorem dX1_notes_94 : decode cX1_notes 94 = .ok (.getfield 234, 3) := dk_180 0 234 (dk_at dksX1_notes_4 0 rfl rfl)
theorem dX1_notes_97 : decode cX1_notes 97 = .ok (.bipush 8, 2) := dk_16 8 (dk_at dksX1_notes_4 3 rfl rfl)
theorem dX1_notes_99 : decode cX1_notes 99 = .ok (.aload_n 1, 1) := dk_43 (dk_at dksX1_notes_4 5 rfl rfl)
theorem dX1_notes_100 : decode cX1_notes 100 = .ok (.getfield 21, 3) := dk_180 0 21 (dk_at dksX1_notes_4 6 rfl rfl)
theorem dX1_notes_103 : decode cX1_notes 103 = .ok (.iload 5, 2) := dk_21 5 (dk_at dksX1_notes_4 9 rfl rfl)
theorem dX1_notes_105 : decode cX1_notes 105 = .ok (.aaload, 1) := dk_50 (dk_at dksX1_notes_4 11 rfl rfl)
theorem dX1_notes_106 : decode cX1_notes 106 = .ok (.getfield 7, 3) := dk_180 0 7 (dk_at dksX1_notes_4 12 rfl rfl)
theorem dX1_notes_109 : decode cX1_notes 109 = .ok (.imul, 1) := dk_104 (dk_at dksX1_notes_4 15 rfl rfl)
theorem dX1_notes_110 : decode cX1_notes 110 = .ok (.iload 5, 2) := dk_21 5 (dk_at dksX1_notes_4 16 rfl rfl)
theorem dX1_notes_112 : decode cX1_notes 112 = .ok (.iadd, 1) := dk_96 (dk_at dksX1_notes_4 18 rfl rfl)
theorem dX1_notes_113 : decode cX1_notes 113 = .ok (.dup2, 1) := dk_92 (dk_at dksX1_notes_4 19 rfl rfl)
theorem dX1_notes_114 : decode cX1_notes 114 = .ok (.iaload, 1) := dk_46 (dk_at dksX1_notes_4 20 rfl rfl)
theorem dX1_notes_115 : decode cX1_notes 115 = .ok (.iconst 1, 1) := dk_4 (dk_at dksX1_notes_4 21 rfl rfl)
theorem dX1_notes_116 : decode cX1_notes 116 = .ok (.iload_n 2, 1) := dk_28 (dk_at dksX1_notes_4 22 rfl rfl)
theorem dX1_notes_117 : decode cX1_notes 117 = .ok (.ishl, 1) := dk_120 (dk_at dksX1_notes_4 23 rfl rfl)
theorem dX1_notes_118 : decode cX1_notes 118 = .ok (.ior, 1) := dk_128 (dk_at dksX1_notes_5 0 rfl rfl)
theorem dX1_notes_119 : decode cX1_notes 119 = .ok (.iastore, 1) := dk_79 (dk_at dksX1_notes_5 1 rfl rfl)
theorem dX1_notes_120 : decode cX1_notes 120 = .ok (.return_, 1) := dk_177 (dk_at dksX1_notes_5 2 rfl rfl)
abbrev cX1_move : ByteArray := prog_1_method_8_code
def yX1_move : MethodName := ⟨RX1, "move", "(LSendHall$Life;III)V"⟩
def dkwX1_move_5 : List UInt8 := [180, 0, 13, 182, 0, 55, 167, 0, 13, 42, 43, 25, 5, 180, 0, 105, 182, 0, 139, 177]
abbrev dktX1_move_5 : List UInt8 := dkwX1_move_5 ++ []
def dkwX1_move_4 : List UInt8 := [180, 0, 129, 28, 46, 182, 0, 132, 42, 180, 0, 136, 28, 92, 46, 4, 96, 79, 42, 43, 28, 25, 5]
abbrev dktX1_move_4 : List UInt8 := dkwX1_move_4 ++ dktX1_move_5
def dkwX1_move_3 : List UInt8 := [43, 28, 182, 0, 113, 182, 0, 126, 167, 0, 58, 42, 43, 28, 29, 182, 0, 126, 167, 0, 48, 42, 28, 42]
abbrev dktX1_move_3 : List UInt8 := dkwX1_move_3 ++ dktX1_move_4
def dkwX1_move_2 : List UInt8 := [42, 43, 28, 25, 5, 192, 0, 73, 21, 4, 182, 0, 122, 167, 0, 77, 42, 43, 28, 25, 5, 192, 0, 59]
abbrev dktX1_move_2 : List UInt8 := dkwX1_move_2 ++ dktX1_move_3
def dkwX1_move_1 : List UInt8 := [170, 0, 0, 0, 0, 0, 119, 0, 0, 0, 0, 0, 0, 0, 5, 0, 0, 0, 39, 0, 0, 0, 39, 0, 0, 0, 39, 0, 0, 0, 55, 0, 0, 0, 74, 0, 0, 0, 84]
abbrev dktX1_move_1 : List UInt8 := dkwX1_move_1 ++ dktX1_move_2
def dkwX1_move_0 : List UInt8 := [43, 180, 0, 21, 28, 50, 58, 5, 25, 5, 180, 0, 105]
abbrev dktX1_move_0 : List UInt8 := dkwX1_move_0 ++ dktX1_move_1
theorem dksX1_move_0 : cX1_move.data.toList.drop 0 = dktX1_move_0 := by decide +kernel
theorem dksX1_move_1 : cX1_move.data.toList.drop 13 = dktX1_move_1 := dk_seg dksX1_move_0 13 rfl rfl
theorem dksX1_move_2 : cX1_move.data.toList.drop 52 = dktX1_move_2 := dk_seg dksX1_move_1 39 rfl rfl
theorem dksX1_move_3 : cX1_move.data.toList.drop 76 = dktX1_move_3 := dk_seg dksX1_move_2 24 rfl rfl
theorem dksX1_move_4 : cX1_move.data.toList.drop 100 = dktX1_move_4 := dk_seg dksX1_move_3 24 rfl rfl
theorem dksX1_move_5 : cX1_move.data.toList.drop 123 = dktX1_move_5 := dk_seg dksX1_move_4 23 rfl rfl
theorem dX1_move_0 : decode cX1_move 0 = .ok (.aload_n 1, 1) := dk_43 (dk_at dksX1_move_0 0 rfl rfl)
theorem dX1_move_1 : decode cX1_move 1 = .ok (.getfield 21, 3) := dk_180 0 21 (dk_at dksX1_move_0 1 rfl rfl)
theorem dX1_move_4 : decode cX1_move 4 = .ok (.iload_n 2, 1) := dk_28 (dk_at dksX1_move_0 4 rfl rfl)
theorem dX1_move_5 : decode cX1_move 5 = .ok (.aaload, 1) := dk_50 (dk_at dksX1_move_0 5 rfl rfl)
theorem dX1_move_6 : decode cX1_move 6 = .ok (.astore 5, 2) := dk_58 5 (dk_at dksX1_move_0 6 rfl rfl)
theorem dX1_move_8 : decode cX1_move 8 = .ok (.aload 5, 2) := dk_25 5 (dk_at dksX1_move_0 8 rfl rfl)
theorem dX1_move_10 : decode cX1_move 10 = .ok (.getfield 105, 3) := dk_180 0 105 (dk_at dksX1_move_0 10 rfl rfl)
theorem dX1_move_13 : decode cX1_move 13 = .ok (.tableswitch 119 0 5 #[39, 39, 39, 55, 74, 84], 39) := by decide +kernel
theorem dX1_move_52 : decode cX1_move 52 = .ok (.aload_n 0, 1) := dk_42 (dk_at dksX1_move_2 0 rfl rfl)
theorem dX1_move_53 : decode cX1_move 53 = .ok (.aload_n 1, 1) := dk_43 (dk_at dksX1_move_2 1 rfl rfl)
theorem dX1_move_54 : decode cX1_move 54 = .ok (.iload_n 2, 1) := dk_28 (dk_at dksX1_move_2 2 rfl rfl)
theorem dX1_move_55 : decode cX1_move 55 = .ok (.aload 5, 2) := dk_25 5 (dk_at dksX1_move_2 3 rfl rfl)
theorem dX1_move_57 : decode cX1_move 57 = .ok (.checkcast 73, 3) := dk_192 0 73 (dk_at dksX1_move_2 5 rfl rfl)
theorem dX1_move_60 : decode cX1_move 60 = .ok (.iload 4, 2) := dk_21 4 (dk_at dksX1_move_2 8 rfl rfl)
theorem dX1_move_62 : decode cX1_move 62 = .ok (.invokevirtual 122, 3) := dk_182 0 122 (dk_at dksX1_move_2 10 rfl rfl)
theorem dX1_move_65 : decode cX1_move 65 = .ok (.goto 77, 3) := dk_167 0 77 (dk_at dksX1_move_2 13 rfl rfl)
theorem dX1_move_68 : decode cX1_move 68 = .ok (.aload_n 0, 1) := dk_42 (dk_at dksX1_move_2 16 rfl rfl)
theorem dX1_move_69 : decode cX1_move 69 = .ok (.aload_n 1, 1) := dk_43 (dk_at dksX1_move_2 17 rfl rfl)
theorem dX1_move_70 : decode cX1_move 70 = .ok (.iload_n 2, 1) := dk_28 (dk_at dksX1_move_2 18 rfl rfl)
theorem dX1_move_71 : decode cX1_move 71 = .ok (.aload 5, 2) := dk_25 5 (dk_at dksX1_move_2 19 rfl rfl)
theorem dX1_move_73 : decode cX1_move 73 = .ok (.checkcast 59, 3) := dk_192 0 59 (dk_at dksX1_move_2 21 rfl rfl)
theorem dX1_move_76 : decode cX1_move 76 = .ok (.aload_n 1, 1) := dk_43 (dk_at dksX1_move_3 0 rfl rfl)
theorem dX1_move_77 : decode cX1_move 77 = .ok (.iload_n 2, 1) := dk_28 (dk_at dksX1_move_3 1 rfl rfl)
theorem dX1_move_78 : decode cX1_move 78 = .ok (.invokevirtual 113, 3) := dk_182 0 113 (dk_at dksX1_move_3 2 rfl rfl)
theorem dX1_move_81 : decode cX1_move 81 = .ok (.invokevirtual 126, 3) := dk_182 0 126 (dk_at dksX1_move_3 5 rfl rfl)
theorem dX1_move_84 : decode cX1_move 84 = .ok (.goto 58, 3) := dk_167 0 58 (dk_at dksX1_move_3 8 rfl rfl)
theorem dX1_move_87 : decode cX1_move 87 = .ok (.aload_n 0, 1) := dk_42 (dk_at dksX1_move_3 11 rfl rfl)
theorem dX1_move_88 : decode cX1_move 88 = .ok (.aload_n 1, 1) := dk_43 (dk_at dksX1_move_3 12 rfl rfl)
theorem dX1_move_89 : decode cX1_move 89 = .ok (.iload_n 2, 1) := dk_28 (dk_at dksX1_move_3 13 rfl rfl)
theorem dX1_move_90 : decode cX1_move 90 = .ok (.iload_n 3, 1) := dk_29 (dk_at dksX1_move_3 14 rfl rfl)
theorem dX1_move_91 : decode cX1_move 91 = .ok (.invokevirtual 126, 3) := dk_182 0 126 (dk_at dksX1_move_3 15 rfl rfl)
theorem dX1_move_94 : decode cX1_move 94 = .ok (.goto 48, 3) := dk_167 0 48 (dk_at dksX1_move_3 18 rfl rfl)
theorem dX1_move_97 : decode cX1_move 97 = .ok (.aload_n 0, 1) := dk_42 (dk_at dksX1_move_3 21 rfl rfl)
theorem dX1_move_98 : decode cX1_move 98 = .ok (.iload_n 2, 1) := dk_28 (dk_at dksX1_move_3 22 rfl rfl)
theorem dX1_move_99 : decode cX1_move 99 = .ok (.aload_n 0, 1) := dk_42 (dk_at dksX1_move_3 23 rfl rfl)
theorem dX1_move_100 : decode cX1_move 100 = .ok (.getfield 129, 3) := dk_180 0 129 (dk_at dksX1_move_4 0 rfl rfl)
theorem dX1_move_103 : decode cX1_move 103 = .ok (.iload_n 2, 1) := dk_28 (dk_at dksX1_move_4 3 rfl rfl)
theorem dX1_move_104 : decode cX1_move 104 = .ok (.iaload, 1) := dk_46 (dk_at dksX1_move_4 4 rfl rfl)
theorem dX1_move_105 : decode cX1_move 105 = .ok (.invokevirtual 132, 3) := dk_182 0 132 (dk_at dksX1_move_4 5 rfl rfl)
theorem dX1_move_108 : decode cX1_move 108 = .ok (.aload_n 0, 1) := dk_42 (dk_at dksX1_move_4 8 rfl rfl)
theorem dX1_move_109 : decode cX1_move 109 = .ok (.getfield 136, 3) := dk_180 0 136 (dk_at dksX1_move_4 9 rfl rfl)
theorem dX1_move_112 : decode cX1_move 112 = .ok (.iload_n 2, 1) := dk_28 (dk_at dksX1_move_4 12 rfl rfl)
theorem dX1_move_113 : decode cX1_move 113 = .ok (.dup2, 1) := dk_92 (dk_at dksX1_move_4 13 rfl rfl)
theorem dX1_move_114 : decode cX1_move 114 = .ok (.iaload, 1) := dk_46 (dk_at dksX1_move_4 14 rfl rfl)
theorem dX1_move_115 : decode cX1_move 115 = .ok (.iconst 1, 1) := dk_4 (dk_at dksX1_move_4 15 rfl rfl)
theorem dX1_move_116 : decode cX1_move 116 = .ok (.iadd, 1) := dk_96 (dk_at dksX1_move_4 16 rfl rfl)
theorem dX1_move_117 : decode cX1_move 117 = .ok (.iastore, 1) := dk_79 (dk_at dksX1_move_4 17 rfl rfl)
theorem dX1_move_118 : decode cX1_move 118 = .ok (.aload_n 0, 1) := dk_42 (dk_at dksX1_move_4 18 rfl rfl)
theorem dX1_move_119 : decode cX1_move 119 = .ok (.aload_n 1, 1) := dk_43 (dk_at dksX1_move_4 19 rfl rfl)
theorem dX1_move_120 : decode cX1_move 120 = .ok (.iload_n 2, 1) := dk_28 (dk_at dksX1_move_4 20 rfl rfl)
theorem dX1_move_121 : decode cX1_move 121 = .ok (.aload 5, 2) := dk_25 5 (dk_at dksX1_move_4 21 rfl rfl)
theorem dX1_move_123 : decode cX1_move 123 = .ok (.getfield 13, 3) := dk_180 0 13 (dk_at dksX1_move_5 0 rfl rfl)
theorem dX1_move_126 : decode cX1_move 126 = .ok (.invokevirtual 55, 3) := dk_182 0 55 (dk_at dksX1_move_5 3 rfl rfl)
theorem dX1_move_129 : decode cX1_move 129 = .ok (.goto 13, 3) := dk_167 0 13 (dk_at dksX1_move_5 6 rfl rfl)
theorem dX1_move_132 : decode cX1_move 132 = .ok (.aload_n 0, 1) := dk_42 (dk_at dksX1_move_5 9 rfl rfl)
theorem dX1_move_133 : decode cX1_move 133 = .ok (.aload_n 1, 1) := dk_43 (dk_at dksX1_move_5 10 rfl rfl)
theorem dX1_move_134 : decode cX1_move 134 = .ok (.aload 5, 2) := dk_25 5 (dk_at dksX1_move_5 11 rfl rfl)
theorem dX1_move_136 : decode cX1_move 136 = .ok (.getfield 105, 3) := dk_180 0 105 (dk_at dksX1_move_5 13 rfl rfl)
theorem dX1_move_139 : decode cX1_move 139 = .ok (.invokevirtual 139, 3) := dk_182 0 139 (dk_at dksX1_move_5 16 rfl rfl)
theorem dX1_move_142 : decode cX1_move 142 = .ok (.return_, 1) := dk_177 (dk_at dksX1_move_5 19 rfl rfl)
abbrev cX1_sends : ByteArray := prog_1_method_9_code
def yX1_sends : MethodName := ⟨RX1, "sends", "(LSendHall$Life;ILSendHall$Send;I)V"⟩
def dkwX1_sends_8 : List UInt8 := [28, 45, 180, 0, 172, 182, 0, 55, 177]
abbrev dktX1_sends_8 : List UInt8 := dkwX1_sends_8 ++ []
def dkwX1_sends_7 : List UInt8 := [43, 21, 5, 28, 45, 180, 0, 149, 43, 28, 185, 0, 153, 3, 0, 45, 180, 0, 158, 182, 0, 168, 42, 43]
abbrev dktX1_sends_7 : List UInt8 := dkwX1_sends_7 ++ dktX1_sends_8
def dkwX1_sends_6 : List UInt8 := [28, 92, 46, 4, 21, 6, 96, 96, 79, 42, 180, 0, 136, 21, 5, 92, 46, 4, 21, 6, 96, 96, 79, 42]
abbrev dktX1_sends_6 : List UInt8 := dkwX1_sends_6 ++ dktX1_sends_7
def dkwX1_sends_5 : List UInt8 := [184, 0, 165, 54, 7, 42, 28, 21, 7, 182, 0, 132, 42, 21, 5, 21, 7, 182, 0, 132, 42, 180, 0, 136]
abbrev dktX1_sends_5 : List UInt8 := dkwX1_sends_5 ++ dktX1_sends_6
def dkwX1_sends_4 : List UInt8 := [46, 21, 6, 96, 182, 0, 161, 167, 0, 86, 42, 180, 0, 136, 28, 46, 42, 180, 0, 136, 21, 5, 46]
abbrev dktX1_sends_4 : List UInt8 := dkwX1_sends_4 ++ dktX1_sends_5
def dkwX1_sends_3 : List UInt8 := [180, 0, 94, 5, 160, 0, 11, 45, 180, 0, 158, 116, 167, 0, 7, 45, 180, 0, 158, 42, 180, 0, 136, 28]
abbrev dktX1_sends_3 : List UInt8 := dkwX1_sends_3 ++ dktX1_sends_4
def dkwX1_sends_2 : List UInt8 := [43, 28, 21, 5, 45, 43, 28, 182, 0, 79, 45, 180, 0, 149, 43, 28, 185, 0, 153, 3, 0, 45]
abbrev dktX1_sends_2 : List UInt8 := dkwX1_sends_2 ++ dktX1_sends_3
def dkwX1_sends_1 : List UInt8 := [96, 54, 6, 42, 43, 28, 21, 4, 182, 0, 106, 153, 0, 69, 42, 180, 0, 136, 28, 92, 46, 4, 96, 79]
abbrev dktX1_sends_1 : List UInt8 := dkwX1_sends_1 ++ dktX1_sends_2
def dkwX1_sends_0 : List UInt8 := [45, 43, 28, 182, 0, 75, 54, 5, 42, 180, 0, 143, 42, 180, 0, 146, 28, 21, 5, 100, 184, 0, 63, 104]
abbrev dktX1_sends_0 : List UInt8 := dkwX1_sends_0 ++ dktX1_sends_1
theorem dksX1_sends_0 : cX1_sends.data.toList.drop 0 = dktX1_sends_0 := by decide +kernel
theorem dksX1_sends_1 : cX1_sends.data.toList.drop 24 = dktX1_sends_1 := dk_seg dksX1_sends_0 24 rfl rfl
theorem dksX1_sends_2 : cX1_sends.data.toList.drop 48 = dktX1_sends_2 := dk_seg dksX1_sends_1 24 rfl rfl
theorem dksX1_sends_3 : cX1_sends.data.toList.drop 70 = dktX1_sends_3 := dk_seg dksX1_sends_2 22 rfl rfl
theorem dksX1_sends_4 : cX1_sends.data.toList.drop 94 = dktX1_sends_4 := dk_seg dksX1_sends_3 24 rfl rfl
theorem dksX1_sends_5 : cX1_sends.data.toList.drop 117 = dktX1_sends_5 := dk_seg dksX1_sends_4 23 rfl rfl
theorem dksX1_sends_6 : cX1_sends.data.toList.drop 141 = dktX1_sends_6 := dk_seg dksX1_sends_5 24 rfl rfl
theorem dksX1_sends_7 : cX1_sends.data.toList.drop 165 = dktX1_sends_7 := dk_seg dksX1_sends_6 24 rfl rfl
theorem dksX1_sends_8 : cX1_sends.data.toList.drop 189 = dktX1_sends_8 := dk_seg dksX1_sends_7 24 rfl rfl
theorem dX1_sends_0 : decode cX1_sends 0 = .ok (.aload_n 3, 1) := dk_45 (dk_at dksX1_sends_0 0 rfl rfl)
theorem dX1_sends_1 : decode cX1_sends 1 = .ok (.aload_n 1, 1) := dk_43 (dk_at dksX1_sends_0 1 rfl rfl)
theorem dX1_sends_2 : decode cX1_sends 2 = .ok (.iload_n 2, 1) := dk_28 (dk_at dksX1_sends_0 2 rfl rfl)
theorem dX1_sends_3 : decode cX1_sends 3 = .ok (.invokevirtual 75, 3) := dk_182 0 75 (dk_at dksX1_sends_0 3 rfl rfl)
theorem dX1_sends_6 : decode cX1_sends 6 = .ok (.istore 5, 2) := dk_54 5 (dk_at dksX1_sends_0 6 rfl rfl)
theorem dX1_sends_8 : decode cX1_sends 8 = .ok (.aload_n 0, 1) := dk_42 (dk_at dksX1_sends_0 8 rfl rfl)
theorem dX1_sends_9 : decode cX1_sends 9 = .ok (.getfield 143, 3) := dk_180 0 143 (dk_at dksX1_sends_0 9 rfl rfl)
theorem dX1_sends_12 : decode cX1_sends 12 = .ok (.aload_n 0, 1) := dk_42 (dk_at dksX1_sends_0 12 rfl rfl)
theorem dX1_sends_13 : decode cX1_sends 13 = .ok (.getfield 146, 3) := dk_180 0 146 (dk_at dksX1_sends_0 13 rfl rfl)
theorem dX1_sends_16 : decode cX1_sends 16 = .ok (.iload_n 2, 1) := dk_28 (dk_at dksX1_sends_0 16 rfl rfl)
theorem dX1_sends_17 : decode cX1_sends 17 = .ok (.iload 5, 2) := dk_21 5 (dk_at dksX1_sends_0 17 rfl rfl)
theorem dX1_sends_19 : decode cX1_sends 19 = .ok (.isub, 1) := dk_100 (dk_at dksX1_sends_0 19 rfl rfl)
theorem dX1_sends_20 : decode cX1_sends 20 = .ok (.invokestatic 63, 3) := dk_184 0 63 (dk_at dksX1_sends_0 20 rfl rfl)
theorem dX1_sends_23 : decode cX1_sends 23 = .ok (.imul, 1) := dk_104 (dk_at dksX1_sends_0 23 rfl rfl)
theorem dX1_sends_24 : decode cX1_sends 24 = .ok (.iadd, 1) := dk_96 (dk_at dksX1_sends_1 0 rfl rfl)
theorem dX1_sends_25 : decode cX1_sends 25 = .ok (.istore 6, 2) := dk_54 6 (dk_at dksX1_sends_1 1 rfl rfl)
theorem dX1_sends_27 : decode cX1_sends 27 = .ok (.aload_n 0, 1) := dk_42 (dk_at dksX1_sends_1 3 rfl rfl)
theorem dX1_sends_28 : decode cX1_sends 28 = .ok (.aload_n 1, 1) := dk_43 (dk_at dksX1_sends_1 4 rfl rfl)
theorem dX1_sends_29 : decode cX1_sends 29 = .ok (.iload_n 2, 1) := dk_28 (dk_at dksX1_sends_1 5 rfl rfl)
theorem dX1_sends_30 : decode cX1_sends 30 = .ok (.iload 4, 2) := dk_21 4 (dk_at dksX1_sends_1 6 rfl rfl)
theorem dX1_sends_32 : decode cX1_sends 32 = .ok (.invokevirtual 106, 3) := dk_182 0 106 (dk_at dksX1_sends_1 8 rfl rfl)
theorem dX1_sends_35 : decode cX1_sends 35 = .ok (.ifCond .eq 69, 3) := dk_153 0 69 (dk_at dksX1_sends_1 11 rfl rfl)
theorem dX1_sends_38 : decode cX1_sends 38 = .ok (.aload_n 0, 1) := dk_42 (dk_at dksX1_sends_1 14 rfl rfl)
theorem dX1_sends_39 : decode cX1_sends 39 = .ok (.getfield 136, 3) := dk_180 0 136 (dk_at dksX1_sends_1 15 rfl rfl)
theorem dX1_sends_42 : decode cX1_sends 42 = .ok (.iload_n 2, 1) := dk_28 (dk_at dksX1_sends_1 18 rfl rfl)
theorem dX1_sends_43 : decode cX1_sends 43 = .ok (.dup2, 1) := dk_92 (dk_at dksX1_sends_1 19 rfl rfl)
theorem dX1_sends_44 : decode cX1_sends 44 = .ok (.iaload, 1) := dk_46 (dk_at dksX1_sends_1 20 rfl rfl)
theorem dX1_sends_45 : decode cX1_sends 45 = .ok (.iconst 1, 1) := dk_4 (dk_at dksX1_sends_1 21 rfl rfl)
theorem dX1_sends_46 : decode cX1_sends 46 = .ok (.iadd, 1) := dk_96 (dk_at dksX1_sends_1 22 rfl rfl)
theorem dX1_sends_47 : decode cX1_sends 47 = .ok (.iastore, 1) := dk_79 (dk_at dksX1_sends_1 23 rfl rfl)
theorem dX1_sends_48 : decode cX1_sends 48 = .ok (.aload_n 1, 1) := dk_43 (dk_at dksX1_sends_2 0 rfl rfl)
theorem dX1_sends_49 : decode cX1_sends 49 = .ok (.iload_n 2, 1) := dk_28 (dk_at dksX1_sends_2 1 rfl rfl)
theorem dX1_sends_50 : decode cX1_sends 50 = .ok (.iload 5, 2) := dk_21 5 (dk_at dksX1_sends_2 2 rfl rfl)
theorem dX1_sends_52 : decode cX1_sends 52 = .ok (.aload_n 3, 1) := dk_45 (dk_at dksX1_sends_2 4 rfl rfl)
theorem dX1_sends_53 : decode cX1_sends 53 = .ok (.aload_n 1, 1) := dk_43 (dk_at dksX1_sends_2 5 rfl rfl)
theorem dX1_sends_54 : decode cX1_sends 54 = .ok (.iload_n 2, 1) := dk_28 (dk_at dksX1_sends_2 6 rfl rfl)
theorem dX1_sends_55 : decode cX1_sends 55 = .ok (.invokevirtual 79, 3) := dk_182 0 79 (dk_at dksX1_sends_2 7 rfl rfl)
theorem dX1_sends_58 : decode cX1_sends 58 = .ok (.aload_n 3, 1) := dk_45 (dk_at dksX1_sends_2 10 rfl rfl)
theorem dX1_sends_59 : decode cX1_sends 59 = .ok (.getfield 149, 3) := dk_180 0 149 (dk_at dksX1_sends_2 11 rfl rfl)
theorem dX1_sends_62 : decode cX1_sends 62 = .ok (.aload_n 1, 1) := dk_43 (dk_at dksX1_sends_2 14 rfl rfl)
theorem dX1_sends_63 : decode cX1_sends 63 = .ok (.iload_n 2, 1) := dk_28 (dk_at dksX1_sends_2 15 rfl rfl)
theorem dX1_sends_64 : decode cX1_sends 64 = .ok (.invokeinterface 153 3, 5) := by decide +kernel
theorem dX1_sends_69 : decode cX1_sends 69 = .ok (.aload_n 3, 1) := dk_45 (dk_at dksX1_sends_2 21 rfl rfl)
theorem dX1_sends_70 : decode cX1_sends 70 = .ok (.getfield 94, 3) := dk_180 0 94 (dk_at dksX1_sends_3 0 rfl rfl)
theorem dX1_sends_73 : decode cX1_sends 73 = .ok (.iconst 2, 1) := dk_5 (dk_at dksX1_sends_3 3 rfl rfl)
theorem dX1_sends_74 : decode cX1_sends 74 = .ok (.if_icmp .ne 11, 3) := dk_160 0 11 (dk_at dksX1_sends_3 4 rfl rfl)
theorem dX1_sends_77 : decode cX1_sends 77 = .ok (.aload_n 3, 1) := dk_45 (dk_at dksX1_sends_3 7 rfl rfl)
theorem dX1_sends_78 : decode cX1_sends 78 = .ok (.getfield 158, 3) := dk_180 0 158 (dk_at dksX1_sends_3 8 rfl rfl)
theorem dX1_sends_81 : decode cX1_sends 81 = .ok (.ineg, 1) := dk_116 (dk_at dksX1_sends_3 11 rfl rfl)
theorem dX1_sends_82 : decode cX1_sends 82 = .ok (.goto 7, 3) := dk_167 0 7 (dk_at dksX1_sends_3 12 rfl rfl)
theorem dX1_sends_85 : decode cX1_sends 85 = .ok (.aload_n 3, 1) := dk_45 (dk_at dksX1_sends_3 15 rfl rfl)
theorem dX1_sends_86 : decode cX1_sends 86 = .ok (.getfield 158, 3) := dk_180 0 158 (dk_at dksX1_sends_3 16 rfl rfl)
theorem dX1_sends_89 : decode cX1_sends 89 = .ok (.aload_n 0, 1) := dk_42 (dk_at dksX1_sends_3 19 rfl rfl)
theorem dX1_sends_90 : decode cX1_sends 90 = .ok (.getfield 136, 3) := dk_180 0 136 (dk_at dksX1_sends_3 20 rfl rfl)
theorem dX1_sends_93 : decode cX1_sends 93 = .ok (.iload_n 2, 1) := dk_28 (dk_at dksX1_sends_3 23 rfl rfl)
theorem dX1_sends_94 : decode cX1_sends 94 = .ok (.iaload, 1) := dk_46 (dk_at dksX1_sends_4 0 rfl rfl)
theorem dX1_sends_95 : decode cX1_sends 95 = .ok (.iload 6, 2) := dk_21 6 (dk_at dksX1_sends_4 1 rfl rfl)
theorem dX1_sends_97 : decode cX1_sends 97 = .ok (.iadd, 1) := dk_96 (dk_at dksX1_sends_4 3 rfl rfl)
theorem dX1_sends_98 : decode cX1_sends 98 = .ok (.invokevirtual 161, 3) := dk_182 0 161 (dk_at dksX1_sends_4 4 rfl rfl)
theorem dX1_sends_101 : decode cX1_sends 101 = .ok (.goto 86, 3) := dk_167 0 86 (dk_at dksX1_sends_4 7 rfl rfl)
theorem dX1_sends_104 : decode cX1_sends 104 = .ok (.aload_n 0, 1) := dk_42 (dk_at dksX1_sends_4 10 rfl rfl)
theorem dX1_sends_105 : decode cX1_sends 105 = .ok (.getfield 136, 3) := dk_180 0 136 (dk_at dksX1_sends_4 11 rfl rfl)
theorem dX1_sends_108 : decode cX1_sends 108 = .ok (.iload_n 2, 1) := dk_28 (dk_at dksX1_sends_4 14 rfl rfl)
theorem dX1_sends_109 : decode cX1_sends 109 = .ok (.iaload, 1) := dk_46 (dk_at dksX1_sends_4 15 rfl rfl)
theorem dX1_sends_110 : decode cX1_sends 110 = .ok (.aload_n 0, 1) := dk_42 (dk_at dksX1_sends_4 16 rfl rfl)
theorem dX1_sends_111 : decode cX1_sends 111 = .ok (.getfield 136, 3) := dk_180 0 136 (dk_at dksX1_sends_4 17 rfl rfl)
theorem dX1_sends_114 : decode cX1_sends 114 = .ok (.iload 5, 2) := dk_21 5 (dk_at dksX1_sends_4 20 rfl rfl)
theorem dX1_sends_116 : decode cX1_sends 116 = .ok (.iaload, 1) := dk_46 (dk_at dksX1_sends_4 22 rfl rfl)
theorem dX1_sends_117 : decode cX1_sends 117 = .ok (.invokestatic 165, 3) := dk_184 0 165 (dk_at dksX1_sends_5 0 rfl rfl)
theorem dX1_sends_120 : decode cX1_sends 120 = .ok (.istore 7, 2) := dk_54 7 (dk_at dksX1_sends_5 3 rfl rfl)
theorem dX1_sends_122 : decode cX1_sends 122 = .ok (.aload_n 0, 1) := dk_42 (dk_at dksX1_sends_5 5 rfl rfl)
theorem dX1_sends_123 : decode cX1_sends 123 = .ok (.iload_n 2, 1) := dk_28 (dk_at dksX1_sends_5 6 rfl rfl)
theorem dX1_sends_124 : decode cX1_sends 124 = .ok (.iload 7, 2) := dk_21 7 (dk_at dksX1_sends_5 7 rfl rfl)
theorem dX1_sends_126 : decode cX1_sends 126 = .ok (.invokevirtual 132, 3) := dk_182 0 132 (dk_at dksX1_sends_5 9 rfl rfl)
theorem dX1_sends_129 : decode cX1_sends 129 = .ok (.aload_n 0, 1) := dk_42 (dk_at dksX1_sends_5 12 rfl rfl)
theorem dX1_sends_130 : decode cX1_sends 130 = .ok (.iload 5, 2) := dk_21 5 (dk_at dksX1_sends_5 13 rfl rfl)
theorem dX1_sends_132 : decode cX1_sends 132 = .ok (.iload 7, 2) := dk_21 7 (dk_at dksX1_sends_5 15 rfl rfl)
theorem dX1_sends_134 : decode cX1_sends 134 = .ok (.invokevirtual 132, 3) := dk_182 0 132 (dk_at dksX1_sends_5 17 rfl rfl)
theorem dX1_sends_137 : decode cX1_sends 137 = .ok (.aload_n 0, 1) := dk_42 (dk_at dksX1_sends_5 20 rfl rfl)
theorem dX1_sends_138 : decode cX1_sends 138 = .ok (.getfield 136, 3) := dk_180 0 136 (dk_at dksX1_sends_5 21 rfl rfl)
theorem dX1_sends_141 : decode cX1_sends 141 = .ok (.iload_n 2, 1) := dk_28 (dk_at dksX1_sends_6 0 rfl rfl)
theorem dX1_sends_142 : decode cX1_sends 142 = .ok (.dup2, 1) := dk_92 (dk_at dksX1_sends_6 1 rfl rfl)
theorem dX1_sends_143 : decode cX1_sends 143 = .ok (.iaload, 1) := dk_46 (dk_at dksX1_sends_6 2 rfl rfl)
theorem dX1_sends_144 : decode cX1_sends 144 = .ok (.iconst 1, 1) := dk_4 (dk_at dksX1_sends_6 3 rfl rfl)
theorem dX1_sends_145 : decode cX1_sends 145 = .ok (.iload 6, 2) := dk_21 6 (dk_at dksX1_sends_6 4 rfl rfl)
theorem dX1_sends_147 : decode cX1_sends 147 = .ok (.iadd, 1) := dk_96 (dk_at dksX1_sends_6 6 rfl rfl)
theorem dX1_sends_148 : decode cX1_sends 148 = .ok (.iadd, 1) := dk_96 (dk_at dksX1_sends_6 7 rfl rfl)
theorem dX1_sends_149 : decode cX1_sends 149 = .ok (.iastore, 1) := dk_79 (dk_at dksX1_sends_6 8 rfl rfl)
theorem dX1_sends_150 : decode cX1_sends 150 = .ok (.aload_n 0, 1) := dk_42 (dk_at dksX1_sends_6 9 rfl rfl)
theorem dX1_sends_151 : decode cX1_sends 151 = .ok (.getfield 136, 3) := dk_180 0 136 (dk_at dksX1_sends_6 10 rfl rfl)
theorem dX1_sends_154 : decode cX1_sends 154 = .ok (.iload 5, 2) := dk_21 5 (dk_at dksX1_sends_6 13 rfl rfl)
theorem dX1_sends_156 : decode cX1_sends 156 = .ok (.dup2, 1) := dk_92 (dk_at dksX1_sends_6 15 rfl rfl)
theorem dX1_sends_157 : decode cX1_sends 157 = .ok (.iaload, 1) := dk_46 (dk_at dksX1_sends_6 16 rfl rfl)
theorem dX1_sends_158 : decode cX1_sends 158 = .ok (.iconst 1, 1) := dk_4 (dk_at dksX1_sends_6 17 rfl rfl)
theorem dX1_sends_159 : decode cX1_sends 159 = .ok (.iload 6, 2) := dk_21 6 (dk_at dksX1_sends_6 18 rfl rfl)
theorem dX1_sends_161 : decode cX1_sends 161 = .ok (.iadd, 1) := dk_96 (dk_at dksX1_sends_6 20 rfl rfl)
theorem dX1_sends_162 : decode cX1_sends 162 = .ok (.iadd, 1) := dk_96 (dk_at dksX1_sends_6 21 rfl rfl)
theorem dX1_sends_163 : decode cX1_sends 163 = .ok (.iastore, 1) := dk_79 (dk_at dksX1_sends_6 22 rfl rfl)
theorem dX1_sends_164 : decode cX1_sends 164 = .ok (.aload_n 0, 1) := dk_42 (dk_at dksX1_sends_6 23 rfl rfl)
theorem dX1_sends_165 : decode cX1_sends 165 = .ok (.aload_n 1, 1) := dk_43 (dk_at dksX1_sends_7 0 rfl rfl)
theorem dX1_sends_166 : decode cX1_sends 166 = .ok (.iload 5, 2) := dk_21 5 (dk_at dksX1_sends_7 1 rfl rfl)
theorem dX1_sends_168 : decode cX1_sends 168 = .ok (.iload_n 2, 1) := dk_28 (dk_at dksX1_sends_7 3 rfl rfl)
theorem dX1_sends_169 : decode cX1_sends 169 = .ok (.aload_n 3, 1) := dk_45 (dk_at dksX1_sends_7 4 rfl rfl)
theorem dX1_sends_170 : decode cX1_sends 170 = .ok (.getfield 149, 3) := dk_180 0 149 (dk_at dksX1_sends_7 5 rfl rfl)
theorem dX1_sends_173 : decode cX1_sends 173 = .ok (.aload_n 1, 1) := dk_43 (dk_at dksX1_sends_7 8 rfl rfl)
theorem dX1_sends_174 : decode cX1_sends 174 = .ok (.iload_n 2, 1) := dk_28 (dk_at dksX1_sends_7 9 rfl rfl)
theorem dX1_sends_175 : decode cX1_sends 175 = .ok (.invokeinterface 153 3, 5) := by decide +kernel
theorem dX1_sends_180 : decode cX1_sends 180 = .ok (.aload_n 3, 1) := dk_45 (dk_at dksX1_sends_7 15 rfl rfl)
theorem dX1_sends_181 : decode cX1_sends 181 = .ok (.getfield 158, 3) := dk_180 0 158 (dk_at dksX1_sends_7 16 rfl rfl)
theorem dX1_sends_184 : decode cX1_sends 184 = .ok (.invokevirtual 168, 3) := dk_182 0 168 (dk_at dksX1_sends_7 19 rfl rfl)
theorem dX1_sends_187 : decode cX1_sends 187 = .ok (.aload_n 0, 1) := dk_42 (dk_at dksX1_sends_7 22 rfl rfl)
theorem dX1_sends_188 : decode cX1_sends 188 = .ok (.aload_n 1, 1) := dk_43 (dk_at dksX1_sends_7 23 rfl rfl)
theorem dX1_sends_189 : decode cX1_sends 189 = .ok (.iload_n 2, 1) := dk_28 (dk_at dksX1_sends_8 0 rfl rfl)
theorem dX1_sends_190 : decode cX1_sends 190 = .ok (.aload_n 3, 1) := dk_45 (dk_at dksX1_sends_8 1 rfl rfl)
theorem dX1_sends_191 : decode cX1_sends 191 = .ok (.getfield 172, 3) := dk_180 0 172 (dk_at dksX1_sends_8 2 rfl rfl)
theorem dX1_sends_194 : decode cX1_sends 194 = .ok (.invokevirtual 55, 3) := dk_182 0 55 (dk_at dksX1_sends_8 5 rfl rfl)
theorem dX1_sends_197 : decode cX1_sends 197 = .ok (.return_, 1) := dk_177 (dk_at dksX1_sends_8 8 rfl rfl)
abbrev cX1_clocks : ByteArray := prog_1_method_12_code
def yX1_clocks : MethodName := ⟨RX1, "clocks", "(II)V"⟩
def dkwX1_clocks_1 : List UInt8 := [46, 100, 96, 79, 42, 180, 0, 136, 27, 28, 79, 177]
abbrev dktX1_clocks_1 : List UInt8 := dkwX1_clocks_1 ++ []
def dkwX1_clocks_0 : List UInt8 := [28, 42, 180, 0, 136, 27, 46, 163, 0, 4, 177, 42, 180, 0, 191, 27, 92, 46, 28, 42, 180, 0, 136, 27]
abbrev dktX1_clocks_0 : List UInt8 := dkwX1_clocks_0 ++ dktX1_clocks_1
theorem dksX1_clocks_0 : cX1_clocks.data.toList.drop 0 = dktX1_clocks_0 := by decide +kernel
theorem dksX1_clocks_1 : cX1_clocks.data.toList.drop 24 = dktX1_clocks_1 := dk_seg dksX1_clocks_0 24 rfl rfl
theorem dX1_clocks_0 : decode cX1_clocks 0 = .ok (.iload_n 2, 1) := dk_28 (dk_at dksX1_clocks_0 0 rfl rfl)
theorem dX1_clocks_1 : decode cX1_clocks 1 = .ok (.aload_n 0, 1) := dk_42 (dk_at dksX1_clocks_0 1 rfl rfl)
theorem dX1_clocks_2 : decode cX1_clocks 2 = .ok (.getfield 136, 3) := dk_180 0 136 (dk_at dksX1_clocks_0 2 rfl rfl)
theorem dX1_clocks_5 : decode cX1_clocks 5 = .ok (.iload_n 1, 1) := dk_27 (dk_at dksX1_clocks_0 5 rfl rfl)
theorem dX1_clocks_6 : decode cX1_clocks 6 = .ok (.iaload, 1) := dk_46 (dk_at dksX1_clocks_0 6 rfl rfl)
theorem dX1_clocks_7 : decode cX1_clocks 7 = .ok (.if_icmp .gt 4, 3) := dk_163 0 4 (dk_at dksX1_clocks_0 7 rfl rfl)
theorem dX1_clocks_10 : decode cX1_clocks 10 = .ok (.return_, 1) := dk_177 (dk_at dksX1_clocks_0 10 rfl rfl)
theorem dX1_clocks_11 : decode cX1_clocks 11 = .ok (.aload_n 0, 1) := dk_42 (dk_at dksX1_clocks_0 11 rfl rfl)
theorem dX1_clocks_12 : decode cX1_clocks 12 = .ok (.getfield 191, 3) := dk_180 0 191 (dk_at dksX1_clocks_0 12 rfl rfl)
theorem dX1_clocks_15 : decode cX1_clocks 15 = .ok (.iload_n 1, 1) := dk_27 (dk_at dksX1_clocks_0 15 rfl rfl)
theorem dX1_clocks_16 : decode cX1_clocks 16 = .ok (.dup2, 1) := dk_92 (dk_at dksX1_clocks_0 16 rfl rfl)
theorem dX1_clocks_17 : decode cX1_clocks 17 = .ok (.iaload, 1) := dk_46 (dk_at dksX1_clocks_0 17 rfl rfl)
theorem dX1_clocks_18 : decode cX1_clocks 18 = .ok (.iload_n 2, 1) := dk_28 (dk_at dksX1_clocks_0 18 rfl rfl)
theorem dX1_clocks_19 : decode cX1_clocks 19 = .ok (.aload_n 0, 1) := dk_42 (dk_at dksX1_clocks_0 19 rfl rfl)
theorem dX1_clocks_20 : decode cX1_clocks 20 = .ok (.getfield 136, 3) := dk_180 0 136 (dk_at dksX1_clocks_0 20 rfl rfl)
theorem dX1_clocks_23 : decode cX1_clocks 23 = .ok (.iload_n 1, 1) := dk_27 (dk_at dksX1_clocks_0 23 rfl rfl)
theorem dX1_clocks_24 : decode cX1_clocks 24 = .ok (.iaload, 1) := dk_46 (dk_at dksX1_clocks_1 0 rfl rfl)
theorem dX1_clocks_25 : decode cX1_clocks 25 = .ok (.isub, 1) := dk_100 (dk_at dksX1_clocks_1 1 rfl rfl)
theorem dX1_clocks_26 : decode cX1_clocks 26 = .ok (.iadd, 1) := dk_96 (dk_at dksX1_clocks_1 2 rfl rfl)
theorem dX1_clocks_27 : decode cX1_clocks 27 = .ok (.iastore, 1) := dk_79 (dk_at dksX1_clocks_1 3 rfl rfl)
theorem dX1_clocks_28 : decode cX1_clocks 28 = .ok (.aload_n 0, 1) := dk_42 (dk_at dksX1_clocks_1 4 rfl rfl)
theorem dX1_clocks_29 : decode cX1_clocks 29 = .ok (.getfield 136, 3) := dk_180 0 136 (dk_at dksX1_clocks_1 5 rfl rfl)
theorem dX1_clocks_32 : decode cX1_clocks 32 = .ok (.iload_n 1, 1) := dk_27 (dk_at dksX1_clocks_1 8 rfl rfl)
theorem dX1_clocks_33 : decode cX1_clocks 33 = .ok (.iload_n 2, 1) := dk_28 (dk_at dksX1_clocks_1 9 rfl rfl)
theorem dX1_clocks_34 : decode cX1_clocks 34 = .ok (.iastore, 1) := dk_79 (dk_at dksX1_clocks_1 10 rfl rfl)
theorem dX1_clocks_35 : decode cX1_clocks 35 = .ok (.return_, 1) := dk_177 (dk_at dksX1_clocks_1 11 rfl rfl)
abbrev cX1_gets : ByteArray := prog_1_method_3_code
def yX1_gets : MethodName := ⟨RX1, "gets", "(LSendHall$Life;IIII)V"⟩
def dkwX1_gets_2 : List UInt8 := [180, 0, 33, 28, 4, 84, 167, 0, 14, 42, 43, 28, 25, 6, 180, 0, 72, 182, 0, 55, 177]
abbrev dktX1_gets_2 : List UInt8 := dkwX1_gets_2 ++ []
def dkwX1_gets_1 : List UInt8 := [21, 4, 79, 43, 180, 0, 36, 28, 29, 79, 21, 5, 184, 0, 63, 25, 6, 180, 0, 69, 164, 0, 13, 43]
abbrev dktX1_gets_1 : List UInt8 := dkwX1_gets_1 ++ dktX1_gets_2
def dkwX1_gets_0 : List UInt8 := [43, 180, 0, 21, 28, 50, 192, 0, 59, 58, 6, 43, 180, 0, 43, 7, 28, 104, 25, 6, 180, 0, 61, 96]
abbrev dktX1_gets_0 : List UInt8 := dkwX1_gets_0 ++ dktX1_gets_1
theorem dksX1_gets_0 : cX1_gets.data.toList.drop 0 = dktX1_gets_0 := by decide +kernel
theorem dksX1_gets_1 : cX1_gets.data.toList.drop 24 = dktX1_gets_1 := dk_seg dksX1_gets_0 24 rfl rfl
theorem dksX1_gets_2 : cX1_gets.data.toList.drop 48 = dktX1_gets_2 := dk_seg dksX1_gets_1 24 rfl rfl
theorem dX1_gets_0 : decode cX1_gets 0 = .ok (.aload_n 1, 1) := dk_43 (dk_at dksX1_gets_0 0 rfl rfl)
theorem dX1_gets_1 : decode cX1_gets 1 = .ok (.getfield 21, 3) := dk_180 0 21 (dk_at dksX1_gets_0 1 rfl rfl)
theorem dX1_gets_4 : decode cX1_gets 4 = .ok (.iload_n 2, 1) := dk_28 (dk_at dksX1_gets_0 4 rfl rfl)
theorem dX1_gets_5 : decode cX1_gets 5 = .ok (.aaload, 1) := dk_50 (dk_at dksX1_gets_0 5 rfl rfl)
theorem dX1_gets_6 : decode cX1_gets 6 = .ok (.checkcast 59, 3) := dk_192 0 59 (dk_at dksX1_gets_0 6 rfl rfl)
theorem dX1_gets_9 : decode cX1_gets 9 = .ok (.astore 6, 2) := dk_58 6 (dk_at dksX1_gets_0 9 rfl rfl)
theorem dX1_gets_11 : decode cX1_gets 11 = .ok (.aload_n 1, 1) := dk_43 (dk_at dksX1_gets_0 11 rfl rfl)
theorem dX1_gets_12 : decode cX1_gets 12 = .ok (.getfield 43, 3) := dk_180 0 43 (dk_at dksX1_gets_0 12 rfl rfl)
theorem dX1_gets_15 : decode cX1_gets 15 = .ok (.iconst 4, 1) := dk_7 (dk_at dksX1_gets_0 15 rfl rfl)
theorem dX1_gets_16 : decode cX1_gets 16 = .ok (.iload_n 2, 1) := dk_28 (dk_at dksX1_gets_0 16 rfl rfl)
theorem dX1_gets_17 : decode cX1_gets 17 = .ok (.imul, 1) := dk_104 (dk_at dksX1_gets_0 17 rfl rfl)
theorem dX1_gets_18 : decode cX1_gets 18 = .ok (.aload 6, 2) := dk_25 6 (dk_at dksX1_gets_0 18 rfl rfl)
theorem dX1_gets_20 : decode cX1_gets 20 = .ok (.getfield 61, 3) := dk_180 0 61 (dk_at dksX1_gets_0 20 rfl rfl)
theorem dX1_gets_23 : decode cX1_gets 23 = .ok (.iadd, 1) := dk_96 (dk_at dksX1_gets_0 23 rfl rfl)
theorem dX1_gets_24 : decode cX1_gets 24 = .ok (.iload 4, 2) := dk_21 4 (dk_at dksX1_gets_1 0 rfl rfl)
theorem dX1_gets_26 : decode cX1_gets 26 = .ok (.iastore, 1) := dk_79 (dk_at dksX1_gets_1 2 rfl rfl)
theorem dX1_gets_27 : decode cX1_gets 27 = .ok (.aload_n 1, 1) := dk_43 (dk_at dksX1_gets_1 3 rfl rfl)
theorem dX1_gets_28 : decode cX1_gets 28 = .ok (.getfield 36, 3) := dk_180 0 36 (dk_at dksX1_gets_1 4 rfl rfl)
theorem dX1_gets_31 : decode cX1_gets 31 = .ok (.iload_n 2, 1) := dk_28 (dk_at dksX1_gets_1 7 rfl rfl)
theorem dX1_gets_32 : decode cX1_gets 32 = .ok (.iload_n 3, 1) := dk_29 (dk_at dksX1_gets_1 8 rfl rfl)
theorem dX1_gets_33 : decode cX1_gets 33 = .ok (.iastore, 1) := dk_79 (dk_at dksX1_gets_1 9 rfl rfl)
theorem dX1_gets_34 : decode cX1_gets 34 = .ok (.iload 5, 2) := dk_21 5 (dk_at dksX1_gets_1 10 rfl rfl)
theorem dX1_gets_36 : decode cX1_gets 36 = .ok (.invokestatic 63, 3) := dk_184 0 63 (dk_at dksX1_gets_1 12 rfl rfl)
theorem dX1_gets_39 : decode cX1_gets 39 = .ok (.aload 6, 2) := dk_25 6 (dk_at dksX1_gets_1 15 rfl rfl)
theorem dX1_gets_41 : decode cX1_gets 41 = .ok (.getfield 69, 3) := dk_180 0 69 (dk_at dksX1_gets_1 17 rfl rfl)
theorem dX1_gets_44 : decode cX1_gets 44 = .ok (.if_icmp .le 13, 3) := dk_164 0 13 (dk_at dksX1_gets_1 20 rfl rfl)
theorem dX1_gets_47 : decode cX1_gets 47 = .ok (.aload_n 1, 1) := dk_43 (dk_at dksX1_gets_1 23 rfl rfl)
theorem dX1_gets_48 : decode cX1_gets 48 = .ok (.getfield 33, 3) := dk_180 0 33 (dk_at dksX1_gets_2 0 rfl rfl)
theorem dX1_gets_51 : decode cX1_gets 51 = .ok (.iload_n 2, 1) := dk_28 (dk_at dksX1_gets_2 3 rfl rfl)
theorem dX1_gets_52 : decode cX1_gets 52 = .ok (.iconst 1, 1) := dk_4 (dk_at dksX1_gets_2 4 rfl rfl)
theorem dX1_gets_53 : decode cX1_gets 53 = .ok (.bastore, 1) := dk_84 (dk_at dksX1_gets_2 5 rfl rfl)
theorem dX1_gets_54 : decode cX1_gets 54 = .ok (.goto 14, 3) := dk_167 0 14 (dk_at dksX1_gets_2 6 rfl rfl)
theorem dX1_gets_57 : decode cX1_gets 57 = .ok (.aload_n 0, 1) := dk_42 (dk_at dksX1_gets_2 9 rfl rfl)
theorem dX1_gets_58 : decode cX1_gets 58 = .ok (.aload_n 1, 1) := dk_43 (dk_at dksX1_gets_2 10 rfl rfl)
theorem dX1_gets_59 : decode cX1_gets 59 = .ok (.iload_n 2, 1) := dk_28 (dk_at dksX1_gets_2 11 rfl rfl)
theorem dX1_gets_60 : decode cX1_gets 60 = .ok (.aload 6, 2) := dk_25 6 (dk_at dksX1_gets_2 12 rfl rfl)
theorem dX1_gets_62 : decode cX1_gets 62 = .ok (.getfield 72, 3) := dk_180 0 72 (dk_at dksX1_gets_2 14 rfl rfl)
theorem dX1_gets_65 : decode cX1_gets 65 = .ok (.invokevirtual 55, 3) := dk_182 0 55 (dk_at dksX1_gets_2 17 rfl rfl)
theorem dX1_gets_68 : decode cX1_gets 68 = .ok (.return_, 1) := dk_177 (dk_at dksX1_gets_2 20 rfl rfl)
abbrev cX1_takes : ByteArray := prog_1_method_10_code
def yX1_takes : MethodName := ⟨RX1, "takes", "(LSendHall$Life;II)V"⟩
def dkwX1_takes_4 : List UInt8 := [182, 0, 180, 42, 43, 28, 29, 21, 5, 21, 6, 182, 0, 168, 177]
abbrev dktX1_takes_4 : List UInt8 := dkwX1_takes_4 ++ []
def dkwX1_takes_3 : List UInt8 := [180, 0, 129, 29, 42, 180, 0, 129, 29, 46, 42, 180, 0, 136, 28, 46, 184, 0, 165, 79, 43, 21, 4]
abbrev dktX1_takes_3 : List UInt8 := dkwX1_takes_3 ++ dktX1_takes_4
def dkwX1_takes_2 : List UInt8 := [21, 4, 46, 182, 0, 132, 42, 180, 0, 136, 28, 92, 46, 4, 96, 79, 21, 6, 156, 0, 24, 42]
abbrev dktX1_takes_2 : List UInt8 := dkwX1_takes_2 ++ dktX1_takes_3
def dkwX1_takes_1 : List UInt8 := [180, 0, 173, 21, 4, 46, 54, 5, 43, 180, 0, 175, 21, 4, 46, 54, 6, 42, 28, 43, 180, 0, 177]
abbrev dktX1_takes_1 : List UInt8 := dkwX1_takes_1 ++ dktX1_takes_2
def dkwX1_takes_0 : List UInt8 := [43, 29, 28, 43, 180, 0, 21, 28, 50, 192, 0, 59, 43, 28, 182, 0, 90, 182, 0, 91, 54, 4, 43]
abbrev dktX1_takes_0 : List UInt8 := dkwX1_takes_0 ++ dktX1_takes_1
theorem dksX1_takes_0 : cX1_takes.data.toList.drop 0 = dktX1_takes_0 := by decide +kernel
theorem dksX1_takes_1 : cX1_takes.data.toList.drop 23 = dktX1_takes_1 := dk_seg dksX1_takes_0 23 rfl rfl
theorem dksX1_takes_2 : cX1_takes.data.toList.drop 46 = dktX1_takes_2 := dk_seg dksX1_takes_1 23 rfl rfl
theorem dksX1_takes_3 : cX1_takes.data.toList.drop 68 = dktX1_takes_3 := dk_seg dksX1_takes_2 22 rfl rfl
theorem dksX1_takes_4 : cX1_takes.data.toList.drop 91 = dktX1_takes_4 := dk_seg dksX1_takes_3 23 rfl rfl
theorem dX1_takes_0 : decode cX1_takes 0 = .ok (.aload_n 1, 1) := dk_43 (dk_at dksX1_takes_0 0 rfl rfl)
theorem dX1_takes_1 : decode cX1_takes 1 = .ok (.iload_n 3, 1) := dk_29 (dk_at dksX1_takes_0 1 rfl rfl)
theorem dX1_takes_2 : decode cX1_takes 2 = .ok (.iload_n 2, 1) := dk_28 (dk_at dksX1_takes_0 2 rfl rfl)
theorem dX1_takes_3 : decode cX1_takes 3 = .ok (.aload_n 1, 1) := dk_43 (dk_at dksX1_takes_0 3 rfl rfl)
theorem dX1_takes_4 : decode cX1_takes 4 = .ok (.getfield 21, 3) := dk_180 0 21 (dk_at dksX1_takes_0 4 rfl rfl)
theorem dX1_takes_7 : decode cX1_takes 7 = .ok (.iload_n 2, 1) := dk_28 (dk_at dksX1_takes_0 7 rfl rfl)
theorem dX1_takes_8 : decode cX1_takes 8 = .ok (.aaload, 1) := dk_50 (dk_at dksX1_takes_0 8 rfl rfl)
theorem dX1_takes_9 : decode cX1_takes 9 = .ok (.checkcast 59, 3) := dk_192 0 59 (dk_at dksX1_takes_0 9 rfl rfl)
theorem dX1_takes_12 : decode cX1_takes 12 = .ok (.aload_n 1, 1) := dk_43 (dk_at dksX1_takes_0 12 rfl rfl)
theorem dX1_takes_13 : decode cX1_takes 13 = .ok (.iload_n 2, 1) := dk_28 (dk_at dksX1_takes_0 13 rfl rfl)
theorem dX1_takes_14 : decode cX1_takes 14 = .ok (.invokevirtual 90, 3) := dk_182 0 90 (dk_at dksX1_takes_0 14 rfl rfl)
theorem dX1_takes_17 : decode cX1_takes 17 = .ok (.invokevirtual 91, 3) := dk_182 0 91 (dk_at dksX1_takes_0 17 rfl rfl)
theorem dX1_takes_20 : decode cX1_takes 20 = .ok (.istore 4, 2) := dk_54 4 (dk_at dksX1_takes_0 20 rfl rfl)
theorem dX1_takes_22 : decode cX1_takes 22 = .ok (.aload_n 1, 1) := dk_43 (dk_at dksX1_takes_0 22 rfl rfl)
theorem dX1_takes_23 : decode cX1_takes 23 = .ok (.getfield 173, 3) := dk_180 0 173 (dk_at dksX1_takes_1 0 rfl rfl)
theorem dX1_takes_26 : decode cX1_takes 26 = .ok (.iload 4, 2) := dk_21 4 (dk_at dksX1_takes_1 3 rfl rfl)
theorem dX1_takes_28 : decode cX1_takes 28 = .ok (.iaload, 1) := dk_46 (dk_at dksX1_takes_1 5 rfl rfl)
theorem dX1_takes_29 : decode cX1_takes 29 = .ok (.istore 5, 2) := dk_54 5 (dk_at dksX1_takes_1 6 rfl rfl)
theorem dX1_takes_31 : decode cX1_takes 31 = .ok (.aload_n 1, 1) := dk_43 (dk_at dksX1_takes_1 8 rfl rfl)
theorem dX1_takes_32 : decode cX1_takes 32 = .ok (.getfield 175, 3) := dk_180 0 175 (dk_at dksX1_takes_1 9 rfl rfl)
theorem dX1_takes_35 : decode cX1_takes 35 = .ok (.iload 4, 2) := dk_21 4 (dk_at dksX1_takes_1 12 rfl rfl)
theorem dX1_takes_37 : decode cX1_takes 37 = .ok (.iaload, 1) := dk_46 (dk_at dksX1_takes_1 14 rfl rfl)
theorem dX1_takes_38 : decode cX1_takes 38 = .ok (.istore 6, 2) := dk_54 6 (dk_at dksX1_takes_1 15 rfl rfl)
theorem dX1_takes_40 : decode cX1_takes 40 = .ok (.aload_n 0, 1) := dk_42 (dk_at dksX1_takes_1 17 rfl rfl)
theorem dX1_takes_41 : decode cX1_takes 41 = .ok (.iload_n 2, 1) := dk_28 (dk_at dksX1_takes_1 18 rfl rfl)
theorem dX1_takes_42 : decode cX1_takes 42 = .ok (.aload_n 1, 1) := dk_43 (dk_at dksX1_takes_1 19 rfl rfl)
theorem dX1_takes_43 : decode cX1_takes 43 = .ok (.getfield 177, 3) := dk_180 0 177 (dk_at dksX1_takes_1 20 rfl rfl)
theorem dX1_takes_46 : decode cX1_takes 46 = .ok (.iload 4, 2) := dk_21 4 (dk_at dksX1_takes_2 0 rfl rfl)
theorem dX1_takes_48 : decode cX1_takes 48 = .ok (.iaload, 1) := dk_46 (dk_at dksX1_takes_2 2 rfl rfl)
theorem dX1_takes_49 : decode cX1_takes 49 = .ok (.invokevirtual 132, 3) := dk_182 0 132 (dk_at dksX1_takes_2 3 rfl rfl)
theorem dX1_takes_52 : decode cX1_takes 52 = .ok (.aload_n 0, 1) := dk_42 (dk_at dksX1_takes_2 6 rfl rfl)
theorem dX1_takes_53 : decode cX1_takes 53 = .ok (.getfield 136, 3) := dk_180 0 136 (dk_at dksX1_takes_2 7 rfl rfl)
theorem dX1_takes_56 : decode cX1_takes 56 = .ok (.iload_n 2, 1) := dk_28 (dk_at dksX1_takes_2 10 rfl rfl)
theorem dX1_takes_57 : decode cX1_takes 57 = .ok (.dup2, 1) := dk_92 (dk_at dksX1_takes_2 11 rfl rfl)
theorem dX1_takes_58 : decode cX1_takes 58 = .ok (.iaload, 1) := dk_46 (dk_at dksX1_takes_2 12 rfl rfl)
theorem dX1_takes_59 : decode cX1_takes 59 = .ok (.iconst 1, 1) := dk_4 (dk_at dksX1_takes_2 13 rfl rfl)
theorem dX1_takes_60 : decode cX1_takes 60 = .ok (.iadd, 1) := dk_96 (dk_at dksX1_takes_2 14 rfl rfl)
theorem dX1_takes_61 : decode cX1_takes 61 = .ok (.iastore, 1) := dk_79 (dk_at dksX1_takes_2 15 rfl rfl)
theorem dX1_takes_62 : decode cX1_takes 62 = .ok (.iload 6, 2) := dk_21 6 (dk_at dksX1_takes_2 16 rfl rfl)
theorem dX1_takes_64 : decode cX1_takes 64 = .ok (.ifCond .ge 24, 3) := dk_156 0 24 (dk_at dksX1_takes_2 18 rfl rfl)
theorem dX1_takes_67 : decode cX1_takes 67 = .ok (.aload_n 0, 1) := dk_42 (dk_at dksX1_takes_2 21 rfl rfl)
theorem dX1_takes_68 : decode cX1_takes 68 = .ok (.getfield 129, 3) := dk_180 0 129 (dk_at dksX1_takes_3 0 rfl rfl)
theorem dX1_takes_71 : decode cX1_takes 71 = .ok (.iload_n 3, 1) := dk_29 (dk_at dksX1_takes_3 3 rfl rfl)
theorem dX1_takes_72 : decode cX1_takes 72 = .ok (.aload_n 0, 1) := dk_42 (dk_at dksX1_takes_3 4 rfl rfl)
theorem dX1_takes_73 : decode cX1_takes 73 = .ok (.getfield 129, 3) := dk_180 0 129 (dk_at dksX1_takes_3 5 rfl rfl)
theorem dX1_takes_76 : decode cX1_takes 76 = .ok (.iload_n 3, 1) := dk_29 (dk_at dksX1_takes_3 8 rfl rfl)
theorem dX1_takes_77 : decode cX1_takes 77 = .ok (.iaload, 1) := dk_46 (dk_at dksX1_takes_3 9 rfl rfl)
theorem dX1_takes_78 : decode cX1_takes 78 = .ok (.aload_n 0, 1) := dk_42 (dk_at dksX1_takes_3 10 rfl rfl)
theorem dX1_takes_79 : decode cX1_takes 79 = .ok (.getfield 136, 3) := dk_180 0 136 (dk_at dksX1_takes_3 11 rfl rfl)
theorem dX1_takes_82 : decode cX1_takes 82 = .ok (.iload_n 2, 1) := dk_28 (dk_at dksX1_takes_3 14 rfl rfl)
theorem dX1_takes_83 : decode cX1_takes 83 = .ok (.iaload, 1) := dk_46 (dk_at dksX1_takes_3 15 rfl rfl)
theorem dX1_takes_84 : decode cX1_takes 84 = .ok (.invokestatic 165, 3) := dk_184 0 165 (dk_at dksX1_takes_3 16 rfl rfl)
theorem dX1_takes_87 : decode cX1_takes 87 = .ok (.iastore, 1) := dk_79 (dk_at dksX1_takes_3 19 rfl rfl)
theorem dX1_takes_88 : decode cX1_takes 88 = .ok (.aload_n 1, 1) := dk_43 (dk_at dksX1_takes_3 20 rfl rfl)
theorem dX1_takes_89 : decode cX1_takes 89 = .ok (.iload 4, 2) := dk_21 4 (dk_at dksX1_takes_3 21 rfl rfl)
theorem dX1_takes_91 : decode cX1_takes 91 = .ok (.invokevirtual 180, 3) := dk_182 0 180 (dk_at dksX1_takes_4 0 rfl rfl)
theorem dX1_takes_94 : decode cX1_takes 94 = .ok (.aload_n 0, 1) := dk_42 (dk_at dksX1_takes_4 3 rfl rfl)
theorem dX1_takes_95 : decode cX1_takes 95 = .ok (.aload_n 1, 1) := dk_43 (dk_at dksX1_takes_4 4 rfl rfl)
theorem dX1_takes_96 : decode cX1_takes 96 = .ok (.iload_n 2, 1) := dk_28 (dk_at dksX1_takes_4 5 rfl rfl)
theorem dX1_takes_97 : decode cX1_takes 97 = .ok (.iload_n 3, 1) := dk_29 (dk_at dksX1_takes_4 6 rfl rfl)
theorem dX1_takes_98 : decode cX1_takes 98 = .ok (.iload 5, 2) := dk_21 5 (dk_at dksX1_takes_4 7 rfl rfl)
theorem dX1_takes_100 : decode cX1_takes 100 = .ok (.iload 6, 2) := dk_21 6 (dk_at dksX1_takes_4 9 rfl rfl)
theorem dX1_takes_102 : decode cX1_takes 102 = .ok (.invokevirtual 168, 3) := dk_182 0 168 (dk_at dksX1_takes_4 11 rfl rfl)
theorem dX1_takes_105 : decode cX1_takes 105 = .ok (.return_, 1) := dk_177 (dk_at dksX1_takes_4 14 rfl rfl)
abbrev cX1_together : ByteArray := prog_1_method_11_code
def yX1_together : MethodName := ⟨RX1, "together", "(LSendHall$Life;I)V"⟩
def dkwX1_together_6 : List UInt8 := [182, 0, 55, 132, 5, 1, 167, 255, 179, 177]
abbrev dktX1_together_6 : List UInt8 := dkwX1_together_6 ++ []
def dkwX1_together_5 : List UInt8 := [180, 0, 43, 7, 21, 5, 104, 25, 6, 180, 0, 189, 96, 29, 79, 42, 43, 21, 5, 25, 6, 180, 0, 190]
abbrev dktX1_together_5 : List UInt8 := dkwX1_together_5 ++ dktX1_together_6
def dkwX1_together_4 : List UInt8 := [21, 4, 182, 0, 132, 42, 180, 0, 136, 21, 5, 92, 46, 4, 96, 79, 28, 16, 7, 160, 0, 19, 43]
abbrev dktX1_together_4 : List UInt8 := dkwX1_together_4 ++ dktX1_together_5
def dkwX1_together_3 : List UInt8 := [21, 5, 43, 180, 0, 27, 162, 0, 74, 43, 180, 0, 21, 21, 5, 50, 192, 0, 184, 58, 6, 42, 21, 5]
abbrev dktX1_together_3 : List UInt8 := dkwX1_together_3 ++ dktX1_together_4
def dkwX1_together_2 : List UInt8 := [21, 4, 42, 180, 0, 136, 21, 5, 46, 184, 0, 165, 54, 4, 132, 5, 1, 167, 255, 200, 3, 54, 5]
abbrev dktX1_together_2 : List UInt8 := dkwX1_together_2 ++ dktX1_together_3
def dkwX1_together_1 : List UInt8 := [43, 180, 0, 21, 21, 5, 50, 192, 0, 184, 180, 0, 186, 43, 21, 5, 185, 0, 153, 3, 0, 96, 62]
abbrev dktX1_together_1 : List UInt8 := dkwX1_together_1 ++ dktX1_together_2
def dkwX1_together_0 : List UInt8 := [3, 62, 3, 54, 4, 3, 54, 5, 21, 5, 43, 180, 0, 27, 162, 0, 53, 28, 16, 7, 160, 0, 27, 29]
abbrev dktX1_together_0 : List UInt8 := dkwX1_together_0 ++ dktX1_together_1
theorem dksX1_together_0 : cX1_together.data.toList.drop 0 = dktX1_together_0 := by decide +kernel
theorem dksX1_together_1 : cX1_together.data.toList.drop 24 = dktX1_together_1 := dk_seg dksX1_together_0 24 rfl rfl
theorem dksX1_together_2 : cX1_together.data.toList.drop 47 = dktX1_together_2 := dk_seg dksX1_together_1 23 rfl rfl
theorem dksX1_together_3 : cX1_together.data.toList.drop 70 = dktX1_together_3 := dk_seg dksX1_together_2 23 rfl rfl
theorem dksX1_together_4 : cX1_together.data.toList.drop 94 = dktX1_together_4 := dk_seg dksX1_together_3 24 rfl rfl
theorem dksX1_together_5 : cX1_together.data.toList.drop 117 = dktX1_together_5 := dk_seg dksX1_together_4 23 rfl rfl
theorem dksX1_together_6 : cX1_together.data.toList.drop 141 = dktX1_together_6 := dk_seg dksX1_together_5 24 rfl rfl
theorem dX1_together_0 : decode cX1_together 0 = .ok (.iconst 0, 1) := dk_3 (dk_at dksX1_together_0 0 rfl rfl)
theorem dX1_together_1 : decode cX1_together 1 = .ok (.istore_n 3, 1) := dk_62 (dk_at dksX1_together_0 1 rfl rfl)
theorem dX1_together_2 : decode cX1_together 2 = .ok (.iconst 0, 1) := dk_3 (dk_at dksX1_together_0 2 rfl rfl)
theorem dX1_together_3 : decode cX1_together 3 = .ok (.istore 4, 2) := dk_54 4 (dk_at dksX1_together_0 3 rfl rfl)
theorem dX1_together_5 : decode cX1_together 5 = .ok (.iconst 0, 1) := dk_3 (dk_at dksX1_together_0 5 rfl rfl)
theorem dX1_together_6 : decode cX1_together 6 = .ok (.istore 5, 2) := dk_54 5 (dk_at dksX1_together_0 6 rfl rfl)
theorem dX1_together_8 : decode cX1_together 8 = .ok (.iload 5, 2) := dk_21 5 (dk_at dksX1_together_0 8 rfl rfl)
theorem dX1_together_10 : decode cX1_together 10 = .ok (.aload_n 1, 1) := dk_43 (dk_at dksX1_together_0 10 rfl rfl)
theorem dX1_together_11 : decode cX1_together 11 = .ok (.getfield 27, 3) := dk_180 0 27 (dk_at dksX1_together_0 11 rfl rfl)
theorem dX1_together_14 : decode cX1_together 14 = .ok (.if_icmp .ge 53, 3) := dk_162 0 53 (dk_at dksX1_together_0 14 rfl rfl)
theorem dX1_together_17 : decode cX1_together 17 = .ok (.iload_n 2, 1) := dk_28 (dk_at dksX1_together_0 17 rfl rfl)
theorem dX1_together_18 : decode cX1_together 18 = .ok (.bipush 7, 2) := dk_16 7 (dk_at dksX1_together_0 18 rfl rfl)
theorem dX1_together_20 : decode cX1_together 20 = .ok (.if_icmp .ne 27, 3) := dk_160 0 27 (dk_at dksX1_together_0 20 rfl rfl)
theorem dX1_together_23 : decode cX1_together 23 = .ok (.iload_n 3, 1) := dk_29 (dk_at dksX1_together_0 23 rfl rfl)
theorem dX1_together_24 : decode cX1_together 24 = .ok (.aload_n 1, 1) := dk_43 (dk_at dksX1_together_1 0 rfl rfl)
theorem dX1_together_25 : decode cX1_together 25 = .ok (.getfield 21, 3) := dk_180 0 21 (dk_at dksX1_together_1 1 rfl rfl)
theorem dX1_together_28 : decode cX1_together 28 = .ok (.iload 5, 2) := dk_21 5 (dk_at dksX1_together_1 4 rfl rfl)
theorem dX1_together_30 : decode cX1_together 30 = .ok (.aaload, 1) := dk_50 (dk_at dksX1_together_1 6 rfl rfl)
theorem dX1_together_31 : decode cX1_together 31 = .ok (.checkcast 184, 3) := dk_192 0 184 (dk_at dksX1_together_1 7 rfl rfl)
theorem dX1_together_34 : decode cX1_together 34 = .ok (.getfield 186, 3) := dk_180 0 186 (dk_at dksX1_together_1 10 rfl rfl)
theorem dX1_together_37 : decode cX1_together 37 = .ok (.aload_n 1, 1) := dk_43 (dk_at dksX1_together_1 13 rfl rfl)
theorem dX1_together_38 : decode cX1_together 38 = .ok (.iload 5, 2) := dk_21 5 (dk_at dksX1_together_1 14 rfl rfl)
theorem dX1_together_40 : decode cX1_together 40 = .ok (.invokeinterface 153 3, 5) := by decide +kernel
theorem dX1_together_45 : decode cX1_together 45 = .ok (.iadd, 1) := dk_96 (dk_at dksX1_together_1 21 rfl rfl)
theorem dX1_together_46 : decode cX1_together 46 = .ok (.istore_n 3, 1) := dk_62 (dk_at dksX1_together_1 22 rfl rfl)
theorem dX1_together_47 : decode cX1_together 47 = .ok (.iload 4, 2) := dk_21 4 (dk_at dksX1_together_2 0 rfl rfl)
theorem dX1_together_49 : decode cX1_together 49 = .ok (.aload_n 0, 1) := dk_42 (dk_at dksX1_together_2 2 rfl rfl)
theorem dX1_together_50 : decode cX1_together 50 = .ok (.getfield 136, 3) := dk_180 0 136 (dk_at dksX1_together_2 3 rfl rfl)
theorem dX1_together_53 : decode cX1_together 53 = .ok (.iload 5, 2) := dk_21 5 (dk_at dksX1_together_2 6 rfl rfl)
theorem dX1_together_55 : decode cX1_together 55 = .ok (.iaload, 1) := dk_46 (dk_at dksX1_together_2 8 rfl rfl)
theorem dX1_together_56 : decode cX1_together 56 = .ok (.invokestatic 165, 3) := dk_184 0 165 (dk_at dksX1_together_2 9 rfl rfl)
theorem dX1_together_59 : decode cX1_together 59 = .ok (.istore 4, 2) := dk_54 4 (dk_at dksX1_together_2 12 rfl rfl)
theorem dX1_together_61 : decode cX1_together 61 = .ok (.iinc 5 1, 3) := dk_132 5 1 (dk_at dksX1_together_2 14 rfl rfl)
theorem dX1_together_64 : decode cX1_together 64 = .ok (.goto (-56), 3) := dk_167 255 200 (dk_at dksX1_together_2 17 rfl rfl)
theorem dX1_together_67 : decode cX1_together 67 = .ok (.iconst 0, 1) := dk_3 (dk_at dksX1_together_2 20 rfl rfl)
theorem dX1_together_68 : decode cX1_together 68 = .ok (.istore 5, 2) := dk_54 5 (dk_at dksX1_together_2 21 rfl rfl)
theorem dX1_together_70 : decode cX1_together 70 = .ok (.iload 5, 2) := dk_21 5 (dk_at dksX1_together_3 0 rfl rfl)
theorem dX1_together_72 : decode cX1_together 72 = .ok (.aload_n 1, 1) := dk_43 (dk_at dksX1_together_3 2 rfl rfl)
theorem dX1_together_73 : decode cX1_together 73 = .ok (.getfield 27, 3) := dk_180 0 27 (dk_at dksX1_together_3 3 rfl rfl)
theorem dX1_together_76 : decode cX1_together 76 = .ok (.if_icmp .ge 74, 3) := dk_162 0 74 (dk_at dksX1_together_3 6 rfl rfl)
theorem dX1_together_79 : decode cX1_together 79 = .ok (.aload_n 1, 1) := dk_43 (dk_at dksX1_together_3 9 rfl rfl)
theorem dX1_together_80 : decode cX1_together 80 = .ok (.getfield 21, 3) := dk_180 0 21 (dk_at dksX1_together_3 10 rfl rfl)
theorem dX1_together_83 : decode cX1_together 83 = .ok (.iload 5, 2) := dk_21 5 (dk_at dksX1_together_3 13 rfl rfl)
theorem dX1_together_85 : decode cX1_together 85 = .ok (.aaload, 1) := dk_50 (dk_at dksX1_together_3 15 rfl rfl)
theorem dX1_together_86 : decode cX1_together 86 = .ok (.checkcast 184, 3) := dk_192 0 184 (dk_at dksX1_together_3 16 rfl rfl)
theorem dX1_together_89 : decode cX1_together 89 = .ok (.astore 6, 2) := dk_58 6 (dk_at dksX1_together_3 19 rfl rfl)
theorem dX1_together_91 : decode cX1_together 91 = .ok (.aload_n 0, 1) := dk_42 (dk_at dksX1_together_3 21 rfl rfl)
theorem dX1_together_92 : decode cX1_together 92 = .ok (.iload 5, 2) := dk_21 5 (dk_at dksX1_together_3 22 rfl rfl)
theorem dX1_together_94 : decode cX1_together 94 = .ok (.iload 4, 2) := dk_21 4 (dk_at dksX1_together_4 0 rfl rfl)
theorem dX1_together_96 : decode cX1_together 96 = .ok (.invokevirtual 132, 3) := dk_182 0 132 (dk_at dksX1_together_4 2 rfl rfl)
theorem dX1_together_99 : decode cX1_together 99 = .ok (.aload_n 0, 1) := dk_42 (dk_at dksX1_together_4 5 rfl rfl)
theorem dX1_together_100 : decode cX1_together 100 = .ok (.getfield 136, 3) := dk_180 0 136 (dk_at dksX1_together_4 6 rfl rfl)
theorem dX1_together_103 : decode cX1_together 103 = .ok (.iload 5, 2) := dk_21 5 (dk_at dksX1_together_4 9 rfl rfl)
theorem dX1_together_105 : decode cX1_together 105 = .ok (.dup2, 1) := dk_92 (dk_at dksX1_together_4 11 rfl rfl)
theorem dX1_together_106 : decode cX1_together 106 = .ok (.iaload, 1) := dk_46 (dk_at dksX1_together_4 12 rfl rfl)
theorem dX1_together_107 : decode cX1_together 107 = .ok (.iconst 1, 1) := dk_4 (dk_at dksX1_together_4 13 rfl rfl)
theorem dX1_together_108 : decode cX1_together 108 = .ok (.iadd, 1) := dk_96 (dk_at dksX1_together_4 14 rfl rfl)
theorem dX1_together_109 : decode cX1_together 109 = .ok (.iastore, 1) := dk_79 (dk_at dksX1_together_4 15 rfl rfl)
theorem dX1_together_110 : decode cX1_together 110 = .ok (.iload_n 2, 1) := dk_28 (dk_at dksX1_together_4 16 rfl rfl)
theorem dX1_together_111 : decode cX1_together 111 = .ok (.bipush 7, 2) := dk_16 7 (dk_at dksX1_together_4 17 rfl rfl)
theorem dX1_together_113 : decode cX1_together 113 = .ok (.if_icmp .ne 19, 3) := dk_160 0 19 (dk_at dksX1_together_4 19 rfl rfl)
theorem dX1_together_116 : decode cX1_together 116 = .ok (.aload_n 1, 1) := dk_43 (dk_at dksX1_together_4 22 rfl rfl)
theorem dX1_together_117 : decode cX1_together 117 = .ok (.getfield 43, 3) := dk_180 0 43 (dk_at dksX1_together_5 0 rfl rfl)
theorem dX1_together_120 : decode cX1_together 120 = .ok (.iconst 4, 1) := dk_7 (dk_at dksX1_together_5 3 rfl rfl)
theorem dX1_together_121 : decode cX1_together 121 = .ok (.iload 5, 2) := dk_21 5 (dk_at dksX1_together_5 4 rfl rfl)
theorem dX1_together_123 : decode cX1_together 123 = .ok (.imul, 1) := dk_104 (dk_at dksX1_together_5 6 rfl rfl)
theorem dX1_together_124 : decode cX1_together 124 = .ok (.aload 6, 2) := dk_25 6 (dk_at dksX1_together_5 7 rfl rfl)
theorem dX1_together_126 : decode cX1_together 126 = .ok (.getfield 189, 3) := dk_180 0 189 (dk_at dksX1_together_5 9 rfl rfl)
theorem dX1_together_129 : decode cX1_together 129 = .ok (.iadd, 1) := dk_96 (dk_at dksX1_together_5 12 rfl rfl)
theorem dX1_together_130 : decode cX1_together 130 = .ok (.iload_n 3, 1) := dk_29 (dk_at dksX1_together_5 13 rfl rfl)
theorem dX1_together_131 : decode cX1_together 131 = .ok (.iastore, 1) := dk_79 (dk_at dksX1_together_5 14 rfl rfl)
theorem dX1_together_132 : decode cX1_together 132 = .ok (.aload_n 0, 1) := dk_42 (dk_at dksX1_together_5 15 rfl rfl)
theorem dX1_together_133 : decode cX1_together 133 = .ok (.aload_n 1, 1) := dk_43 (dk_at dksX1_together_5 16 rfl rfl)
theorem dX1_together_134 : decode cX1_together 134 = .ok (.iload 5, 2) := dk_21 5 (dk_at dksX1_together_5 17 rfl rfl)
theorem dX1_together_136 : decode cX1_together 136 = .ok (.aload 6, 2) := dk_25 6 (dk_at dksX1_together_5 19 rfl rfl)
theorem dX1_together_138 : decode cX1_together 138 = .ok (.getfield 190, 3) := dk_180 0 190 (dk_at dksX1_together_5 21 rfl rfl)
theorem dX1_together_141 : decode cX1_together 141 = .ok (.invokevirtual 55, 3) := dk_182 0 55 (dk_at dksX1_together_6 0 rfl rfl)
theorem dX1_together_144 : decode cX1_together 144 = .ok (.iinc 5 1, 3) := dk_132 5 1 (dk_at dksX1_together_6 3 rfl rfl)
theorem dX1_together_147 : decode cX1_together 147 = .ok (.goto (-77), 3) := dk_167 255 179 (dk_at dksX1_together_6 6 rfl rfl)
theorem dX1_together_150 : decode cX1_together 150 = .ok (.return_, 1) := dk_177 (dk_at dksX1_together_6 9 rfl rfl)
abbrev cX1_endsWith : ByteArray := prog_1_method_28_code
def yX1_endsWith : MethodName := ⟨RX1, "endsWith", "(LSendHall$Life;)V"⟩
def dkwX1_endsWith_5 : List UInt8 := [42, 180, 0, 216, 182, 1, 117, 153, 0, 4, 177, 42, 180, 0, 231, 29, 44, 182, 1, 119, 177]
abbrev dktX1_endsWith_5 : List UInt8 := dkwX1_endsWith_5 ++ []
def dkwX1_endsWith_4 : List UInt8 := [132, 3, 255, 167, 255, 225, 29, 158, 0, 28, 42, 180, 0, 231, 29, 4, 100, 182, 1, 58, 192, 1, 100, 44]
abbrev dktX1_endsWith_4 : List UInt8 := dkwX1_endsWith_4 ++ dktX1_endsWith_5
def dkwX1_endsWith_3 : List UInt8 := [44, 42, 180, 0, 231, 29, 4, 100, 182, 1, 58, 192, 1, 100, 42, 180, 0, 216, 182, 1, 113, 153, 0, 9]
abbrev dktX1_endsWith_3 : List UInt8 := dkwX1_endsWith_3 ++ dktX1_endsWith_4
def dkwX1_endsWith_2 : List UInt8 := [180, 0, 40, 29, 46, 79, 132, 3, 1, 167, 255, 233, 42, 180, 0, 231, 182, 0, 207, 62, 29, 158, 0, 33]
abbrev dktX1_endsWith_2 : List UInt8 := dkwX1_endsWith_2 ++ dktX1_endsWith_3
def dkwX1_endsWith_1 : List UInt8 := [44, 43, 182, 1, 107, 181, 1, 110, 3, 62, 29, 42, 180, 0, 216, 162, 0, 21, 44, 180, 1, 112, 29, 43]
abbrev dktX1_endsWith_1 : List UInt8 := dkwX1_endsWith_1 ++ dktX1_endsWith_2
def dkwX1_endsWith_0 : List UInt8 := [187, 1, 100, 89, 183, 1, 102, 77, 44, 43, 182, 1, 103, 181, 1, 105, 44, 43, 180, 0, 30, 181, 1, 106]
abbrev dktX1_endsWith_0 : List UInt8 := dkwX1_endsWith_0 ++ dktX1_endsWith_1
theorem dksX1_endsWith_0 : cX1_endsWith.data.toList.drop 0 = dktX1_endsWith_0 := by decide +kernel
theorem dksX1_endsWith_1 : cX1_endsWith.data.toList.drop 24 = dktX1_endsWith_1 := dk_seg dksX1_endsWith_0 24 rfl rfl
theorem dksX1_endsWith_2 : cX1_endsWith.data.toList.drop 48 = dktX1_endsWith_2 := dk_seg dksX1_endsWith_1 24 rfl rfl
theorem dksX1_endsWith_3 : cX1_endsWith.data.toList.drop 72 = dktX1_endsWith_3 := dk_seg dksX1_endsWith_2 24 rfl rfl
theorem dksX1_endsWith_4 : cX1_endsWith.data.toList.drop 96 = dktX1_endsWith_4 := dk_seg dksX1_endsWith_3 24 rfl rfl
theorem dksX1_endsWith_5 : cX1_endsWith.data.toList.drop 120 = dktX1_endsWith_5 := dk_seg dksX1_endsWith_4 24 rfl rfl
theorem dX1_endsWith_0 : decode cX1_endsWith 0 = .ok (.new 356, 3) := dk_187 1 100 (dk_at dksX1_endsWith_0 0 rfl rfl)
theorem dX1_endsWith_3 : decode cX1_endsWith 3 = .ok (.dup, 1) := dk_89 (dk_at dksX1_endsWith_0 3 rfl rfl)
theorem dX1_endsWith_4 : decode cX1_endsWith 4 = .ok (.invokespecial 358, 3) := dk_183 1 102 (dk_at dksX1_endsWith_0 4 rfl rfl)
theorem dX1_endsWith_7 : decode cX1_endsWith 7 = .ok (.astore_n 2, 1) := dk_77 (dk_at dksX1_endsWith_0 7 rfl rfl)
theorem dX1_endsWith_8 : decode cX1_endsWith 8 = .ok (.aload_n 2, 1) := dk_44 (dk_at dksX1_endsWith_0 8 rfl rfl)
theorem dX1_endsWith_9 : decode cX1_endsWith 9 = .ok (.aload_n 1, 1) := dk_43 (dk_at dksX1_endsWith_0 9 rfl rfl)
theorem dX1_endsWith_10 : decode cX1_endsWith 10 = .ok (.invokevirtual 359, 3) := dk_182 1 103 (dk_at dksX1_endsWith_0 10 rfl rfl)
theorem dX1_endsWith_13 : decode cX1_endsWith 13 = .ok (.putfield 361, 3) := dk_181 1 105 (dk_at dksX1_endsWith_0 13 rfl rfl)
theorem dX1_endsWith_16 : decode cX1_endsWith 16 = .ok (.aload_n 2, 1) := dk_44 (dk_at dksX1_endsWith_0 16 rfl rfl)
theorem dX1_endsWith_17 : decode cX1_endsWith 17 = .ok (.aload_n 1, 1) := dk_43 (dk_at dksX1_endsWith_0 17 rfl rfl)
theorem dX1_endsWith_18 : decode cX1_endsWith 18 = .ok (.getfield 30, 3) := dk_180 0 30 (dk_at dksX1_endsWith_0 18 rfl rfl)
theorem dX1_endsWith_21 : decode cX1_endsWith 21 = .ok (.putfield 362, 3) := dk_181 1 106 (dk_at dksX1_endsWith_0 21 rfl rfl)
theorem dX1_endsWith_24 : decode cX1_endsWith 24 = .ok (.aload_n 2, 1) := dk_44 (dk_at dksX1_endsWith_1 0 rfl rfl)
theorem dX1_endsWith_25 : decode cX1_endsWith 25 = .ok (.aload_n 1, 1) := dk_43 (dk_at dksX1_endsWith_1 1 rfl rfl)
theorem dX1_endsWith_26 : decode cX1_endsWith 26 = .ok (.invokevirtual 363, 3) := dk_182 1 107 (dk_at dksX1_endsWith_1 2 rfl rfl)
theorem dX1_endsWith_29 : decode cX1_endsWith 29 = .ok (.putfield 366, 3) := dk_181 1 110 (dk_at dksX1_endsWith_1 5 rfl rfl)
theorem dX1_endsWith_32 : decode cX1_endsWith 32 = .ok (.iconst 0, 1) := dk_3 (dk_at dksX1_endsWith_1 8 rfl rfl)
theorem dX1_endsWith_33 : decode cX1_endsWith 33 = .ok (.istore_n 3, 1) := dk_62 (dk_at dksX1_endsWith_1 9 rfl rfl)
theorem dX1_endsWith_34 : decode cX1_endsWith 34 = .ok (.iload_n 3, 1) := dk_29 (dk_at dksX1_endsWith_1 10 rfl rfl)
theorem dX1_endsWith_35 : decode cX1_endsWith 35 = .ok (.aload_n 0, 1) := dk_42 (dk_at dksX1_endsWith_1 11 rfl rfl)
theorem dX1_endsWith_36 : decode cX1_endsWith 36 = .ok (.getfield 216, 3) := dk_180 0 216 (dk_at dksX1_endsWith_1 12 rfl rfl)
theorem dX1_endsWith_39 : decode cX1_endsWith 39 = .ok (.if_icmp .ge 21, 3) := dk_162 0 21 (dk_at dksX1_endsWith_1 15 rfl rfl)
theorem dX1_endsWith_42 : decode cX1_endsWith 42 = .ok (.aload_n 2, 1) := dk_44 (dk_at dksX1_endsWith_1 18 rfl rfl)
theorem dX1_endsWith_43 : decode cX1_endsWith 43 = .ok (.getfield 368, 3) := dk_180 1 112 (dk_at dksX1_endsWith_1 19 rfl rfl)
theorem dX1_endsWith_46 : decode cX1_endsWith 46 = .ok (.iload_n 3, 1) := dk_29 (dk_at dksX1_endsWith_1 22 rfl rfl)
theorem dX1_endsWith_47 : decode cX1_endsWith 47 = .ok (.aload_n 1, 1) := dk_43 (dk_at dksX1_endsWith_1 23 rfl rfl)
theorem dX1_endsWith_48 : decode cX1_endsWith 48 = .ok (.getfield 40, 3) := dk_180 0 40 (dk_at dksX1_endsWith_2 0 rfl rfl)
theorem dX1_endsWith_51 : decode cX1_endsWith 51 = .ok (.iload_n 3, 1) := dk_29 (dk_at dksX1_endsWith_2 3 rfl rfl)
theorem dX1_endsWith_52 : decode cX1_endsWith 52 = .ok (.iaload, 1) := dk_46 (dk_at dksX1_endsWith_2 4 rfl rfl)
theorem dX1_endsWith_53 : decode cX1_endsWith 53 = .ok (.iastore, 1) := dk_79 (dk_at dksX1_endsWith_2 5 rfl rfl)
theorem dX1_endsWith_54 : decode cX1_endsWith 54 = .ok (.iinc 3 1, 3) := dk_132 3 1 (dk_at dksX1_endsWith_2 6 rfl rfl)
theorem dX1_endsWith_57 : decode cX1_endsWith 57 = .ok (.goto (-23), 3) := dk_167 255 233 (dk_at dksX1_endsWith_2 9 rfl rfl)
theorem dX1_endsWith_60 : decode cX1_endsWith 60 = .ok (.aload_n 0, 1) := dk_42 (dk_at dksX1_endsWith_2 12 rfl rfl)
theorem dX1_endsWith_61 : decode cX1_endsWith 61 = .ok (.getfield 231, 3) := dk_180 0 231 (dk_at dksX1_endsWith_2 13 rfl rfl)
theorem dX1_endsWith_64 : decode cX1_endsWith 64 = .ok (.invokevirtual 207, 3) := dk_182 0 207 (dk_at dksX1_endsWith_2 16 rfl rfl)
theorem dX1_endsWith_67 : decode cX1_endsWith 67 = .ok (.istore_n 3, 1) := dk_62 (dk_at dksX1_endsWith_2 19 rfl rfl)
theorem dX1_endsWith_68 : decode cX1_endsWith 68 = .ok (.iload_n 3, 1) := dk_29 (dk_at dksX1_endsWith_2 20 rfl rfl)
theorem dX1_endsWith_69 : decode cX1_endsWith 69 = .ok (.ifCond .le 33, 3) := dk_158 0 33 (dk_at dksX1_endsWith_2 21 rfl rfl)
theorem dX1_endsWith_72 : decode cX1_endsWith 72 = .ok (.aload_n 2, 1) := dk_44 (dk_at dksX1_endsWith_3 0 rfl rfl)
theorem dX1_endsWith_73 : decode cX1_endsWith 73 = .ok (.aload_n 0, 1) := dk_42 (dk_at dksX1_endsWith_3 1 rfl rfl)
theorem dX1_endsWith_74 : decode cX1_endsWith 74 = .ok (.getfield 231, 3) := dk_180 0 231 (dk_at dksX1_endsWith_3 2 rfl rfl)
theorem dX1_endsWith_77 : decode cX1_endsWith 77 = .ok (.iload_n 3, 1) := dk_29 (dk_at dksX1_endsWith_3 5 rfl rfl)
theorem dX1_endsWith_78 : decode cX1_endsWith 78 = .ok (.iconst 1, 1) := dk_4 (dk_at dksX1_endsWith_3 6 rfl rfl)
theorem dX1_endsWith_79 : decode cX1_endsWith 79 = .ok (.isub, 1) := dk_100 (dk_at dksX1_endsWith_3 7 rfl rfl)
theorem dX1_endsWith_80 : decode cX1_endsWith 80 = .ok (.invokevirtual 314, 3) := dk_182 1 58 (dk_at dksX1_endsWith_3 8 rfl rfl)
theorem dX1_endsWith_83 : decode cX1_endsWith 83 = .ok (.checkcast 356, 3) := dk_192 1 100 (dk_at dksX1_endsWith_3 11 rfl rfl)
theorem dX1_endsWith_86 : decode cX1_endsWith 86 = .ok (.aload_n 0, 1) := dk_42 (dk_at dksX1_endsWith_3 14 rfl rfl)
theorem dX1_endsWith_87 : decode cX1_endsWith 87 = .ok (.getfield 216, 3) := dk_180 0 216 (dk_at dksX1_endsWith_3 15 rfl rfl)
theorem dX1_endsWith_90 : decode cX1_endsWith 90 = .ok (.invokevirtual 369, 3) := dk_182 1 113 (dk_at dksX1_endsWith_3 18 rfl rfl)
theorem dX1_endsWith_93 : decode cX1_endsWith 93 = .ok (.ifCond .eq 9, 3) := dk_153 0 9 (dk_at dksX1_endsWith_3 21 rfl rfl)
theorem dX1_endsWith_96 : decode cX1_endsWith 96 = .ok (.iinc 3 (-1), 3) := dk_132 3 255 (dk_at dksX1_endsWith_4 0 rfl rfl)
theorem dX1_endsWith_99 : decode cX1_endsWith 99 = .ok (.goto (-31), 3) := dk_167 255 225 (dk_at dksX1_endsWith_4 3 rfl rfl)
theorem dX1_endsWith_102 : decode cX1_endsWith 102 = .ok (.iload_n 3, 1) := dk_29 (dk_at dksX1_endsWith_4 6 rfl rfl)
theorem dX1_endsWith_103 : decode cX1_endsWith 103 = .ok (.ifCond .le 28, 3) := dk_158 0 28 (dk_at dksX1_endsWith_4 7 rfl rfl)
theorem dX1_endsWith_106 : decode cX1_endsWith 106 = .ok (.aload_n 0, 1) := dk_42 (dk_at dksX1_endsWith_4 10 rfl rfl)
theorem dX1_endsWith_107 : decode cX1_endsWith 107 = .ok (.getfield 231, 3) := dk_180 0 231 (dk_at dksX1_endsWith_4 11 rfl rfl)
theorem dX1_endsWith_110 : decode cX1_endsWith 110 = .ok (.iload_n 3, 1) := dk_29 (dk_at dksX1_endsWith_4 14 rfl rfl)
theorem dX1_endsWith_111 : decode cX1_endsWith 111 = .ok (.iconst 1, 1) := dk_4 (dk_at dksX1_endsWith_4 15 rfl rfl)
theorem dX1_endsWith_112 : decode cX1_endsWith 112 = .ok (.isub, 1) := dk_100 (dk_at dksX1_endsWith_4 16 rfl rfl)
theorem dX1_endsWith_113 : decode cX1_endsWith 113 = .ok (.invokevirtual 314, 3) := dk_182 1 58 (dk_at dksX1_endsWith_4 17 rfl rfl)
theorem dX1_endsWith_116 : decode cX1_endsWith 116 = .ok (.checkcast 356, 3) := dk_192 1 100 (dk_at dksX1_endsWith_4 20 rfl rfl)
theorem dX1_endsWith_119 : decode cX1_endsWith 119 = .ok (.aload_n 2, 1) := dk_44 (dk_at dksX1_endsWith_4 23 rfl rfl)
theorem dX1_endsWith_120 : decode cX1_endsWith 120 = .ok (.aload_n 0, 1) := dk_42 (dk_at dksX1_endsWith_5 0 rfl rfl)
theorem dX1_endsWith_121 : decode cX1_endsWith 121 = .ok (.getfield 216, 3) := dk_180 0 216 (dk_at dksX1_endsWith_5 1 rfl rfl)
theorem dX1_endsWith_124 : decode cX1_endsWith 124 = .ok (.invokevirtual 373, 3) := dk_182 1 117 (dk_at dksX1_endsWith_5 4 rfl rfl)
theorem dX1_endsWith_127 : decode cX1_endsWith 127 = .ok (.ifCond .eq 4, 3) := dk_153 0 4 (dk_at dksX1_endsWith_5 7 rfl rfl)
theorem dX1_endsWith_130 : decode cX1_endsWith 130 = .ok (.return_, 1) := dk_177 (dk_at dksX1_endsWith_5 10 rfl rfl)
theorem dX1_endsWith_131 : decode cX1_endsWith 131 = .ok (.aload_n 0, 1) := dk_42 (dk_at dksX1_endsWith_5 11 rfl rfl)
theorem dX1_endsWith_132 : decode cX1_endsWith 132 = .ok (.getfield 231, 3) := dk_180 0 231 (dk_at dksX1_endsWith_5 12 rfl rfl)
theorem dX1_endsWith_135 : decode cX1_endsWith 135 = .ok (.iload_n 3, 1) := dk_29 (dk_at dksX1_endsWith_5 15 rfl rfl)
theorem dX1_endsWith_136 : decode cX1_endsWith 136 = .ok (.aload_n 2, 1) := dk_44 (dk_at dksX1_endsWith_5 16 rfl rfl)
theorem dX1_endsWith_137 : decode cX1_endsWith 137 = .ok (.invokevirtual 375, 3) := dk_182 1 119 (dk_at dksX1_endsWith_5 17 rfl rfl)
theorem dX1_endsWith_140 : decode cX1_endsWith 140 = .ok (.return_, 1) := dk_177 (dk_at dksX1_endsWith_5 20 rfl rfl)
abbrev cX1_differs : ByteArray := prog_1_method_34_code
def yX1_differs : MethodName := ⟨RX1, "differs", "()Z"⟩
def dkwX1_differs_4 : List UInt8 := [132, 2, 1, 167, 255, 173, 3, 172]
abbrev dktX1_differs_4 : List UInt8 := dkwX1_differs_4 ++ []
def dkwX1_differs_3 : List UInt8 := [180, 1, 112, 21, 4, 46, 159, 0, 5, 4, 172, 132, 4, 1, 167, 255, 221, 43, 199, 0, 5, 45, 76]
abbrev dktX1_differs_3 : List UInt8 := dkwX1_differs_3 ++ dktX1_differs_4
def dkwX1_differs_2 : List UInt8 := [54, 4, 43, 198, 0, 37, 21, 4, 42, 180, 0, 216, 162, 0, 28, 45, 180, 1, 112, 21, 4, 46, 43]
abbrev dktX1_differs_2 : List UInt8 := dkwX1_differs_2 ++ dktX1_differs_3
def dkwX1_differs_1 : List UInt8 := [42, 180, 0, 231, 28, 182, 1, 58, 192, 1, 100, 78, 45, 180, 1, 105, 153, 0, 6, 167, 0, 50, 3]
abbrev dktX1_differs_1 : List UInt8 := dkwX1_differs_1 ++ dktX1_differs_2
def dkwX1_differs_0 : List UInt8 := [42, 182, 1, 133, 154, 0, 5, 3, 172, 1, 76, 3, 61, 28, 42, 180, 0, 231, 182, 0, 207, 162, 0, 78]
abbrev dktX1_differs_0 : List UInt8 := dkwX1_differs_0 ++ dktX1_differs_1
theorem dksX1_differs_0 : cX1_differs.data.toList.drop 0 = dktX1_differs_0 := by decide +kernel
theorem dksX1_differs_1 : cX1_differs.data.toList.drop 24 = dktX1_differs_1 := dk_seg dksX1_differs_0 24 rfl rfl
theorem dksX1_differs_2 : cX1_differs.data.toList.drop 47 = dktX1_differs_2 := dk_seg dksX1_differs_1 23 rfl rfl
theorem dksX1_differs_3 : cX1_differs.data.toList.drop 70 = dktX1_differs_3 := dk_seg dksX1_differs_2 23 rfl rfl
theorem dksX1_differs_4 : cX1_differs.data.toList.drop 93 = dktX1_differs_4 := dk_seg dksX1_differs_3 23 rfl rfl
theorem dX1_differs_0 : decode cX1_differs 0 = .ok (.aload_n 0, 1) := dk_42 (dk_at dksX1_differs_0 0 rfl rfl)
theorem dX1_differs_1 : decode cX1_differs 1 = .ok (.invokevirtual 389, 3) := dk_182 1 133 (dk_at dksX1_differs_0 1 rfl rfl)
theorem dX1_differs_4 : decode cX1_differs 4 = .ok (.ifCond .ne 5, 3) := dk_154 0 5 (dk_at dksX1_differs_0 4 rfl rfl)
theorem dX1_differs_7 : decode cX1_differs 7 = .ok (.iconst 0, 1) := dk_3 (dk_at dksX1_differs_0 7 rfl rfl)
theorem dX1_differs_8 : decode cX1_differs 8 = .ok (.ireturn, 1) := dk_172 (dk_at dksX1_differs_0 8 rfl rfl)
theorem dX1_differs_9 : decode cX1_differs 9 = .ok (.aconst_null, 1) := dk_1 (dk_at dksX1_differs_0 9 rfl rfl)
theorem dX1_differs_10 : decode cX1_differs 10 = .ok (.astore_n 1, 1) := dk_76 (dk_at dksX1_differs_0 10 rfl rfl)
theorem dX1_differs_11 : decode cX1_differs 11 = .ok (.iconst 0, 1) := dk_3 (dk_at dksX1_differs_0 11 rfl rfl)
theorem dX1_differs_12 : decode cX1_differs 12 = .ok (.istore_n 2, 1) := dk_61 (dk_at dksX1_differs_0 12 rfl rfl)
theorem dX1_differs_13 : decode cX1_differs 13 = .ok (.iload_n 2, 1) := dk_28 (dk_at dksX1_differs_0 13 rfl rfl)
theorem dX1_differs_14 : decode cX1_differs 14 = .ok (.aload_n 0, 1) := dk_42 (dk_at dksX1_differs_0 14 rfl rfl)
theorem dX1_differs_15 : decode cX1_differs 15 = .ok (.getfield 231, 3) := dk_180 0 231 (dk_at dksX1_differs_0 15 rfl rfl)
theorem dX1_differs_18 : decode cX1_differs 18 = .ok (.invokevirtual 207, 3) := dk_182 0 207 (dk_at dksX1_differs_0 18 rfl rfl)
theorem dX1_differs_21 : decode cX1_differs 21 = .ok (.if_icmp .ge 78, 3) := dk_162 0 78 (dk_at dksX1_differs_0 21 rfl rfl)
theorem dX1_differs_24 : decode cX1_differs 24 = .ok (.aload_n 0, 1) := dk_42 (dk_at dksX1_differs_1 0 rfl rfl)
theorem dX1_differs_25 : decode cX1_differs 25 = .ok (.getfield 231, 3) := dk_180 0 231 (dk_at dksX1_differs_1 1 rfl rfl)
theorem dX1_differs_28 : decode cX1_differs 28 = .ok (.iload_n 2, 1) := dk_28 (dk_at dksX1_differs_1 4 rfl rfl)
theorem dX1_differs_29 : decode cX1_differs 29 = .ok (.invokevirtual 314, 3) := dk_182 1 58 (dk_at dksX1_differs_1 5 rfl rfl)
theorem dX1_differs_32 : decode cX1_differs 32 = .ok (.checkcast 356, 3) := dk_192 1 100 (dk_at dksX1_differs_1 8 rfl rfl)
theorem dX1_differs_35 : decode cX1_differs 35 = .ok (.astore_n 3, 1) := dk_78 (dk_at dksX1_differs_1 11 rfl rfl)
theorem dX1_differs_36 : decode cX1_differs 36 = .ok (.aload_n 3, 1) := dk_45 (dk_at dksX1_differs_1 12 rfl rfl)
theorem dX1_differs_37 : decode cX1_differs 37 = .ok (.getfield 361, 3) := dk_180 1 105 (dk_at dksX1_differs_1 13 rfl rfl)
theorem dX1_differs_40 : decode cX1_differs 40 = .ok (.ifCond .eq 6, 3) := dk_153 0 6 (dk_at dksX1_differs_1 16 rfl rfl)
theorem dX1_differs_43 : decode cX1_differs 43 = .ok (.goto 50, 3) := dk_167 0 50 (dk_at dksX1_differs_1 19 rfl rfl)
theorem dX1_differs_46 : decode cX1_differs 46 = .ok (.iconst 0, 1) := dk_3 (dk_at dksX1_differs_1 22 rfl rfl)
theorem dX1_differs_47 : decode cX1_differs 47 = .ok (.istore 4, 2) := dk_54 4 (dk_at dksX1_differs_2 0 rfl rfl)
theorem dX1_differs_49 : decode cX1_differs 49 = .ok (.aload_n 1, 1) := dk_43 (dk_at dksX1_differs_2 2 rfl rfl)
theorem dX1_differs_50 : decode cX1_differs 50 = .ok (.ifnull 37, 3) := dk_198 0 37 (dk_at dksX1_differs_2 3 rfl rfl)
theorem dX1_differs_53 : decode cX1_differs 53 = .ok (.iload 4, 2) := dk_21 4 (dk_at dksX1_differs_2 6 rfl rfl)
theorem dX1_differs_55 : decode cX1_differs 55 = .ok (.aload_n 0, 1) := dk_42 (dk_at dksX1_differs_2 8 rfl rfl)
theorem dX1_differs_56 : decode cX1_differs 56 = .ok (.getfield 216, 3) := dk_180 0 216 (dk_at dksX1_differs_2 9 rfl rfl)
theorem dX1_differs_59 : decode cX1_differs 59 = .ok (.if_icmp .ge 28, 3) := dk_162 0 28 (dk_at dksX1_differs_2 12 rfl rfl)
theorem dX1_differs_62 : decode cX1_differs 62 = .ok (.aload_n 3, 1) := dk_45 (dk_at dksX1_differs_2 15 rfl rfl)
theorem dX1_differs_63 : decode cX1_differs 63 = .ok (.getfield 368, 3) := dk_180 1 112 (dk_at dksX1_differs_2 16 rfl rfl)
theorem dX1_differs_66 : decode cX1_differs 66 = .ok (.iload 4, 2) := dk_21 4 (dk_at dksX1_differs_2 19 rfl rfl)
theorem dX1_differs_68 : decode cX1_differs 68 = .ok (.iaload, 1) := dk_46 (dk_at dksX1_differs_2 21 rfl rfl)
theorem dX1_differs_69 : decode cX1_differs 69 = .ok (.aload_n 1, 1) := dk_43 (dk_at dksX1_differs_2 22 rfl rfl)
theorem dX1_differs_70 : decode cX1_differs 70 = .ok (.getfield 368, 3) := dk_180 1 112 (dk_at dksX1_differs_3 0 rfl rfl)
theorem dX1_differs_73 : decode cX1_differs 73 = .ok (.iload 4, 2) := dk_21 4 (dk_at dksX1_differs_3 3 rfl rfl)
theorem dX1_differs_75 : decode cX1_differs 75 = .ok (.iaload, 1) := dk_46 (dk_at dksX1_differs_3 5 rfl rfl)
theorem dX1_differs_76 : decode cX1_differs 76 = .ok (.if_icmp .eq 5, 3) := dk_159 0 5 (dk_at dksX1_differs_3 6 rfl rfl)
theorem dX1_differs_79 : decode cX1_differs 79 = .ok (.iconst 1, 1) := dk_4 (dk_at dksX1_differs_3 9 rfl rfl)
theorem dX1_differs_80 : decode cX1_differs 80 = .ok (.ireturn, 1) := dk_172 (dk_at dksX1_differs_3 10 rfl rfl)
theorem dX1_differs_81 : decode cX1_differs 81 = .ok (.iinc 4 1, 3) := dk_132 4 1 (dk_at dksX1_differs_3 11 rfl rfl)
theorem dX1_differs_84 : decode cX1_differs 84 = .ok (.goto (-35), 3) := dk_167 255 221 (dk_at dksX1_differs_3 14 rfl rfl)
theorem dX1_differs_87 : decode cX1_differs 87 = .ok (.aload_n 1, 1) := dk_43 (dk_at dksX1_differs_3 17 rfl rfl)
theorem dX1_differs_88 : decode cX1_differs 88 = .ok (.ifnonnull 5, 3) := dk_199 0 5 (dk_at dksX1_differs_3 18 rfl rfl)
theorem dX1_differs_91 : decode cX1_differs 91 = .ok (.aload_n 3, 1) := dk_45 (dk_at dksX1_differs_3 21 rfl rfl)
theorem dX1_differs_92 : decode cX1_differs 92 = .ok (.astore_n 1, 1) := dk_76 (dk_at dksX1_differs_3 22 rfl rfl)
theorem dX1_differs_93 : decode cX1_differs 93 = .ok (.iinc 2 1, 3) := dk_132 2 1 (dk_at dksX1_differs_4 0 rfl rfl)
theorem dX1_differs_96 : decode cX1_differs 96 = .ok (.goto (-83), 3) := dk_167 255 173 (dk_at dksX1_differs_4 3 rfl rfl)
theorem dX1_differs_99 : decode cX1_differs 99 = .ok (.iconst 0, 1) := dk_3 (dk_at dksX1_differs_4 6 rfl rfl)
theorem dX1_differs_100 : decode cX1_differs 100 = .ok (.ireturn, 1) := dk_172 (dk_at dksX1_differs_4 7 rfl rfl)
abbrev cX1_needs : ByteArray := prog_1_method_36_code
def yX1_needs : MethodName := ⟨RX1, "needs", "()I"⟩
def dkwX1_needs_1 : List UInt8 := [182, 1, 136, 154, 0, 5, 27, 172, 132, 1, 1, 167, 255, 229, 2, 172]
abbrev dktX1_needs_1 : List UInt8 := dkwX1_needs_1 ++ []
def dkwX1_needs_0 : List UInt8 := [42, 3, 181, 1, 27, 3, 60, 27, 6, 163, 0, 28, 42, 27, 182, 1, 123, 154, 0, 5, 2, 172, 42]
abbrev dktX1_needs_0 : List UInt8 := dkwX1_needs_0 ++ dktX1_needs_1
theorem dksX1_needs_0 : cX1_needs.data.toList.drop 0 = dktX1_needs_0 := by decide +kernel
theorem dksX1_needs_1 : cX1_needs.data.toList.drop 23 = dktX1_needs_1 := dk_seg dksX1_needs_0 23 rfl rfl
theorem dX1_needs_0 : decode cX1_needs 0 = .ok (.aload_n 0, 1) := dk_42 (dk_at dksX1_needs_0 0 rfl rfl)
theorem dX1_needs_1 : decode cX1_needs 1 = .ok (.iconst 0, 1) := dk_3 (dk_at dksX1_needs_0 1 rfl rfl)
theorem dX1_needs_2 : decode cX1_needs 2 = .ok (.putfield 283, 3) := dk_181 1 27 (dk_at dksX1_needs_0 2 rfl rfl)
theorem dX1_needs_5 : decode cX1_needs 5 = .ok (.iconst 0, 1) := dk_3 (dk_at dksX1_needs_0 5 rfl rfl)
theorem dX1_needs_6 : decode cX1_needs 6 = .ok (.istore_n 1, 1) := dk_60 (dk_at dksX1_needs_0 6 rfl rfl)
theorem dX1_needs_7 : decode cX1_needs 7 = .ok (.iload_n 1, 1) := dk_27 (dk_at dksX1_needs_0 7 rfl rfl)
theorem dX1_needs_8 : decode cX1_needs 8 = .ok (.iconst 3, 1) := dk_6 (dk_at dksX1_needs_0 8 rfl rfl)
theorem dX1_needs_9 : decode cX1_needs 9 = .ok (.if_icmp .gt 28, 3) := dk_163 0 28 (dk_at dksX1_needs_0 9 rfl rfl)
theorem dX1_needs_12 : decode cX1_needs 12 = .ok (.aload_n 0, 1) := dk_42 (dk_at dksX1_needs_0 12 rfl rfl)
theorem dX1_needs_13 : decode cX1_needs 13 = .ok (.iload_n 1, 1) := dk_27 (dk_at dksX1_needs_0 13 rfl rfl)
theorem dX1_needs_14 : decode cX1_needs 14 = .ok (.invokevirtual 379, 3) := dk_182 1 123 (dk_at dksX1_needs_0 14 rfl rfl)
theorem dX1_needs_17 : decode cX1_needs 17 = .ok (.ifCond .ne 5, 3) := dk_154 0 5 (dk_at dksX1_needs_0 17 rfl rfl)
theorem dX1_needs_20 : decode cX1_needs 20 = .ok (.iconst (-1), 1) := dk_2 (dk_at dksX1_needs_0 20 rfl rfl)
theorem dX1_needs_21 : decode cX1_needs 21 = .ok (.ireturn, 1) := dk_172 (dk_at dksX1_needs_0 21 rfl rfl)
theorem dX1_needs_22 : decode cX1_needs 22 = .ok (.aload_n 0, 1) := dk_42 (dk_at dksX1_needs_0 22 rfl rfl)
theorem dX1_needs_23 : decode cX1_needs 23 = .ok (.invokevirtual 392, 3) := dk_182 1 136 (dk_at dksX1_needs_1 0 rfl rfl)
theorem dX1_needs_26 : decode cX1_needs 26 = .ok (.ifCond .ne 5, 3) := dk_154 0 5 (dk_at dksX1_needs_1 3 rfl rfl)
theorem dX1_needs_29 : decode cX1_needs 29 = .ok (.iload_n 1, 1) := dk_27 (dk_at dksX1_needs_1 6 rfl rfl)
theorem dX1_needs_30 : decode cX1_needs 30 = .ok (.ireturn, 1) := dk_172 (dk_at dksX1_needs_1 7 rfl rfl)
theorem dX1_needs_31 : decode cX1_needs 31 = .ok (.iinc 1 1, 3) := dk_132 1 1 (dk_at dksX1_needs_1 8 rfl rfl)
theorem dX1_needs_34 : decode cX1_needs 34 = .ok (.goto (-27), 3) := dk_167 255 229 (dk_at dksX1_needs_1 11 rfl rfl)
theorem dX1_needs_37 : decode cX1_needs 37 = .ok (.iconst (-1), 1) := dk_2 (dk_at dksX1_needs_1 14 rfl rfl)
theorem dX1_needs_38 : decode cX1_needs 38 = .ok (.ireturn, 1) := dk_172 (dk_at dksX1_needs_1 15 rfl rfl)
abbrev cX1_hasLocked : ByteArray := prog_1_method_30_code
def yX1_hasLocked : MethodName := ⟨RX1, "hasLocked", "()Z"⟩
def dkwX1_hasLocked_1 : List UInt8 := [182, 1, 58, 192, 1, 100, 180, 1, 105, 5, 160, 0, 7, 4, 167, 0, 4, 3, 172]
abbrev dktX1_hasLocked_1 : List UInt8 := dkwX1_hasLocked_1 ++ []
def dkwX1_hasLocked_0 : List UInt8 := [42, 180, 0, 231, 182, 1, 129, 154, 0, 33, 42, 180, 0, 231, 42, 180, 0, 231, 182, 0, 207, 4, 100]
abbrev dktX1_hasLocked_0 : List UInt8 := dkwX1_hasLocked_0 ++ dktX1_hasLocked_1
theorem dksX1_hasLocked_0 : cX1_hasLocked.data.toList.drop 0 = dktX1_hasLocked_0 := by decide +kernel
theorem dksX1_hasLocked_1 : cX1_hasLocked.data.toList.drop 23 = dktX1_hasLocked_1 := dk_seg dksX1_hasLocked_0 23 rfl rfl
theorem dX1_hasLocked_0 : decode cX1_hasLocked 0 = .ok (.aload_n 0, 1) := dk_42 (dk_at dksX1_hasLocked_0 0 rfl rfl)
theorem dX1_hasLocked_1 : decode cX1_hasLocked 1 = .ok (.getfield 231, 3) := dk_180 0 231 (dk_at dksX1_hasLocked_0 1 rfl rfl)
theorem dX1_hasLocked_4 : decode cX1_hasLocked 4 = .ok (.invokevirtual 385, 3) := dk_182 1 129 (dk_at dksX1_hasLocked_0 4 rfl rfl)
theorem dX1_hasLocked_7 : decode cX1_hasLocked 7 = .ok (.ifCond .ne 33, 3) := dk_154 0 33 (dk_at dksX1_hasLocked_0 7 rfl rfl)
theorem dX1_hasLocked_10 : decode cX1_hasLocked 10 = .ok (.aload_n 0, 1) := dk_42 (dk_at dksX1_hasLocked_0 10 rfl rfl)
theorem dX1_hasLocked_11 : decode cX1_hasLocked 11 = .ok (.getfield 231, 3) := dk_180 0 231 (dk_at dksX1_hasLocked_0 11 rfl rfl)
theorem dX1_hasLocked_14 : decode cX1_hasLocked 14 = .ok (.aload_n 0, 1) := dk_42 (dk_at dksX1_hasLocked_0 14 rfl rfl)
theorem dX1_hasLocked_15 : decode cX1_hasLocked 15 = .ok (.getfield 231, 3) := dk_180 0 231 (dk_at dksX1_hasLocked_0 15 rfl rfl)
theorem dX1_hasLocked_18 : decode cX1_hasLocked 18 = .ok (.invokevirtual 207, 3) := dk_182 0 207 (dk_at dksX1_hasLocked_0 18 rfl rfl)
theorem dX1_hasLocked_21 : decode cX1_hasLocked 21 = .ok (.iconst 1, 1) := dk_4 (dk_at dksX1_hasLocked_0 21 rfl rfl)
theorem dX1_hasLocked_22 : decode cX1_hasLocked 22 = .ok (.isub, 1) := dk_100 (dk_at dksX1_hasLocked_0 22 rfl rfl)
theorem dX1_hasLocked_23 : decode cX1_hasLocked 23 = .ok (.invokevirtual 314, 3) := dk_182 1 58 (dk_at dksX1_hasLocked_1 0 rfl rfl)
theorem dX1_hasLocked_26 : decode cX1_hasLocked 26 = .ok (.checkcast 356, 3) := dk_192 1 100 (dk_at dksX1_hasLocked_1 3 rfl rfl)
theorem dX1_hasLocked_29 : decode cX1_hasLocked 29 = .ok (.getfield 361, 3) := dk_180 1 105 (dk_at dksX1_hasLocked_1 6 rfl rfl)
theorem dX1_hasLocked_32 : decode cX1_hasLocked 32 = .ok (.iconst 2, 1) := dk_5 (dk_at dksX1_hasLocked_1 9 rfl rfl)
theorem dX1_hasLocked_33 : decode cX1_hasLocked 33 = .ok (.if_icmp .ne 7, 3) := dk_160 0 7 (dk_at dksX1_hasLocked_1 10 rfl rfl)
theorem dX1_hasLocked_36 : decode cX1_hasLocked 36 = .ok (.iconst 1, 1) := dk_4 (dk_at dksX1_hasLocked_1 13 rfl rfl)
theorem dX1_hasLocked_37 : decode cX1_hasLocked 37 = .ok (.goto 4, 3) := dk_167 0 4 (dk_at dksX1_hasLocked_1 14 rfl rfl)
theorem dX1_hasLocked_40 : decode cX1_hasLocked 40 = .ok (.iconst 0, 1) := dk_3 (dk_at dksX1_hasLocked_1 17 rfl rfl)
theorem dX1_hasLocked_41 : decode cX1_hasLocked 41 = .ok (.ireturn, 1) := dk_172 (dk_at dksX1_hasLocked_1 18 rfl rfl)
abbrev cX1_cut : ByteArray := prog_1_method_37_code
def yX1_cut : MethodName := ⟨RX1, "cut", "()I"⟩
def dkwX1_cut_6 : List UInt8 := [42, 4, 181, 1, 31, 27, 172]
abbrev dktX1_cut_6 : List UInt8 := dkwX1_cut_6 ++ []
def dkwX1_cut_5 : List UInt8 := [180, 0, 237, 28, 42, 180, 0, 1, 28, 51, 84, 42, 180, 0, 1, 28, 3, 84, 132, 2, 1, 167, 255, 228]
abbrev dktX1_cut_5 : List UInt8 := dkwX1_cut_5 ++ dktX1_cut_6
def dkwX1_cut_4 : List UInt8 := [180, 0, 1, 28, 3, 84, 132, 1, 1, 132, 2, 1, 167, 255, 176, 3, 61, 28, 16, 40, 162, 0, 28, 42]
abbrev dktX1_cut_4 : List UInt8 := dkwX1_cut_4 ++ dktX1_cut_5
def dkwX1_cut_3 : List UInt8 := [42, 42, 180, 1, 47, 182, 1, 123, 153, 0, 13, 42, 182, 1, 136, 153, 0, 6, 167, 0, 13, 42]
abbrev dktX1_cut_3 : List UInt8 := dkwX1_cut_3 ++ dktX1_cut_4
def dkwX1_cut_2 : List UInt8 := [182, 1, 58, 192, 0, 8, 180, 0, 105, 16, 10, 160, 0, 6, 167, 0, 41, 42, 180, 0, 1, 28, 4, 84]
abbrev dktX1_cut_2 : List UInt8 := dkwX1_cut_2 ++ dktX1_cut_3
def dkwX1_cut_1 : List UInt8 := [61, 28, 42, 180, 0, 46, 180, 0, 203, 182, 0, 207, 162, 0, 72, 42, 180, 0, 46, 180, 0, 203, 28]
abbrev dktX1_cut_1 : List UInt8 := dkwX1_cut_1 ++ dktX1_cut_2
def dkwX1_cut_0 : List UInt8 := [42, 182, 1, 133, 153, 0, 10, 42, 182, 1, 136, 154, 0, 5, 2, 172, 42, 3, 181, 1, 27, 3, 60, 3]
abbrev dktX1_cut_0 : List UInt8 := dkwX1_cut_0 ++ dktX1_cut_1
theorem dksX1_cut_0 : cX1_cut.data.toList.drop 0 = dktX1_cut_0 := by decide +kernel
theorem dksX1_cut_1 : cX1_cut.data.toList.drop 24 = dktX1_cut_1 := dk_seg dksX1_cut_0 24 rfl rfl
theorem dksX1_cut_2 : cX1_cut.data.toList.drop 47 = dktX1_cut_2 := dk_seg dksX1_cut_1 23 rfl rfl
theorem dksX1_cut_3 : cX1_cut.data.toList.drop 71 = dktX1_cut_3 := dk_seg dksX1_cut_2 24 rfl rfl
theorem dksX1_cut_4 : cX1_cut.data.toList.drop 93 = dktX1_cut_4 := dk_seg dksX1_cut_3 22 rfl rfl
theorem dksX1_cut_5 : cX1_cut.data.toList.drop 117 = dktX1_cut_5 := dk_seg dksX1_cut_4 24 rfl rfl
theorem dksX1_cut_6 : cX1_cut.data.toList.drop 141 = dktX1_cut_6 := dk_seg dksX1_cut_5 24 rfl rfl
theorem dX1_cut_0 : decode cX1_cut 0 = .ok (.aload_n 0, 1) := dk_42 (dk_at dksX1_cut_0 0 rfl rfl)
theorem dX1_cut_1 : decode cX1_cut 1 = .ok (.invokevirtual 389, 3) := dk_182 1 133 (dk_at dksX1_cut_0 1 rfl rfl)
theorem dX1_cut_4 : decode cX1_cut 4 = .ok (.ifCond .eq 10, 3) := dk_153 0 10 (dk_at dksX1_cut_0 4 rfl rfl)
theorem dX1_cut_7 : decode cX1_cut 7 = .ok (.aload_n 0, 1) := dk_42 (dk_at dksX1_cut_0 7 rfl rfl)
theorem dX1_cut_8 : decode cX1_cut 8 = .ok (.invokevirtual 392, 3) := dk_182 1 136 (dk_at dksX1_cut_0 8 rfl rfl)
theorem dX1_cut_11 : decode cX1_cut 11 = .ok (.ifCond .ne 5, 3) := dk_154 0 5 (dk_at dksX1_cut_0 11 rfl rfl)
theorem dX1_cut_14 : decode cX1_cut 14 = .ok (.iconst (-1), 1) := dk_2 (dk_at dksX1_cut_0 14 rfl rfl)
theorem dX1_cut_15 : decode cX1_cut 15 = .ok (.ireturn, 1) := dk_172 (dk_at dksX1_cut_0 15 rfl rfl)
theorem dX1_cut_16 : decode cX1_cut 16 = .ok (.aload_n 0, 1) := dk_42 (dk_at dksX1_cut_0 16 rfl rfl)
theorem dX1_cut_17 : decode cX1_cut 17 = .ok (.iconst 0, 1) := dk_3 (dk_at dksX1_cut_0 17 rfl rfl)
theorem dX1_cut_18 : decode cX1_cut 18 = .ok (.putfield 283, 3) := dk_181 1 27 (dk_at dksX1_cut_0 18 rfl rfl)
theorem dX1_cut_21 : decode cX1_cut 21 = .ok (.iconst 0, 1) := dk_3 (dk_at dksX1_cut_0 21 rfl rfl)
theorem dX1_cut_22 : decode cX1_cut 22 = .ok (.istore_n 1, 1) := dk_60 (dk_at dksX1_cut_0 22 rfl rfl)
theorem dX1_cut_23 : decode cX1_cut 23 = .ok (.iconst 0, 1) := dk_3 (dk_at dksX1_cut_0 23 rfl rfl)
theorem dX1_cut_24 : decode cX1_cut 24 = .ok (.istore_n 2, 1) := dk_61 (dk_at dksX1_cut_1 0 rfl rfl)
theorem dX1_cut_25 : decode cX1_cut 25 = .ok (.iload_n 2, 1) := dk_28 (dk_at dksX1_cut_1 1 rfl rfl)
theorem dX1_cut_26 : decode cX1_cut 26 = .ok (.aload_n 0, 1) := dk_42 (dk_at dksX1_cut_1 2 rfl rfl)
theorem dX1_cut_27 : decode cX1_cut 27 = .ok (.getfield 46, 3) := dk_180 0 46 (dk_at dksX1_cut_1 3 rfl rfl)
theorem dX1_cut_30 : decode cX1_cut 30 = .ok (.getfield 203, 3) := dk_180 0 203 (dk_at dksX1_cut_1 6 rfl rfl)
theorem dX1_cut_33 : decode cX1_cut 33 = .ok (.invokevirtual 207, 3) := dk_182 0 207 (dk_at dksX1_cut_1 9 rfl rfl)
theorem dX1_cut_36 : decode cX1_cut 36 = .ok (.if_icmp .ge 72, 3) := dk_162 0 72 (dk_at dksX1_cut_1 12 rfl rfl)
theorem dX1_cut_39 : decode cX1_cut 39 = .ok (.aload_n 0, 1) := dk_42 (dk_at dksX1_cut_1 15 rfl rfl)
theorem dX1_cut_40 : decode cX1_cut 40 = .ok (.getfield 46, 3) := dk_180 0 46 (dk_at dksX1_cut_1 16 rfl rfl)
theorem dX1_cut_43 : decode cX1_cut 43 = .ok (.getfield 203, 3) := dk_180 0 203 (dk_at dksX1_cut_1 19 rfl rfl)
theorem dX1_cut_46 : decode cX1_cut 46 = .ok (.iload_n 2, 1) := dk_28 (dk_at dksX1_cut_1 22 rfl rfl)
theorem dX1_cut_47 : decode cX1_cut 47 = .ok (.invokevirtual 314, 3) := dk_182 1 58 (dk_at dksX1_cut_2 0 rfl rfl)
theorem dX1_cut_50 : decode cX1_cut 50 = .ok (.checkcast 8, 3) := dk_192 0 8 (dk_at dksX1_cut_2 3 rfl rfl)
theorem dX1_cut_53 : decode cX1_cut 53 = .ok (.getfield 105, 3) := dk_180 0 105 (dk_at dksX1_cut_2 6 rfl rfl)
theorem dX1_cut_56 : decode cX1_cut 56 = .ok (.bipush 10, 2) := dk_16 10 (dk_at dksX1_cut_2 9 rfl rfl)
theorem dX1_cut_58 : decode cX1_cut 58 = .ok (.if_icmp .ne 6, 3) := dk_160 0 6 (dk_at dksX1_cut_2 11 rfl rfl)
theorem dX1_cut_61 : decode cX1_cut 61 = .ok (.goto 41, 3) := dk_167 0 41 (dk_at dksX1_cut_2 14 rfl rfl)
theorem dX1_cut_64 : decode cX1_cut 64 = .ok (.aload_n 0, 1) := dk_42 (dk_at dksX1_cut_2 17 rfl rfl)
theorem dX1_cut_65 : decode cX1_cut 65 = .ok (.getfield 1, 3) := dk_180 0 1 (dk_at dksX1_cut_2 18 rfl rfl)
theorem dX1_cut_68 : decode cX1_cut 68 = .ok (.iload_n 2, 1) := dk_28 (dk_at dksX1_cut_2 21 rfl rfl)
theorem dX1_cut_69 : decode cX1_cut 69 = .ok (.iconst 1, 1) := dk_4 (dk_at dksX1_cut_2 22 rfl rfl)
theorem dX1_cut_70 : decode cX1_cut 70 = .ok (.bastore, 1) := dk_84 (dk_at dksX1_cut_2 23 rfl rfl)
theorem dX1_cut_71 : decode cX1_cut 71 = .ok (.aload_n 0, 1) := dk_42 (dk_at dksX1_cut_3 0 rfl rfl)
theorem dX1_cut_72 : decode cX1_cut 72 = .ok (.aload_n 0, 1) := dk_42 (dk_at dksX1_cut_3 1 rfl rfl)
theorem dX1_cut_73 : decode cX1_cut 73 = .ok (.getfield 303, 3) := dk_180 1 47 (dk_at dksX1_cut_3 2 rfl rfl)
theorem dX1_cut_76 : decode cX1_cut 76 = .ok (.invokevirtual 379, 3) := dk_182 1 123 (dk_at dksX1_cut_3 5 rfl rfl)
theorem dX1_cut_79 : decode cX1_cut 79 = .ok (.ifCond .eq 13, 3) := dk_153 0 13 (dk_at dksX1_cut_3 8 rfl rfl)
theorem dX1_cut_82 : decode cX1_cut 82 = .ok (.aload_n 0, 1) := dk_42 (dk_at dksX1_cut_3 11 rfl rfl)
theorem dX1_cut_83 : decode cX1_cut 83 = .ok (.invokevirtual 392, 3) := dk_182 1 136 (dk_at dksX1_cut_3 12 rfl rfl)
theorem dX1_cut_86 : decode cX1_cut 86 = .ok (.ifCond .eq 6, 3) := dk_153 0 6 (dk_at dksX1_cut_3 15 rfl rfl)
theorem dX1_cut_89 : decode cX1_cut 89 = .ok (.goto 13, 3) := dk_167 0 13 (dk_at dksX1_cut_3 18 rfl rfl)
theorem dX1_cut_92 : decode cX1_cut 92 = .ok (.aload_n 0, 1) := dk_42 (dk_at dksX1_cut_3 21 rfl rfl)
theorem dX1_cut_93 : decode cX1_cut 93 = .ok (.getfield 1, 3) := dk_180 0 1 (dk_at dksX1_cut_4 0 rfl rfl)
theorem dX1_cut_96 : decode cX1_cut 96 = .ok (.iload_n 2, 1) := dk_28 (dk_at dksX1_cut_4 3 rfl rfl)
theorem dX1_cut_97 : decode cX1_cut 97 = .ok (.iconst 0, 1) := dk_3 (dk_at dksX1_cut_4 4 rfl rfl)
theorem dX1_cut_98 : decode cX1_cut 98 = .ok (.bastore, 1) := dk_84 (dk_at dksX1_cut_4 5 rfl rfl)
theorem dX1_cut_99 : decode cX1_cut 99 = .ok (.iinc 1 1, 3) := dk_132 1 1 (dk_at dksX1_cut_4 6 rfl rfl)
theorem dX1_cut_102 : decode cX1_cut 102 = .ok (.iinc 2 1, 3) := dk_132 2 1 (dk_at dksX1_cut_4 9 rfl rfl)
theorem dX1_cut_105 : decode cX1_cut 105 = .ok (.goto (-80), 3) := dk_167 255 176 (dk_at dksX1_cut_4 12 rfl rfl)
theorem dX1_cut_108 : decode cX1_cut 108 = .ok (.iconst 0, 1) := dk_3 (dk_at dksX1_cut_4 15 rfl rfl)
theorem dX1_cut_109 : decode cX1_cut 109 = .ok (.istore_n 2, 1) := dk_61 (dk_at dksX1_cut_4 16 rfl rfl)
theorem dX1_cut_110 : decode cX1_cut 110 = .ok (.iload_n 2, 1) := dk_28 (dk_at dksX1_cut_4 17 rfl rfl)
theorem dX1_cut_111 : decode cX1_cut 111 = .ok (.bipush 40, 2) := dk_16 40 (dk_at dksX1_cut_4 18 rfl rfl)
theorem dX1_cut_113 : decode cX1_cut 113 = .ok (.if_icmp .ge 28, 3) := dk_162 0 28 (dk_at dksX1_cut_4 20 rfl rfl)
theorem dX1_cut_116 : decode cX1_cut 116 = .ok (.aload_n 0, 1) := dk_42 (dk_at dksX1_cut_4 23 rfl rfl)
theorem dX1_cut_117 : decode cX1_cut 117 = .ok (.getfield 237, 3) := dk_180 0 237 (dk_at dksX1_cut_5 0 rfl rfl)
theorem dX1_cut_120 : decode cX1_cut 120 = .ok (.iload_n 2, 1) := dk_28 (dk_at dksX1_cut_5 3 rfl rfl)
theorem dX1_cut_121 : decode cX1_cut 121 = .ok (.aload_n 0, 1) := dk_42 (dk_at dksX1_cut_5 4 rfl rfl)
theorem dX1_cut_122 : decode cX1_cut 122 = .ok (.getfield 1, 3) := dk_180 0 1 (dk_at dksX1_cut_5 5 rfl rfl)
theorem dX1_cut_125 : decode cX1_cut 125 = .ok (.iload_n 2, 1) := dk_28 (dk_at dksX1_cut_5 8 rfl rfl)
theorem dX1_cut_126 : decode cX1_cut 126 = .ok (.baload, 1) := dk_51 (dk_at dksX1_cut_5 9 rfl rfl)
theorem dX1_cut_127 : decode cX1_cut 127 = .ok (.bastore, 1) := dk_84 (dk_at dksX1_cut_5 10 rfl rfl)
theorem dX1_cut_128 : decode cX1_cut 128 = .ok (.aload_n 0, 1) := dk_42 (dk_at dksX1_cut_5 11 rfl rfl)
theorem dX1_cut_129 : decode cX1_cut 129 = .ok (.getfield 1, 3) := dk_180 0 1 (dk_at dksX1_cut_5 12 rfl rfl)
theorem dX1_cut_132 : decode cX1_cut 132 = .ok (.iload_n 2, 1) := dk_28 (dk_at dksX1_cut_5 15 rfl rfl)
theorem dX1_cut_133 : decode cX1_cut 133 = .ok (.iconst 0, 1) := dk_3 (dk_at dksX1_cut_5 16 rfl rfl)
theorem dX1_cut_134 : decode cX1_cut 134 = .ok (.bastore, 1) := dk_84 (dk_at dksX1_cut_5 17 rfl rfl)
theorem dX1_cut_135 : decode cX1_cut 135 = .ok (.iinc 2 1, 3) := dk_132 2 1 (dk_at dksX1_cut_5 18 rfl rfl)
theorem dX1_cut_138 : decode cX1_cut 138 = .ok (.goto (-28), 3) := dk_167 255 228 (dk_at dksX1_cut_5 21 rfl rfl)
theorem dX1_cut_141 : decode cX1_cut 141 = .ok (.aload_n 0, 1) := dk_42 (dk_at dksX1_cut_6 0 rfl rfl)
theorem dX1_cut_142 : decode cX1_cut 142 = .ok (.iconst 1, 1) := dk_4 (dk_at dksX1_cut_6 1 rfl rfl)
theorem dX1_cut_143 : decode cX1_cut 143 = .ok (.putfield 287, 3) := dk_181 1 31 (dk_at dksX1_cut_6 2 rfl rfl)
theorem dX1_cut_146 : decode cX1_cut 146 = .ok (.iload_n 1, 1) := dk_27 (dk_at dksX1_cut_6 5 rfl rfl)
theorem dX1_cut_147 : decode cX1_cut 147 = .ok (.ireturn, 1) := dk_172 (dk_at dksX1_cut_6 6 rfl rfl)
abbrev cX1_text : ByteArray := prog_1_method_20_code
def yX1_text : MethodName := ⟨RX1, "text", "(I)I"⟩
def dkwX1_text_3 : List UInt8 := [180, 1, 39, 181, 0, 222, 44, 180, 1, 42, 172]
abbrev dktX1_text_3 : List UInt8 := dkwX1_text_3 ++ []
def dkwX1_text_2 : List UInt8 := [181, 0, 46, 42, 3, 181, 1, 27, 42, 3, 181, 1, 31, 42, 3, 181, 1, 34, 3, 172, 77, 42, 44]
abbrev dktX1_text_2 : List UInt8 := dkwX1_text_2 ++ dktX1_text_3
def dkwX1_text_1 : List UInt8 := [181, 1, 8, 42, 2, 181, 0, 222, 42, 187, 1, 18, 89, 42, 180, 0, 218, 27, 183, 1, 20, 182, 1, 23]
abbrev dktX1_text_1 : List UInt8 := dkwX1_text_1 ++ dktX1_text_2
def dkwX1_text_0 : List UInt8 := [27, 155, 0, 15, 27, 42, 180, 1, 8, 163, 0, 7, 4, 167, 0, 4, 3, 184, 1, 14, 42, 3]
abbrev dktX1_text_0 : List UInt8 := dkwX1_text_0 ++ dktX1_text_1
theorem dksX1_text_0 : cX1_text.data.toList.drop 0 = dktX1_text_0 := by decide +kernel
theorem dksX1_text_1 : cX1_text.data.toList.drop 22 = dktX1_text_1 := dk_seg dksX1_text_0 22 rfl rfl
theorem dksX1_text_2 : cX1_text.data.toList.drop 46 = dktX1_text_2 := dk_seg dksX1_text_1 24 rfl rfl
theorem dksX1_text_3 : cX1_text.data.toList.drop 69 = dktX1_text_3 := dk_seg dksX1_text_2 23 rfl rfl
theorem dX1_text_0 : decode cX1_text 0 = .ok (.iload_n 1, 1) := dk_27 (dk_at dksX1_text_0 0 rfl rfl)
theorem dX1_text_1 : decode cX1_text 1 = .ok (.ifCond .lt 15, 3) := dk_155 0 15 (dk_at dksX1_text_0 1 rfl rfl)
theorem dX1_text_4 : decode cX1_text 4 = .ok (.iload_n 1, 1) := dk_27 (dk_at dksX1_text_0 4 rfl rfl)
theorem dX1_text_5 : decode cX1_text 5 = .ok (.aload_n 0, 1) := dk_42 (dk_at dksX1_text_0 5 rfl rfl)
theorem dX1_text_6 : decode cX1_text 6 = .ok (.getfield 264, 3) := dk_180 1 8 (dk_at dksX1_text_0 6 rfl rfl)
theorem dX1_text_9 : decode cX1_text 9 = .ok (.if_icmp .gt 7, 3) := dk_163 0 7 (dk_at dksX1_text_0 9 rfl rfl)
theorem dX1_text_12 : decode cX1_text 12 = .ok (.iconst 1, 1) := dk_4 (dk_at dksX1_text_0 12 rfl rfl)
theorem dX1_text_13 : decode cX1_text 13 = .ok (.goto 4, 3) := dk_167 0 4 (dk_at dksX1_text_0 13 rfl rfl)
theorem dX1_text_16 : decode cX1_text 16 = .ok (.iconst 0, 1) := dk_3 (dk_at dksX1_text_0 16 rfl rfl)
theorem dX1_text_17 : decode cX1_text 17 = .ok (.invokestatic 270, 3) := dk_184 1 14 (dk_at dksX1_text_0 17 rfl rfl)
theorem dX1_text_20 : decode cX1_text 20 = .ok (.aload_n 0, 1) := dk_42 (dk_at dksX1_text_0 20 rfl rfl)
theorem dX1_text_21 : decode cX1_text 21 = .ok (.iconst 0, 1) := dk_3 (dk_at dksX1_text_0 21 rfl rfl)
theorem dX1_text_22 : decode cX1_text 22 = .ok (.putfield 264, 3) := dk_181 1 8 (dk_at dksX1_text_1 0 rfl rfl)
theorem dX1_text_25 : decode cX1_text 25 = .ok (.aload_n 0, 1) := dk_42 (dk_at dksX1_text_1 3 rfl rfl)
theorem dX1_text_26 : decode cX1_text 26 = .ok (.iconst (-1), 1) := dk_2 (dk_at dksX1_text_1 4 rfl rfl)
theorem dX1_text_27 : decode cX1_text 27 = .ok (.putfield 222, 3) := dk_181 0 222 (dk_at dksX1_text_1 5 rfl rfl)
theorem dX1_text_30 : decode cX1_text 30 = .ok (.aload_n 0, 1) := dk_42 (dk_at dksX1_text_1 8 rfl rfl)
theorem dX1_text_31 : decode cX1_text 31 = .ok (.new 274, 3) := dk_187 1 18 (dk_at dksX1_text_1 9 rfl rfl)
theorem dX1_text_34 : decode cX1_text 34 = .ok (.dup, 1) := dk_89 (dk_at dksX1_text_1 12 rfl rfl)
theorem dX1_text_35 : decode cX1_text 35 = .ok (.aload_n 0, 1) := dk_42 (dk_at dksX1_text_1 13 rfl rfl)
theorem dX1_text_36 : decode cX1_text 36 = .ok (.getfield 218, 3) := dk_180 0 218 (dk_at dksX1_text_1 14 rfl rfl)
theorem dX1_text_39 : decode cX1_text 39 = .ok (.iload_n 1, 1) := dk_27 (dk_at dksX1_text_1 17 rfl rfl)
theorem dX1_text_40 : decode cX1_text 40 = .ok (.invokespecial 276, 3) := dk_183 1 20 (dk_at dksX1_text_1 18 rfl rfl)
theorem dX1_text_43 : decode cX1_text 43 = .ok (.invokevirtual 279, 3) := dk_182 1 23 (dk_at dksX1_text_1 21 rfl rfl)
theorem dX1_text_46 : decode cX1_text 46 = .ok (.putfield 46, 3) := dk_181 0 46 (dk_at dksX1_text_2 0 rfl rfl)
theorem dX1_text_49 : decode cX1_text 49 = .ok (.aload_n 0, 1) := dk_42 (dk_at dksX1_text_2 3 rfl rfl)
theorem dX1_text_50 : decode cX1_text 50 = .ok (.iconst 0, 1) := dk_3 (dk_at dksX1_text_2 4 rfl rfl)
theorem dX1_text_51 : decode cX1_text 51 = .ok (.putfield 283, 3) := dk_181 1 27 (dk_at dksX1_text_2 5 rfl rfl)
theorem dX1_text_54 : decode cX1_text 54 = .ok (.aload_n 0, 1) := dk_42 (dk_at dksX1_text_2 8 rfl rfl)
theorem dX1_text_55 : decode cX1_text 55 = .ok (.iconst 0, 1) := dk_3 (dk_at dksX1_text_2 9 rfl rfl)
theorem dX1_text_56 : decode cX1_text 56 = .ok (.putfield 287, 3) := dk_181 1 31 (dk_at dksX1_text_2 10 rfl rfl)
theorem dX1_text_59 : decode cX1_text 59 = .ok (.aload_n 0, 1) := dk_42 (dk_at dksX1_text_2 13 rfl rfl)
theorem dX1_text_60 : decode cX1_text 60 = .ok (.iconst 0, 1) := dk_3 (dk_at dksX1_text_2 14 rfl rfl)
theorem dX1_text_61 : decode cX1_text 61 = .ok (.putfield 290, 3) := dk_181 1 34 (dk_at dksX1_text_2 15 rfl rfl)
theorem dX1_text_64 : decode cX1_text 64 = .ok (.iconst 0, 1) := dk_3 (dk_at dksX1_text_2 18 rfl rfl)
theorem dX1_text_65 : decode cX1_text 65 = .ok (.ireturn, 1) := dk_172 (dk_at dksX1_text_2 19 rfl rfl)
theorem dX1_text_66 : decode cX1_text 66 = .ok (.astore_n 2, 1) := dk_77 (dk_at dksX1_text_2 20 rfl rfl)
theorem dX1_text_67 : decode cX1_text 67 = .ok (.aload_n 0, 1) := dk_42 (dk_at dksX1_text_2 21 rfl rfl)
theorem dX1_text_68 : decode cX1_text 68 = .ok (.aload_n 2, 1) := dk_44 (dk_at dksX1_text_2 22 rfl rfl)
theorem dX1_text_69 : decode cX1_text 69 = .ok (.getfield 295, 3) := dk_180 1 39 (dk_at dksX1_text_3 0 rfl rfl)
theorem dX1_text_72 : decode cX1_text 72 = .ok (.putfield 222, 3) := dk_181 0 222 (dk_at dksX1_text_3 3 rfl rfl)
theorem dX1_text_75 : decode cX1_text 75 = .ok (.aload_n 2, 1) := dk_44 (dk_at dksX1_text_3 6 rfl rfl)
theorem dX1_text_76 : decode cX1_text 76 = .ok (.getfield 298, 3) := dk_180 1 42 (dk_at dksX1_text_3 7 rfl rfl)
theorem dX1_text_79 : decode cX1_text 79 = .ok (.ireturn, 1) := dk_172 (dk_at dksX1_text_3 10 rfl rfl)
abbrev cX1_right : ByteArray := prog_1_method_13_code
def yX1_right : MethodName := ⟨RX1, "right", "(Z)V"⟩
def dkwX1_right_0 : List UInt8 := [26, 154, 0, 11, 187, 0, 194, 89, 183, 0, 196, 191, 177]
abbrev dktX1_right_0 : List UInt8 := dkwX1_right_0 ++ []
theorem dksX1_right_0 : cX1_right.data.toList.drop 0 = dktX1_right_0 := by decide +kernel
theorem dX1_right_0 : decode cX1_right 0 = .ok (.iload_n 0, 1) := dk_26 (dk_at dksX1_right_0 0 rfl rfl)
theorem dX1_right_1 : decode cX1_right 1 = .ok (.ifCond .ne 11, 3) := dk_154 0 11 (dk_at dksX1_right_0 1 rfl rfl)
theorem dX1_right_4 : decode cX1_right 4 = .ok (.new 194, 3) := dk_187 0 194 (dk_at dksX1_right_0 4 rfl rfl)
theorem dX1_right_7 : decode cX1_right 7 = .ok (.dup, 1) := dk_89 (dk_at dksX1_right_0 7 rfl rfl)
theorem dX1_right_8 : decode cX1_right 8 = .ok (.invokespecial 196, 3) := dk_183 0 196 (dk_at dksX1_right_0 8 rfl rfl)
theorem dX1_right_11 : decode cX1_right 11 = .ok (.athrow, 1) := dk_191 (dk_at dksX1_right_0 11 rfl rfl)
theorem dX1_right_12 : decode cX1_right 12 = .ok (.return_, 1) := dk_177 (dk_at dksX1_right_0 12 rfl rfl)
abbrev cX1_count : ByteArray := prog_1_method_23_code
def yX1_count : MethodName := ⟨RX1, "count", "(I)I"⟩
def dkwX1_count_3 : List UInt8 := [42, 180, 1, 47, 172, 42, 180, 0, 143, 172, 42, 180, 0, 146, 172, 42, 180, 1, 8, 172]
abbrev dktX1_count_3 : List UInt8 := dkwX1_count_3 ++ []
def dkwX1_count_2 : List UInt8 := [42, 180, 0, 46, 180, 0, 203, 182, 0, 207, 172, 42, 180, 0, 46, 180, 1, 52, 172, 42, 180, 0, 216, 172]
abbrev dktX1_count_2 : List UInt8 := dkwX1_count_2 ++ dktX1_count_3
def dkwX1_count_1 : List UInt8 := [170, 0, 0, 0, 76, 0, 0, 0, 0, 0, 0, 0, 5, 0, 0, 0, 37, 0, 0, 0, 48, 0, 0, 0, 56, 0, 0, 0, 61, 0, 0, 0, 66, 0, 0, 0, 71]
abbrev dktX1_count_1 : List UInt8 := dkwX1_count_1 ++ dktX1_count_2
def dkwX1_count_0 : List UInt8 := [27, 3, 16, 6, 184, 1, 43, 184, 1, 50, 27]
abbrev dktX1_count_0 : List UInt8 := dkwX1_count_0 ++ dktX1_count_1
theorem dksX1_count_0 : cX1_count.data.toList.drop 0 = dktX1_count_0 := by decide +kernel
theorem dksX1_count_1 : cX1_count.data.toList.drop 11 = dktX1_count_1 := dk_seg dksX1_count_0 11 rfl rfl
theorem dksX1_count_2 : cX1_count.data.toList.drop 48 = dktX1_count_2 := dk_seg dksX1_count_1 37 rfl rfl
theorem dksX1_count_3 : cX1_count.data.toList.drop 72 = dktX1_count_3 := dk_seg dksX1_count_2 24 rfl rfl
theorem dX1_count_0 : decode cX1_count 0 = .ok (.iload_n 1, 1) := dk_27 (dk_at dksX1_count_0 0 rfl rfl)
theorem dX1_count_1 : decode cX1_count 1 = .ok (.iconst 0, 1) := dk_3 (dk_at dksX1_count_0 1 rfl rfl)
theorem dX1_count_2 : decode cX1_count 2 = .ok (.bipush 6, 2) := dk_16 6 (dk_at dksX1_count_0 2 rfl rfl)
theorem dX1_count_4 : decode cX1_count 4 = .ok (.invokestatic 299, 3) := dk_184 1 43 (dk_at dksX1_count_0 4 rfl rfl)
theorem dX1_count_7 : decode cX1_count 7 = .ok (.invokestatic 306, 3) := dk_184 1 50 (dk_at dksX1_count_0 7 rfl rfl)
theorem dX1_count_10 : decode cX1_count 10 = .ok (.iload_n 1, 1) := dk_27 (dk_at dksX1_count_0 10 rfl rfl)
theorem dX1_count_11 : decode cX1_count 11 = .ok (.tableswitch 76 0 5 #[37, 48, 56, 61, 66, 71], 37) := by decide +kernel
theorem dX1_count_48 : decode cX1_count 48 = .ok (.aload_n 0, 1) := dk_42 (dk_at dksX1_count_2 0 rfl rfl)
theorem dX1_count_49 : decode cX1_count 49 = .ok (.getfield 46, 3) := dk_180 0 46 (dk_at dksX1_count_2 1 rfl rfl)
theorem dX1_count_52 : decode cX1_count 52 = .ok (.getfield 203, 3) := dk_180 0 203 (dk_at dksX1_count_2 4 rfl rfl)
theorem dX1_count_55 : decode cX1_count 55 = .ok (.invokevirtual 207, 3) := dk_182 0 207 (dk_at dksX1_count_2 7 rfl rfl)
theorem dX1_count_58 : decode cX1_count 58 = .ok (.ireturn, 1) := dk_172 (dk_at dksX1_count_2 10 rfl rfl)
theorem dX1_count_59 : decode cX1_count 59 = .ok (.aload_n 0, 1) := dk_42 (dk_at dksX1_count_2 11 rfl rfl)
theorem dX1_count_60 : decode cX1_count 60 = .ok (.getfield 46, 3) := dk_180 0 46 (dk_at dksX1_count_2 12 rfl rfl)
theorem dX1_count_63 : decode cX1_count 63 = .ok (.getfield 308, 3) := dk_180 1 52 (dk_at dksX1_count_2 15 rfl rfl)
theorem dX1_count_66 : decode cX1_count 66 = .ok (.ireturn, 1) := dk_172 (dk_at dksX1_count_2 18 rfl rfl)
theorem dX1_count_67 : decode cX1_count 67 = .ok (.aload_n 0, 1) := dk_42 (dk_at dksX1_count_2 19 rfl rfl)
theorem dX1_count_68 : decode cX1_count 68 = .ok (.getfield 216, 3) := dk_180 0 216 (dk_at dksX1_count_2 20 rfl rfl)
theorem dX1_count_71 : decode cX1_count 71 = .ok (.ireturn, 1) := dk_172 (dk_at dksX1_count_2 23 rfl rfl)
theorem dX1_count_72 : decode cX1_count 72 = .ok (.aload_n 0, 1) := dk_42 (dk_at dksX1_count_3 0 rfl rfl)
theorem dX1_count_73 : decode cX1_count 73 = .ok (.getfield 303, 3) := dk_180 1 47 (dk_at dksX1_count_3 1 rfl rfl)
theorem dX1_count_76 : decode cX1_count 76 = .ok (.ireturn, 1) := dk_172 (dk_at dksX1_count_3 4 rfl rfl)
theorem dX1_count_77 : decode cX1_count 77 = .ok (.aload_n 0, 1) := dk_42 (dk_at dksX1_count_3 5 rfl rfl)
theorem dX1_count_78 : decode cX1_count 78 = .ok (.getfield 143, 3) := dk_180 0 143 (dk_at dksX1_count_3 6 rfl rfl)
theorem dX1_count_81 : decode cX1_count 81 = .ok (.ireturn, 1) := dk_172 (dk_at dksX1_count_3 9 rfl rfl)
theorem dX1_count_82 : decode cX1_count 82 = .ok (.aload_n 0, 1) := dk_42 (dk_at dksX1_count_3 10 rfl rfl)
theorem dX1_count_83 : decode cX1_count 83 = .ok (.getfield 146, 3) := dk_180 0 146 (dk_at dksX1_count_3 11 rfl rfl)
theorem dX1_count_86 : decode cX1_count 86 = .ok (.ireturn, 1) := dk_172 (dk_at dksX1_count_3 14 rfl rfl)
theorem dX1_count_87 : decode cX1_count 87 = .ok (.aload_n 0, 1) := dk_42 (dk_at dksX1_count_3 15 rfl rfl)
theorem dX1_count_88 : decode cX1_count 88 = .ok (.getfield 264, 3) := dk_180 1 8 (dk_at dksX1_count_3 16 rfl rfl)
theorem dX1_count_91 : decode cX1_count 91 = .ok (.ireturn, 1) := dk_172 (dk_at dksX1_count_3 19 rfl rfl)
abbrev cX1_there : ByteArray := prog_1_method_14_code
def yX1_there : MethodName := ⟨RX1, "there", "(Z)V"⟩
def dkwX1_there_0 : List UInt8 := [26, 154, 0, 11, 187, 0, 200, 89, 183, 0, 202, 191, 177]
abbrev dktX1_there_0 : List UInt8 := dkwX1_there_0 ++ []
theorem dksX1_there_0 : cX1_there.data.toList.drop 0 = dktX1_there_0 := by decide +kernel
theorem dX1_there_0 : decode cX1_there 0 = .ok (.iload_n 0, 1) := dk_26 (dk_at dksX1_there_0 0 rfl rfl)
theorem dX1_there_1 : decode cX1_there 1 = .ok (.ifCond .ne 11, 3) := dk_154 0 11 (dk_at dksX1_there_0 1 rfl rfl)
theorem dX1_there_4 : decode cX1_there 4 = .ok (.new 200, 3) := dk_187 0 200 (dk_at dksX1_there_0 4 rfl rfl)
theorem dX1_there_7 : decode cX1_there 7 = .ok (.dup, 1) := dk_89 (dk_at dksX1_there_0 7 rfl rfl)
theorem dX1_there_8 : decode cX1_there 8 = .ok (.invokespecial 202, 3) := dk_183 0 202 (dk_at dksX1_there_0 8 rfl rfl)
theorem dX1_there_11 : decode cX1_there 11 = .ok (.athrow, 1) := dk_191 (dk_at dksX1_there_0 11 rfl rfl)
theorem dX1_there_12 : decode cX1_there 12 = .ok (.return_, 1) := dk_177 (dk_at dksX1_there_0 12 rfl rfl)
abbrev cX1_step : ByteArray := prog_1_method_24_code
def yX1_step : MethodName := ⟨RX1, "step", "(I)I"⟩
def dkwX1_step_1 : List UInt8 := [180, 0, 105, 172]
abbrev dktX1_step_1 : List UInt8 := dkwX1_step_1 ++ []
def dkwX1_step_0 : List UInt8 := [42, 27, 182, 1, 55, 184, 1, 50, 42, 180, 0, 46, 180, 0, 203, 27, 182, 1, 58, 192, 0, 8]
abbrev dktX1_step_0 : List UInt8 := dkwX1_step_0 ++ dktX1_step_1
theorem dksX1_step_0 : cX1_step.data.toList.drop 0 = dktX1_step_0 := by decide +kernel
theorem dksX1_step_1 : cX1_step.data.toList.drop 22 = dktX1_step_1 := dk_seg dksX1_step_0 22 rfl rfl
theorem dX1_step_0 : decode cX1_step 0 = .ok (.aload_n 0, 1) := dk_42 (dk_at dksX1_step_0 0 rfl rfl)
theorem dX1_step_1 : decode cX1_step 1 = .ok (.iload_n 1, 1) := dk_27 (dk_at dksX1_step_0 1 rfl rfl)
theorem dX1_step_2 : decode cX1_step 2 = .ok (.invokevirtual 311, 3) := dk_182 1 55 (dk_at dksX1_step_0 2 rfl rfl)
theorem dX1_step_5 : decode cX1_step 5 = .ok (.invokestatic 306, 3) := dk_184 1 50 (dk_at dksX1_step_0 5 rfl rfl)
theorem dX1_step_8 : decode cX1_step 8 = .ok (.aload_n 0, 1) := dk_42 (dk_at dksX1_step_0 8 rfl rfl)
theorem dX1_step_9 : decode cX1_step 9 = .ok (.getfield 46, 3) := dk_180 0 46 (dk_at dksX1_step_0 9 rfl rfl)
theorem dX1_step_12 : decode cX1_step 12 = .ok (.getfield 203, 3) := dk_180 0 203 (dk_at dksX1_step_0 12 rfl rfl)
theorem dX1_step_15 : decode cX1_step 15 = .ok (.iload_n 1, 1) := dk_27 (dk_at dksX1_step_0 15 rfl rfl)
theorem dX1_step_16 : decode cX1_step 16 = .ok (.invokevirtual 314, 3) := dk_182 1 58 (dk_at dksX1_step_0 16 rfl rfl)
theorem dX1_step_19 : decode cX1_step 19 = .ok (.checkcast 8, 3) := dk_192 0 8 (dk_at dksX1_step_0 19 rfl rfl)
theorem dX1_step_22 : decode cX1_step 22 = .ok (.getfield 105, 3) := dk_180 0 105 (dk_at dksX1_step_1 0 rfl rfl)
theorem dX1_step_25 : decode cX1_step 25 = .ok (.ireturn, 1) := dk_172 (dk_at dksX1_step_1 3 rfl rfl)
abbrev cX1_isStep : ByteArray := prog_1_method_16_code
def yX1_isStep : MethodName := ⟨RX1, "isStep", "(I)Z"⟩
def dkwX1_isStep_0 : List UInt8 := [27, 155, 0, 21, 27, 42, 180, 0, 46, 180, 0, 203, 182, 0, 207, 162, 0, 7, 4, 167, 0, 4, 3, 172]
abbrev dktX1_isStep_0 : List UInt8 := dkwX1_isStep_0 ++ []
theorem dksX1_isStep_0 : cX1_isStep.data.toList.drop 0 = dktX1_isStep_0 := by decide +kernel
theorem dX1_isStep_0 : decode cX1_isStep 0 = .ok (.iload_n 1, 1) := dk_27 (dk_at dksX1_isStep_0 0 rfl rfl)
theorem dX1_isStep_1 : decode cX1_isStep 1 = .ok (.ifCond .lt 21, 3) := dk_155 0 21 (dk_at dksX1_isStep_0 1 rfl rfl)
theorem dX1_isStep_4 : decode cX1_isStep 4 = .ok (.iload_n 1, 1) := dk_27 (dk_at dksX1_isStep_0 4 rfl rfl)
theorem dX1_isStep_5 : decode cX1_isStep 5 = .ok (.aload_n 0, 1) := dk_42 (dk_at dksX1_isStep_0 5 rfl rfl)
theorem dX1_isStep_6 : decode cX1_isStep 6 = .ok (.getfield 46, 3) := dk_180 0 46 (dk_at dksX1_isStep_0 6 rfl rfl)
theorem dX1_isStep_9 : decode cX1_isStep 9 = .ok (.getfield 203, 3) := dk_180 0 203 (dk_at dksX1_isStep_0 9 rfl rfl)
theorem dX1_isStep_12 : decode cX1_isStep 12 = .ok (.invokevirtual 207, 3) := dk_182 0 207 (dk_at dksX1_isStep_0 12 rfl rfl)
theorem dX1_isStep_15 : decode cX1_isStep 15 = .ok (.if_icmp .ge 7, 3) := dk_162 0 7 (dk_at dksX1_isStep_0 15 rfl rfl)
theorem dX1_isStep_18 : decode cX1_isStep 18 = .ok (.iconst 1, 1) := dk_4 (dk_at dksX1_isStep_0 18 rfl rfl)
theorem dX1_isStep_19 : decode cX1_isStep 19 = .ok (.goto 4, 3) := dk_167 0 4 (dk_at dksX1_isStep_0 19 rfl rfl)
theorem dX1_isStep_22 : decode cX1_isStep 22 = .ok (.iconst 0, 1) := dk_3 (dk_at dksX1_isStep_0 22 rfl rfl)
theorem dX1_isStep_23 : decode cX1_isStep 23 = .ok (.ireturn, 1) := dk_172 (dk_at dksX1_isStep_0 23 rfl rfl)
abbrev cX1_endings : ByteArray := prog_1_method_32_code
def yX1_endings : MethodName := ⟨RX1, "endings", "(I)I"⟩
def dkwX1_endings_2 : List UInt8 := [192, 1, 100, 180, 1, 105, 27, 160, 0, 6, 132, 2, 1, 132, 3, 1, 167, 255, 216, 28, 172]
abbrev dktX1_endings_2 : List UInt8 := dkwX1_endings_2 ++ []
def dkwX1_endings_1 : List UInt8 := [42, 180, 0, 231, 182, 0, 207, 162, 0, 35, 27, 2, 159, 0, 21, 42, 180, 0, 231, 29, 182, 1, 58]
abbrev dktX1_endings_1 : List UInt8 := dkwX1_endings_1 ++ dktX1_endings_2
def dkwX1_endings_0 : List UInt8 := [27, 2, 5, 184, 1, 43, 184, 1, 50, 42, 182, 1, 133, 154, 0, 6, 16, 254, 172, 3, 61, 3, 62, 29]
abbrev dktX1_endings_0 : List UInt8 := dkwX1_endings_0 ++ dktX1_endings_1
theorem dksX1_endings_0 : cX1_endings.data.toList.drop 0 = dktX1_endings_0 := by decide +kernel
theorem dksX1_endings_1 : cX1_endings.data.toList.drop 24 = dktX1_endings_1 := dk_seg dksX1_endings_0 24 rfl rfl
theorem dksX1_endings_2 : cX1_endings.data.toList.drop 47 = dktX1_endings_2 := dk_seg dksX1_endings_1 23 rfl rfl
theorem dX1_endings_0 : decode cX1_endings 0 = .ok (.iload_n 1, 1) := dk_27 (dk_at dksX1_endings_0 0 rfl rfl)
theorem dX1_endings_1 : decode cX1_endings 1 = .ok (.iconst (-1), 1) := dk_2 (dk_at dksX1_endings_0 1 rfl rfl)
theorem dX1_endings_2 : decode cX1_endings 2 = .ok (.iconst 2, 1) := dk_5 (dk_at dksX1_endings_0 2 rfl rfl)
theorem dX1_endings_3 : decode cX1_endings 3 = .ok (.invokestatic 299, 3) := dk_184 1 43 (dk_at dksX1_endings_0 3 rfl rfl)
theorem dX1_endings_6 : decode cX1_endings 6 = .ok (.invokestatic 306, 3) := dk_184 1 50 (dk_at dksX1_endings_0 6 rfl rfl)
theorem dX1_endings_9 : decode cX1_endings 9 = .ok (.aload_n 0, 1) := dk_42 (dk_at dksX1_endings_0 9 rfl rfl)
theorem dX1_endings_10 : decode cX1_endings 10 = .ok (.invokevirtual 389, 3) := dk_182 1 133 (dk_at dksX1_endings_0 10 rfl rfl)
theorem dX1_endings_13 : decode cX1_endings 13 = .ok (.ifCond .ne 6, 3) := dk_154 0 6 (dk_at dksX1_endings_0 13 rfl rfl)
theorem dX1_endings_16 : decode cX1_endings 16 = .ok (.bipush (-2), 2) := dk_16 254 (dk_at dksX1_endings_0 16 rfl rfl)
theorem dX1_endings_18 : decode cX1_endings 18 = .ok (.ireturn, 1) := dk_172 (dk_at dksX1_endings_0 18 rfl rfl)
theorem dX1_endings_19 : decode cX1_endings 19 = .ok (.iconst 0, 1) := dk_3 (dk_at dksX1_endings_0 19 rfl rfl)
theorem dX1_endings_20 : decode cX1_endings 20 = .ok (.istore_n 2, 1) := dk_61 (dk_at dksX1_endings_0 20 rfl rfl)
theorem dX1_endings_21 : decode cX1_endings 21 = .ok (.iconst 0, 1) := dk_3 (dk_at dksX1_endings_0 21 rfl rfl)
theorem dX1_endings_22 : decode cX1_endings 22 = .ok (.istore_n 3, 1) := dk_62 (dk_at dksX1_endings_0 22 rfl rfl)
theorem dX1_endings_23 : decode cX1_endings 23 = .ok (.iload_n 3, 1) := dk_29 (dk_at dksX1_endings_0 23 rfl rfl)
theorem dX1_endings_24 : decode cX1_endings 24 = .ok (.aload_n 0, 1) := dk_42 (dk_at dksX1_endings_1 0 rfl rfl)
theorem dX1_endings_25 : decode cX1_endings 25 = .ok (.getfield 231, 3) := dk_180 0 231 (dk_at dksX1_endings_1 1 rfl rfl)
theorem dX1_endings_28 : decode cX1_endings 28 = .ok (.invokevirtual 207, 3) := dk_182 0 207 (dk_at dksX1_endings_1 4 rfl rfl)
theorem dX1_endings_31 : decode cX1_endings 31 = .ok (.if_icmp .ge 35, 3) := dk_162 0 35 (dk_at dksX1_endings_1 7 rfl rfl)
theorem dX1_endings_34 : decode cX1_endings 34 = .ok (.iload_n 1, 1) := dk_27 (dk_at dksX1_endings_1 10 rfl rfl)
theorem dX1_endings_35 : decode cX1_endings 35 = .ok (.iconst (-1), 1) := dk_2 (dk_at dksX1_endings_1 11 rfl rfl)
theorem dX1_endings_36 : decode cX1_endings 36 = .ok (.if_icmp .eq 21, 3) := dk_159 0 21 (dk_at dksX1_endings_1 12 rfl rfl)
theorem dX1_endings_39 : decode cX1_endings 39 = .ok (.aload_n 0, 1) := dk_42 (dk_at dksX1_endings_1 15 rfl rfl)
theorem dX1_endings_40 : decode cX1_endings 40 = .ok (.getfield 231, 3) := dk_180 0 231 (dk_at dksX1_endings_1 16 rfl rfl)
theorem dX1_endings_43 : decode cX1_endings 43 = .ok (.iload_n 3, 1) := dk_29 (dk_at dksX1_endings_1 19 rfl rfl)
theorem dX1_endings_44 : decode cX1_endings 44 = .ok (.invokevirtual 314, 3) := dk_182 1 58 (dk_at dksX1_endings_1 20 rfl rfl)
theorem dX1_endings_47 : decode cX1_endings 47 = .ok (.checkcast 356, 3) := dk_192 1 100 (dk_at dksX1_endings_2 0 rfl rfl)
theorem dX1_endings_50 : decode cX1_endings 50 = .ok (.getfield 361, 3) := dk_180 1 105 (dk_at dksX1_endings_2 3 rfl rfl)
theorem dX1_endings_53 : decode cX1_endings 53 = .ok (.iload_n 1, 1) := dk_27 (dk_at dksX1_endings_2 6 rfl rfl)
theorem dX1_endings_54 : decode cX1_endings 54 = .ok (.if_icmp .ne 6, 3) := dk_160 0 6 (dk_at dksX1_endings_2 7 rfl rfl)
theorem dX1_endings_57 : decode cX1_endings 57 = .ok (.iinc 2 1, 3) := dk_132 2 1 (dk_at dksX1_endings_2 10 rfl rfl)
theorem dX1_endings_60 : decode cX1_endings 60 = .ok (.iinc 3 1, 3) := dk_132 3 1 (dk_at dksX1_endings_2 13 rfl rfl)
theorem dX1_endings_63 : decode cX1_endings 63 = .ok (.goto (-40), 3) := dk_167 255 216 (dk_at dksX1_endings_2 16 rfl rfl)
theorem dX1_endings_66 : decode cX1_endings 66 = .ok (.iload_n 2, 1) := dk_28 (dk_at dksX1_endings_2 19 rfl rfl)
theorem dX1_endings_67 : decode cX1_endings 67 = .ok (.ireturn, 1) := dk_172 (dk_at dksX1_endings_2 20 rfl rfl)
abbrev cX1_ending : ByteArray := prog_1_method_33_code
def yX1_ending : MethodName := ⟨RX1, "ending", "(II)I"⟩
def dkwX1_ending_4 : List UInt8 := [180, 1, 110, 167, 0, 11, 45, 180, 1, 112, 28, 7, 100, 46, 172]
abbrev dktX1_ending_4 : List UInt8 := dkwX1_ending_4 ++ []
def dkwX1_ending_3 : List UInt8 := [180, 1, 105, 167, 0, 35, 28, 4, 160, 0, 10, 45, 180, 1, 106, 167, 0, 23, 28, 5, 160, 0, 10, 45]
abbrev dktX1_ending_3 : List UInt8 := dkwX1_ending_3 ++ dktX1_ending_4
def dkwX1_ending_2 : List UInt8 := [167, 0, 4, 3, 184, 1, 50, 42, 180, 0, 231, 27, 182, 1, 58, 192, 1, 100, 78, 28, 154, 0, 10, 45]
abbrev dktX1_ending_2 : List UInt8 := dkwX1_ending_2 ++ dktX1_ending_3
def dkwX1_ending_1 : List UInt8 := [5, 184, 1, 43, 154, 0, 18, 28, 7, 161, 0, 17, 28, 7, 100, 42, 180, 0, 216, 162, 0, 7, 4]
abbrev dktX1_ending_1 : List UInt8 := dkwX1_ending_1 ++ dktX1_ending_2
def dkwX1_ending_0 : List UInt8 := [42, 182, 1, 133, 153, 0, 46, 27, 155, 0, 42, 27, 42, 180, 0, 231, 182, 0, 207, 162, 0, 31, 28, 3]
abbrev dktX1_ending_0 : List UInt8 := dkwX1_ending_0 ++ dktX1_ending_1
theorem dksX1_ending_0 : cX1_ending.data.toList.drop 0 = dktX1_ending_0 := by decide +kernel
theorem dksX1_ending_1 : cX1_ending.data.toList.drop 24 = dktX1_ending_1 := dk_seg dksX1_ending_0 24 rfl rfl
theorem dksX1_ending_2 : cX1_ending.data.toList.drop 47 = dktX1_ending_2 := dk_seg dksX1_ending_1 23 rfl rfl
theorem dksX1_ending_3 : cX1_ending.data.toList.drop 71 = dktX1_ending_3 := dk_seg dksX1_ending_2 24 rfl rfl
theorem dksX1_ending_4 : cX1_ending.data.toList.drop 95 = dktX1_ending_4 := dk_seg dksX1_ending_3 24 rfl rfl
theorem dX1_ending_0 : decode cX1_ending 0 = .ok (.aload_n 0, 1) := dk_42 (dk_at dksX1_ending_0 0 rfl rfl)
theorem dX1_ending_1 : decode cX1_ending 1 = .ok (.invokevirtual 389, 3) := dk_182 1 133 (dk_at dksX1_ending_0 1 rfl rfl)
theorem dX1_ending_4 : decode cX1_ending 4 = .ok (.ifCond .eq 46, 3) := dk_153 0 46 (dk_at dksX1_ending_0 4 rfl rfl)
theorem dX1_ending_7 : decode cX1_ending 7 = .ok (.iload_n 1, 1) := dk_27 (dk_at dksX1_ending_0 7 rfl rfl)
theorem dX1_ending_8 : decode cX1_ending 8 = .ok (.ifCond .lt 42, 3) := dk_155 0 42 (dk_at dksX1_ending_0 8 rfl rfl)
theorem dX1_ending_11 : decode cX1_ending 11 = .ok (.iload_n 1, 1) := dk_27 (dk_at dksX1_ending_0 11 rfl rfl)
theorem dX1_ending_12 : decode cX1_ending 12 = .ok (.aload_n 0, 1) := dk_42 (dk_at dksX1_ending_0 12 rfl rfl)
theorem dX1_ending_13 : decode cX1_ending 13 = .ok (.getfield 231, 3) := dk_180 0 231 (dk_at dksX1_ending_0 13 rfl rfl)
theorem dX1_ending_16 : decode cX1_ending 16 = .ok (.invokevirtual 207, 3) := dk_182 0 207 (dk_at dksX1_ending_0 16 rfl rfl)
theorem dX1_ending_19 : decode cX1_ending 19 = .ok (.if_icmp .ge 31, 3) := dk_162 0 31 (dk_at dksX1_ending_0 19 rfl rfl)
theorem dX1_ending_22 : decode cX1_ending 22 = .ok (.iload_n 2, 1) := dk_28 (dk_at dksX1_ending_0 22 rfl rfl)
theorem dX1_ending_23 : decode cX1_ending 23 = .ok (.iconst 0, 1) := dk_3 (dk_at dksX1_ending_0 23 rfl rfl)
theorem dX1_ending_24 : decode cX1_ending 24 = .ok (.iconst 2, 1) := dk_5 (dk_at dksX1_ending_1 0 rfl rfl)
theorem dX1_ending_25 : decode cX1_ending 25 = .ok (.invokestatic 299, 3) := dk_184 1 43 (dk_at dksX1_ending_1 1 rfl rfl)
theorem dX1_ending_28 : decode cX1_ending 28 = .ok (.ifCond .ne 18, 3) := dk_154 0 18 (dk_at dksX1_ending_1 4 rfl rfl)
theorem dX1_ending_31 : decode cX1_ending 31 = .ok (.iload_n 2, 1) := dk_28 (dk_at dksX1_ending_1 7 rfl rfl)
theorem dX1_ending_32 : decode cX1_ending 32 = .ok (.iconst 4, 1) := dk_7 (dk_at dksX1_ending_1 8 rfl rfl)
theorem dX1_ending_33 : decode cX1_ending 33 = .ok (.if_icmp .lt 17, 3) := dk_161 0 17 (dk_at dksX1_ending_1 9 rfl rfl)
theorem dX1_ending_36 : decode cX1_ending 36 = .ok (.iload_n 2, 1) := dk_28 (dk_at dksX1_ending_1 12 rfl rfl)
theorem dX1_ending_37 : decode cX1_ending 37 = .ok (.iconst 4, 1) := dk_7 (dk_at dksX1_ending_1 13 rfl rfl)
theorem dX1_ending_38 : decode cX1_ending 38 = .ok (.isub, 1) := dk_100 (dk_at dksX1_ending_1 14 rfl rfl)
theorem dX1_ending_39 : decode cX1_ending 39 = .ok (.aload_n 0, 1) := dk_42 (dk_at dksX1_ending_1 15 rfl rfl)
theorem dX1_ending_40 : decode cX1_ending 40 = .ok (.getfield 216, 3) := dk_180 0 216 (dk_at dksX1_ending_1 16 rfl rfl)
theorem dX1_ending_43 : decode cX1_ending 43 = .ok (.if_icmp .ge 7, 3) := dk_162 0 7 (dk_at dksX1_ending_1 19 rfl rfl)
theorem dX1_ending_46 : decode cX1_ending 46 = .ok (.iconst 1, 1) := dk_4 (dk_at dksX1_ending_1 22 rfl rfl)
theorem dX1_ending_47 : decode cX1_ending 47 = .ok (.goto 4, 3) := dk_167 0 4 (dk_at dksX1_ending_2 0 rfl rfl)
theorem dX1_ending_50 : decode cX1_ending 50 = .ok (.iconst 0, 1) := dk_3 (dk_at dksX1_ending_2 3 rfl rfl)
theorem dX1_ending_51 : decode cX1_ending 51 = .ok (.invokestatic 306, 3) := dk_184 1 50 (dk_at dksX1_ending_2 4 rfl rfl)
theorem dX1_ending_54 : decode cX1_ending 54 = .ok (.aload_n 0, 1) := dk_42 (dk_at dksX1_ending_2 7 rfl rfl)
theorem dX1_ending_55 : decode cX1_ending 55 = .ok (.getfield 231, 3) := dk_180 0 231 (dk_at dksX1_ending_2 8 rfl rfl)
theorem dX1_ending_58 : decode cX1_ending 58 = .ok (.iload_n 1, 1) := dk_27 (dk_at dksX1_ending_2 11 rfl rfl)
theorem dX1_ending_59 : decode cX1_ending 59 = .ok (.invokevirtual 314, 3) := dk_182 1 58 (dk_at dksX1_ending_2 12 rfl rfl)
theorem dX1_ending_62 : decode cX1_ending 62 = .ok (.checkcast 356, 3) := dk_192 1 100 (dk_at dksX1_ending_2 15 rfl rfl)
theorem dX1_ending_65 : decode cX1_ending 65 = .ok (.astore_n 3, 1) := dk_78 (dk_at dksX1_ending_2 18 rfl rfl)
theorem dX1_ending_66 : decode cX1_ending 66 = .ok (.iload_n 2, 1) := dk_28 (dk_at dksX1_ending_2 19 rfl rfl)
theorem dX1_ending_67 : decode cX1_ending 67 = .ok (.ifCond .ne 10, 3) := dk_154 0 10 (dk_at dksX1_ending_2 20 rfl rfl)
theorem dX1_ending_70 : decode cX1_ending 70 = .ok (.aload_n 3, 1) := dk_45 (dk_at dksX1_ending_2 23 rfl rfl)
theorem dX1_ending_71 : decode cX1_ending 71 = .ok (.getfield 361, 3) := dk_180 1 105 (dk_at dksX1_ending_3 0 rfl rfl)
theorem dX1_ending_74 : decode cX1_ending 74 = .ok (.goto 35, 3) := dk_167 0 35 (dk_at dksX1_ending_3 3 rfl rfl)
theorem dX1_ending_77 : decode cX1_ending 77 = .ok (.iload_n 2, 1) := dk_28 (dk_at dksX1_ending_3 6 rfl rfl)
theorem dX1_ending_78 : decode cX1_ending 78 = .ok (.iconst 1, 1) := dk_4 (dk_at dksX1_ending_3 7 rfl rfl)
theorem dX1_ending_79 : decode cX1_ending 79 = .ok (.if_icmp .ne 10, 3) := dk_160 0 10 (dk_at dksX1_ending_3 8 rfl rfl)
theorem dX1_ending_82 : decode cX1_ending 82 = .ok (.aload_n 3, 1) := dk_45 (dk_at dksX1_ending_3 11 rfl rfl)
theorem dX1_ending_83 : decode cX1_ending 83 = .ok (.getfield 362, 3) := dk_180 1 106 (dk_at dksX1_ending_3 12 rfl rfl)
theorem dX1_ending_86 : decode cX1_ending 86 = .ok (.goto 23, 3) := dk_167 0 23 (dk_at dksX1_ending_3 15 rfl rfl)
theorem dX1_ending_89 : decode cX1_ending 89 = .ok (.iload_n 2, 1) := dk_28 (dk_at dksX1_ending_3 18 rfl rfl)
theorem dX1_ending_90 : decode cX1_ending 90 = .ok (.iconst 2, 1) := dk_5 (dk_at dksX1_ending_3 19 rfl rfl)
theorem dX1_ending_91 : decode cX1_ending 91 = .ok (.if_icmp .ne 10, 3) := dk_160 0 10 (dk_at dksX1_ending_3 20 rfl rfl)
theorem dX1_ending_94 : decode cX1_ending 94 = .ok (.aload_n 3, 1) := dk_45 (dk_at dksX1_ending_3 23 rfl rfl)
theorem dX1_ending_95 : decode cX1_ending 95 = .ok (.getfield 366, 3) := dk_180 1 110 (dk_at dksX1_ending_4 0 rfl rfl)
theorem dX1_ending_98 : decode cX1_ending 98 = .ok (.goto 11, 3) := dk_167 0 11 (dk_at dksX1_ending_4 3 rfl rfl)
theorem dX1_ending_101 : decode cX1_ending 101 = .ok (.aload_n 3, 1) := dk_45 (dk_at dksX1_ending_4 6 rfl rfl)
theorem dX1_ending_102 : decode cX1_ending 102 = .ok (.getfield 368, 3) := dk_180 1 112 (dk_at dksX1_ending_4 7 rfl rfl)
theorem dX1_ending_105 : decode cX1_ending 105 = .ok (.iload_n 2, 1) := dk_28 (dk_at dksX1_ending_4 10 rfl rfl)
theorem dX1_ending_106 : decode cX1_ending 106 = .ok (.iconst 4, 1) := dk_7 (dk_at dksX1_ending_4 11 rfl rfl)
theorem dX1_ending_107 : decode cX1_ending 107 = .ok (.isub, 1) := dk_100 (dk_at dksX1_ending_4 12 rfl rfl)
theorem dX1_ending_108 : decode cX1_ending 108 = .ok (.iaload, 1) := dk_46 (dk_at dksX1_ending_4 13 rfl rfl)
theorem dX1_ending_109 : decode cX1_ending 109 = .ok (.ireturn, 1) := dk_172 (dk_at dksX1_ending_4 14 rfl rfl)
abbrev cX1_could : ByteArray := prog_1_method_35_code
def yX1_could : MethodName := ⟨RX1, "could", "(II)I"⟩
def dkwX1_could_3 : List UInt8 := [2, 172]
abbrev dktX1_could_3 : List UInt8 := dkwX1_could_3 ++ []
def dkwX1_could_2 : List UInt8 := [184, 1, 50, 42, 182, 1, 133, 153, 0, 17, 42, 180, 0, 234, 16, 8, 28, 104, 27, 96, 46, 167, 0, 4]
abbrev dktX1_could_2 : List UInt8 := dkwX1_could_2 ++ dktX1_could_3
def dkwX1_could_1 : List UInt8 := [180, 0, 203, 28, 182, 1, 58, 192, 0, 8, 180, 0, 105, 7, 160, 0, 7, 4, 167, 0, 4, 3]
abbrev dktX1_could_1 : List UInt8 := dkwX1_could_1 ++ dktX1_could_2
def dkwX1_could_0 : List UInt8 := [27, 155, 0, 44, 27, 42, 180, 0, 216, 162, 0, 36, 42, 28, 182, 1, 55, 153, 0, 28, 42, 180, 0, 46]
abbrev dktX1_could_0 : List UInt8 := dkwX1_could_0 ++ dktX1_could_1
theorem dksX1_could_0 : cX1_could.data.toList.drop 0 = dktX1_could_0 := by decide +kernel
theorem dksX1_could_1 : cX1_could.data.toList.drop 24 = dktX1_could_1 := dk_seg dksX1_could_0 24 rfl rfl
theorem dksX1_could_2 : cX1_could.data.toList.drop 46 = dktX1_could_2 := dk_seg dksX1_could_1 22 rfl rfl
theorem dksX1_could_3 : cX1_could.data.toList.drop 70 = dktX1_could_3 := dk_seg dksX1_could_2 24 rfl rfl
theorem dX1_could_0 : decode cX1_could 0 = .ok (.iload_n 1, 1) := dk_27 (dk_at dksX1_could_0 0 rfl rfl)
theorem dX1_could_1 : decode cX1_could 1 = .ok (.ifCond .lt 44, 3) := dk_155 0 44 (dk_at dksX1_could_0 1 rfl rfl)
theorem dX1_could_4 : decode cX1_could 4 = .ok (.iload_n 1, 1) := dk_27 (dk_at dksX1_could_0 4 rfl rfl)
theorem dX1_could_5 : decode cX1_could 5 = .ok (.aload_n 0, 1) := dk_42 (dk_at dksX1_could_0 5 rfl rfl)
theorem dX1_could_6 : decode cX1_could 6 = .ok (.getfield 216, 3) := dk_180 0 216 (dk_at dksX1_could_0 6 rfl rfl)
theorem dX1_could_9 : decode cX1_could 9 = .ok (.if_icmp .ge 36, 3) := dk_162 0 36 (dk_at dksX1_could_0 9 rfl rfl)
theorem dX1_could_12 : decode cX1_could 12 = .ok (.aload_n 0, 1) := dk_42 (dk_at dksX1_could_0 12 rfl rfl)
theorem dX1_could_13 : decode cX1_could 13 = .ok (.iload_n 2, 1) := dk_28 (dk_at dksX1_could_0 13 rfl rfl)
theorem dX1_could_14 : decode cX1_could 14 = .ok (.invokevirtual 311, 3) := dk_182 1 55 (dk_at dksX1_could_0 14 rfl rfl)
theorem dX1_could_17 : decode cX1_could 17 = .ok (.ifCond .eq 28, 3) := dk_153 0 28 (dk_at dksX1_could_0 17 rfl rfl)
theorem dX1_could_20 : decode cX1_could 20 = .ok (.aload_n 0, 1) := dk_42 (dk_at dksX1_could_0 20 rfl rfl)
theorem dX1_could_21 : decode cX1_could 21 = .ok (.getfield 46, 3) := dk_180 0 46 (dk_at dksX1_could_0 21 rfl rfl)
theorem dX1_could_24 : decode cX1_could 24 = .ok (.getfield 203, 3) := dk_180 0 203 (dk_at dksX1_could_1 0 rfl rfl)
theorem dX1_could_27 : decode cX1_could 27 = .ok (.iload_n 2, 1) := dk_28 (dk_at dksX1_could_1 3 rfl rfl)
theorem dX1_could_28 : decode cX1_could 28 = .ok (.invokevirtual 314, 3) := dk_182 1 58 (dk_at dksX1_could_1 4 rfl rfl)
theorem dX1_could_31 : decode cX1_could 31 = .ok (.checkcast 8, 3) := dk_192 0 8 (dk_at dksX1_could_1 7 rfl rfl)
theorem dX1_could_34 : decode cX1_could 34 = .ok (.getfield 105, 3) := dk_180 0 105 (dk_at dksX1_could_1 10 rfl rfl)
theorem dX1_could_37 : decode cX1_could 37 = .ok (.iconst 4, 1) := dk_7 (dk_at dksX1_could_1 13 rfl rfl)
theorem dX1_could_38 : decode cX1_could 38 = .ok (.if_icmp .ne 7, 3) := dk_160 0 7 (dk_at dksX1_could_1 14 rfl rfl)
theorem dX1_could_41 : decode cX1_could 41 = .ok (.iconst 1, 1) := dk_4 (dk_at dksX1_could_1 17 rfl rfl)
theorem dX1_could_42 : decode cX1_could 42 = .ok (.goto 4, 3) := dk_167 0 4 (dk_at dksX1_could_1 18 rfl rfl)
theorem dX1_could_45 : decode cX1_could 45 = .ok (.iconst 0, 1) := dk_3 (dk_at dksX1_could_1 21 rfl rfl)
theorem dX1_could_46 : decode cX1_could 46 = .ok (.invokestatic 306, 3) := dk_184 1 50 (dk_at dksX1_could_2 0 rfl rfl)
theorem dX1_could_49 : decode cX1_could 49 = .ok (.aload_n 0, 1) := dk_42 (dk_at dksX1_could_2 3 rfl rfl)
theorem dX1_could_50 : decode cX1_could 50 = .ok (.invokevirtual 389, 3) := dk_182 1 133 (dk_at dksX1_could_2 4 rfl rfl)
theorem dX1_could_53 : decode cX1_could 53 = .ok (.ifCond .eq 17, 3) := dk_153 0 17 (dk_at dksX1_could_2 7 rfl rfl)
theorem dX1_could_56 : decode cX1_could 56 = .ok (.aload_n 0, 1) := dk_42 (dk_at dksX1_could_2 10 rfl rfl)
theorem dX1_could_57 : decode cX1_could 57 = .ok (.getfield 234, 3) := dk_180 0 234 (dk_at dksX1_could_2 11 rfl rfl)
theorem dX1_could_60 : decode cX1_could 60 = .ok (.bipush 8, 2) := dk_16 8 (dk_at dksX1_could_2 14 rfl rfl)
theorem dX1_could_62 : decode cX1_could 62 = .ok (.iload_n 2, 1) := dk_28 (dk_at dksX1_could_2 16 rfl rfl)
theorem dX1_could_63 : decode cX1_could 63 = .ok (.imul, 1) := dk_104 (dk_at dksX1_could_2 17 rfl rfl)
theorem dX1_could_64 : decode cX1_could 64 = .ok (.iload_n 1, 1) := dk_27 (dk_at dksX1_could_2 18 rfl rfl)
theorem dX1_could_65 : decode cX1_could 65 = .ok (.iadd, 1) := dk_96 (dk_at dksX1_could_2 19 rfl rfl)
theorem dX1_could_66 : decode cX1_could 66 = .ok (.iaload, 1) := dk_46 (dk_at dksX1_could_2 20 rfl rfl)
theorem dX1_could_67 : decode cX1_could 67 = .ok (.goto 4, 3) := dk_167 0 4 (dk_at dksX1_could_2 21 rfl rfl)
theorem dX1_could_70 : decode cX1_could 70 = .ok (.iconst (-1), 1) := dk_2 (dk_at dksX1_could_3 0 rfl rfl)
theorem dX1_could_71 : decode cX1_could 71 = .ok (.ireturn, 1) := dk_172 (dk_at dksX1_could_3 1 rfl rfl)
abbrev cX1_left : ByteArray := prog_1_method_38_code
def yX1_left : MethodName := ⟨RX1, "left", "(I)Z"⟩
def dkwX1_left_1 : List UInt8 := [180, 0, 237, 27, 51, 154, 0, 7, 4, 167, 0, 4, 3, 172]
abbrev dktX1_left_1 : List UInt8 := dkwX1_left_1 ++ []
def dkwX1_left_0 : List UInt8 := [42, 27, 182, 1, 55, 153, 0, 14, 42, 180, 1, 31, 153, 0, 7, 4, 167, 0, 4, 3, 184, 1, 50, 42]
abbrev dktX1_left_0 : List UInt8 := dkwX1_left_0 ++ dktX1_left_1
theorem dksX1_left_0 : cX1_left.data.toList.drop 0 = dktX1_left_0 := by decide +kernel
theorem dksX1_left_1 : cX1_left.data.toList.drop 24 = dktX1_left_1 := dk_seg dksX1_left_0 24 rfl rfl
theorem dX1_left_0 : decode cX1_left 0 = .ok (.aload_n 0, 1) := dk_42 (dk_at dksX1_left_0 0 rfl rfl)
theorem dX1_left_1 : decode cX1_left 1 = .ok (.iload_n 1, 1) := dk_27 (dk_at dksX1_left_0 1 rfl rfl)
theorem dX1_left_2 : decode cX1_left 2 = .ok (.invokevirtual 311, 3) := dk_182 1 55 (dk_at dksX1_left_0 2 rfl rfl)
theorem dX1_left_5 : decode cX1_left 5 = .ok (.ifCond .eq 14, 3) := dk_153 0 14 (dk_at dksX1_left_0 5 rfl rfl)
theorem dX1_left_8 : decode cX1_left 8 = .ok (.aload_n 0, 1) := dk_42 (dk_at dksX1_left_0 8 rfl rfl)
theorem dX1_left_9 : decode cX1_left 9 = .ok (.getfield 287, 3) := dk_180 1 31 (dk_at dksX1_left_0 9 rfl rfl)
theorem dX1_left_12 : decode cX1_left 12 = .ok (.ifCond .eq 7, 3) := dk_153 0 7 (dk_at dksX1_left_0 12 rfl rfl)
theorem dX1_left_15 : decode cX1_left 15 = .ok (.iconst 1, 1) := dk_4 (dk_at dksX1_left_0 15 rfl rfl)
theorem dX1_left_16 : decode cX1_left 16 = .ok (.goto 4, 3) := dk_167 0 4 (dk_at dksX1_left_0 16 rfl rfl)
theorem dX1_left_19 : decode cX1_left 19 = .ok (.iconst 0, 1) := dk_3 (dk_at dksX1_left_0 19 rfl rfl)
theorem dX1_left_20 : decode cX1_left 20 = .ok (.invokestatic 306, 3) := dk_184 1 50 (dk_at dksX1_left_0 20 rfl rfl)
theorem dX1_left_23 : decode cX1_left 23 = .ok (.aload_n 0, 1) := dk_42 (dk_at dksX1_left_0 23 rfl rfl)
theorem dX1_left_24 : decode cX1_left 24 = .ok (.getfield 237, 3) := dk_180 0 237 (dk_at dksX1_left_1 0 rfl rfl)
theorem dX1_left_27 : decode cX1_left 27 = .ok (.iload_n 1, 1) := dk_27 (dk_at dksX1_left_1 3 rfl rfl)
theorem dX1_left_28 : decode cX1_left 28 = .ok (.baload, 1) := dk_51 (dk_at dksX1_left_1 4 rfl rfl)
theorem dX1_left_29 : decode cX1_left 29 = .ok (.ifCond .ne 7, 3) := dk_154 0 7 (dk_at dksX1_left_1 5 rfl rfl)
theorem dX1_left_32 : decode cX1_left 32 = .ok (.iconst 1, 1) := dk_4 (dk_at dksX1_left_1 8 rfl rfl)
theorem dX1_left_33 : decode cX1_left 33 = .ok (.goto 4, 3) := dk_167 0 4 (dk_at dksX1_left_1 9 rfl rfl)
theorem dX1_left_36 : decode cX1_left 36 = .ok (.iconst 0, 1) := dk_3 (dk_at dksX1_left_1 12 rfl rfl)
theorem dX1_left_37 : decode cX1_left 37 = .ok (.ireturn, 1) := dk_172 (dk_at dksX1_left_1 13 rfl rfl)
abbrev cX1_play : ByteArray := prog_1_method_42_code
def yX1_play : MethodName := ⟨RX1, "play", "(IJ)I"⟩
def dkwX1_play_8 : List UInt8 := [42, 180, 0, 245, 21, 4, 46, 79, 132, 4, 1, 167, 255, 230, 42, 180, 0, 241, 182, 1, 103, 172]
abbrev dktX1_play_8 : List UInt8 := dkwX1_play_8 ++ []
def dkwX1_play_7 : List UInt8 := [180, 1, 139, 181, 1, 164, 3, 54, 4, 21, 4, 42, 180, 1, 139, 162, 0, 23, 42, 180, 1, 2, 21, 4]
abbrev dktX1_play_7 : List UInt8 := dkwX1_play_7 ++ dktX1_play_8
def dkwX1_play_6 : List UInt8 := [79, 42, 180, 0, 255, 21, 4, 42, 180, 0, 191, 21, 4, 46, 79, 132, 4, 1, 167, 255, 216, 42, 42]
abbrev dktX1_play_6 : List UInt8 := dkwX1_play_6 ++ dktX1_play_7
def dkwX1_play_5 : List UInt8 := [54, 4, 21, 4, 42, 180, 0, 216, 162, 0, 37, 42, 180, 0, 252, 21, 4, 42, 180, 0, 136, 21, 4, 46]
abbrev dktX1_play_5 : List UInt8 := dkwX1_play_5 ++ dktX1_play_6
def dkwX1_play_4 : List UInt8 := [180, 0, 241, 42, 180, 0, 216, 42, 180, 1, 47, 182, 1, 158, 42, 4, 181, 1, 34, 42, 182, 1, 161, 3]
abbrev dktX1_play_4 : List UInt8 := dkwX1_play_4 ++ dktX1_play_5
def dkwX1_play_3 : List UInt8 := [21, 4, 32, 7, 21, 4, 104, 123, 20, 1, 156, 127, 136, 79, 132, 4, 1, 167, 255, 229, 42, 42]
abbrev dktX1_play_3 : List UInt8 := dkwX1_play_3 ++ dktX1_play_4
def dkwX1_play_2 : List UInt8 := [132, 4, 1, 167, 255, 220, 42, 27, 181, 1, 142, 3, 54, 4, 21, 4, 27, 162, 0, 27, 42, 180, 0, 248]
abbrev dktX1_play_2 : List UInt8 := dkwX1_play_2 ++ dktX1_play_3
def dkwX1_play_1 : List UInt8 := [123, 20, 1, 156, 127, 42, 180, 0, 216, 133, 148, 156, 0, 7, 4, 167, 0, 4, 3, 184, 1, 14]
abbrev dktX1_play_1 : List UInt8 := dkwX1_play_1 ++ dktX1_play_2
def dkwX1_play_0 : List UInt8 := [27, 3, 16, 16, 184, 1, 43, 184, 1, 14, 3, 54, 4, 21, 4, 27, 162, 0, 36, 32, 7, 21, 4, 104]
abbrev dktX1_play_0 : List UInt8 := dkwX1_play_0 ++ dktX1_play_1
theorem dksX1_play_0 : cX1_play.data.toList.drop 0 = dktX1_play_0 := by decide +kernel
theorem dksX1_play_1 : cX1_play.data.toList.drop 24 = dktX1_play_1 := dk_seg dksX1_play_0 24 rfl rfl
theorem dksX1_play_2 : cX1_play.data.toList.drop 46 = dktX1_play_2 := dk_seg dksX1_play_1 22 rfl rfl
theorem dksX1_play_3 : cX1_play.data.toList.drop 70 = dktX1_play_3 := dk_seg dksX1_play_2 24 rfl rfl
theorem dksX1_play_4 : cX1_play.data.toList.drop 92 = dktX1_play_4 := dk_seg dksX1_play_3 22 rfl rfl
theorem dksX1_play_5 : cX1_play.data.toList.drop 116 = dktX1_play_5 := dk_seg dksX1_play_4 24 rfl rfl
theorem dksX1_play_6 : cX1_play.data.toList.drop 140 = dktX1_play_6 := dk_seg dksX1_play_5 24 rfl rfl
theorem dksX1_play_7 : cX1_play.data.toList.drop 163 = dktX1_play_7 := dk_seg dksX1_play_6 23 rfl rfl
theorem dksX1_play_8 : cX1_play.data.toList.drop 187 = dktX1_play_8 := dk_seg dksX1_play_7 24 rfl rfl
theorem dX1_play_0 : decode cX1_play 0 = .ok (.iload_n 1, 1) := dk_27 (dk_at dksX1_play_0 0 rfl rfl)
theorem dX1_play_1 : decode cX1_play 1 = .ok (.iconst 0, 1) := dk_3 (dk_at dksX1_play_0 1 rfl rfl)
theorem dX1_play_2 : decode cX1_play 2 = .ok (.bipush 16, 2) := dk_16 16 (dk_at dksX1_play_0 2 rfl rfl)
theorem dX1_play_4 : decode cX1_play 4 = .ok (.invokestatic 299, 3) := dk_184 1 43 (dk_at dksX1_play_0 4 rfl rfl)
theorem dX1_play_7 : decode cX1_play 7 = .ok (.invokestatic 270, 3) := dk_184 1 14 (dk_at dksX1_play_0 7 rfl rfl)
theorem dX1_play_10 : decode cX1_play 10 = .ok (.iconst 0, 1) := dk_3 (dk_at dksX1_play_0 10 rfl rfl)
theorem dX1_play_11 : decode cX1_play 11 = .ok (.istore 4, 2) := dk_54 4 (dk_at dksX1_play_0 11 rfl rfl)
theorem dX1_play_13 : decode cX1_play 13 = .ok (.iload 4, 2) := dk_21 4 (dk_at dksX1_play_0 13 rfl rfl)
theorem dX1_play_15 : decode cX1_play 15 = .ok (.iload_n 1, 1) := dk_27 (dk_at dksX1_play_0 15 rfl rfl)
theorem dX1_play_16 : decode cX1_play 16 = .ok (.if_icmp .ge 36, 3) := dk_162 0 36 (dk_at dksX1_play_0 16 rfl rfl)
theorem dX1_play_19 : decode cX1_play 19 = .ok (.lload_n 2, 1) := dk_32 (dk_at dksX1_play_0 19 rfl rfl)
theorem dX1_play_20 : decode cX1_play 20 = .ok (.iconst 4, 1) := dk_7 (dk_at dksX1_play_0 20 rfl rfl)
theorem dX1_play_21 : decode cX1_play 21 = .ok (.iload 4, 2) := dk_21 4 (dk_at dksX1_play_0 21 rfl rfl)
theorem dX1_play_23 : decode cX1_play 23 = .ok (.imul, 1) := dk_104 (dk_at dksX1_play_0 23 rfl rfl)
theorem dX1_play_24 : decode cX1_play 24 = .ok (.lshr, 1) := dk_123 (dk_at dksX1_play_1 0 rfl rfl)
theorem dX1_play_25 : decode cX1_play 25 = .ok (.ldc2_w 412, 3) := dk_20 1 156 (dk_at dksX1_play_1 1 rfl rfl)
theorem dX1_play_28 : decode cX1_play 28 = .ok (.land, 1) := dk_127 (dk_at dksX1_play_1 4 rfl rfl)
theorem dX1_play_29 : decode cX1_play 29 = .ok (.aload_n 0, 1) := dk_42 (dk_at dksX1_play_1 5 rfl rfl)
theorem dX1_play_30 : decode cX1_play 30 = .ok (.getfield 216, 3) := dk_180 0 216 (dk_at dksX1_play_1 6 rfl rfl)
theorem dX1_play_33 : decode cX1_play 33 = .ok (.i2l, 1) := dk_133 (dk_at dksX1_play_1 9 rfl rfl)
theorem dX1_play_34 : decode cX1_play 34 = .ok (.lcmp, 1) := dk_148 (dk_at dksX1_play_1 10 rfl rfl)
theorem dX1_play_35 : decode cX1_play 35 = .ok (.ifCond .ge 7, 3) := dk_156 0 7 (dk_at dksX1_play_1 11 rfl rfl)
theorem dX1_play_38 : decode cX1_play 38 = .ok (.iconst 1, 1) := dk_4 (dk_at dksX1_play_1 14 rfl rfl)
theorem dX1_play_39 : decode cX1_play 39 = .ok (.goto 4, 3) := dk_167 0 4 (dk_at dksX1_play_1 15 rfl rfl)
theorem dX1_play_42 : decode cX1_play 42 = .ok (.iconst 0, 1) := dk_3 (dk_at dksX1_play_1 18 rfl rfl)
theorem dX1_play_43 : decode cX1_play 43 = .ok (.invokestatic 270, 3) := dk_184 1 14 (dk_at dksX1_play_1 19 rfl rfl)
theorem dX1_play_46 : decode cX1_play 46 = .ok (.iinc 4 1, 3) := dk_132 4 1 (dk_at dksX1_play_2 0 rfl rfl)
theorem dX1_play_49 : decode cX1_play 49 = .ok (.goto (-36), 3) := dk_167 255 220 (dk_at dksX1_play_2 3 rfl rfl)
theorem dX1_play_52 : decode cX1_play 52 = .ok (.aload_n 0, 1) := dk_42 (dk_at dksX1_play_2 6 rfl rfl)
theorem dX1_play_53 : decode cX1_play 53 = .ok (.iload_n 1, 1) := dk_27 (dk_at dksX1_play_2 7 rfl rfl)
theorem dX1_play_54 : decode cX1_play 54 = .ok (.putfield 398, 3) := dk_181 1 142 (dk_at dksX1_play_2 8 rfl rfl)
theorem dX1_play_57 : decode cX1_play 57 = .ok (.iconst 0, 1) := dk_3 (dk_at dksX1_play_2 11 rfl rfl)
theorem dX1_play_58 : decode cX1_play 58 = .ok (.istore 4, 2) := dk_54 4 (dk_at dksX1_play_2 12 rfl rfl)
theorem dX1_play_60 : decode cX1_play 60 = .ok (.iload 4, 2) := dk_21 4 (dk_at dksX1_play_2 14 rfl rfl)
theorem dX1_play_62 : decode cX1_play 62 = .ok (.iload_n 1, 1) := dk_27 (dk_at dksX1_play_2 16 rfl rfl)
theorem dX1_play_63 : decode cX1_play 63 = .ok (.if_icmp .ge 27, 3) := dk_162 0 27 (dk_at dksX1_play_2 17 rfl rfl)
theorem dX1_play_66 : decode cX1_play 66 = .ok (.aload_n 0, 1) := dk_42 (dk_at dksX1_play_2 20 rfl rfl)
theorem dX1_play_67 : decode cX1_play 67 = .ok (.getfield 248, 3) := dk_180 0 248 (dk_at dksX1_play_2 21 rfl rfl)
theorem dX1_play_70 : decode cX1_play 70 = .ok (.iload 4, 2) := dk_21 4 (dk_at dksX1_play_3 0 rfl rfl)
theorem dX1_play_72 : decode cX1_play 72 = .ok (.lload_n 2, 1) := dk_32 (dk_at dksX1_play_3 2 rfl rfl)
theorem dX1_play_73 : decode cX1_play 73 = .ok (.iconst 4, 1) := dk_7 (dk_at dksX1_play_3 3 rfl rfl)
theorem dX1_play_74 : decode cX1_play 74 = .ok (.iload 4, 2) := dk_21 4 (dk_at dksX1_play_3 4 rfl rfl)
theorem dX1_play_76 : decode cX1_play 76 = .ok (.imul, 1) := dk_104 (dk_at dksX1_play_3 6 rfl rfl)
theorem dX1_play_77 : decode cX1_play 77 = .ok (.lshr, 1) := dk_123 (dk_at dksX1_play_3 7 rfl rfl)
theorem dX1_play_78 : decode cX1_play 78 = .ok (.ldc2_w 412, 3) := dk_20 1 156 (dk_at dksX1_play_3 8 rfl rfl)
theorem dX1_play_81 : decode cX1_play 81 = .ok (.land, 1) := dk_127 (dk_at dksX1_play_3 11 rfl rfl)
theorem dX1_play_82 : decode cX1_play 82 = .ok (.l2i, 1) := dk_136 (dk_at dksX1_play_3 12 rfl rfl)
theorem dX1_play_83 : decode cX1_play 83 = .ok (.iastore, 1) := dk_79 (dk_at dksX1_play_3 13 rfl rfl)
theorem dX1_play_84 : decode cX1_play 84 = .ok (.iinc 4 1, 3) := dk_132 4 1 (dk_at dksX1_play_3 14 rfl rfl)
theorem dX1_play_87 : decode cX1_play 87 = .ok (.goto (-27), 3) := dk_167 255 229 (dk_at dksX1_play_3 17 rfl rfl)
theorem dX1_play_90 : decode cX1_play 90 = .ok (.aload_n 0, 1) := dk_42 (dk_at dksX1_play_3 20 rfl rfl)
theorem dX1_play_91 : decode cX1_play 91 = .ok (.aload_n 0, 1) := dk_42 (dk_at dksX1_play_3 21 rfl rfl)
theorem dX1_play_92 : decode cX1_play 92 = .ok (.getfield 241, 3) := dk_180 0 241 (dk_at dksX1_play_4 0 rfl rfl)
theorem dX1_play_95 : decode cX1_play 95 = .ok (.aload_n 0, 1) := dk_42 (dk_at dksX1_play_4 3 rfl rfl)
theorem dX1_play_96 : decode cX1_play 96 = .ok (.getfield 216, 3) := dk_180 0 216 (dk_at dksX1_play_4 4 rfl rfl)
theorem dX1_play_99 : decode cX1_play 99 = .ok (.aload_n 0, 1) := dk_42 (dk_at dksX1_play_4 7 rfl rfl)
theorem dX1_play_100 : decode cX1_play 100 = .ok (.getfield 303, 3) := dk_180 1 47 (dk_at dksX1_play_4 8 rfl rfl)
theorem dX1_play_103 : decode cX1_play 103 = .ok (.invokevirtual 414, 3) := dk_182 1 158 (dk_at dksX1_play_4 11 rfl rfl)
theorem dX1_play_106 : decode cX1_play 106 = .ok (.aload_n 0, 1) := dk_42 (dk_at dksX1_play_4 14 rfl rfl)
theorem dX1_play_107 : decode cX1_play 107 = .ok (.iconst 1, 1) := dk_4 (dk_at dksX1_play_4 15 rfl rfl)
theorem dX1_play_108 : decode cX1_play 108 = .ok (.putfield 290, 3) := dk_181 1 34 (dk_at dksX1_play_4 16 rfl rfl)
theorem dX1_play_111 : decode cX1_play 111 = .ok (.aload_n 0, 1) := dk_42 (dk_at dksX1_play_4 19 rfl rfl)
theorem dX1_play_112 : decode cX1_play 112 = .ok (.invokevirtual 417, 3) := dk_182 1 161 (dk_at dksX1_play_4 20 rfl rfl)
theorem dX1_play_115 : decode cX1_play 115 = .ok (.iconst 0, 1) := dk_3 (dk_at dksX1_play_4 23 rfl rfl)
theorem dX1_play_116 : decode cX1_play 116 = .ok (.istore 4, 2) := dk_54 4 (dk_at dksX1_play_5 0 rfl rfl)
theorem dX1_play_118 : decode cX1_play 118 = .ok (.iload 4, 2) := dk_21 4 (dk_at dksX1_play_5 2 rfl rfl)
theorem dX1_play_120 : decode cX1_play 120 = .ok (.aload_n 0, 1) := dk_42 (dk_at dksX1_play_5 4 rfl rfl)
theorem dX1_play_121 : decode cX1_play 121 = .ok (.getfield 216, 3) := dk_180 0 216 (dk_at dksX1_play_5 5 rfl rfl)
theorem dX1_play_124 : decode cX1_play 124 = .ok (.if_icmp .ge 37, 3) := dk_162 0 37 (dk_at dksX1_play_5 8 rfl rfl)
theorem dX1_play_127 : decode cX1_play 127 = .ok (.aload_n 0, 1) := dk_42 (dk_at dksX1_play_5 11 rfl rfl)
theorem dX1_play_128 : decode cX1_play 128 = .ok (.getfield 252, 3) := dk_180 0 252 (dk_at dksX1_play_5 12 rfl rfl)
theorem dX1_play_131 : decode cX1_play 131 = .ok (.iload 4, 2) := dk_21 4 (dk_at dksX1_play_5 15 rfl rfl)
theorem dX1_play_133 : decode cX1_play 133 = .ok (.aload_n 0, 1) := dk_42 (dk_at dksX1_play_5 17 rfl rfl)
theorem dX1_play_134 : decode cX1_play 134 = .ok (.getfield 136, 3) := dk_180 0 136 (dk_at dksX1_play_5 18 rfl rfl)
theorem dX1_play_137 : decode cX1_play 137 = .ok (.iload 4, 2) := dk_21 4 (dk_at dksX1_play_5 21 rfl rfl)
theorem dX1_play_139 : decode cX1_play 139 = .ok (.iaload, 1) := dk_46 (dk_at dksX1_play_5 23 rfl rfl)
theorem dX1_play_140 : decode cX1_play 140 = .ok (.iastore, 1) := dk_79 (dk_at dksX1_play_6 0 rfl rfl)
theorem dX1_play_141 : decode cX1_play 141 = .ok (.aload_n 0, 1) := dk_42 (dk_at dksX1_play_6 1 rfl rfl)
theorem dX1_play_142 : decode cX1_play 142 = .ok (.getfield 255, 3) := dk_180 0 255 (dk_at dksX1_play_6 2 rfl rfl)
theorem dX1_play_145 : decode cX1_play 145 = .ok (.iload 4, 2) := dk_21 4 (dk_at dksX1_play_6 5 rfl rfl)
theorem dX1_play_147 : decode cX1_play 147 = .ok (.aload_n 0, 1) := dk_42 (dk_at dksX1_play_6 7 rfl rfl)
theorem dX1_play_148 : decode cX1_play 148 = .ok (.getfield 191, 3) := dk_180 0 191 (dk_at dksX1_play_6 8 rfl rfl)
theorem dX1_play_151 : decode cX1_play 151 = .ok (.iload 4, 2) := dk_21 4 (dk_at dksX1_play_6 11 rfl rfl)
theorem dX1_play_153 : decode cX1_play 153 = .ok (.iaload, 1) := dk_46 (dk_at dksX1_play_6 13 rfl rfl)
theorem dX1_play_154 : decode cX1_play 154 = .ok (.iastore, 1) := dk_79 (dk_at dksX1_play_6 14 rfl rfl)
theorem dX1_play_155 : decode cX1_play 155 = .ok (.iinc 4 1, 3) := dk_132 4 1 (dk_at dksX1_play_6 15 rfl rfl)
theorem dX1_play_158 : decode cX1_play 158 = .ok (.goto (-40), 3) := dk_167 255 216 (dk_at dksX1_play_6 18 rfl rfl)
theorem dX1_play_161 : decode cX1_play 161 = .ok (.aload_n 0, 1) := dk_42 (dk_at dksX1_play_6 21 rfl rfl)
theorem dX1_play_162 : decode cX1_play 162 = .ok (.aload_n 0, 1) := dk_42 (dk_at dksX1_play_6 22 rfl rfl)
theorem dX1_play_163 : decode cX1_play 163 = .ok (.getfield 395, 3) := dk_180 1 139 (dk_at dksX1_play_7 0 rfl rfl)
theorem dX1_play_166 : decode cX1_play 166 = .ok (.putfield 420, 3) := dk_181 1 164 (dk_at dksX1_play_7 3 rfl rfl)
theorem dX1_play_169 : decode cX1_play 169 = .ok (.iconst 0, 1) := dk_3 (dk_at dksX1_play_7 6 rfl rfl)
theorem dX1_play_170 : decode cX1_play 170 = .ok (.istore 4, 2) := dk_54 4 (dk_at dksX1_play_7 7 rfl rfl)
theorem dX1_play_172 : decode cX1_play 172 = .ok (.iload 4, 2) := dk_21 4 (dk_at dksX1_play_7 9 rfl rfl)
theorem dX1_play_174 : decode cX1_play 174 = .ok (.aload_n 0, 1) := dk_42 (dk_at dksX1_play_7 11 rfl rfl)
theorem dX1_play_175 : decode cX1_play 175 = .ok (.getfield 395, 3) := dk_180 1 139 (dk_at dksX1_play_7 12 rfl rfl)
theorem dX1_play_178 : decode cX1_play 178 = .ok (.if_icmp .ge 23, 3) := dk_162 0 23 (dk_at dksX1_play_7 15 rfl rfl)
theorem dX1_play_181 : decode cX1_play 181 = .ok (.aload_n 0, 1) := dk_42 (dk_at dksX1_play_7 18 rfl rfl)
theorem dX1_play_182 : decode cX1_play 182 = .ok (.getfield 258, 3) := dk_180 1 2 (dk_at dksX1_play_7 19 rfl rfl)
theorem dX1_play_185 : decode cX1_play 185 = .ok (.iload 4, 2) := dk_21 4 (dk_at dksX1_play_7 22 rfl rfl)
theorem dX1_play_187 : decode cX1_play 187 = .ok (.aload_n 0, 1) := dk_42 (dk_at dksX1_play_8 0 rfl rfl)
theorem dX1_play_188 : decode cX1_play 188 = .ok (.getfield 245, 3) := dk_180 0 245 (dk_at dksX1_play_8 1 rfl rfl)
theorem dX1_play_191 : decode cX1_play 191 = .ok (.iload 4, 2) := dk_21 4 (dk_at dksX1_play_8 4 rfl rfl)
theorem dX1_play_193 : decode cX1_play 193 = .ok (.iaload, 1) := dk_46 (dk_at dksX1_play_8 6 rfl rfl)
theorem dX1_play_194 : decode cX1_play 194 = .ok (.iastore, 1) := dk_79 (dk_at dksX1_play_8 7 rfl rfl)
theorem dX1_play_195 : decode cX1_play 195 = .ok (.iinc 4 1, 3) := dk_132 4 1 (dk_at dksX1_play_8 8 rfl rfl)
theorem dX1_play_198 : decode cX1_play 198 = .ok (.goto (-26), 3) := dk_167 255 230 (dk_at dksX1_play_8 11 rfl rfl)
theorem dX1_play_201 : decode cX1_play 201 = .ok (.aload_n 0, 1) := dk_42 (dk_at dksX1_play_8 14 rfl rfl)
theorem dX1_play_202 : decode cX1_play 202 = .ok (.getfield 241, 3) := dk_180 0 241 (dk_at dksX1_play_8 15 rfl rfl)
theorem dX1_play_205 : decode cX1_play 205 = .ok (.invokevirtual 359, 3) := dk_182 1 103 (dk_at dksX1_play_8 18 rfl rfl)
theorem dX1_play_208 : decode cX1_play 208 = .ok (.ireturn, 1) := dk_172 (dk_at dksX1_play_8 21 rfl rfl)
abbrev cX1_plays : ByteArray := prog_1_method_41_code
def yX1_plays : MethodName := ⟨RX1, "plays", "(LSendHall$Life;II)V"⟩
def dkwX1_plays_4 : List UInt8 := [177]
abbrev dktX1_plays_4 : List UInt8 := dkwX1_plays_4 ++ []
def dkwX1_plays_3 : List UInt8 := [21, 4, 154, 0, 19, 42, 43, 21, 5, 29, 182, 1, 153, 54, 4, 132, 5, 1, 167, 255, 232, 167, 255, 218]
abbrev dktX1_plays_3 : List UInt8 := dkwX1_plays_3 ++ dktX1_plays_4
def dkwX1_plays_2 : List UInt8 := [182, 1, 62, 4, 54, 4, 21, 4, 153, 0, 39, 3, 54, 4, 3, 54, 5, 21, 5, 28, 162, 0, 24]
abbrev dktX1_plays_2 : List UInt8 := dkwX1_plays_2 ++ dktX1_plays_3
def dkwX1_plays_1 : List UInt8 := [180, 0, 191, 21, 4, 3, 79, 42, 180, 0, 129, 21, 4, 3, 79, 132, 4, 1, 167, 255, 222, 42, 43, 28]
abbrev dktX1_plays_1 : List UInt8 := dkwX1_plays_1 ++ dktX1_plays_2
def dkwX1_plays_0 : List UInt8 := [42, 3, 181, 1, 139, 3, 54, 4, 21, 4, 16, 8, 162, 0, 33, 42, 180, 0, 136, 21, 4, 3, 79, 42]
abbrev dktX1_plays_0 : List UInt8 := dkwX1_plays_0 ++ dktX1_plays_1
theorem dksX1_plays_0 : cX1_plays.data.toList.drop 0 = dktX1_plays_0 := by decide +kernel
theorem dksX1_plays_1 : cX1_plays.data.toList.drop 24 = dktX1_plays_1 := dk_seg dksX1_plays_0 24 rfl rfl
theorem dksX1_plays_2 : cX1_plays.data.toList.drop 48 = dktX1_plays_2 := dk_seg dksX1_plays_1 24 rfl rfl
theorem dksX1_plays_3 : cX1_plays.data.toList.drop 71 = dktX1_plays_3 := dk_seg dksX1_plays_2 23 rfl rfl
theorem dksX1_plays_4 : cX1_plays.data.toList.drop 95 = dktX1_plays_4 := dk_seg dksX1_plays_3 24 rfl rfl
theorem dX1_plays_0 : decode cX1_plays 0 = .ok (.aload_n 0, 1) := dk_42 (dk_at dksX1_plays_0 0 rfl rfl)
theorem dX1_plays_1 : decode cX1_plays 1 = .ok (.iconst 0, 1) := dk_3 (dk_at dksX1_plays_0 1 rfl rfl)
theorem dX1_plays_2 : decode cX1_plays 2 = .ok (.putfield 395, 3) := dk_181 1 139 (dk_at dksX1_plays_0 2 rfl rfl)
theorem dX1_plays_5 : decode cX1_plays 5 = .ok (.iconst 0, 1) := dk_3 (dk_at dksX1_plays_0 5 rfl rfl)
theorem dX1_plays_6 : decode cX1_plays 6 = .ok (.istore 4, 2) := dk_54 4 (dk_at dksX1_plays_0 6 rfl rfl)
theorem dX1_plays_8 : decode cX1_plays 8 = .ok (.iload 4, 2) := dk_21 4 (dk_at dksX1_plays_0 8 rfl rfl)
theorem dX1_plays_10 : decode cX1_plays 10 = .ok (.bipush 8, 2) := dk_16 8 (dk_at dksX1_plays_0 10 rfl rfl)
theorem dX1_plays_12 : decode cX1_plays 12 = .ok (.if_icmp .ge 33, 3) := dk_162 0 33 (dk_at dksX1_plays_0 12 rfl rfl)
theorem dX1_plays_15 : decode cX1_plays 15 = .ok (.aload_n 0, 1) := dk_42 (dk_at dksX1_plays_0 15 rfl rfl)
theorem dX1_plays_16 : decode cX1_plays 16 = .ok (.getfield 136, 3) := dk_180 0 136 (dk_at dksX1_plays_0 16 rfl rfl)
theorem dX1_plays_19 : decode cX1_plays 19 = .ok (.iload 4, 2) := dk_21 4 (dk_at dksX1_plays_0 19 rfl rfl)
theorem dX1_plays_21 : decode cX1_plays 21 = .ok (.iconst 0, 1) := dk_3 (dk_at dksX1_plays_0 21 rfl rfl)
theorem dX1_plays_22 : decode cX1_plays 22 = .ok (.iastore, 1) := dk_79 (dk_at dksX1_plays_0 22 rfl rfl)
theorem dX1_plays_23 : decode cX1_plays 23 = .ok (.aload_n 0, 1) := dk_42 (dk_at dksX1_plays_0 23 rfl rfl)
theorem dX1_plays_24 : decode cX1_plays 24 = .ok (.getfield 191, 3) := dk_180 0 191 (dk_at dksX1_plays_1 0 rfl rfl)
theorem dX1_plays_27 : decode cX1_plays 27 = .ok (.iload 4, 2) := dk_21 4 (dk_at dksX1_plays_1 3 rfl rfl)
theorem dX1_plays_29 : decode cX1_plays 29 = .ok (.iconst 0, 1) := dk_3 (dk_at dksX1_plays_1 5 rfl rfl)
theorem dX1_plays_30 : decode cX1_plays 30 = .ok (.iastore, 1) := dk_79 (dk_at dksX1_plays_1 6 rfl rfl)
theorem dX1_plays_31 : decode cX1_plays 31 = .ok (.aload_n 0, 1) := dk_42 (dk_at dksX1_plays_1 7 rfl rfl)
theorem dX1_plays_32 : decode cX1_plays 32 = .ok (.getfield 129, 3) := dk_180 0 129 (dk_at dksX1_plays_1 8 rfl rfl)
theorem dX1_plays_35 : decode cX1_plays 35 = .ok (.iload 4, 2) := dk_21 4 (dk_at dksX1_plays_1 11 rfl rfl)
theorem dX1_plays_37 : decode cX1_plays 37 = .ok (.iconst 0, 1) := dk_3 (dk_at dksX1_plays_1 13 rfl rfl)
theorem dX1_plays_38 : decode cX1_plays 38 = .ok (.iastore, 1) := dk_79 (dk_at dksX1_plays_1 14 rfl rfl)
theorem dX1_plays_39 : decode cX1_plays 39 = .ok (.iinc 4 1, 3) := dk_132 4 1 (dk_at dksX1_plays_1 15 rfl rfl)
theorem dX1_plays_42 : decode cX1_plays 42 = .ok (.goto (-34), 3) := dk_167 255 222 (dk_at dksX1_plays_1 18 rfl rfl)
theorem dX1_plays_45 : decode cX1_plays 45 = .ok (.aload_n 0, 1) := dk_42 (dk_at dksX1_plays_1 21 rfl rfl)
theorem dX1_plays_46 : decode cX1_plays 46 = .ok (.aload_n 1, 1) := dk_43 (dk_at dksX1_plays_1 22 rfl rfl)
theorem dX1_plays_47 : decode cX1_plays 47 = .ok (.iload_n 2, 1) := dk_28 (dk_at dksX1_plays_1 23 rfl rfl)
theorem dX1_plays_48 : decode cX1_plays 48 = .ok (.invokevirtual 318, 3) := dk_182 1 62 (dk_at dksX1_plays_2 0 rfl rfl)
theorem dX1_plays_51 : decode cX1_plays 51 = .ok (.iconst 1, 1) := dk_4 (dk_at dksX1_plays_2 3 rfl rfl)
theorem dX1_plays_52 : decode cX1_plays 52 = .ok (.istore 4, 2) := dk_54 4 (dk_at dksX1_plays_2 4 rfl rfl)
theorem dX1_plays_54 : decode cX1_plays 54 = .ok (.iload 4, 2) := dk_21 4 (dk_at dksX1_plays_2 6 rfl rfl)
theorem dX1_plays_56 : decode cX1_plays 56 = .ok (.ifCond .eq 39, 3) := dk_153 0 39 (dk_at dksX1_plays_2 8 rfl rfl)
theorem dX1_plays_59 : decode cX1_plays 59 = .ok (.iconst 0, 1) := dk_3 (dk_at dksX1_plays_2 11 rfl rfl)
theorem dX1_plays_60 : decode cX1_plays 60 = .ok (.istore 4, 2) := dk_54 4 (dk_at dksX1_plays_2 12 rfl rfl)
theorem dX1_plays_62 : decode cX1_plays 62 = .ok (.iconst 0, 1) := dk_3 (dk_at dksX1_plays_2 14 rfl rfl)
theorem dX1_plays_63 : decode cX1_plays 63 = .ok (.istore 5, 2) := dk_54 5 (dk_at dksX1_plays_2 15 rfl rfl)
theorem dX1_plays_65 : decode cX1_plays 65 = .ok (.iload 5, 2) := dk_21 5 (dk_at dksX1_plays_2 17 rfl rfl)
theorem dX1_plays_67 : decode cX1_plays 67 = .ok (.iload_n 2, 1) := dk_28 (dk_at dksX1_plays_2 19 rfl rfl)
theorem dX1_plays_68 : decode cX1_plays 68 = .ok (.if_icmp .ge 24, 3) := dk_162 0 24 (dk_at dksX1_plays_2 20 rfl rfl)
theorem dX1_plays_71 : decode cX1_plays 71 = .ok (.iload 4, 2) := dk_21 4 (dk_at dksX1_plays_3 0 rfl rfl)
theorem dX1_plays_73 : decode cX1_plays 73 = .ok (.ifCond .ne 19, 3) := dk_154 0 19 (dk_at dksX1_plays_3 2 rfl rfl)
theorem dX1_plays_76 : decode cX1_plays 76 = .ok (.aload_n 0, 1) := dk_42 (dk_at dksX1_plays_3 5 rfl rfl)
theorem dX1_plays_77 : decode cX1_plays 77 = .ok (.aload_n 1, 1) := dk_43 (dk_at dksX1_plays_3 6 rfl rfl)
theorem dX1_plays_78 : decode cX1_plays 78 = .ok (.iload 5, 2) := dk_21 5 (dk_at dksX1_plays_3 7 rfl rfl)
theorem dX1_plays_80 : decode cX1_plays 80 = .ok (.iload_n 3, 1) := dk_29 (dk_at dksX1_plays_3 9 rfl rfl)
theorem dX1_plays_81 : decode cX1_plays 81 = .ok (.invokevirtual 409, 3) := dk_182 1 153 (dk_at dksX1_plays_3 10 rfl rfl)
theorem dX1_plays_84 : decode cX1_plays 84 = .ok (.istore 4, 2) := dk_54 4 (dk_at dksX1_plays_3 13 rfl rfl)
theorem dX1_plays_86 : decode cX1_plays 86 = .ok (.iinc 5 1, 3) := dk_132 5 1 (dk_at dksX1_plays_3 15 rfl rfl)
theorem dX1_plays_89 : decode cX1_plays 89 = .ok (.goto (-24), 3) := dk_167 255 232 (dk_at dksX1_plays_3 18 rfl rfl)
theorem dX1_plays_92 : decode cX1_plays 92 = .ok (.goto (-38), 3) := dk_167 255 218 (dk_at dksX1_plays_3 21 rfl rfl)
theorem dX1_plays_95 : decode cX1_plays 95 = .ok (.return_, 1) := dk_177 (dk_at dksX1_plays_4 0 rfl rfl)
abbrev cX1_goesOn : ByteArray := prog_1_method_40_code
def yX1_goesOn : MethodName := ⟨RX1, "goesOn", "(LSendHall$Life;II)Z"⟩
def dkwX1_goesOn_7 : List UInt8 := [42, 180, 1, 139, 21, 7, 79, 42, 89, 180, 1, 139, 4, 96, 181, 1, 139, 4, 172]
abbrev dktX1_goesOn_7 : List UInt8 := dkwX1_goesOn_7 ++ []
def dkwX1_goesOn_6 : List UInt8 := [3, 172, 28, 54, 7, 42, 43, 28, 21, 6, 29, 182, 1, 93, 21, 7, 2, 159, 0, 24, 42, 180, 0, 245]
abbrev dktX1_goesOn_6 : List UInt8 := dkwX1_goesOn_6 ++ dktX1_goesOn_7
def dkwX1_goesOn_5 : List UInt8 := [50, 180, 0, 105, 7, 160, 0, 24, 42, 182, 1, 145, 2, 159, 0, 13, 42, 182, 1, 145, 28, 159, 0, 5]
abbrev dktX1_goesOn_5 : List UInt8 := dkwX1_goesOn_5 ++ dktX1_goesOn_6
def dkwX1_goesOn_4 : List UInt8 := [182, 0, 106, 154, 0, 50, 43, 180, 0, 21, 43, 180, 0, 21, 28, 50, 192, 0, 73, 43, 28, 182, 0, 75]
abbrev dktX1_goesOn_4 : List UInt8 := dkwX1_goesOn_4 ++ dktX1_goesOn_5
def dkwX1_goesOn_3 : List UInt8 := [21, 4, 184, 1, 148, 54, 6, 21, 6, 54, 7, 167, 0, 66, 21, 5, 5, 163, 0, 60, 42, 43, 28, 29]
abbrev dktX1_goesOn_3 : List UInt8 := dkwX1_goesOn_3 ++ dktX1_goesOn_4
def dkwX1_goesOn_2 : List UInt8 := [21, 6, 2, 159, 0, 15, 21, 4, 21, 6, 122, 4, 126, 154, 0, 5, 3, 172, 21, 6, 2, 160, 0, 10]
abbrev dktX1_goesOn_2 : List UInt8 := dkwX1_goesOn_2 ++ dktX1_goesOn_3
def dkwX1_goesOn_1 : List UInt8 := [180, 0, 105, 54, 5, 28, 54, 6, 2, 54, 7, 21, 5, 7, 160, 0, 47, 42, 182, 1, 145, 54, 6]
abbrev dktX1_goesOn_1 : List UInt8 := dkwX1_goesOn_1 ++ dktX1_goesOn_2
def dkwX1_goesOn_0 : List UInt8 := [42, 43, 28, 29, 182, 1, 74, 54, 4, 21, 4, 154, 0, 5, 3, 172, 43, 180, 0, 21, 28, 50]
abbrev dktX1_goesOn_0 : List UInt8 := dkwX1_goesOn_0 ++ dktX1_goesOn_1
theorem dksX1_goesOn_0 : cX1_goesOn.data.toList.drop 0 = dktX1_goesOn_0 := by decide +kernel
theorem dksX1_goesOn_1 : cX1_goesOn.data.toList.drop 22 = dktX1_goesOn_1 := dk_seg dksX1_goesOn_0 22 rfl rfl
theorem dksX1_goesOn_2 : cX1_goesOn.data.toList.drop 45 = dktX1_goesOn_2 := dk_seg dksX1_goesOn_1 23 rfl rfl
theorem dksX1_goesOn_3 : cX1_goesOn.data.toList.drop 69 = dktX1_goesOn_3 := dk_seg dksX1_goesOn_2 24 rfl rfl
theorem dksX1_goesOn_4 : cX1_goesOn.data.toList.drop 93 = dktX1_goesOn_4 := dk_seg dksX1_goesOn_3 24 rfl rfl
theorem dksX1_goesOn_5 : cX1_goesOn.data.toList.drop 117 = dktX1_goesOn_5 := dk_seg dksX1_goesOn_4 24 rfl rfl
theorem dksX1_goesOn_6 : cX1_goesOn.data.toList.drop 141 = dktX1_goesOn_6 := dk_seg dksX1_goesOn_5 24 rfl rfl
theorem dksX1_goesOn_7 : cX1_goesOn.data.toList.drop 165 = dktX1_goesOn_7 := dk_seg dksX1_goesOn_6 24 rfl rfl
theorem dX1_goesOn_0 : decode cX1_goesOn 0 = .ok (.aload_n 0, 1) := dk_42 (dk_at dksX1_goesOn_0 0 rfl rfl)
theorem dX1_goesOn_1 : decode cX1_goesOn 1 = .ok (.aload_n 1, 1) := dk_43 (dk_at dksX1_goesOn_0 1 rfl rfl)
theorem dX1_goesOn_2 : decode cX1_goesOn 2 = .ok (.iload_n 2, 1) := dk_28 (dk_at dksX1_goesOn_0 2 rfl rfl)
theorem dX1_goesOn_3 : decode cX1_goesOn 3 = .ok (.iload_n 3, 1) := dk_29 (dk_at dksX1_goesOn_0 3 rfl rfl)
theorem dX1_goesOn_4 : decode cX1_goesOn 4 = .ok (.invokevirtual 330, 3) := dk_182 1 74 (dk_at dksX1_goesOn_0 4 rfl rfl)
theorem dX1_goesOn_7 : decode cX1_goesOn 7 = .ok (.istore 4, 2) := dk_54 4 (dk_at dksX1_goesOn_0 7 rfl rfl)
theorem dX1_goesOn_9 : decode cX1_goesOn 9 = .ok (.iload 4, 2) := dk_21 4 (dk_at dksX1_goesOn_0 9 rfl rfl)
theorem dX1_goesOn_11 : decode cX1_goesOn 11 = .ok (.ifCond .ne 5, 3) := dk_154 0 5 (dk_at dksX1_goesOn_0 11 rfl rfl)
theorem dX1_goesOn_14 : decode cX1_goesOn 14 = .ok (.iconst 0, 1) := dk_3 (dk_at dksX1_goesOn_0 14 rfl rfl)
theorem dX1_goesOn_15 : decode cX1_goesOn 15 = .ok (.ireturn, 1) := dk_172 (dk_at dksX1_goesOn_0 15 rfl rfl)
theorem dX1_goesOn_16 : decode cX1_goesOn 16 = .ok (.aload_n 1, 1) := dk_43 (dk_at dksX1_goesOn_0 16 rfl rfl)
theorem dX1_goesOn_17 : decode cX1_goesOn 17 = .ok (.getfield 21, 3) := dk_180 0 21 (dk_at dksX1_goesOn_0 17 rfl rfl)
theorem dX1_goesOn_20 : decode cX1_goesOn 20 = .ok (.iload_n 2, 1) := dk_28 (dk_at dksX1_goesOn_0 20 rfl rfl)
theorem dX1_goesOn_21 : decode cX1_goesOn 21 = .ok (.aaload, 1) := dk_50 (dk_at dksX1_goesOn_0 21 rfl rfl)
theorem dX1_goesOn_22 : decode cX1_goesOn 22 = .ok (.getfield 105, 3) := dk_180 0 105 (dk_at dksX1_goesOn_1 0 rfl rfl)
theorem dX1_goesOn_25 : decode cX1_goesOn 25 = .ok (.istore 5, 2) := dk_54 5 (dk_at dksX1_goesOn_1 3 rfl rfl)
theorem dX1_goesOn_27 : decode cX1_goesOn 27 = .ok (.iload_n 2, 1) := dk_28 (dk_at dksX1_goesOn_1 5 rfl rfl)
theorem dX1_goesOn_28 : decode cX1_goesOn 28 = .ok (.istore 6, 2) := dk_54 6 (dk_at dksX1_goesOn_1 6 rfl rfl)
theorem dX1_goesOn_30 : decode cX1_goesOn 30 = .ok (.iconst (-1), 1) := dk_2 (dk_at dksX1_goesOn_1 8 rfl rfl)
theorem dX1_goesOn_31 : decode cX1_goesOn 31 = .ok (.istore 7, 2) := dk_54 7 (dk_at dksX1_goesOn_1 9 rfl rfl)
theorem dX1_goesOn_33 : decode cX1_goesOn 33 = .ok (.iload 5, 2) := dk_21 5 (dk_at dksX1_goesOn_1 11 rfl rfl)
theorem dX1_goesOn_35 : decode cX1_goesOn 35 = .ok (.iconst 4, 1) := dk_7 (dk_at dksX1_goesOn_1 13 rfl rfl)
theorem dX1_goesOn_36 : decode cX1_goesOn 36 = .ok (.if_icmp .ne 47, 3) := dk_160 0 47 (dk_at dksX1_goesOn_1 14 rfl rfl)
theorem dX1_goesOn_39 : decode cX1_goesOn 39 = .ok (.aload_n 0, 1) := dk_42 (dk_at dksX1_goesOn_1 17 rfl rfl)
theorem dX1_goesOn_40 : decode cX1_goesOn 40 = .ok (.invokevirtual 401, 3) := dk_182 1 145 (dk_at dksX1_goesOn_1 18 rfl rfl)
theorem dX1_goesOn_43 : decode cX1_goesOn 43 = .ok (.istore 6, 2) := dk_54 6 (dk_at dksX1_goesOn_1 21 rfl rfl)
theorem dX1_goesOn_45 : decode cX1_goesOn 45 = .ok (.iload 6, 2) := dk_21 6 (dk_at dksX1_goesOn_2 0 rfl rfl)
theorem dX1_goesOn_47 : decode cX1_goesOn 47 = .ok (.iconst (-1), 1) := dk_2 (dk_at dksX1_goesOn_2 2 rfl rfl)
theorem dX1_goesOn_48 : decode cX1_goesOn 48 = .ok (.if_icmp .eq 15, 3) := dk_159 0 15 (dk_at dksX1_goesOn_2 3 rfl rfl)
theorem dX1_goesOn_51 : decode cX1_goesOn 51 = .ok (.iload 4, 2) := dk_21 4 (dk_at dksX1_goesOn_2 6 rfl rfl)
theorem dX1_goesOn_53 : decode cX1_goesOn 53 = .ok (.iload 6, 2) := dk_21 6 (dk_at dksX1_goesOn_2 8 rfl rfl)
theorem dX1_goesOn_55 : decode cX1_goesOn 55 = .ok (.ishr, 1) := dk_122 (dk_at dksX1_goesOn_2 10 rfl rfl)
theorem dX1_goesOn_56 : decode cX1_goesOn 56 = .ok (.iconst 1, 1) := dk_4 (dk_at dksX1_goesOn_2 11 rfl rfl)
theorem dX1_goesOn_57 : decode cX1_goesOn 57 = .ok (.iand, 1) := dk_126 (dk_at dksX1_goesOn_2 12 rfl rfl)
theorem dX1_goesOn_58 : decode cX1_goesOn 58 = .ok (.ifCond .ne 5, 3) := dk_154 0 5 (dk_at dksX1_goesOn_2 13 rfl rfl)
theorem dX1_goesOn_61 : decode cX1_goesOn 61 = .ok (.iconst 0, 1) := dk_3 (dk_at dksX1_goesOn_2 16 rfl rfl)
theorem dX1_goesOn_62 : decode cX1_goesOn 62 = .ok (.ireturn, 1) := dk_172 (dk_at dksX1_goesOn_2 17 rfl rfl)
theorem dX1_goesOn_63 : decode cX1_goesOn 63 = .ok (.iload 6, 2) := dk_21 6 (dk_at dksX1_goesOn_2 18 rfl rfl)
theorem dX1_goesOn_65 : decode cX1_goesOn 65 = .ok (.iconst (-1), 1) := dk_2 (dk_at dksX1_goesOn_2 20 rfl rfl)
theorem dX1_goesOn_66 : decode cX1_goesOn 66 = .ok (.if_icmp .ne 10, 3) := dk_160 0 10 (dk_at dksX1_goesOn_2 21 rfl rfl)
theorem dX1_goesOn_69 : decode cX1_goesOn 69 = .ok (.iload 4, 2) := dk_21 4 (dk_at dksX1_goesOn_3 0 rfl rfl)
theorem dX1_goesOn_71 : decode cX1_goesOn 71 = .ok (.invokestatic 404, 3) := dk_184 1 148 (dk_at dksX1_goesOn_3 2 rfl rfl)
theorem dX1_goesOn_74 : decode cX1_goesOn 74 = .ok (.istore 6, 2) := dk_54 6 (dk_at dksX1_goesOn_3 5 rfl rfl)
theorem dX1_goesOn_76 : decode cX1_goesOn 76 = .ok (.iload 6, 2) := dk_21 6 (dk_at dksX1_goesOn_3 7 rfl rfl)
theorem dX1_goesOn_78 : decode cX1_goesOn 78 = .ok (.istore 7, 2) := dk_54 7 (dk_at dksX1_goesOn_3 9 rfl rfl)
theorem dX1_goesOn_80 : decode cX1_goesOn 80 = .ok (.goto 66, 3) := dk_167 0 66 (dk_at dksX1_goesOn_3 11 rfl rfl)
theorem dX1_goesOn_83 : decode cX1_goesOn 83 = .ok (.iload 5, 2) := dk_21 5 (dk_at dksX1_goesOn_3 14 rfl rfl)
theorem dX1_goesOn_85 : decode cX1_goesOn 85 = .ok (.iconst 2, 1) := dk_5 (dk_at dksX1_goesOn_3 16 rfl rfl)
theorem dX1_goesOn_86 : decode cX1_goesOn 86 = .ok (.if_icmp .gt 60, 3) := dk_163 0 60 (dk_at dksX1_goesOn_3 17 rfl rfl)
theorem dX1_goesOn_89 : decode cX1_goesOn 89 = .ok (.aload_n 0, 1) := dk_42 (dk_at dksX1_goesOn_3 20 rfl rfl)
theorem dX1_goesOn_90 : decode cX1_goesOn 90 = .ok (.aload_n 1, 1) := dk_43 (dk_at dksX1_goesOn_3 21 rfl rfl)
theorem dX1_goesOn_91 : decode cX1_goesOn 91 = .ok (.iload_n 2, 1) := dk_28 (dk_at dksX1_goesOn_3 22 rfl rfl)
theorem dX1_goesOn_92 : decode cX1_goesOn 92 = .ok (.iload_n 3, 1) := dk_29 (dk_at dksX1_goesOn_3 23 rfl rfl)
theorem dX1_goesOn_93 : decode cX1_goesOn 93 = .ok (.invokevirtual 106, 3) := dk_182 0 106 (dk_at dksX1_goesOn_4 0 rfl rfl)
theorem dX1_goesOn_96 : decode cX1_goesOn 96 = .ok (.ifCond .ne 50, 3) := dk_154 0 50 (dk_at dksX1_goesOn_4 3 rfl rfl)
theorem dX1_goesOn_99 : decode cX1_goesOn 99 = .ok (.aload_n 1, 1) := dk_43 (dk_at dksX1_goesOn_4 6 rfl rfl)
theorem dX1_goesOn_100 : decode cX1_goesOn 100 = .ok (.getfield 21, 3) := dk_180 0 21 (dk_at dksX1_goesOn_4 7 rfl rfl)
theorem dX1_goesOn_103 : decode cX1_goesOn 103 = .ok (.aload_n 1, 1) := dk_43 (dk_at dksX1_goesOn_4 10 rfl rfl)
theorem dX1_goesOn_104 : decode cX1_goesOn 104 = .ok (.getfield 21, 3) := dk_180 0 21 (dk_at dksX1_goesOn_4 11 rfl rfl)
theorem dX1_goesOn_107 : decode cX1_goesOn 107 = .ok (.iload_n 2, 1) := dk_28 (dk_at dksX1_goesOn_4 14 rfl rfl)
theorem dX1_goesOn_108 : decode cX1_goesOn 108 = .ok (.aaload, 1) := dk_50 (dk_at dksX1_goesOn_4 15 rfl rfl)
theorem dX1_goesOn_109 : decode cX1_goesOn 109 = .ok (.checkcast 73, 3) := dk_192 0 73 (dk_at dksX1_goesOn_4 16 rfl rfl)
theorem dX1_goesOn_112 : decode cX1_goesOn 112 = .ok (.aload_n 1, 1) := dk_43 (dk_at dksX1_goesOn_4 19 rfl rfl)
theorem dX1_goesOn_113 : decode cX1_goesOn 113 = .ok (.iload_n 2, 1) := dk_28 (dk_at dksX1_goesOn_4 20 rfl rfl)
theorem dX1_goesOn_114 : decode cX1_goesOn 114 = .ok (.invokevirtual 75, 3) := dk_182 0 75 (dk_at dksX1_goesOn_4 21 rfl rfl)
theorem dX1_goesOn_117 : decode cX1_goesOn 117 = .ok (.aaload, 1) := dk_50 (dk_at dksX1_goesOn_5 0 rfl rfl)
theorem dX1_goesOn_118 : decode cX1_goesOn 118 = .ok (.getfield 105, 3) := dk_180 0 105 (dk_at dksX1_goesOn_5 1 rfl rfl)
theorem dX1_goesOn_121 : decode cX1_goesOn 121 = .ok (.iconst 4, 1) := dk_7 (dk_at dksX1_goesOn_5 4 rfl rfl)
theorem dX1_goesOn_122 : decode cX1_goesOn 122 = .ok (.if_icmp .ne 24, 3) := dk_160 0 24 (dk_at dksX1_goesOn_5 5 rfl rfl)
theorem dX1_goesOn_125 : decode cX1_goesOn 125 = .ok (.aload_n 0, 1) := dk_42 (dk_at dksX1_goesOn_5 8 rfl rfl)
theorem dX1_goesOn_126 : decode cX1_goesOn 126 = .ok (.invokevirtual 401, 3) := dk_182 1 145 (dk_at dksX1_goesOn_5 9 rfl rfl)
theorem dX1_goesOn_129 : decode cX1_goesOn 129 = .ok (.iconst (-1), 1) := dk_2 (dk_at dksX1_goesOn_5 12 rfl rfl)
theorem dX1_goesOn_130 : decode cX1_goesOn 130 = .ok (.if_icmp .eq 13, 3) := dk_159 0 13 (dk_at dksX1_goesOn_5 13 rfl rfl)
theorem dX1_goesOn_133 : decode cX1_goesOn 133 = .ok (.aload_n 0, 1) := dk_42 (dk_at dksX1_goesOn_5 16 rfl rfl)
theorem dX1_goesOn_134 : decode cX1_goesOn 134 = .ok (.invokevirtual 401, 3) := dk_182 1 145 (dk_at dksX1_goesOn_5 17 rfl rfl)
theorem dX1_goesOn_137 : decode cX1_goesOn 137 = .ok (.iload_n 2, 1) := dk_28 (dk_at dksX1_goesOn_5 20 rfl rfl)
theorem dX1_goesOn_138 : decode cX1_goesOn 138 = .ok (.if_icmp .eq 5, 3) := dk_159 0 5 (dk_at dksX1_goesOn_5 21 rfl rfl)
theorem dX1_goesOn_141 : decode cX1_goesOn 141 = .ok (.iconst 0, 1) := dk_3 (dk_at dksX1_goesOn_6 0 rfl rfl)
theorem dX1_goesOn_142 : decode cX1_goesOn 142 = .ok (.ireturn, 1) := dk_172 (dk_at dksX1_goesOn_6 1 rfl rfl)
theorem dX1_goesOn_143 : decode cX1_goesOn 143 = .ok (.iload_n 2, 1) := dk_28 (dk_at dksX1_goesOn_6 2 rfl rfl)
theorem dX1_goesOn_144 : decode cX1_goesOn 144 = .ok (.istore 7, 2) := dk_54 7 (dk_at dksX1_goesOn_6 3 rfl rfl)
theorem dX1_goesOn_146 : decode cX1_goesOn 146 = .ok (.aload_n 0, 1) := dk_42 (dk_at dksX1_goesOn_6 5 rfl rfl)
theorem dX1_goesOn_147 : decode cX1_goesOn 147 = .ok (.aload_n 1, 1) := dk_43 (dk_at dksX1_goesOn_6 6 rfl rfl)
theorem dX1_goesOn_148 : decode cX1_goesOn 148 = .ok (.iload_n 2, 1) := dk_28 (dk_at dksX1_goesOn_6 7 rfl rfl)
theorem dX1_goesOn_149 : decode cX1_goesOn 149 = .ok (.iload 6, 2) := dk_21 6 (dk_at dksX1_goesOn_6 8 rfl rfl)
theorem dX1_goesOn_151 : decode cX1_goesOn 151 = .ok (.iload_n 3, 1) := dk_29 (dk_at dksX1_goesOn_6 10 rfl rfl)
theorem dX1_goesOn_152 : decode cX1_goesOn 152 = .ok (.invokevirtual 349, 3) := dk_182 1 93 (dk_at dksX1_goesOn_6 11 rfl rfl)
theorem dX1_goesOn_155 : decode cX1_goesOn 155 = .ok (.iload 7, 2) := dk_21 7 (dk_at dksX1_goesOn_6 14 rfl rfl)
theorem dX1_goesOn_157 : decode cX1_goesOn 157 = .ok (.iconst (-1), 1) := dk_2 (dk_at dksX1_goesOn_6 16 rfl rfl)
theorem dX1_goesOn_158 : decode cX1_goesOn 158 = .ok (.if_icmp .eq 24, 3) := dk_159 0 24 (dk_at dksX1_goesOn_6 17 rfl rfl)
theorem dX1_goesOn_161 : decode cX1_goesOn 161 = .ok (.aload_n 0, 1) := dk_42 (dk_at dksX1_goesOn_6 20 rfl rfl)
theorem dX1_goesOn_162 : decode cX1_goesOn 162 = .ok (.getfield 245, 3) := dk_180 0 245 (dk_at dksX1_goesOn_6 21 rfl rfl)
theorem dX1_goesOn_165 : decode cX1_goesOn 165 = .ok (.aload_n 0, 1) := dk_42 (dk_at dksX1_goesOn_7 0 rfl rfl)
theorem dX1_goesOn_166 : decode cX1_goesOn 166 = .ok (.getfield 395, 3) := dk_180 1 139 (dk_at dksX1_goesOn_7 1 rfl rfl)
theorem dX1_goesOn_169 : decode cX1_goesOn 169 = .ok (.iload 7, 2) := dk_21 7 (dk_at dksX1_goesOn_7 4 rfl rfl)
theorem dX1_goesOn_171 : decode cX1_goesOn 171 = .ok (.iastore, 1) := dk_79 (dk_at dksX1_goesOn_7 6 rfl rfl)
theorem dX1_goesOn_172 : decode cX1_goesOn 172 = .ok (.aload_n 0, 1) := dk_42 (dk_at dksX1_goesOn_7 7 rfl rfl)
theorem dX1_goesOn_173 : decode cX1_goesOn 173 = .ok (.dup, 1) := dk_89 (dk_at dksX1_goesOn_7 8 rfl rfl)
theorem dX1_goesOn_174 : decode cX1_goesOn 174 = .ok (.getfield 395, 3) := dk_180 1 139 (dk_at dksX1_goesOn_7 9 rfl rfl)
theorem dX1_goesOn_177 : decode cX1_goesOn 177 = .ok (.iconst 1, 1) := dk_4 (dk_at dksX1_goesOn_7 12 rfl rfl)
theorem dX1_goesOn_178 : decode cX1_goesOn 178 = .ok (.iadd, 1) := dk_96 (dk_at dksX1_goesOn_7 13 rfl rfl)
theorem dX1_goesOn_179 : decode cX1_goesOn 179 = .ok (.putfield 395, 3) := dk_181 1 139 (dk_at dksX1_goesOn_7 14 rfl rfl)
theorem dX1_goesOn_182 : decode cX1_goesOn 182 = .ok (.iconst 1, 1) := dk_4 (dk_at dksX1_goesOn_7 17 rfl rfl)
theorem dX1_goesOn_183 : decode cX1_goesOn 183 = .ok (.ireturn, 1) := dk_172 (dk_at dksX1_goesOn_7 18 rfl rfl)
abbrev cX1_nextChoice : ByteArray := prog_1_method_39_code
def yX1_nextChoice : MethodName := ⟨RX1, "nextChoice", "()I"⟩
def dkwX1_nextChoice_1 : List UInt8 := [172]
abbrev dktX1_nextChoice_1 : List UInt8 := dkwX1_nextChoice_1 ++ []
def dkwX1_nextChoice_0 : List UInt8 := [42, 180, 1, 139, 42, 180, 1, 142, 162, 0, 15, 42, 180, 0, 248, 42, 180, 1, 139, 46, 167, 0, 4, 2]
abbrev dktX1_nextChoice_0 : List UInt8 := dkwX1_nextChoice_0 ++ dktX1_nextChoice_1
theorem dksX1_nextChoice_0 : cX1_nextChoice.data.toList.drop 0 = dktX1_nextChoice_0 := by decide +kernel
theorem dksX1_nextChoice_1 : cX1_nextChoice.data.toList.drop 24 = dktX1_nextChoice_1 := dk_seg dksX1_nextChoice_0 24 rfl rfl
theorem dX1_nextChoice_0 : decode cX1_nextChoice 0 = .ok (.aload_n 0, 1) := dk_42 (dk_at dksX1_nextChoice_0 0 rfl rfl)
theorem dX1_nextChoice_1 : decode cX1_nextChoice 1 = .ok (.getfield 395, 3) := dk_180 1 139 (dk_at dksX1_nextChoice_0 1 rfl rfl)
theorem dX1_nextChoice_4 : decode cX1_nextChoice 4 = .ok (.aload_n 0, 1) := dk_42 (dk_at dksX1_nextChoice_0 4 rfl rfl)
theorem dX1_nextChoice_5 : decode cX1_nextChoice 5 = .ok (.getfield 398, 3) := dk_180 1 142 (dk_at dksX1_nextChoice_0 5 rfl rfl)
theorem dX1_nextChoice_8 : decode cX1_nextChoice 8 = .ok (.if_icmp .ge 15, 3) := dk_162 0 15 (dk_at dksX1_nextChoice_0 8 rfl rfl)
theorem dX1_nextChoice_11 : decode cX1_nextChoice 11 = .ok (.aload_n 0, 1) := dk_42 (dk_at dksX1_nextChoice_0 11 rfl rfl)
theorem dX1_nextChoice_12 : decode cX1_nextChoice 12 = .ok (.getfield 248, 3) := dk_180 0 248 (dk_at dksX1_nextChoice_0 12 rfl rfl)
theorem dX1_nextChoice_15 : decode cX1_nextChoice 15 = .ok (.aload_n 0, 1) := dk_42 (dk_at dksX1_nextChoice_0 15 rfl rfl)
theorem dX1_nextChoice_16 : decode cX1_nextChoice 16 = .ok (.getfield 395, 3) := dk_180 1 139 (dk_at dksX1_nextChoice_0 16 rfl rfl)
theorem dX1_nextChoice_19 : decode cX1_nextChoice 19 = .ok (.iaload, 1) := dk_46 (dk_at dksX1_nextChoice_0 19 rfl rfl)
theorem dX1_nextChoice_20 : decode cX1_nextChoice 20 = .ok (.goto 4, 3) := dk_167 0 4 (dk_at dksX1_nextChoice_0 20 rfl rfl)
theorem dX1_nextChoice_23 : decode cX1_nextChoice 23 = .ok (.iconst (-1), 1) := dk_2 (dk_at dksX1_nextChoice_0 23 rfl rfl)
theorem dX1_nextChoice_24 : decode cX1_nextChoice 24 = .ok (.ireturn, 1) := dk_172 (dk_at dksX1_nextChoice_1 0 rfl rfl)
abbrev cX1_rounds : ByteArray := prog_1_method_44_code
def yX1_rounds : MethodName := ⟨RX1, "rounds", "()V"⟩
def dkwX1_rounds_6 : List UInt8 := [21, 6, 46, 79, 42, 89, 180, 1, 167, 4, 96, 181, 1, 167, 132, 6, 1, 167, 255, 223, 177]
abbrev dktX1_rounds_6 : List UInt8 := dkwX1_rounds_6 ++ []
def dkwX1_rounds_5 : List UInt8 := [167, 255, 245, 21, 5, 54, 6, 21, 6, 21, 4, 162, 0, 32, 42, 180, 0, 249, 42, 180, 1, 167, 45]
abbrev dktX1_rounds_5 : List UInt8 := dkwX1_rounds_5 ++ dktX1_rounds_6
def dkwX1_rounds_4 : List UInt8 := [167, 255, 203, 28, 2, 160, 0, 4, 177, 3, 54, 5, 45, 21, 5, 46, 28, 159, 0, 9, 132, 5, 1]
abbrev dktX1_rounds_4 : List UInt8 := dkwX1_rounds_4 ++ dktX1_rounds_5
def dkwX1_rounds_3 : List UInt8 := [180, 0, 241, 28, 182, 1, 170, 54, 5, 21, 5, 154, 0, 7, 2, 167, 0, 8, 21, 5, 184, 1, 148, 61]
abbrev dktX1_rounds_3 : List UInt8 := dkwX1_rounds_3 ++ dktX1_rounds_4
def dkwX1_rounds_2 : List UInt8 := [28, 122, 4, 126, 154, 0, 46, 27, 4, 28, 120, 128, 60, 45, 21, 4, 28, 79, 132, 4, 1, 42, 42]
abbrev dktX1_rounds_2 : List UInt8 := dkwX1_rounds_2 ++ dktX1_rounds_3
def dkwX1_rounds_1 : List UInt8 := [180, 0, 241, 182, 1, 107, 184, 1, 148, 61, 16, 8, 188, 10, 78, 3, 54, 4, 28, 2, 159, 0, 54, 27]
abbrev dktX1_rounds_1 : List UInt8 := dkwX1_rounds_1 ++ dktX1_rounds_2
def dkwX1_rounds_0 : List UInt8 := [42, 3, 181, 1, 167, 3, 60, 42, 180, 0, 241, 182, 1, 107, 154, 0, 7, 2, 167, 0, 13, 42]
abbrev dktX1_rounds_0 : List UInt8 := dkwX1_rounds_0 ++ dktX1_rounds_1
theorem dksX1_rounds_0 : cX1_rounds.data.toList.drop 0 = dktX1_rounds_0 := by decide +kernel
theorem dksX1_rounds_1 : cX1_rounds.data.toList.drop 22 = dktX1_rounds_1 := dk_seg dksX1_rounds_0 22 rfl rfl
theorem dksX1_rounds_2 : cX1_rounds.data.toList.drop 46 = dktX1_rounds_2 := dk_seg dksX1_rounds_1 24 rfl rfl
theorem dksX1_rounds_3 : cX1_rounds.data.toList.drop 69 = dktX1_rounds_3 := dk_seg dksX1_rounds_2 23 rfl rfl
theorem dksX1_rounds_4 : cX1_rounds.data.toList.drop 93 = dktX1_rounds_4 := dk_seg dksX1_rounds_3 24 rfl rfl
theorem dksX1_rounds_5 : cX1_rounds.data.toList.drop 116 = dktX1_rounds_5 := dk_seg dksX1_rounds_4 23 rfl rfl
theorem dksX1_rounds_6 : cX1_rounds.data.toList.drop 139 = dktX1_rounds_6 := dk_seg dksX1_rounds_5 23 rfl rfl
theorem dX1_rounds_0 : decode cX1_rounds 0 = .ok (.aload_n 0, 1) := dk_42 (dk_at dksX1_rounds_0 0 rfl rfl)
theorem dX1_rounds_1 : decode cX1_rounds 1 = .ok (.iconst 0, 1) := dk_3 (dk_at dksX1_rounds_0 1 rfl rfl)
theorem dX1_rounds_2 : decode cX1_rounds 2 = .ok (.putfield 423, 3) := dk_181 1 167 (dk_at dksX1_rounds_0 2 rfl rfl)
theorem dX1_rounds_5 : decode cX1_rounds 5 = .ok (.iconst 0, 1) := dk_3 (dk_at dksX1_rounds_0 5 rfl rfl)
theorem dX1_rounds_6 : decode cX1_rounds 6 = .ok (.istore_n 1, 1) := dk_60 (dk_at dksX1_rounds_0 6 rfl rfl)
theorem dX1_rounds_7 : decode cX1_rounds 7 = .ok (.aload_n 0, 1) := dk_42 (dk_at dksX1_rounds_0 7 rfl rfl)
theorem dX1_rounds_8 : decode cX1_rounds 8 = .ok (.getfield 241, 3) := dk_180 0 241 (dk_at dksX1_rounds_0 8 rfl rfl)
theorem dX1_rounds_11 : decode cX1_rounds 11 = .ok (.invokevirtual 363, 3) := dk_182 1 107 (dk_at dksX1_rounds_0 11 rfl rfl)
theorem dX1_rounds_14 : decode cX1_rounds 14 = .ok (.ifCond .ne 7, 3) := dk_154 0 7 (dk_at dksX1_rounds_0 14 rfl rfl)
theorem dX1_rounds_17 : decode cX1_rounds 17 = .ok (.iconst (-1), 1) := dk_2 (dk_at dksX1_rounds_0 17 rfl rfl)
theorem dX1_rounds_18 : decode cX1_rounds 18 = .ok (.goto 13, 3) := dk_167 0 13 (dk_at dksX1_rounds_0 18 rfl rfl)
theorem dX1_rounds_21 : decode cX1_rounds 21 = .ok (.aload_n 0, 1) := dk_42 (dk_at dksX1_rounds_0 21 rfl rfl)
theorem dX1_rounds_22 : decode cX1_rounds 22 = .ok (.getfield 241, 3) := dk_180 0 241 (dk_at dksX1_rounds_1 0 rfl rfl)
theorem dX1_rounds_25 : decode cX1_rounds 25 = .ok (.invokevirtual 363, 3) := dk_182 1 107 (dk_at dksX1_rounds_1 3 rfl rfl)
theorem dX1_rounds_28 : decode cX1_rounds 28 = .ok (.invokestatic 404, 3) := dk_184 1 148 (dk_at dksX1_rounds_1 6 rfl rfl)
theorem dX1_rounds_31 : decode cX1_rounds 31 = .ok (.istore_n 2, 1) := dk_61 (dk_at dksX1_rounds_1 9 rfl rfl)
theorem dX1_rounds_32 : decode cX1_rounds 32 = .ok (.bipush 8, 2) := dk_16 8 (dk_at dksX1_rounds_1 10 rfl rfl)
theorem dX1_rounds_34 : decode cX1_rounds 34 = .ok (.newarray .int, 2) := dk_188_10 (dk_at dksX1_rounds_1 12 rfl rfl)
theorem dX1_rounds_36 : decode cX1_rounds 36 = .ok (.astore_n 3, 1) := dk_78 (dk_at dksX1_rounds_1 14 rfl rfl)
theorem dX1_rounds_37 : decode cX1_rounds 37 = .ok (.iconst 0, 1) := dk_3 (dk_at dksX1_rounds_1 15 rfl rfl)
theorem dX1_rounds_38 : decode cX1_rounds 38 = .ok (.istore 4, 2) := dk_54 4 (dk_at dksX1_rounds_1 16 rfl rfl)
theorem dX1_rounds_40 : decode cX1_rounds 40 = .ok (.iload_n 2, 1) := dk_28 (dk_at dksX1_rounds_1 18 rfl rfl)
theorem dX1_rounds_41 : decode cX1_rounds 41 = .ok (.iconst (-1), 1) := dk_2 (dk_at dksX1_rounds_1 19 rfl rfl)
theorem dX1_rounds_42 : decode cX1_rounds 42 = .ok (.if_icmp .eq 54, 3) := dk_159 0 54 (dk_at dksX1_rounds_1 20 rfl rfl)
theorem dX1_rounds_45 : decode cX1_rounds 45 = .ok (.iload_n 1, 1) := dk_27 (dk_at dksX1_rounds_1 23 rfl rfl)
theorem dX1_rounds_46 : decode cX1_rounds 46 = .ok (.iload_n 2, 1) := dk_28 (dk_at dksX1_rounds_2 0 rfl rfl)
theorem dX1_rounds_47 : decode cX1_rounds 47 = .ok (.ishr, 1) := dk_122 (dk_at dksX1_rounds_2 1 rfl rfl)
theorem dX1_rounds_48 : decode cX1_rounds 48 = .ok (.iconst 1, 1) := dk_4 (dk_at dksX1_rounds_2 2 rfl rfl)
theorem dX1_rounds_49 : decode cX1_rounds 49 = .ok (.iand, 1) := dk_126 (dk_at dksX1_rounds_2 3 rfl rfl)
theorem dX1_rounds_50 : decode cX1_rounds 50 = .ok (.ifCond .ne 46, 3) := dk_154 0 46 (dk_at dksX1_rounds_2 4 rfl rfl)
theorem dX1_rounds_53 : decode cX1_rounds 53 = .ok (.iload_n 1, 1) := dk_27 (dk_at dksX1_rounds_2 7 rfl rfl)
theorem dX1_rounds_54 : decode cX1_rounds 54 = .ok (.iconst 1, 1) := dk_4 (dk_at dksX1_rounds_2 8 rfl rfl)
theorem dX1_rounds_55 : decode cX1_rounds 55 = .ok (.iload_n 2, 1) := dk_28 (dk_at dksX1_rounds_2 9 rfl rfl)
theorem dX1_rounds_56 : decode cX1_rounds 56 = .ok (.ishl, 1) := dk_120 (dk_at dksX1_rounds_2 10 rfl rfl)
theorem dX1_rounds_57 : decode cX1_rounds 57 = .ok (.ior, 1) := dk_128 (dk_at dksX1_rounds_2 11 rfl rfl)
theorem dX1_rounds_58 : decode cX1_rounds 58 = .ok (.istore_n 1, 1) := dk_60 (dk_at dksX1_rounds_2 12 rfl rfl)
theorem dX1_rounds_59 : decode cX1_rounds 59 = .ok (.aload_n 3, 1) := dk_45 (dk_at dksX1_rounds_2 13 rfl rfl)
theorem dX1_rounds_60 : decode cX1_rounds 60 = .ok (.iload 4, 2) := dk_21 4 (dk_at dksX1_rounds_2 14 rfl rfl)
theorem dX1_rounds_62 : decode cX1_rounds 62 = .ok (.iload_n 2, 1) := dk_28 (dk_at dksX1_rounds_2 16 rfl rfl)
theorem dX1_rounds_63 : decode cX1_rounds 63 = .ok (.iastore, 1) := dk_79 (dk_at dksX1_rounds_2 17 rfl rfl)
theorem dX1_rounds_64 : decode cX1_rounds 64 = .ok (.iinc 4 1, 3) := dk_132 4 1 (dk_at dksX1_rounds_2 18 rfl rfl)
theorem dX1_rounds_67 : decode cX1_rounds 67 = .ok (.aload_n 0, 1) := dk_42 (dk_at dksX1_rounds_2 21 rfl rfl)
theorem dX1_rounds_68 : decode cX1_rounds 68 = .ok (.aload_n 0, 1) := dk_42 (dk_at dksX1_rounds_2 22 rfl rfl)
theorem dX1_rounds_69 : decode cX1_rounds 69 = .ok (.getfield 241, 3) := dk_180 0 241 (dk_at dksX1_rounds_3 0 rfl rfl)
theorem dX1_rounds_72 : decode cX1_rounds 72 = .ok (.iload_n 2, 1) := dk_28 (dk_at dksX1_rounds_3 3 rfl rfl)
theorem dX1_rounds_73 : decode cX1_rounds 73 = .ok (.invokevirtual 426, 3) := dk_182 1 170 (dk_at dksX1_rounds_3 4 rfl rfl)
theorem dX1_rounds_76 : decode cX1_rounds 76 = .ok (.istore 5, 2) := dk_54 5 (dk_at dksX1_rounds_3 7 rfl rfl)
theorem dX1_rounds_78 : decode cX1_rounds 78 = .ok (.iload 5, 2) := dk_21 5 (dk_at dksX1_rounds_3 9 rfl rfl)
theorem dX1_rounds_80 : decode cX1_rounds 80 = .ok (.ifCond .ne 7, 3) := dk_154 0 7 (dk_at dksX1_rounds_3 11 rfl rfl)
theorem dX1_rounds_83 : decode cX1_rounds 83 = .ok (.iconst (-1), 1) := dk_2 (dk_at dksX1_rounds_3 14 rfl rfl)
theorem dX1_rounds_84 : decode cX1_rounds 84 = .ok (.goto 8, 3) := dk_167 0 8 (dk_at dksX1_rounds_3 15 rfl rfl)
theorem dX1_rounds_87 : decode cX1_rounds 87 = .ok (.iload 5, 2) := dk_21 5 (dk_at dksX1_rounds_3 18 rfl rfl)
theorem dX1_rounds_89 : decode cX1_rounds 89 = .ok (.invokestatic 404, 3) := dk_184 1 148 (dk_at dksX1_rounds_3 20 rfl rfl)
theorem dX1_rounds_92 : decode cX1_rounds 92 = .ok (.istore_n 2, 1) := dk_61 (dk_at dksX1_rounds_3 23 rfl rfl)
theorem dX1_rounds_93 : decode cX1_rounds 93 = .ok (.goto (-53), 3) := dk_167 255 203 (dk_at dksX1_rounds_4 0 rfl rfl)
theorem dX1_rounds_96 : decode cX1_rounds 96 = .ok (.iload_n 2, 1) := dk_28 (dk_at dksX1_rounds_4 3 rfl rfl)
theorem dX1_rounds_97 : decode cX1_rounds 97 = .ok (.iconst (-1), 1) := dk_2 (dk_at dksX1_rounds_4 4 rfl rfl)
theorem dX1_rounds_98 : decode cX1_rounds 98 = .ok (.if_icmp .ne 4, 3) := dk_160 0 4 (dk_at dksX1_rounds_4 5 rfl rfl)
theorem dX1_rounds_101 : decode cX1_rounds 101 = .ok (.return_, 1) := dk_177 (dk_at dksX1_rounds_4 8 rfl rfl)
theorem dX1_rounds_102 : decode cX1_rounds 102 = .ok (.iconst 0, 1) := dk_3 (dk_at dksX1_rounds_4 9 rfl rfl)
theorem dX1_rounds_103 : decode cX1_rounds 103 = .ok (.istore 5, 2) := dk_54 5 (dk_at dksX1_rounds_4 10 rfl rfl)
theorem dX1_rounds_105 : decode cX1_rounds 105 = .ok (.aload_n 3, 1) := dk_45 (dk_at dksX1_rounds_4 12 rfl rfl)
theorem dX1_rounds_106 : decode cX1_rounds 106 = .ok (.iload 5, 2) := dk_21 5 (dk_at dksX1_rounds_4 13 rfl rfl)
theorem dX1_rounds_108 : decode cX1_rounds 108 = .ok (.iaload, 1) := dk_46 (dk_at dksX1_rounds_4 15 rfl rfl)
theorem dX1_rounds_109 : decode cX1_rounds 109 = .ok (.iload_n 2, 1) := dk_28 (dk_at dksX1_rounds_4 16 rfl rfl)
theorem dX1_rounds_110 : decode cX1_rounds 110 = .ok (.if_icmp .eq 9, 3) := dk_159 0 9 (dk_at dksX1_rounds_4 17 rfl rfl)
theorem dX1_rounds_113 : decode cX1_rounds 113 = .ok (.iinc 5 1, 3) := dk_132 5 1 (dk_at dksX1_rounds_4 20 rfl rfl)
theorem dX1_rounds_116 : decode cX1_rounds 116 = .ok (.goto (-11), 3) := dk_167 255 245 (dk_at dksX1_rounds_5 0 rfl rfl)
theorem dX1_rounds_119 : decode cX1_rounds 119 = .ok (.iload 5, 2) := dk_21 5 (dk_at dksX1_rounds_5 3 rfl rfl)
theorem dX1_rounds_121 : decode cX1_rounds 121 = .ok (.istore 6, 2) := dk_54 6 (dk_at dksX1_rounds_5 5 rfl rfl)
theorem dX1_rounds_123 : decode cX1_rounds 123 = .ok (.iload 6, 2) := dk_21 6 (dk_at dksX1_rounds_5 7 rfl rfl)
theorem dX1_rounds_125 : decode cX1_rounds 125 = .ok (.iload 4, 2) := dk_21 4 (dk_at dksX1_rounds_5 9 rfl rfl)
theorem dX1_rounds_127 : decode cX1_rounds 127 = .ok (.if_icmp .ge 32, 3) := dk_162 0 32 (dk_at dksX1_rounds_5 11 rfl rfl)
theorem dX1_rounds_130 : decode cX1_rounds 130 = .ok (.aload_n 0, 1) := dk_42 (dk_at dksX1_rounds_5 14 rfl rfl)
theorem dX1_rounds_131 : decode cX1_rounds 131 = .ok (.getfield 249, 3) := dk_180 0 249 (dk_at dksX1_rounds_5 15 rfl rfl)
theorem dX1_rounds_134 : decode cX1_rounds 134 = .ok (.aload_n 0, 1) := dk_42 (dk_at dksX1_rounds_5 18 rfl rfl)
theorem dX1_rounds_135 : decode cX1_rounds 135 = .ok (.getfield 423, 3) := dk_180 1 167 (dk_at dksX1_rounds_5 19 rfl rfl)
theorem dX1_rounds_138 : decode cX1_rounds 138 = .ok (.aload_n 3, 1) := dk_45 (dk_at dksX1_rounds_5 22 rfl rfl)
theorem dX1_rounds_139 : decode cX1_rounds 139 = .ok (.iload 6, 2) := dk_21 6 (dk_at dksX1_rounds_6 0 rfl rfl)
theorem dX1_rounds_141 : decode cX1_rounds 141 = .ok (.iaload, 1) := dk_46 (dk_at dksX1_rounds_6 2 rfl rfl)
theorem dX1_rounds_142 : decode cX1_rounds 142 = .ok (.iastore, 1) := dk_79 (dk_at dksX1_rounds_6 3 rfl rfl)
theorem dX1_rounds_143 : decode cX1_rounds 143 = .ok (.aload_n 0, 1) := dk_42 (dk_at dksX1_rounds_6 4 rfl rfl)
theorem dX1_rounds_144 : decode cX1_rounds 144 = .ok (.dup, 1) := dk_89 (dk_at dksX1_rounds_6 5 rfl rfl)
theorem dX1_rounds_145 : decode cX1_rounds 145 = .ok (.getfield 423, 3) := dk_180 1 167 (dk_at dksX1_rounds_6 6 rfl rfl)
theorem dX1_rounds_148 : decode cX1_rounds 148 = .ok (.iconst 1, 1) := dk_4 (dk_at dksX1_rounds_6 9 rfl rfl)
theorem dX1_rounds_149 : decode cX1_rounds 149 = .ok (.iadd, 1) := dk_96 (dk_at dksX1_rounds_6 10 rfl rfl)
theorem dX1_rounds_150 : decode cX1_rounds 150 = .ok (.putfield 423, 3) := dk_181 1 167 (dk_at dksX1_rounds_6 11 rfl rfl)
theorem dX1_rounds_153 : decode cX1_rounds 153 = .ok (.iinc 6 1, 3) := dk_132 6 1 (dk_at dksX1_rounds_6 14 rfl rfl)
theorem dX1_rounds_156 : decode cX1_rounds 156 = .ok (.goto (-33), 3) := dk_167 255 223 (dk_at dksX1_rounds_6 17 rfl rfl)
theorem dX1_rounds_159 : decode cX1_rounds 159 = .ok (.return_, 1) := dk_177 (dk_at dksX1_rounds_6 20 rfl rfl)
abbrev cX1_waitsFor : ByteArray := prog_1_method_43_code
def yX1_waitsFor : MethodName := ⟨RX1, "waitsFor", "(LSendHall$Life;I)I"⟩
def dkwX1_waitsFor_6 : List UInt8 := [154, 0, 12, 21, 4, 4, 21, 5, 120, 128, 54, 4, 132, 5, 1, 167, 255, 217, 21, 4, 172]
abbrev dktX1_waitsFor_6 : List UInt8 := dkwX1_waitsFor_6 ++ []
def dkwX1_waitsFor_5 : List UInt8 := [21, 5, 43, 180, 0, 27, 162, 0, 36, 43, 21, 5, 43, 180, 0, 21, 28, 50, 180, 0, 105, 182, 0, 82]
abbrev dktX1_waitsFor_5 : List UInt8 := dkwX1_waitsFor_5 ++ dktX1_waitsFor_6
def dkwX1_waitsFor_4 : List UInt8 := [192, 0, 59, 43, 28, 182, 0, 113, 120, 172, 29, 172, 43, 28, 182, 0, 116, 172, 3, 54, 4, 3, 54, 5]
abbrev dktX1_waitsFor_4 : List UInt8 := dkwX1_waitsFor_4 ++ dktX1_waitsFor_5
def dkwX1_waitsFor_3 : List UInt8 := [4, 43, 180, 0, 21, 28, 50, 192, 0, 73, 43, 28, 182, 0, 75, 120, 172, 4, 43, 180, 0, 21, 28, 50]
abbrev dktX1_waitsFor_3 : List UInt8 := dkwX1_waitsFor_3 ++ dktX1_waitsFor_4
def dkwX1_waitsFor_2 : List UInt8 := [170, 0, 0, 0, 79, 0, 0, 0, 0, 0, 0, 0, 5, 0, 0, 0, 37, 0, 0, 0, 37, 0, 0, 0, 37, 0, 0, 0, 54, 0, 0, 0, 71, 0, 0, 0, 73]
abbrev dktX1_waitsFor_2 : List UInt8 := dkwX1_waitsFor_2 ++ dktX1_waitsFor_3
def dkwX1_waitsFor_1 : List UInt8 := [28, 120, 2, 130, 126, 62, 43, 180, 0, 21, 28, 50, 180, 0, 105]
abbrev dktX1_waitsFor_1 : List UInt8 := dkwX1_waitsFor_1 ++ dktX1_waitsFor_2
def dkwX1_waitsFor_0 : List UInt8 := [43, 28, 182, 0, 101, 154, 0, 12, 43, 180, 0, 33, 28, 51, 153, 0, 5, 3, 172, 43, 182, 1, 107, 4]
abbrev dktX1_waitsFor_0 : List UInt8 := dkwX1_waitsFor_0 ++ dktX1_waitsFor_1
theorem dksX1_waitsFor_0 : cX1_waitsFor.data.toList.drop 0 = dktX1_waitsFor_0 := by decide +kernel
theorem dksX1_waitsFor_1 : cX1_waitsFor.data.toList.drop 24 = dktX1_waitsFor_1 := dk_seg dksX1_waitsFor_0 24 rfl rfl
theorem dksX1_waitsFor_2 : cX1_waitsFor.data.toList.drop 39 = dktX1_waitsFor_2 := dk_seg dksX1_waitsFor_1 15 rfl rfl
theorem dksX1_waitsFor_3 : cX1_waitsFor.data.toList.drop 76 = dktX1_waitsFor_3 := dk_seg dksX1_waitsFor_2 37 rfl rfl
theorem dksX1_waitsFor_4 : cX1_waitsFor.data.toList.drop 100 = dktX1_waitsFor_4 := dk_seg dksX1_waitsFor_3 24 rfl rfl
theorem dksX1_waitsFor_5 : cX1_waitsFor.data.toList.drop 124 = dktX1_waitsFor_5 := dk_seg dksX1_waitsFor_4 24 rfl rfl
theorem dksX1_waitsFor_6 : cX1_waitsFor.data.toList.drop 148 = dktX1_waitsFor_6 := dk_seg dksX1_waitsFor_5 24 rfl rfl
theorem dX1_waitsFor_0 : decode cX1_waitsFor 0 = .ok (.aload_n 1, 1) := dk_43 (dk_at dksX1_waitsFor_0 0 rfl rfl)
theorem dX1_waitsFor_1 : decode cX1_waitsFor 1 = .ok (.iload_n 2, 1) := dk_28 (dk_at dksX1_waitsFor_0 1 rfl rfl)
theorem dX1_waitsFor_2 : decode cX1_waitsFor 2 = .ok (.invokevirtual 101, 3) := dk_182 0 101 (dk_at dksX1_waitsFor_0 2 rfl rfl)
theorem dX1_waitsFor_5 : decode cX1_waitsFor 5 = .ok (.ifCond .ne 12, 3) := dk_154 0 12 (dk_at dksX1_waitsFor_0 5 rfl rfl)
theorem dX1_waitsFor_8 : decode cX1_waitsFor 8 = .ok (.aload_n 1, 1) := dk_43 (dk_at dksX1_waitsFor_0 8 rfl rfl)
theorem dX1_waitsFor_9 : decode cX1_waitsFor 9 = .ok (.getfield 33, 3) := dk_180 0 33 (dk_at dksX1_waitsFor_0 9 rfl rfl)
theorem dX1_waitsFor_12 : decode cX1_waitsFor 12 = .ok (.iload_n 2, 1) := dk_28 (dk_at dksX1_waitsFor_0 12 rfl rfl)
theorem dX1_waitsFor_13 : decode cX1_waitsFor 13 = .ok (.baload, 1) := dk_51 (dk_at dksX1_waitsFor_0 13 rfl rfl)
theorem dX1_waitsFor_14 : decode cX1_waitsFor 14 = .ok (.ifCond .eq 5, 3) := dk_153 0 5 (dk_at dksX1_waitsFor_0 14 rfl rfl)
theorem dX1_waitsFor_17 : decode cX1_waitsFor 17 = .ok (.iconst 0, 1) := dk_3 (dk_at dksX1_waitsFor_0 17 rfl rfl)
theorem dX1_waitsFor_18 : decode cX1_waitsFor 18 = .ok (.ireturn, 1) := dk_172 (dk_at dksX1_waitsFor_0 18 rfl rfl)
theorem dX1_waitsFor_19 : decode cX1_waitsFor 19 = .ok (.aload_n 1, 1) := dk_43 (dk_at dksX1_waitsFor_0 19 rfl rfl)
theorem dX1_waitsFor_20 : decode cX1_waitsFor 20 = .ok (.invokevirtual 363, 3) := dk_182 1 107 (dk_at dksX1_waitsFor_0 20 rfl rfl)
theorem dX1_waitsFor_23 : decode cX1_waitsFor 23 = .ok (.iconst 1, 1) := dk_4 (dk_at dksX1_waitsFor_0 23 rfl rfl)
theorem dX1_waitsFor_24 : decode cX1_waitsFor 24 = .ok (.iload_n 2, 1) := dk_28 (dk_at dksX1_waitsFor_1 0 rfl rfl)
theorem dX1_waitsFor_25 : decode cX1_waitsFor 25 = .ok (.ishl, 1) := dk_120 (dk_at dksX1_waitsFor_1 1 rfl rfl)
theorem dX1_waitsFor_26 : decode cX1_waitsFor 26 = .ok (.iconst (-1), 1) := dk_2 (dk_at dksX1_waitsFor_1 2 rfl rfl)
theorem dX1_waitsFor_27 : decode cX1_waitsFor 27 = .ok (.ixor, 1) := dk_130 (dk_at dksX1_waitsFor_1 3 rfl rfl)
theorem dX1_waitsFor_28 : decode cX1_waitsFor 28 = .ok (.iand, 1) := dk_126 (dk_at dksX1_waitsFor_1 4 rfl rfl)
theorem dX1_waitsFor_29 : decode cX1_waitsFor 29 = .ok (.istore_n 3, 1) := dk_62 (dk_at dksX1_waitsFor_1 5 rfl rfl)
theorem dX1_waitsFor_30 : decode cX1_waitsFor 30 = .ok (.aload_n 1, 1) := dk_43 (dk_at dksX1_waitsFor_1 6 rfl rfl)
theorem dX1_waitsFor_31 : decode cX1_waitsFor 31 = .ok (.getfield 21, 3) := dk_180 0 21 (dk_at dksX1_waitsFor_1 7 rfl rfl)
theorem dX1_waitsFor_34 : decode cX1_waitsFor 34 = .ok (.iload_n 2, 1) := dk_28 (dk_at dksX1_waitsFor_1 10 rfl rfl)
theorem dX1_waitsFor_35 : decode cX1_waitsFor 35 = .ok (.aaload, 1) := dk_50 (dk_at dksX1_waitsFor_1 11 rfl rfl)
theorem dX1_waitsFor_36 : decode cX1_waitsFor 36 = .ok (.getfield 105, 3) := dk_180 0 105 (dk_at dksX1_waitsFor_1 12 rfl rfl)
theorem dX1_waitsFor_39 : decode cX1_waitsFor 39 = .ok (.tableswitch 79 0 5 #[37, 37, 37, 54, 71, 73], 37) := by decide +kernel
theorem dX1_waitsFor_76 : decode cX1_waitsFor 76 = .ok (.iconst 1, 1) := dk_4 (dk_at dksX1_waitsFor_3 0 rfl rfl)
theorem dX1_waitsFor_77 : decode cX1_waitsFor 77 = .ok (.aload_n 1, 1) := dk_43 (dk_at dksX1_waitsFor_3 1 rfl rfl)
theorem dX1_waitsFor_78 : decode cX1_waitsFor 78 = .ok (.getfield 21, 3) := dk_180 0 21 (dk_at dksX1_waitsFor_3 2 rfl rfl)
theorem dX1_waitsFor_81 : decode cX1_waitsFor 81 = .ok (.iload_n 2, 1) := dk_28 (dk_at dksX1_waitsFor_3 5 rfl rfl)
theorem dX1_waitsFor_82 : decode cX1_waitsFor 82 = .ok (.aaload, 1) := dk_50 (dk_at dksX1_waitsFor_3 6 rfl rfl)
theorem dX1_waitsFor_83 : decode cX1_waitsFor 83 = .ok (.checkcast 73, 3) := dk_192 0 73 (dk_at dksX1_waitsFor_3 7 rfl rfl)
theorem dX1_waitsFor_86 : decode cX1_waitsFor 86 = .ok (.aload_n 1, 1) := dk_43 (dk_at dksX1_waitsFor_3 10 rfl rfl)
theorem dX1_waitsFor_87 : decode cX1_waitsFor 87 = .ok (.iload_n 2, 1) := dk_28 (dk_at dksX1_waitsFor_3 11 rfl rfl)
theorem dX1_waitsFor_88 : decode cX1_waitsFor 88 = .ok (.invokevirtual 75, 3) := dk_182 0 75 (dk_at dksX1_waitsFor_3 12 rfl rfl)
theorem dX1_waitsFor_91 : decode cX1_waitsFor 91 = .ok (.ishl, 1) := dk_120 (dk_at dksX1_waitsFor_3 15 rfl rfl)
theorem dX1_waitsFor_92 : decode cX1_waitsFor 92 = .ok (.ireturn, 1) := dk_172 (dk_at dksX1_waitsFor_3 16 rfl rfl)
theorem dX1_waitsFor_93 : decode cX1_waitsFor 93 = .ok (.iconst 1, 1) := dk_4 (dk_at dksX1_waitsFor_3 17 rfl rfl)
theorem dX1_waitsFor_94 : decode cX1_waitsFor 94 = .ok (.aload_n 1, 1) := dk_43 (dk_at dksX1_waitsFor_3 18 rfl rfl)
theorem dX1_waitsFor_95 : decode cX1_waitsFor 95 = .ok (.getfield 21, 3) := dk_180 0 21 (dk_at dksX1_waitsFor_3 19 rfl rfl)
theorem dX1_waitsFor_98 : decode cX1_waitsFor 98 = .ok (.iload_n 2, 1) := dk_28 (dk_at dksX1_waitsFor_3 22 rfl rfl)
theorem dX1_waitsFor_99 : decode cX1_waitsFor 99 = .ok (.aaload, 1) := dk_50 (dk_at dksX1_waitsFor_3 23 rfl rfl)
theorem dX1_waitsFor_100 : decode cX1_waitsFor 100 = .ok (.checkcast 59, 3) := dk_192 0 59 (dk_at dksX1_waitsFor_4 0 rfl rfl)
theorem dX1_waitsFor_103 : decode cX1_waitsFor 103 = .ok (.aload_n 1, 1) := dk_43 (dk_at dksX1_waitsFor_4 3 rfl rfl)
theorem dX1_waitsFor_104 : decode cX1_waitsFor 104 = .ok (.iload_n 2, 1) := dk_28 (dk_at dksX1_waitsFor_4 4 rfl rfl)
theorem dX1_waitsFor_105 : decode cX1_waitsFor 105 = .ok (.invokevirtual 113, 3) := dk_182 0 113 (dk_at dksX1_waitsFor_4 5 rfl rfl)
theorem dX1_waitsFor_108 : decode cX1_waitsFor 108 = .ok (.ishl, 1) := dk_120 (dk_at dksX1_waitsFor_4 8 rfl rfl)
theorem dX1_waitsFor_109 : decode cX1_waitsFor 109 = .ok (.ireturn, 1) := dk_172 (dk_at dksX1_waitsFor_4 9 rfl rfl)
theorem dX1_waitsFor_110 : decode cX1_waitsFor 110 = .ok (.iload_n 3, 1) := dk_29 (dk_at dksX1_waitsFor_4 10 rfl rfl)
theorem dX1_waitsFor_111 : decode cX1_waitsFor 111 = .ok (.ireturn, 1) := dk_172 (dk_at dksX1_waitsFor_4 11 rfl rfl)
theorem dX1_waitsFor_112 : decode cX1_waitsFor 112 = .ok (.aload_n 1, 1) := dk_43 (dk_at dksX1_waitsFor_4 12 rfl rfl)
theorem dX1_waitsFor_113 : decode cX1_waitsFor 113 = .ok (.iload_n 2, 1) := dk_28 (dk_at dksX1_waitsFor_4 13 rfl rfl)
theorem dX1_waitsFor_114 : decode cX1_waitsFor 114 = .ok (.invokevirtual 116, 3) := dk_182 0 116 (dk_at dksX1_waitsFor_4 14 rfl rfl)
theorem dX1_waitsFor_117 : decode cX1_waitsFor 117 = .ok (.ireturn, 1) := dk_172 (dk_at dksX1_waitsFor_4 17 rfl rfl)
theorem dX1_waitsFor_118 : decode cX1_waitsFor 118 = .ok (.iconst 0, 1) := dk_3 (dk_at dksX1_waitsFor_4 18 rfl rfl)
theorem dX1_waitsFor_119 : decode cX1_waitsFor 119 = .ok (.istore 4, 2) := dk_54 4 (dk_at dksX1_waitsFor_4 19 rfl rfl)
theorem dX1_waitsFor_121 : decode cX1_waitsFor 121 = .ok (.iconst 0, 1) := dk_3 (dk_at dksX1_waitsFor_4 21 rfl rfl)
theorem dX1_waitsFor_122 : decode cX1_waitsFor 122 = .ok (.istore 5, 2) := dk_54 5 (dk_at dksX1_waitsFor_4 22 rfl rfl)
theorem dX1_waitsFor_124 : decode cX1_waitsFor 124 = .ok (.iload 5, 2) := dk_21 5 (dk_at dksX1_waitsFor_5 0 rfl rfl)
theorem dX1_waitsFor_126 : decode cX1_waitsFor 126 = .ok (.aload_n 1, 1) := dk_43 (dk_at dksX1_waitsFor_5 2 rfl rfl)
theorem dX1_waitsFor_127 : decode cX1_waitsFor 127 = .ok (.getfield 27, 3) := dk_180 0 27 (dk_at dksX1_waitsFor_5 3 rfl rfl)
theorem dX1_waitsFor_130 : decode cX1_waitsFor 130 = .ok (.if_icmp .ge 36, 3) := dk_162 0 36 (dk_at dksX1_waitsFor_5 6 rfl rfl)
theorem dX1_waitsFor_133 : decode cX1_waitsFor 133 = .ok (.aload_n 1, 1) := dk_43 (dk_at dksX1_waitsFor_5 9 rfl rfl)
theorem dX1_waitsFor_134 : decode cX1_waitsFor 134 = .ok (.iload 5, 2) := dk_21 5 (dk_at dksX1_waitsFor_5 10 rfl rfl)
theorem dX1_waitsFor_136 : decode cX1_waitsFor 136 = .ok (.aload_n 1, 1) := dk_43 (dk_at dksX1_waitsFor_5 12 rfl rfl)
theorem dX1_waitsFor_137 : decode cX1_waitsFor 137 = .ok (.getfield 21, 3) := dk_180 0 21 (dk_at dksX1_waitsFor_5 13 rfl rfl)
theorem dX1_waitsFor_140 : decode cX1_waitsFor 140 = .ok (.iload_n 2, 1) := dk_28 (dk_at dksX1_waitsFor_5 16 rfl rfl)
theorem dX1_waitsFor_141 : decode cX1_waitsFor 141 = .ok (.aaload, 1) := dk_50 (dk_at dksX1_waitsFor_5 17 rfl rfl)
theorem dX1_waitsFor_142 : decode cX1_waitsFor 142 = .ok (.getfield 105, 3) := dk_180 0 105 (dk_at dksX1_waitsFor_5 18 rfl rfl)
theorem dX1_waitsFor_145 : decode cX1_waitsFor 145 = .ok (.invokevirtual 82, 3) := dk_182 0 82 (dk_at dksX1_waitsFor_5 21 rfl rfl)
theorem dX1_waitsFor_148 : decode cX1_waitsFor 148 = .ok (.ifCond .ne 12, 3) := dk_154 0 12 (dk_at dksX1_waitsFor_6 0 rfl rfl)
theorem dX1_waitsFor_151 : decode cX1_waitsFor 151 = .ok (.iload 4, 2) := dk_21 4 (dk_at dksX1_waitsFor_6 3 rfl rfl)
theorem dX1_waitsFor_153 : decode cX1_waitsFor 153 = .ok (.iconst 1, 1) := dk_4 (dk_at dksX1_waitsFor_6 5 rfl rfl)
theorem dX1_waitsFor_154 : decode cX1_waitsFor 154 = .ok (.iload 5, 2) := dk_21 5 (dk_at dksX1_waitsFor_6 6 rfl rfl)
theorem dX1_waitsFor_156 : decode cX1_waitsFor 156 = .ok (.ishl, 1) := dk_120 (dk_at dksX1_waitsFor_6 8 rfl rfl)
theorem dX1_waitsFor_157 : decode cX1_waitsFor 157 = .ok (.ior, 1) := dk_128 (dk_at dksX1_waitsFor_6 9 rfl rfl)
theorem dX1_waitsFor_158 : decode cX1_waitsFor 158 = .ok (.istore 4, 2) := dk_54 4 (dk_at dksX1_waitsFor_6 10 rfl rfl)
theorem dX1_waitsFor_160 : decode cX1_waitsFor 160 = .ok (.iinc 5 1, 3) := dk_132 5 1 (dk_at dksX1_waitsFor_6 12 rfl rfl)
theorem dX1_waitsFor_163 : decode cX1_waitsFor 163 = .ok (.goto (-39), 3) := dk_167 255 217 (dk_at dksX1_waitsFor_6 15 rfl rfl)
theorem dX1_waitsFor_166 : decode cX1_waitsFor 166 = .ok (.iload 4, 2) := dk_21 4 (dk_at dksX1_waitsFor_6 18 rfl rfl)
theorem dX1_waitsFor_168 : decode cX1_waitsFor 168 = .ok (.ireturn, 1) := dk_172 (dk_at dksX1_waitsFor_6 20 rfl rfl)
abbrev cX1_of : ByteArray := prog_1_method_45_code
def yX1_of : MethodName := ⟨RX1, "of", "(II)I"⟩
def dkwX1_of_8 : List UInt8 := [180, 0, 241, 180, 0, 43, 7, 27, 104, 28, 96, 16, 8, 100, 46, 172]
abbrev dktX1_of_8 : List UInt8 := dkwX1_of_8 ++ []
def dkwX1_of_7 : List UInt8 := [182, 1, 170, 172, 42, 180, 0, 241, 180, 0, 33, 27, 51, 153, 0, 7, 4, 167, 0, 4, 3, 172, 42]
abbrev dktX1_of_7 : List UInt8 := dkwX1_of_7 ++ dktX1_of_8
def dkwX1_of_6 : List UInt8 := [180, 0, 40, 27, 46, 172, 42, 180, 0, 241, 180, 0, 36, 27, 46, 172, 42, 42, 180, 0, 241, 27]
abbrev dktX1_of_6 : List UInt8 := dkwX1_of_6 ++ dktX1_of_7
def dkwX1_of_5 : List UInt8 := [153, 0, 7, 2, 167, 0, 15, 42, 180, 0, 241, 180, 0, 21, 27, 50, 180, 0, 7, 172, 42, 180, 0, 241]
abbrev dktX1_of_5 : List UInt8 := dkwX1_of_5 ++ dktX1_of_6
def dkwX1_of_4 : List UInt8 := [42, 180, 0, 252, 27, 46, 172, 42, 180, 0, 255, 27, 46, 172, 42, 180, 0, 241, 27, 182, 0, 101]
abbrev dktX1_of_4 : List UInt8 := dkwX1_of_4 ++ dktX1_of_5
def dkwX1_of_3 : List UInt8 := [170, 0, 0, 0, 0, 0, 133, 0, 0, 0, 0, 0, 0, 0, 6, 0, 0, 0, 43, 0, 0, 0, 50, 0, 0, 0, 57, 0, 0, 0, 85, 0, 0, 0, 95, 0, 0, 0, 105, 0, 0, 0, 115]
abbrev dktX1_of_3 : List UInt8 := dkwX1_of_3 ++ dktX1_of_4
def dkwX1_of_2 : List UInt8 := [184, 1, 50, 28]
abbrev dktX1_of_2 : List UInt8 := dkwX1_of_2 ++ dktX1_of_3
def dkwX1_of_1 : List UInt8 := [16, 8, 16, 11, 184, 1, 43, 153, 0, 14, 42, 180, 1, 34, 153, 0, 7, 4, 167, 0, 4, 3]
abbrev dktX1_of_1 : List UInt8 := dkwX1_of_1 ++ dktX1_of_2
def dkwX1_of_0 : List UInt8 := [27, 155, 0, 43, 27, 42, 180, 0, 216, 162, 0, 35, 28, 3, 16, 6, 184, 1, 43, 154, 0, 14, 28]
abbrev dktX1_of_0 : List UInt8 := dkwX1_of_0 ++ dktX1_of_1
theorem dksX1_of_0 : cX1_of.data.toList.drop 0 = dktX1_of_0 := by decide +kernel
theorem dksX1_of_1 : cX1_of.data.toList.drop 23 = dktX1_of_1 := dk_seg dksX1_of_0 23 rfl rfl
theorem dksX1_of_2 : cX1_of.data.toList.drop 45 = dktX1_of_2 := dk_seg dksX1_of_1 22 rfl rfl
theorem dksX1_of_3 : cX1_of.data.toList.drop 49 = dktX1_of_3 := dk_seg dksX1_of_2 4 rfl rfl
theorem dksX1_of_4 : cX1_of.data.toList.drop 92 = dktX1_of_4 := dk_seg dksX1_of_3 43 rfl rfl
theorem dksX1_of_5 : cX1_of.data.toList.drop 114 = dktX1_of_5 := dk_seg dksX1_of_4 22 rfl rfl
theorem dksX1_of_6 : cX1_of.data.toList.drop 138 = dktX1_of_6 := dk_seg dksX1_of_5 24 rfl rfl
theorem dksX1_of_7 : cX1_of.data.toList.drop 160 = dktX1_of_7 := dk_seg dksX1_of_6 22 rfl rfl
theorem dksX1_of_8 : cX1_of.data.toList.drop 183 = dktX1_of_8 := dk_seg dksX1_of_7 23 rfl rfl
theorem dX1_of_0 : decode cX1_of 0 = .ok (.iload_n 1, 1) := dk_27 (dk_at dksX1_of_0 0 rfl rfl)
theorem dX1_of_1 : decode cX1_of 1 = .ok (.ifCond .lt 43, 3) := dk_155 0 43 (dk_at dksX1_of_0 1 rfl rfl)
theorem dX1_of_4 : decode cX1_of 4 = .ok (.iload_n 1, 1) := dk_27 (dk_at dksX1_of_0 4 rfl rfl)
theorem dX1_of_5 : decode cX1_of 5 = .ok (.aload_n 0, 1) := dk_42 (dk_at dksX1_of_0 5 rfl rfl)
theorem dX1_of_6 : decode cX1_of 6 = .ok (.getfield 216, 3) := dk_180 0 216 (dk_at dksX1_of_0 6 rfl rfl)
theorem dX1_of_9 : decode cX1_of 9 = .ok (.if_icmp .ge 35, 3) := dk_162 0 35 (dk_at dksX1_of_0 9 rfl rfl)
theorem dX1_of_12 : decode cX1_of 12 = .ok (.iload_n 2, 1) := dk_28 (dk_at dksX1_of_0 12 rfl rfl)
theorem dX1_of_13 : decode cX1_of 13 = .ok (.iconst 0, 1) := dk_3 (dk_at dksX1_of_0 13 rfl rfl)
theorem dX1_of_14 : decode cX1_of 14 = .ok (.bipush 6, 2) := dk_16 6 (dk_at dksX1_of_0 14 rfl rfl)
theorem dX1_of_16 : decode cX1_of 16 = .ok (.invokestatic 299, 3) := dk_184 1 43 (dk_at dksX1_of_0 16 rfl rfl)
theorem dX1_of_19 : decode cX1_of 19 = .ok (.ifCond .ne 14, 3) := dk_154 0 14 (dk_at dksX1_of_0 19 rfl rfl)
theorem dX1_of_22 : decode cX1_of 22 = .ok (.iload_n 2, 1) := dk_28 (dk_at dksX1_of_0 22 rfl rfl)
theorem dX1_of_23 : decode cX1_of 23 = .ok (.bipush 8, 2) := dk_16 8 (dk_at dksX1_of_1 0 rfl rfl)
theorem dX1_of_25 : decode cX1_of 25 = .ok (.bipush 11, 2) := dk_16 11 (dk_at dksX1_of_1 2 rfl rfl)
theorem dX1_of_27 : decode cX1_of 27 = .ok (.invokestatic 299, 3) := dk_184 1 43 (dk_at dksX1_of_1 4 rfl rfl)
theorem dX1_of_30 : decode cX1_of 30 = .ok (.ifCond .eq 14, 3) := dk_153 0 14 (dk_at dksX1_of_1 7 rfl rfl)
theorem dX1_of_33 : decode cX1_of 33 = .ok (.aload_n 0, 1) := dk_42 (dk_at dksX1_of_1 10 rfl rfl)
theorem dX1_of_34 : decode cX1_of 34 = .ok (.getfield 290, 3) := dk_180 1 34 (dk_at dksX1_of_1 11 rfl rfl)
theorem dX1_of_37 : decode cX1_of 37 = .ok (.ifCond .eq 7, 3) := dk_153 0 7 (dk_at dksX1_of_1 14 rfl rfl)
theorem dX1_of_40 : decode cX1_of 40 = .ok (.iconst 1, 1) := dk_4 (dk_at dksX1_of_1 17 rfl rfl)
theorem dX1_of_41 : decode cX1_of 41 = .ok (.goto 4, 3) := dk_167 0 4 (dk_at dksX1_of_1 18 rfl rfl)
theorem dX1_of_44 : decode cX1_of 44 = .ok (.iconst 0, 1) := dk_3 (dk_at dksX1_of_1 21 rfl rfl)
theorem dX1_of_45 : decode cX1_of 45 = .ok (.invokestatic 306, 3) := dk_184 1 50 (dk_at dksX1_of_2 0 rfl rfl)
theorem dX1_of_48 : decode cX1_of 48 = .ok (.iload_n 2, 1) := dk_28 (dk_at dksX1_of_2 3 rfl rfl)
theorem dX1_of_49 : decode cX1_of 49 = .ok (.tableswitch 133 0 6 #[43, 50, 57, 85, 95, 105, 115], 43) := by decide +kernel
theorem dX1_of_92 : decode cX1_of 92 = .ok (.aload_n 0, 1) := dk_42 (dk_at dksX1_of_4 0 rfl rfl)
theorem dX1_of_93 : decode cX1_of 93 = .ok (.getfield 252, 3) := dk_180 0 252 (dk_at dksX1_of_4 1 rfl rfl)
theorem dX1_of_96 : decode cX1_of 96 = .ok (.iload_n 1, 1) := dk_27 (dk_at dksX1_of_4 4 rfl rfl)
theorem dX1_of_97 : decode cX1_of 97 = .ok (.iaload, 1) := dk_46 (dk_at dksX1_of_4 5 rfl rfl)
theorem dX1_of_98 : decode cX1_of 98 = .ok (.ireturn, 1) := dk_172 (dk_at dksX1_of_4 6 rfl rfl)
theorem dX1_of_99 : decode cX1_of 99 = .ok (.aload_n 0, 1) := dk_42 (dk_at dksX1_of_4 7 rfl rfl)
theorem dX1_of_100 : decode cX1_of 100 = .ok (.getfield 255, 3) := dk_180 0 255 (dk_at dksX1_of_4 8 rfl rfl)
theorem dX1_of_103 : decode cX1_of 103 = .ok (.iload_n 1, 1) := dk_27 (dk_at dksX1_of_4 11 rfl rfl)
theorem dX1_of_104 : decode cX1_of 104 = .ok (.iaload, 1) := dk_46 (dk_at dksX1_of_4 12 rfl rfl)
theorem dX1_of_105 : decode cX1_of 105 = .ok (.ireturn, 1) := dk_172 (dk_at dksX1_of_4 13 rfl rfl)
theorem dX1_of_106 : decode cX1_of 106 = .ok (.aload_n 0, 1) := dk_42 (dk_at dksX1_of_4 14 rfl rfl)
theorem dX1_of_107 : decode cX1_of 107 = .ok (.getfield 241, 3) := dk_180 0 241 (dk_at dksX1_of_4 15 rfl rfl)
theorem dX1_of_110 : decode cX1_of 110 = .ok (.iload_n 1, 1) := dk_27 (dk_at dksX1_of_4 18 rfl rfl)
theorem dX1_of_111 : decode cX1_of 111 = .ok (.invokevirtual 101, 3) := dk_182 0 101 (dk_at dksX1_of_4 19 rfl rfl)
theorem dX1_of_114 : decode cX1_of 114 = .ok (.ifCond .eq 7, 3) := dk_153 0 7 (dk_at dksX1_of_5 0 rfl rfl)
theorem dX1_of_117 : decode cX1_of 117 = .ok (.iconst (-1), 1) := dk_2 (dk_at dksX1_of_5 3 rfl rfl)
theorem dX1_of_118 : decode cX1_of 118 = .ok (.goto 15, 3) := dk_167 0 15 (dk_at dksX1_of_5 4 rfl rfl)
theorem dX1_of_121 : decode cX1_of 121 = .ok (.aload_n 0, 1) := dk_42 (dk_at dksX1_of_5 7 rfl rfl)
theorem dX1_of_122 : decode cX1_of 122 = .ok (.getfield 241, 3) := dk_180 0 241 (dk_at dksX1_of_5 8 rfl rfl)
theorem dX1_of_125 : decode cX1_of 125 = .ok (.getfield 21, 3) := dk_180 0 21 (dk_at dksX1_of_5 11 rfl rfl)
theorem dX1_of_128 : decode cX1_of 128 = .ok (.iload_n 1, 1) := dk_27 (dk_at dksX1_of_5 14 rfl rfl)
theorem dX1_of_129 : decode cX1_of 129 = .ok (.aaload, 1) := dk_50 (dk_at dksX1_of_5 15 rfl rfl)
theorem dX1_of_130 : decode cX1_of 130 = .ok (.getfield 7, 3) := dk_180 0 7 (dk_at dksX1_of_5 16 rfl rfl)
theorem dX1_of_133 : decode cX1_of 133 = .ok (.ireturn, 1) := dk_172 (dk_at dksX1_of_5 19 rfl rfl)
theorem dX1_of_134 : decode cX1_of 134 = .ok (.aload_n 0, 1) := dk_42 (dk_at dksX1_of_5 20 rfl rfl)
theorem dX1_of_135 : decode cX1_of 135 = .ok (.getfield 241, 3) := dk_180 0 241 (dk_at dksX1_of_5 21 rfl rfl)
theorem dX1_of_138 : decode cX1_of 138 = .ok (.getfield 40, 3) := dk_180 0 40 (dk_at dksX1_of_6 0 rfl rfl)
theorem dX1_of_141 : decode cX1_of 141 = .ok (.iload_n 1, 1) := dk_27 (dk_at dksX1_of_6 3 rfl rfl)
theorem dX1_of_142 : decode cX1_of 142 = .ok (.iaload, 1) := dk_46 (dk_at dksX1_of_6 4 rfl rfl)
theorem dX1_of_143 : decode cX1_of 143 = .ok (.ireturn, 1) := dk_172 (dk_at dksX1_of_6 5 rfl rfl)
theorem dX1_of_144 : decode cX1_of 144 = .ok (.aload_n 0, 1) := dk_42 (dk_at dksX1_of_6 6 rfl rfl)
theorem dX1_of_145 : decode cX1_of 145 = .ok (.getfield 241, 3) := dk_180 0 241 (dk_at dksX1_of_6 7 rfl rfl)
theorem dX1_of_148 : decode cX1_of 148 = .ok (.getfield 36, 3) := dk_180 0 36 (dk_at dksX1_of_6 10 rfl rfl)
theorem dX1_of_151 : decode cX1_of 151 = .ok (.iload_n 1, 1) := dk_27 (dk_at dksX1_of_6 13 rfl rfl)
theorem dX1_of_152 : decode cX1_of 152 = .ok (.iaload, 1) := dk_46 (dk_at dksX1_of_6 14 rfl rfl)
theorem dX1_of_153 : decode cX1_of 153 = .ok (.ireturn, 1) := dk_172 (dk_at dksX1_of_6 15 rfl rfl)
theorem dX1_of_154 : decode cX1_of 154 = .ok (.aload_n 0, 1) := dk_42 (dk_at dksX1_of_6 16 rfl rfl)
theorem dX1_of_155 : decode cX1_of 155 = .ok (.aload_n 0, 1) := dk_42 (dk_at dksX1_of_6 17 rfl rfl)
theorem dX1_of_156 : decode cX1_of 156 = .ok (.getfield 241, 3) := dk_180 0 241 (dk_at dksX1_of_6 18 rfl rfl)
theorem dX1_of_159 : decode cX1_of 159 = .ok (.iload_n 1, 1) := dk_27 (dk_at dksX1_of_6 21 rfl rfl)
theorem dX1_of_160 : decode cX1_of 160 = .ok (.invokevirtual 426, 3) := dk_182 1 170 (dk_at dksX1_of_7 0 rfl rfl)
theorem dX1_of_163 : decode cX1_of 163 = .ok (.ireturn, 1) := dk_172 (dk_at dksX1_of_7 3 rfl rfl)
theorem dX1_of_164 : decode cX1_of 164 = .ok (.aload_n 0, 1) := dk_42 (dk_at dksX1_of_7 4 rfl rfl)
theorem dX1_of_165 : decode cX1_of 165 = .ok (.getfield 241, 3) := dk_180 0 241 (dk_at dksX1_of_7 5 rfl rfl)
theorem dX1_of_168 : decode cX1_of 168 = .ok (.getfield 33, 3) := dk_180 0 33 (dk_at dksX1_of_7 8 rfl rfl)
theorem dX1_of_171 : decode cX1_of 171 = .ok (.iload_n 1, 1) := dk_27 (dk_at dksX1_of_7 11 rfl rfl)
theorem dX1_of_172 : decode cX1_of 172 = .ok (.baload, 1) := dk_51 (dk_at dksX1_of_7 12 rfl rfl)
theorem dX1_of_173 : decode cX1_of 173 = .ok (.ifCond .eq 7, 3) := dk_153 0 7 (dk_at dksX1_of_7 13 rfl rfl)
theorem dX1_of_176 : decode cX1_of 176 = .ok (.iconst 1, 1) := dk_4 (dk_at dksX1_of_7 16 rfl rfl)
theorem dX1_of_177 : decode cX1_of 177 = .ok (.goto 4, 3) := dk_167 0 4 (dk_at dksX1_of_7 17 rfl rfl)
theorem dX1_of_180 : decode cX1_of 180 = .ok (.iconst 0, 1) := dk_3 (dk_at dksX1_of_7 20 rfl rfl)
theorem dX1_of_181 : decode cX1_of 181 = .ok (.ireturn, 1) := dk_172 (dk_at dksX1_of_7 21 rfl rfl)
theorem dX1_of_182 : decode cX1_of 182 = .ok (.aload_n 0, 1) := dk_42 (dk_at dksX1_of_7 22 rfl rfl)
theorem dX1_of_183 : decode cX1_of 183 = .ok (.getfield 241, 3) := dk_180 0 241 (dk_at dksX1_of_8 0 rfl rfl)
theorem dX1_of_186 : decode cX1_of 186 = .ok (.getfield 43, 3) := dk_180 0 43 (dk_at dksX1_of_8 3 rfl rfl)
theorem dX1_of_189 : decode cX1_of 189 = .ok (.iconst 4, 1) := dk_7 (dk_at dksX1_of_8 6 rfl rfl)
theorem dX1_of_190 : decode cX1_of 190 = .ok (.iload_n 1, 1) := dk_27 (dk_at dksX1_of_8 7 rfl rfl)
theorem dX1_of_191 : decode cX1_of 191 = .ok (.imul, 1) := dk_104 (dk_at dksX1_of_8 8 rfl rfl)
theorem dX1_of_192 : decode cX1_of 192 = .ok (.iload_n 2, 1) := dk_28 (dk_at dksX1_of_8 9 rfl rfl)
theorem dX1_of_193 : decode cX1_of 193 = .ok (.iadd, 1) := dk_96 (dk_at dksX1_of_8 10 rfl rfl)
theorem dX1_of_194 : decode cX1_of 194 = .ok (.bipush 8, 2) := dk_16 8 (dk_at dksX1_of_8 11 rfl rfl)
theorem dX1_of_196 : decode cX1_of 196 = .ok (.isub, 1) := dk_100 (dk_at dksX1_of_8 13 rfl rfl)
theorem dX1_of_197 : decode cX1_of 197 = .ok (.iaload, 1) := dk_46 (dk_at dksX1_of_8 14 rfl rfl)
theorem dX1_of_198 : decode cX1_of 198 = .ok (.ireturn, 1) := dk_172 (dk_at dksX1_of_8 15 rfl rfl)
abbrev cX1_ring : ByteArray := prog_1_method_46_code
def yX1_ring : MethodName := ⟨RX1, "ring", "(I)I"⟩
def dkwX1_ring_1 : List UInt8 := [3, 184, 1, 50, 27, 2, 160, 0, 10, 42, 180, 1, 167, 167, 0, 9, 42, 180, 0, 249, 27, 46, 172]
abbrev dktX1_ring_1 : List UInt8 := dkwX1_ring_1 ++ []
def dkwX1_ring_0 : List UInt8 := [42, 180, 1, 34, 153, 0, 20, 27, 2, 161, 0, 15, 27, 42, 180, 1, 167, 162, 0, 7, 4, 167, 0, 4]
abbrev dktX1_ring_0 : List UInt8 := dkwX1_ring_0 ++ dktX1_ring_1
theorem dksX1_ring_0 : cX1_ring.data.toList.drop 0 = dktX1_ring_0 := by decide +kernel
theorem dksX1_ring_1 : cX1_ring.data.toList.drop 24 = dktX1_ring_1 := dk_seg dksX1_ring_0 24 rfl rfl
theorem dX1_ring_0 : decode cX1_ring 0 = .ok (.aload_n 0, 1) := dk_42 (dk_at dksX1_ring_0 0 rfl rfl)
theorem dX1_ring_1 : decode cX1_ring 1 = .ok (.getfield 290, 3) := dk_180 1 34 (dk_at dksX1_ring_0 1 rfl rfl)
theorem dX1_ring_4 : decode cX1_ring 4 = .ok (.ifCond .eq 20, 3) := dk_153 0 20 (dk_at dksX1_ring_0 4 rfl rfl)
theorem dX1_ring_7 : decode cX1_ring 7 = .ok (.iload_n 1, 1) := dk_27 (dk_at dksX1_ring_0 7 rfl rfl)
theorem dX1_ring_8 : decode cX1_ring 8 = .ok (.iconst (-1), 1) := dk_2 (dk_at dksX1_ring_0 8 rfl rfl)
theorem dX1_ring_9 : decode cX1_ring 9 = .ok (.if_icmp .lt 15, 3) := dk_161 0 15 (dk_at dksX1_ring_0 9 rfl rfl)
theorem dX1_ring_12 : decode cX1_ring 12 = .ok (.iload_n 1, 1) := dk_27 (dk_at dksX1_ring_0 12 rfl rfl)
theorem dX1_ring_13 : decode cX1_ring 13 = .ok (.aload_n 0, 1) := dk_42 (dk_at dksX1_ring_0 13 rfl rfl)
theorem dX1_ring_14 : decode cX1_ring 14 = .ok (.getfield 423, 3) := dk_180 1 167 (dk_at dksX1_ring_0 14 rfl rfl)
theorem dX1_ring_17 : decode cX1_ring 17 = .ok (.if_icmp .ge 7, 3) := dk_162 0 7 (dk_at dksX1_ring_0 17 rfl rfl)
theorem dX1_ring_20 : decode cX1_ring 20 = .ok (.iconst 1, 1) := dk_4 (dk_at dksX1_ring_0 20 rfl rfl)
theorem dX1_ring_21 : decode cX1_ring 21 = .ok (.goto 4, 3) := dk_167 0 4 (dk_at dksX1_ring_0 21 rfl rfl)
theorem dX1_ring_24 : decode cX1_ring 24 = .ok (.iconst 0, 1) := dk_3 (dk_at dksX1_ring_1 0 rfl rfl)
theorem dX1_ring_25 : decode cX1_ring 25 = .ok (.invokestatic 306, 3) := dk_184 1 50 (dk_at dksX1_ring_1 1 rfl rfl)
theorem dX1_ring_28 : decode cX1_ring 28 = .ok (.iload_n 1, 1) := dk_27 (dk_at dksX1_ring_1 4 rfl rfl)
theorem dX1_ring_29 : decode cX1_ring 29 = .ok (.iconst (-1), 1) := dk_2 (dk_at dksX1_ring_1 5 rfl rfl)
theorem dX1_ring_30 : decode cX1_ring 30 = .ok (.if_icmp .ne 10, 3) := dk_160 0 10 (dk_at dksX1_ring_1 6 rfl rfl)
theorem dX1_ring_33 : decode cX1_ring 33 = .ok (.aload_n 0, 1) := dk_42 (dk_at dksX1_ring_1 9 rfl rfl)
theorem dX1_ring_34 : decode cX1_ring 34 = .ok (.getfield 423, 3) := dk_180 1 167 (dk_at dksX1_ring_1 10 rfl rfl)
theorem dX1_ring_37 : decode cX1_ring 37 = .ok (.goto 9, 3) := dk_167 0 9 (dk_at dksX1_ring_1 13 rfl rfl)
theorem dX1_ring_40 : decode cX1_ring 40 = .ok (.aload_n 0, 1) := dk_42 (dk_at dksX1_ring_1 16 rfl rfl)
theorem dX1_ring_41 : decode cX1_ring 41 = .ok (.getfield 249, 3) := dk_180 0 249 (dk_at dksX1_ring_1 17 rfl rfl)
theorem dX1_ring_44 : decode cX1_ring 44 = .ok (.iload_n 1, 1) := dk_27 (dk_at dksX1_ring_1 20 rfl rfl)
theorem dX1_ring_45 : decode cX1_ring 45 = .ok (.iaload, 1) := dk_46 (dk_at dksX1_ring_1 21 rfl rfl)
theorem dX1_ring_46 : decode cX1_ring 46 = .ok (.ireturn, 1) := dk_172 (dk_at dksX1_ring_1 22 rfl rfl)
abbrev cX1_chose : ByteArray := prog_1_method_47_code
def yX1_chose : MethodName := ⟨RX1, "chose", "(I)I"⟩
def dkwX1_chose_1 : List UInt8 := [3, 184, 1, 50, 27, 2, 160, 0, 10, 42, 180, 1, 164, 167, 0, 9, 42, 180, 1, 2, 27, 46, 172]
abbrev dktX1_chose_1 : List UInt8 := dkwX1_chose_1 ++ []
def dkwX1_chose_0 : List UInt8 := [42, 180, 1, 34, 153, 0, 20, 27, 2, 161, 0, 15, 27, 42, 180, 1, 164, 162, 0, 7, 4, 167, 0, 4]
abbrev dktX1_chose_0 : List UInt8 := dkwX1_chose_0 ++ dktX1_chose_1
theorem dksX1_chose_0 : cX1_chose.data.toList.drop 0 = dktX1_chose_0 := by decide +kernel
theorem dksX1_chose_1 : cX1_chose.data.toList.drop 24 = dktX1_chose_1 := dk_seg dksX1_chose_0 24 rfl rfl
theorem dX1_chose_0 : decode cX1_chose 0 = .ok (.aload_n 0, 1) := dk_42 (dk_at dksX1_chose_0 0 rfl rfl)
theorem dX1_chose_1 : decode cX1_chose 1 = .ok (.getfield 290, 3) := dk_180 1 34 (dk_at dksX1_chose_0 1 rfl rfl)
theorem dX1_chose_4 : decode cX1_chose 4 = .ok (.ifCond .eq 20, 3) := dk_153 0 20 (dk_at dksX1_chose_0 4 rfl rfl)
theorem dX1_chose_7 : decode cX1_chose 7 = .ok (.iload_n 1, 1) := dk_27 (dk_at dksX1_chose_0 7 rfl rfl)
theorem dX1_chose_8 : decode cX1_chose 8 = .ok (.iconst (-1), 1) := dk_2 (dk_at dksX1_chose_0 8 rfl rfl)
theorem dX1_chose_9 : decode cX1_chose 9 = .ok (.if_icmp .lt 15, 3) := dk_161 0 15 (dk_at dksX1_chose_0 9 rfl rfl)
theorem dX1_chose_12 : decode cX1_chose 12 = .ok (.iload_n 1, 1) := dk_27 (dk_at dksX1_chose_0 12 rfl rfl)
theorem dX1_chose_13 : decode cX1_chose 13 = .ok (.aload_n 0, 1) := dk_42 (dk_at dksX1_chose_0 13 rfl rfl)
theorem dX1_chose_14 : decode cX1_chose 14 = .ok (.getfield 420, 3) := dk_180 1 164 (dk_at dksX1_chose_0 14 rfl rfl)
theorem dX1_chose_17 : decode cX1_chose 17 = .ok (.if_icmp .ge 7, 3) := dk_162 0 7 (dk_at dksX1_chose_0 17 rfl rfl)
theorem dX1_chose_20 : decode cX1_chose 20 = .ok (.iconst 1, 1) := dk_4 (dk_at dksX1_chose_0 20 rfl rfl)
theorem dX1_chose_21 : decode cX1_chose 21 = .ok (.goto 4, 3) := dk_167 0 4 (dk_at dksX1_chose_0 21 rfl rfl)
theorem dX1_chose_24 : decode cX1_chose 24 = .ok (.iconst 0, 1) := dk_3 (dk_at dksX1_chose_1 0 rfl rfl)
theorem dX1_chose_25 : decode cX1_chose 25 = .ok (.invokestatic 306, 3) := dk_184 1 50 (dk_at dksX1_chose_1 1 rfl rfl)
theorem dX1_chose_28 : decode cX1_chose 28 = .ok (.iload_n 1, 1) := dk_27 (dk_at dksX1_chose_1 4 rfl rfl)
theorem dX1_chose_29 : decode cX1_chose 29 = .ok (.iconst (-1), 1) := dk_2 (dk_at dksX1_chose_1 5 rfl rfl)
theorem dX1_chose_30 : decode cX1_chose 30 = .ok (.if_icmp .ne 10, 3) := dk_160 0 10 (dk_at dksX1_chose_1 6 rfl rfl)
theorem dX1_chose_33 : decode cX1_chose 33 = .ok (.aload_n 0, 1) := dk_42 (dk_at dksX1_chose_1 9 rfl rfl)
theorem dX1_chose_34 : decode cX1_chose 34 = .ok (.getfield 420, 3) := dk_180 1 164 (dk_at dksX1_chose_1 10 rfl rfl)
theorem dX1_chose_37 : decode cX1_chose 37 = .ok (.goto 9, 3) := dk_167 0 9 (dk_at dksX1_chose_1 13 rfl rfl)
theorem dX1_chose_40 : decode cX1_chose 40 = .ok (.aload_n 0, 1) := dk_42 (dk_at dksX1_chose_1 16 rfl rfl)
theorem dX1_chose_41 : decode cX1_chose 41 = .ok (.getfield 258, 3) := dk_180 1 2 (dk_at dksX1_chose_1 17 rfl rfl)
theorem dX1_chose_44 : decode cX1_chose 44 = .ok (.iload_n 1, 1) := dk_27 (dk_at dksX1_chose_1 20 rfl rfl)
theorem dX1_chose_45 : decode cX1_chose 45 = .ok (.iaload, 1) := dk_46 (dk_at dksX1_chose_1 21 rfl rfl)
theorem dX1_chose_46 : decode cX1_chose 46 = .ok (.ireturn, 1) := dk_172 (dk_at dksX1_chose_1 22 rfl rfl)
abbrev cX1_least : ByteArray := prog_1_method_48_code
def yX1_least : MethodName := ⟨RX1, "least", "(I)I"⟩
def dkwX1_least_2 : List UInt8 := [180, 1, 5, 182, 1, 103, 5, 160, 0, 5, 28, 172, 132, 2, 1, 167, 255, 224, 2, 172]
abbrev dktX1_least_2 : List UInt8 := dkwX1_least_2 ++ []
def dkwX1_least_1 : List UInt8 := [181, 1, 142, 5, 61, 28, 16, 8, 163, 0, 32, 42, 42, 180, 1, 5, 28, 27, 182, 1, 158, 42]
abbrev dktX1_least_1 : List UInt8 := dkwX1_least_1 ++ dktX1_least_2
def dkwX1_least_0 : List UInt8 := [27, 3, 6, 184, 1, 43, 184, 1, 14, 42, 180, 0, 46, 180, 1, 52, 158, 0, 6, 16, 254, 172, 42, 3]
abbrev dktX1_least_0 : List UInt8 := dkwX1_least_0 ++ dktX1_least_1
theorem dksX1_least_0 : cX1_least.data.toList.drop 0 = dktX1_least_0 := by decide +kernel
theorem dksX1_least_1 : cX1_least.data.toList.drop 24 = dktX1_least_1 := dk_seg dksX1_least_0 24 rfl rfl
theorem dksX1_least_2 : cX1_least.data.toList.drop 46 = dktX1_least_2 := dk_seg dksX1_least_1 22 rfl rfl
theorem dX1_least_0 : decode cX1_least 0 = .ok (.iload_n 1, 1) := dk_27 (dk_at dksX1_least_0 0 rfl rfl)
theorem dX1_least_1 : decode cX1_least 1 = .ok (.iconst 0, 1) := dk_3 (dk_at dksX1_least_0 1 rfl rfl)
theorem dX1_least_2 : decode cX1_least 2 = .ok (.iconst 3, 1) := dk_6 (dk_at dksX1_least_0 2 rfl rfl)
theorem dX1_least_3 : decode cX1_least 3 = .ok (.invokestatic 299, 3) := dk_184 1 43 (dk_at dksX1_least_0 3 rfl rfl)
theorem dX1_least_6 : decode cX1_least 6 = .ok (.invokestatic 270, 3) := dk_184 1 14 (dk_at dksX1_least_0 6 rfl rfl)
theorem dX1_least_9 : decode cX1_least 9 = .ok (.aload_n 0, 1) := dk_42 (dk_at dksX1_least_0 9 rfl rfl)
theorem dX1_least_10 : decode cX1_least 10 = .ok (.getfield 46, 3) := dk_180 0 46 (dk_at dksX1_least_0 10 rfl rfl)
theorem dX1_least_13 : decode cX1_least 13 = .ok (.getfield 308, 3) := dk_180 1 52 (dk_at dksX1_least_0 13 rfl rfl)
theorem dX1_least_16 : decode cX1_least 16 = .ok (.ifCond .le 6, 3) := dk_158 0 6 (dk_at dksX1_least_0 16 rfl rfl)
theorem dX1_least_19 : decode cX1_least 19 = .ok (.bipush (-2), 2) := dk_16 254 (dk_at dksX1_least_0 19 rfl rfl)
theorem dX1_least_21 : decode cX1_least 21 = .ok (.ireturn, 1) := dk_172 (dk_at dksX1_least_0 21 rfl rfl)
theorem dX1_least_22 : decode cX1_least 22 = .ok (.aload_n 0, 1) := dk_42 (dk_at dksX1_least_0 22 rfl rfl)
theorem dX1_least_23 : decode cX1_least 23 = .ok (.iconst 0, 1) := dk_3 (dk_at dksX1_least_0 23 rfl rfl)
theorem dX1_least_24 : decode cX1_least 24 = .ok (.putfield 398, 3) := dk_181 1 142 (dk_at dksX1_least_1 0 rfl rfl)
theorem dX1_least_27 : decode cX1_least 27 = .ok (.iconst 2, 1) := dk_5 (dk_at dksX1_least_1 3 rfl rfl)
theorem dX1_least_28 : decode cX1_least 28 = .ok (.istore_n 2, 1) := dk_61 (dk_at dksX1_least_1 4 rfl rfl)
theorem dX1_least_29 : decode cX1_least 29 = .ok (.iload_n 2, 1) := dk_28 (dk_at dksX1_least_1 5 rfl rfl)
theorem dX1_least_30 : decode cX1_least 30 = .ok (.bipush 8, 2) := dk_16 8 (dk_at dksX1_least_1 6 rfl rfl)
theorem dX1_least_32 : decode cX1_least 32 = .ok (.if_icmp .gt 32, 3) := dk_163 0 32 (dk_at dksX1_least_1 8 rfl rfl)
theorem dX1_least_35 : decode cX1_least 35 = .ok (.aload_n 0, 1) := dk_42 (dk_at dksX1_least_1 11 rfl rfl)
theorem dX1_least_36 : decode cX1_least 36 = .ok (.aload_n 0, 1) := dk_42 (dk_at dksX1_least_1 12 rfl rfl)
theorem dX1_least_37 : decode cX1_least 37 = .ok (.getfield 261, 3) := dk_180 1 5 (dk_at dksX1_least_1 13 rfl rfl)
theorem dX1_least_40 : decode cX1_least 40 = .ok (.iload_n 2, 1) := dk_28 (dk_at dksX1_least_1 16 rfl rfl)
theorem dX1_least_41 : decode cX1_least 41 = .ok (.iload_n 1, 1) := dk_27 (dk_at dksX1_least_1 17 rfl rfl)
theorem dX1_least_42 : decode cX1_least 42 = .ok (.invokevirtual 414, 3) := dk_182 1 158 (dk_at dksX1_least_1 18 rfl rfl)
theorem dX1_least_45 : decode cX1_least 45 = .ok (.aload_n 0, 1) := dk_42 (dk_at dksX1_least_1 21 rfl rfl)
theorem dX1_least_46 : decode cX1_least 46 = .ok (.getfield 261, 3) := dk_180 1 5 (dk_at dksX1_least_2 0 rfl rfl)
theorem dX1_least_49 : decode cX1_least 49 = .ok (.invokevirtual 359, 3) := dk_182 1 103 (dk_at dksX1_least_2 3 rfl rfl)
theorem dX1_least_52 : decode cX1_least 52 = .ok (.iconst 2, 1) := dk_5 (dk_at dksX1_least_2 6 rfl rfl)
theorem dX1_least_53 : decode cX1_least 53 = .ok (.if_icmp .ne 5, 3) := dk_160 0 5 (dk_at dksX1_least_2 7 rfl rfl)
theorem dX1_least_56 : decode cX1_least 56 = .ok (.iload_n 2, 1) := dk_28 (dk_at dksX1_least_2 10 rfl rfl)
theorem dX1_least_57 : decode cX1_least 57 = .ok (.ireturn, 1) := dk_172 (dk_at dksX1_least_2 11 rfl rfl)
theorem dX1_least_58 : decode cX1_least 58 = .ok (.iinc 2 1, 3) := dk_132 2 1 (dk_at dksX1_least_2 12 rfl rfl)
theorem dX1_least_61 : decode cX1_least 61 = .ok (.goto (-32), 3) := dk_167 255 224 (dk_at dksX1_least_2 15 rfl rfl)
theorem dX1_least_64 : decode cX1_least 64 = .ok (.iconst (-1), 1) := dk_2 (dk_at dksX1_least_2 18 rfl rfl)
theorem dX1_least_65 : decode cX1_least 65 = .ok (.ireturn, 1) := dk_172 (dk_at dksX1_least_2 19 rfl rfl)
theorem q113 : (Jvm.Cond.initialized "SendHall") ∈ lw_all := lw_g (lw_at lw_m1 1 rfl) rfl
theorem q157 : (Jvm.Cond.instantiable "SendHall" (33 : Nat)) ∈ lw_all := lw_g (lw_at lw_m1 45 rfl) rfl
theorem q159 : (Jvm.Cond.instanceMethod ({ cls := "SendHall", name := "<init>", desc := "()V" } : Jvm.MethodName)) ∈ lw_all := lw_g (lw_at lw_m1 47 rfl) rfl
theorem q160 : (Jvm.Cond.code ({ cls := "SendHall", name := "<init>", desc := "()V" } : Jvm.MethodName) prog_1_method_17_code (2 : Nat) (Option.none : Option Jvm.ClassFile.FieldType)) ∈ lw_all := lw_g (lw_at lw_m1 48 rfl) rfl
theorem q161 : (Jvm.Cond.methodLink "SendHall" (213 : Nat) ({ cls := "java/lang/Object", name := "<init>", desc := "()V" } : Jvm.MethodName)) ∈ lw_all := lw_g (lw_at lw_m1 49 rfl) rfl
theorem q164 : (Jvm.Cond.classLink "SendHall" (51 : Nat) "SendHall$Text") ∈ lw_all := lw_g (lw_at lw_m1 52 rfl) rfl
theorem q166 : (Jvm.Cond.methodLinkNest "SendHall" (217 : Nat) ({ cls := "SendHall$Text", name := "<init>", desc := "()V" } : Jvm.MethodName) "SendHall") ∈ lw_tbl := lw_at lw_m1 54 rfl
theorem q514 : (Jvm.Cond.fieldLinkNest "SendHall" (203 : Nat) "SendHall$Text" "steps" "Ljava/util/ArrayList;" "SendHall") ∈ lw_tbl := lw_at lw_m2 162 rfl
theorem q515 : (Jvm.Cond.fieldLinkNest "SendHall" (50 : Nat) "SendHall$Text" "first" "LSendHall$Step;" "SendHall") ∈ lw_tbl := lw_at lw_m2 163 rfl
theorem q518 : (Jvm.Cond.fieldLinkNest "SendHall" (308 : Nat) "SendHall$Text" "anys" "I" "SendHall") ∈ lw_tbl := lw_at lw_m2 166 rfl
theorem q526 : (Jvm.Cond.classLink "SendHall" (22 : Nat) "SendHall$Life") ∈ lw_all := lw_g (lw_at lw_m2 174 rfl) rfl
theorem q528 : (Jvm.Cond.classLink "SendHall" (208 : Nat) "java/util/ArrayList") ∈ lw_all := lw_g (lw_at lw_m2 176 rfl) rfl
theorem q529 : (Jvm.Cond.methodLink "SendHall" (229 : Nat) ({ cls := "java/util/ArrayList", name := "<init>", desc := "(I)V" } : Jvm.MethodName)) ∈ lw_all := lw_g (lw_at lw_m2 177 rfl) rfl
theorem q531 : (Jvm.Cond.methodLinkNest "SendHall" (240 : Nat) ({ cls := "SendHall$Life", name := "<init>", desc := "()V" } : Jvm.MethodName) "SendHall") ∈ lw_tbl := lw_at lw_m2 179 rfl
theorem q537 : (Jvm.Cond.fieldLinkNest "SendHall" (27 : Nat) "SendHall$Life" "n" "I" "SendHall") ∈ lw_tbl := lw_at lw_m2 185 rfl
theorem q541 : (Jvm.Cond.fieldLinkNest "SendHall" (30 : Nat) "SendHall$Life" "words" "I" "SendHall") ∈ lw_tbl := lw_at lw_m2 189 rfl
theorem q545 : (Jvm.Cond.fieldLinkNest "SendHall" (21 : Nat) "SendHall$Life" "at" "[LSendHall$Step;" "SendHall") ∈ lw_tbl := lw_at lw_m2 193 rfl
theorem q547 : (Jvm.Cond.fieldLinkNest "SendHall" (33 : Nat) "SendHall$Life" "stopped" "[Z" "SendHall") ∈ lw_tbl := lw_at lw_m2 195 rfl
theorem q553 : (Jvm.Cond.fieldLinkNest "SendHall" (43 : Nat) "SendHall$Life" "var" "[I" "SendHall") ∈ lw_tbl := lw_at lw_m2 201 rfl
theorem q555 : (Jvm.Cond.fieldLinkNest "SendHall" (36 : Nat) "SendHall$Life" "from" "[I" "SendHall") ∈ lw_tbl := lw_at lw_m2 203 rfl
theorem q559 : (Jvm.Cond.fieldLinkNest "SendHall" (40 : Nat) "SendHall$Life" "told" "[I" "SendHall") ∈ lw_tbl := lw_at lw_m2 207 rfl
theorem q563 : (Jvm.Cond.fieldLinkNest "SendHall" (173 : Nat) "SendHall$Life" "word" "[I" "SendHall") ∈ lw_tbl := lw_at lw_m2 211 rfl
theorem q565 : (Jvm.Cond.fieldLinkNest "SendHall" (175 : Nat) "SendHall$Life" "length" "[I" "SendHall") ∈ lw_tbl := lw_at lw_m2 213 rfl
theorem q567 : (Jvm.Cond.fieldLinkNest "SendHall" (177 : Nat) "SendHall$Life" "there" "[I" "SendHall") ∈ lw_tbl := lw_at lw_m2 215 rfl
theorem q597 : (Jvm.Cond.fieldLink "SendHall" (216 : Nat) "SendHall" "n" "I") ∈ lw_all := lw_g (lw_at lw_m3 5 rfl) rfl
theorem q598 : (Jvm.Cond.fieldLink "SendHall" (303 : Nat) "SendHall" "room" "I") ∈ lw_all := lw_g (lw_at lw_m3 6 rfl) rfl
theorem q599 : (Jvm.Cond.fieldLink "SendHall" (143 : Nat) "SendHall" "near" "I") ∈ lw_all := lw_g (lw_at lw_m3 7 rfl) rfl
theorem q600 : (Jvm.Cond.fieldLink "SendHall" (146 : Nat) "SendHall" "wide" "I") ∈ lw_all := lw_g (lw_at lw_m3 8 rfl) rfl
theorem q601 : (Jvm.Cond.fieldLink "SendHall" (46 : Nat) "SendHall" "text" "LSendHall$Text;") ∈ lw_all := lw_g (lw_at lw_m3 9 rfl) rfl
theorem q602 : (Jvm.Cond.fieldLink "SendHall" (1 : Nat) "SendHall" "out" "[Z") ∈ lw_all := lw_g (lw_at lw_m3 10 rfl) rfl
theorem q603 : (Jvm.Cond.fieldLink "SendHall" (136 : Nat) "SendHall" "clock" "[I") ∈ lw_all := lw_g (lw_at lw_m3 11 rfl) rfl
theorem q604 : (Jvm.Cond.fieldLink "SendHall" (191 : Nat) "SendHall" "waited" "[I") ∈ lw_all := lw_g (lw_at lw_m3 12 rfl) rfl
theorem q605 : (Jvm.Cond.fieldLink "SendHall" (129 : Nat) "SendHall" "doneAt" "[I") ∈ lw_all := lw_g (lw_at lw_m3 13 rfl) rfl
theorem q606 : (Jvm.Cond.fieldLink "SendHall" (218 : Nat) "SendHall" "tape" "[B") ∈ lw_all := lw_g (lw_at lw_m3 14 rfl) rfl
theorem q607 : (Jvm.Cond.fieldLink "SendHall" (264 : Nat) "SendHall" "taped" "I") ∈ lw_all := lw_g (lw_at lw_m3 15 rfl) rfl
theorem q608 : (Jvm.Cond.fieldLink "SendHall" (222 : Nat) "SendHall" "faultPlace" "I") ∈ lw_all := lw_g (lw_at lw_m3 16 rfl) rfl
theorem q609 : (Jvm.Cond.fieldLink "SendHall" (225 : Nat) "SendHall" "pool" "[LSendHall$Life;") ∈ lw_all := lw_g (lw_at lw_m3 17 rfl) rfl
theorem q610 : (Jvm.Cond.fieldLink "SendHall" (283 : Nat) "SendHall" "isFound" "Z") ∈ lw_all := lw_g (lw_at lw_m3 18 rfl) rfl
theorem q611 : (Jvm.Cond.fieldLink "SendHall" (382 : Nat) "SendHall" "isSpent" "Z") ∈ lw_all := lw_g (lw_at lw_m3 19 rfl) rfl
theorem q612 : (Jvm.Cond.fieldLink "SendHall" (324 : Nat) "SendHall" "reached" "I") ∈ lw_all := lw_g (lw_at lw_m3 20 rfl) rfl
theorem q613 : (Jvm.Cond.fieldLink "SendHall" (231 : Nat) "SendHall" "endings" "Ljava/util/ArrayList;") ∈ lw_all := lw_g (lw_at lw_m3 21 rfl) rfl
theorem q614 : (Jvm.Cond.fieldLink "SendHall" (234 : Nat) "SendHall" "could" "[I") ∈ lw_all := lw_g (lw_at lw_m3 22 rfl) rfl
theorem q615 : (Jvm.Cond.fieldLink "SendHall" (287 : Nat) "SendHall" "hasCut" "Z") ∈ lw_all := lw_g (lw_at lw_m3 23 rfl) rfl
theorem q616 : (Jvm.Cond.fieldLink "SendHall" (237 : Nat) "SendHall" "cutOut" "[Z") ∈ lw_all := lw_g (lw_at lw_m3 24 rfl) rfl
theorem q617 : (Jvm.Cond.fieldLink "SendHall" (241 : Nat) "SendHall" "played" "LSendHall$Life;") ∈ lw_all := lw_g (lw_at lw_m3 25 rfl) rfl
theorem q618 : (Jvm.Cond.fieldLink "SendHall" (290 : Nat) "SendHall" "hasPlay" "Z") ∈ lw_all := lw_g (lw_at lw_m3 26 rfl) rfl
theorem q619 : (Jvm.Cond.fieldLink "SendHall" (245 : Nat) "SendHall" "chosen" "[I") ∈ lw_all := lw_g (lw_at lw_m3 27 rfl) rfl
theorem q620 : (Jvm.Cond.fieldLink "SendHall" (248 : Nat) "SendHall" "told" "[I") ∈ lw_all := lw_g (lw_at lw_m3 28 rfl) rfl
theorem q621 : (Jvm.Cond.fieldLink "SendHall" (249 : Nat) "SendHall" "ring" "[I") ∈ lw_all := lw_g (lw_at lw_m3 29 rfl) rfl
theorem q622 : (Jvm.Cond.fieldLink "SendHall" (395 : Nat) "SendHall" "choices" "I") ∈ lw_all := lw_g (lw_at lw_m3 30 rfl) rfl
theorem q623 : (Jvm.Cond.fieldLink "SendHall" (398 : Nat) "SendHall" "toldMany" "I") ∈ lw_all := lw_g (lw_at lw_m3 31 rfl) rfl
theorem q624 : (Jvm.Cond.fieldLink "SendHall" (423 : Nat) "SendHall" "rings" "I") ∈ lw_all := lw_g (lw_at lw_m3 32 rfl) rfl
theorem q625 : (Jvm.Cond.fieldLink "SendHall" (252 : Nat) "SendHall" "keptClock" "[I") ∈ lw_all := lw_g (lw_at lw_m3 33 rfl) rfl
theorem q626 : (Jvm.Cond.fieldLink "SendHall" (255 : Nat) "SendHall" "keptWaited" "[I") ∈ lw_all := lw_g (lw_at lw_m3 34 rfl) rfl
theorem q627 : (Jvm.Cond.fieldLink "SendHall" (258 : Nat) "SendHall" "keptChosen" "[I") ∈ lw_all := lw_g (lw_at lw_m3 35 rfl) rfl
theorem q628 : (Jvm.Cond.fieldLink "SendHall" (420 : Nat) "SendHall" "keptChoices" "I") ∈ lw_all := lw_g (lw_at lw_m3 36 rfl) rfl
theorem q629 : (Jvm.Cond.fieldLink "SendHall" (261 : Nat) "SendHall" "trying" "LSendHall$Life;") ∈ lw_all := lw_g (lw_at lw_m3 37 rfl) rfl
theorem q630 : (Jvm.Cond.lays "SendHall" "SendHall" "n" "I") ∈ lw_all := lw_g (lw_at lw_m3 38 rfl) rfl
theorem q631 : (Jvm.Cond.soleField "SendHall" "n") ∈ lw_all := lw_g (lw_at lw_m3 39 rfl) rfl
theorem q632 : (Jvm.Cond.lays "SendHall" "SendHall" "room" "I") ∈ lw_all := lw_g (lw_at lw_m3 40 rfl) rfl
theorem q633 : (Jvm.Cond.soleField "SendHall" "room") ∈ lw_all := lw_g (lw_at lw_m3 41 rfl) rfl
theorem q634 : (Jvm.Cond.lays "SendHall" "SendHall" "near" "I") ∈ lw_all := lw_g (lw_at lw_m3 42 rfl) rfl
theorem q635 : (Jvm.Cond.soleField "SendHall" "near") ∈ lw_all := lw_g (lw_at lw_m3 43 rfl) rfl
theorem q636 : (Jvm.Cond.lays "SendHall" "SendHall" "wide" "I") ∈ lw_all := lw_g (lw_at lw_m3 44 rfl) rfl
theorem q637 : (Jvm.Cond.soleField "SendHall" "wide") ∈ lw_all := lw_g (lw_at lw_m3 45 rfl) rfl
theorem q638 : (Jvm.Cond.lays "SendHall" "SendHall" "text" "LSendHall$Text;") ∈ lw_all := lw_g (lw_at lw_m3 46 rfl) rfl
theorem q639 : (Jvm.Cond.soleField "SendHall" "text") ∈ lw_all := lw_g (lw_at lw_m3 47 rfl) rfl
theorem q640 : (Jvm.Cond.laysFinal "SendHall" "SendHall" "out" "[Z") ∈ lw_all := lw_g (lw_at lw_m3 48 rfl) rfl
theorem q641 : (Jvm.Cond.soleField "SendHall" "out") ∈ lw_all := lw_g (lw_at lw_m3 49 rfl) rfl
theorem q642 : (Jvm.Cond.laysFinal "SendHall" "SendHall" "clock" "[I") ∈ lw_all := lw_g (lw_at lw_m3 50 rfl) rfl
theorem q643 : (Jvm.Cond.soleField "SendHall" "clock") ∈ lw_all := lw_g (lw_at lw_m3 51 rfl) rfl
theorem q644 : (Jvm.Cond.laysFinal "SendHall" "SendHall" "waited" "[I") ∈ lw_all := lw_g (lw_at lw_m3 52 rfl) rfl
theorem q645 : (Jvm.Cond.soleField "SendHall" "waited") ∈ lw_all := lw_g (lw_at lw_m3 53 rfl) rfl
theorem q646 : (Jvm.Cond.laysFinal "SendHall" "SendHall" "doneAt" "[I") ∈ lw_all := lw_g (lw_at lw_m3 54 rfl) rfl
theorem q647 : (Jvm.Cond.soleField "SendHall" "doneAt") ∈ lw_all := lw_g (lw_at lw_m3 55 rfl) rfl
theorem q648 : (Jvm.Cond.laysFinal "SendHall" "SendHall" "tape" "[B") ∈ lw_all := lw_g (lw_at lw_m3 56 rfl) rfl
theorem q649 : (Jvm.Cond.soleField "SendHall" "tape") ∈ lw_all := lw_g (lw_at lw_m3 57 rfl) rfl
theorem q650 : (Jvm.Cond.lays "SendHall" "SendHall" "taped" "I") ∈ lw_all := lw_g (lw_at lw_m3 58 rfl) rfl
theorem q651 : (Jvm.Cond.soleField "SendHall" "taped") ∈ lw_all := lw_g (lw_at lw_m3 59 rfl) rfl
theorem q652 : (Jvm.Cond.lays "SendHall" "SendHall" "faultPlace" "I") ∈ lw_all := lw_g (lw_at lw_m3 60 rfl) rfl
theorem q653 : (Jvm.Cond.soleField "SendHall" "faultPlace") ∈ lw_all := lw_g (lw_at lw_m3 61 rfl) rfl
theorem q654 : (Jvm.Cond.laysFinal "SendHall" "SendHall" "pool" "[LSendHall$Life;") ∈ lw_all := lw_g (lw_at lw_m3 62 rfl) rfl
theorem q655 : (Jvm.Cond.soleField "SendHall" "pool") ∈ lw_all := lw_g (lw_at lw_m3 63 rfl) rfl
theorem q656 : (Jvm.Cond.lays "SendHall" "SendHall" "isFound" "Z") ∈ lw_all := lw_g (lw_at lw_m3 64 rfl) rfl
theorem q657 : (Jvm.Cond.soleField "SendHall" "isFound") ∈ lw_all := lw_g (lw_at lw_m3 65 rfl) rfl
theorem q658 : (Jvm.Cond.lays "SendHall" "SendHall" "isSpent" "Z") ∈ lw_all := lw_g (lw_at lw_m3 66 rfl) rfl
theorem q659 : (Jvm.Cond.soleField "SendHall" "isSpent") ∈ lw_all := lw_g (lw_at lw_m3 67 rfl) rfl
theorem q660 : (Jvm.Cond.lays "SendHall" "SendHall" "reached" "I") ∈ lw_all := lw_g (lw_at lw_m3 68 rfl) rfl
theorem q661 : (Jvm.Cond.soleField "SendHall" "reached") ∈ lw_all := lw_g (lw_at lw_m3 69 rfl) rfl
theorem q662 : (Jvm.Cond.laysFinal "SendHall" "SendHall" "endings" "Ljava/util/ArrayList;") ∈ lw_all := lw_g (lw_at lw_m3 70 rfl) rfl
theorem q663 : (Jvm.Cond.soleField "SendHall" "endings") ∈ lw_all := lw_g (lw_at lw_m3 71 rfl) rfl
theorem q664 : (Jvm.Cond.laysFinal "SendHall" "SendHall" "could" "[I") ∈ lw_all := lw_g (lw_at lw_m3 72 rfl) rfl
theorem q665 : (Jvm.Cond.soleField "SendHall" "could") ∈ lw_all := lw_g (lw_at lw_m3 73 rfl) rfl
theorem q666 : (Jvm.Cond.lays "SendHall" "SendHall" "hasCut" "Z") ∈ lw_all := lw_g (lw_at lw_m3 74 rfl) rfl
theorem q667 : (Jvm.Cond.soleField "SendHall" "hasCut") ∈ lw_all := lw_g (lw_at lw_m3 75 rfl) rfl
theorem q668 : (Jvm.Cond.laysFinal "SendHall" "SendHall" "cutOut" "[Z") ∈ lw_all := lw_g (lw_at lw_m3 76 rfl) rfl
theorem q669 : (Jvm.Cond.soleField "SendHall" "cutOut") ∈ lw_all := lw_g (lw_at lw_m3 77 rfl) rfl
theorem q670 : (Jvm.Cond.laysFinal "SendHall" "SendHall" "played" "LSendHall$Life;") ∈ lw_all := lw_g (lw_at lw_m3 78 rfl) rfl
theorem q671 : (Jvm.Cond.soleField "SendHall" "played") ∈ lw_all := lw_g (lw_at lw_m3 79 rfl) rfl
theorem q672 : (Jvm.Cond.lays "SendHall" "SendHall" "hasPlay" "Z") ∈ lw_all := lw_g (lw_at lw_m3 80 rfl) rfl
theorem q673 : (Jvm.Cond.soleField "SendHall" "hasPlay") ∈ lw_all := lw_g (lw_at lw_m3 81 rfl) rfl
theorem q674 : (Jvm.Cond.laysFinal "SendHall" "SendHall" "chosen" "[I") ∈ lw_all := lw_g (lw_at lw_m3 82 rfl) rfl
theorem q675 : (Jvm.Cond.soleField "SendHall" "chosen") ∈ lw_all := lw_g (lw_at lw_m3 83 rfl) rfl
theorem q676 : (Jvm.Cond.laysFinal "SendHall" "SendHall" "told" "[I") ∈ lw_all := lw_g (lw_at lw_m3 84 rfl) rfl
theorem q677 : (Jvm.Cond.soleField "SendHall" "told") ∈ lw_all := lw_g (lw_at lw_m3 85 rfl) rfl
theorem q678 : (Jvm.Cond.laysFinal "SendHall" "SendHall" "ring" "[I") ∈ lw_all := lw_g (lw_at lw_m3 86 rfl) rfl
theorem q679 : (Jvm.Cond.soleField "SendHall" "ring") ∈ lw_all := lw_g (lw_at lw_m3 87 rfl) rfl
theorem q680 : (Jvm.Cond.lays "SendHall" "SendHall" "choices" "I") ∈ lw_all := lw_g (lw_at lw_m3 88 rfl) rfl
theorem q681 : (Jvm.Cond.soleField "SendHall" "choices") ∈ lw_all := lw_g (lw_at lw_m3 89 rfl) rfl
theorem q682 : (Jvm.Cond.lays "SendHall" "SendHall" "toldMany" "I") ∈ lw_all := lw_g (lw_at lw_m3 90 rfl) rfl
theorem q683 : (Jvm.Cond.soleField "SendHall" "toldMany") ∈ lw_all := lw_g (lw_at lw_m3 91 rfl) rfl
theorem q684 : (Jvm.Cond.lays "SendHall" "SendHall" "rings" "I") ∈ lw_all := lw_g (lw_at lw_m3 92 rfl) rfl
theorem q685 : (Jvm.Cond.soleField "SendHall" "rings") ∈ lw_all := lw_g (lw_at lw_m3 93 rfl) rfl
theorem q686 : (Jvm.Cond.laysFinal "SendHall" "SendHall" "keptClock" "[I") ∈ lw_all := lw_g (lw_at lw_m3 94 rfl) rfl
theorem q687 : (Jvm.Cond.soleField "SendHall" "keptClock") ∈ lw_all := lw_g (lw_at lw_m3 95 rfl) rfl
theorem q688 : (Jvm.Cond.laysFinal "SendHall" "SendHall" "keptWaited" "[I") ∈ lw_all := lw_g (lw_at lw_m3 96 rfl) rfl
theorem q689 : (Jvm.Cond.soleField "SendHall" "keptWaited") ∈ lw_all := lw_g (lw_at lw_m3 97 rfl) rfl
theorem q690 : (Jvm.Cond.laysFinal "SendHall" "SendHall" "keptChosen" "[I") ∈ lw_all := lw_g (lw_at lw_m3 98 rfl) rfl
theorem q691 : (Jvm.Cond.soleField "SendHall" "keptChosen") ∈ lw_all := lw_g (lw_at lw_m3 99 rfl) rfl
theorem q692 : (Jvm.Cond.lays "SendHall" "SendHall" "keptChoices" "I") ∈ lw_all := lw_g (lw_at lw_m3 100 rfl) rfl
theorem q693 : (Jvm.Cond.soleField "SendHall" "keptChoices") ∈ lw_all := lw_g (lw_at lw_m3 101 rfl) rfl
theorem q694 : (Jvm.Cond.laysFinal "SendHall" "SendHall" "trying" "LSendHall$Life;") ∈ lw_all := lw_g (lw_at lw_m3 102 rfl) rfl
theorem q695 : (Jvm.Cond.soleField "SendHall" "trying") ∈ lw_all := lw_g (lw_at lw_m3 103 rfl) rfl
theorem q696 : (Jvm.Cond.superclass "SendHall" "java/lang/Object") ∈ lw_all := lw_g (lw_at lw_m3 104 rfl) rfl
theorem q698 : (Jvm.Cond.instanceMethod ({ cls := "SendHall", name := "feed", desc := "(IIIII)I" } : Jvm.MethodName)) ∈ lw_all := lw_g (lw_at lw_m3 106 rfl) rfl
theorem q699 : (Jvm.Cond.selects "SendHall" ({ cls := "SendHall", name := "feed", desc := "(IIIII)I" } : Jvm.MethodName) ({ cls := "SendHall", name := "feed", desc := "(IIIII)I" } : Jvm.MethodName)) ∈ lw_all := lw_g (lw_at lw_m3 107 rfl) rfl
theorem q700 : (Jvm.Cond.code ({ cls := "SendHall", name := "feed", desc := "(IIIII)I" } : Jvm.MethodName) prog_1_method_18_code (6 : Nat) (Option.some Jvm.ClassFile.FieldType.int)) ∈ lw_all := lw_g (lw_at lw_m3 108 rfl) rfl
theorem q701 : (Jvm.Cond.methodLink "SendHall" (267 : Nat) ({ cls := "SendHall", name := "lay", desc := "(I)V" } : Jvm.MethodName)) ∈ lw_all := lw_g (lw_at lw_m3 109 rfl) rfl
theorem q702 : (Jvm.Cond.privateMethod ({ cls := "SendHall", name := "lay", desc := "(I)V" } : Jvm.MethodName)) ∈ lw_tbl := lw_at lw_m3 110 rfl
theorem q703 : (Jvm.Cond.instanceMethod ({ cls := "SendHall", name := "lay", desc := "(I)V" } : Jvm.MethodName)) ∈ lw_all := lw_g (lw_at lw_m3 111 rfl) rfl
theorem q704 : (Jvm.Cond.code ({ cls := "SendHall", name := "lay", desc := "(I)V" } : Jvm.MethodName) prog_1_method_19_code (3 : Nat) (Option.none : Option Jvm.ClassFile.FieldType)) ∈ lw_all := lw_g (lw_at lw_m3 112 rfl) rfl
theorem q706 : (Jvm.Cond.instanceMethod ({ cls := "SendHall", name := "fault", desc := "()I" } : Jvm.MethodName)) ∈ lw_all := lw_g (lw_at lw_m3 114 rfl) rfl
theorem q707 : (Jvm.Cond.selects "SendHall" ({ cls := "SendHall", name := "fault", desc := "()I" } : Jvm.MethodName) ({ cls := "SendHall", name := "fault", desc := "()I" } : Jvm.MethodName)) ∈ lw_all := lw_g (lw_at lw_m3 115 rfl) rfl
theorem q708 : (Jvm.Cond.code ({ cls := "SendHall", name := "fault", desc := "()I" } : Jvm.MethodName) prog_1_method_21_code (1 : Nat) (Option.some Jvm.ClassFile.FieldType.int)) ∈ lw_all := lw_g (lw_at lw_m3 116 rfl) rfl
theorem q710 : (Jvm.Cond.instanceMethod ({ cls := "SendHall", name := "world", desc := "(IIII)Z" } : Jvm.MethodName)) ∈ lw_all := lw_g (lw_at lw_m3 118 rfl) rfl
theorem q711 : (Jvm.Cond.selects "SendHall" ({ cls := "SendHall", name := "world", desc := "(IIII)Z" } : Jvm.MethodName) ({ cls := "SendHall", name := "world", desc := "(IIII)Z" } : Jvm.MethodName)) ∈ lw_all := lw_g (lw_at lw_m3 119 rfl) rfl
theorem q712 : (Jvm.Cond.code ({ cls := "SendHall", name := "world", desc := "(IIII)Z" } : Jvm.MethodName) prog_1_method_22_code (5 : Nat) (Option.some Jvm.ClassFile.FieldType.boolean)) ∈ lw_all := lw_g (lw_at lw_m3 120 rfl) rfl
theorem q713 : (Jvm.Cond.methodLink "SendHall" (299 : Nat) ({ cls := "SendHall", name := "within", desc := "(III)Z" } : Jvm.MethodName)) ∈ lw_all := lw_g (lw_at lw_m3 121 rfl) rfl
theorem q714 : (Jvm.Cond.static ({ cls := "SendHall", name := "within", desc := "(III)Z" } : Jvm.MethodName)) ∈ lw_all := lw_g (lw_at lw_m3 122 rfl) rfl
theorem q715 : (Jvm.Cond.code ({ cls := "SendHall", name := "within", desc := "(III)Z" } : Jvm.MethodName) prog_1_method_15_code (3 : Nat) (Option.some Jvm.ClassFile.FieldType.boolean)) ∈ lw_all := lw_g (lw_at lw_m3 123 rfl) rfl
theorem q717 : (Jvm.Cond.instanceMethod ({ cls := "SendHall", name := "reached", desc := "()I" } : Jvm.MethodName)) ∈ lw_all := lw_g (lw_at lw_m3 125 rfl) rfl
theorem q718 : (Jvm.Cond.selects "SendHall" ({ cls := "SendHall", name := "reached", desc := "()I" } : Jvm.MethodName) ({ cls := "SendHall", name := "reached", desc := "()I" } : Jvm.MethodName)) ∈ lw_all := lw_g (lw_at lw_m3 126 rfl) rfl
theorem q719 : (Jvm.Cond.code ({ cls := "SendHall", name := "reached", desc := "()I" } : Jvm.MethodName) prog_1_method_31_code (1 : Nat) (Option.some Jvm.ClassFile.FieldType.int)) ∈ lw_all := lw_g (lw_at lw_m3 127 rfl) rfl
theorem q720 : (Jvm.Cond.methodLink "SendHall" (389 : Nat) ({ cls := "SendHall", name := "finds", desc := "()Z" } : Jvm.MethodName)) ∈ lw_all := lw_g (lw_at lw_m3 128 rfl) rfl
theorem q721 : (Jvm.Cond.privateMethod ({ cls := "SendHall", name := "finds", desc := "()Z" } : Jvm.MethodName)) ∈ lw_tbl := lw_at lw_m3 129 rfl
theorem q722 : (Jvm.Cond.instanceMethod ({ cls := "SendHall", name := "finds", desc := "()Z" } : Jvm.MethodName)) ∈ lw_all := lw_g (lw_at lw_m3 130 rfl) rfl
theorem q723 : (Jvm.Cond.code ({ cls := "SendHall", name := "finds", desc := "()Z" } : Jvm.MethodName) prog_1_method_29_code (1 : Nat) (Option.some Jvm.ClassFile.FieldType.boolean)) ∈ lw_all := lw_g (lw_at lw_m3 131 rfl) rfl
theorem q724 : (Jvm.Cond.methodLink "SendHall" (379 : Nat) ({ cls := "SendHall", name := "goesThrough", desc := "(I)Z" } : Jvm.MethodName)) ∈ lw_all := lw_g (lw_at lw_m3 132 rfl) rfl
theorem q725 : (Jvm.Cond.privateMethod ({ cls := "SendHall", name := "goesThrough", desc := "(I)Z" } : Jvm.MethodName)) ∈ lw_tbl := lw_at lw_m3 133 rfl
theorem q726 : (Jvm.Cond.instanceMethod ({ cls := "SendHall", name := "goesThrough", desc := "(I)Z" } : Jvm.MethodName)) ∈ lw_all := lw_g (lw_at lw_m3 134 rfl) rfl
theorem q727 : (Jvm.Cond.code ({ cls := "SendHall", name := "goesThrough", desc := "(I)Z" } : Jvm.MethodName) prog_1_method_25_code (7 : Nat) (Option.some Jvm.ClassFile.FieldType.boolean)) ∈ lw_all := lw_g (lw_at lw_m3 135 rfl) rfl
theorem q728 : (Jvm.Cond.methodLink "SendHall" (318 : Nat) ({ cls := "SendHall", name := "begins", desc := "(LSendHall$Life;I)V" } : Jvm.MethodName)) ∈ lw_all := lw_g (lw_at lw_m3 136 rfl) rfl
theorem q729 : (Jvm.Cond.privateMethod ({ cls := "SendHall", name := "begins", desc := "(LSendHall$Life;I)V" } : Jvm.MethodName)) ∈ lw_tbl := lw_at lw_m3 137 rfl
theorem q730 : (Jvm.Cond.instanceMethod ({ cls := "SendHall", name := "begins", desc := "(LSendHall$Life;I)V" } : Jvm.MethodName)) ∈ lw_all := lw_g (lw_at lw_m3 138 rfl) rfl
theorem q731 : (Jvm.Cond.code ({ cls := "SendHall", name := "begins", desc := "(LSendHall$Life;I)V" } : Jvm.MethodName) prog_1_method_2_code (5 : Nat) (Option.none : Option Jvm.ClassFile.FieldType)) ∈ lw_all := lw_g (lw_at lw_m3 139 rfl) rfl
theorem q732 : (Jvm.Cond.methodLink "SendHall" (55 : Nat) ({ cls := "SendHall", name := "goes", desc := "(LSendHall$Life;ILSendHall$Step;)V" } : Jvm.MethodName)) ∈ lw_all := lw_g (lw_at lw_m3 140 rfl) rfl
theorem q733 : (Jvm.Cond.privateMethod ({ cls := "SendHall", name := "goes", desc := "(LSendHall$Life;ILSendHall$Step;)V" } : Jvm.MethodName)) ∈ lw_tbl := lw_at lw_m3 141 rfl
theorem q734 : (Jvm.Cond.instanceMethod ({ cls := "SendHall", name := "goes", desc := "(LSendHall$Life;ILSendHall$Step;)V" } : Jvm.MethodName)) ∈ lw_all := lw_g (lw_at lw_m3 142 rfl) rfl
theorem q735 : (Jvm.Cond.code ({ cls := "SendHall", name := "goes", desc := "(LSendHall$Life;ILSendHall$Step;)V" } : Jvm.MethodName) prog_1_method_1_code (7 : Nat) (Option.none : Option Jvm.ClassFile.FieldType)) ∈ lw_all := lw_g (lw_at lw_m3 143 rfl) rfl
theorem q736 : (Jvm.Cond.methodLink "SendHall" (17 : Nat) ({ cls := "SendHall$Step", name := "comes", desc := "(LSendHall$Life;I)LSendHall$Step;" } : Jvm.MethodName)) ∈ lw_all := lw_g (lw_at lw_m3 144 rfl) rfl
theorem q836 : (Jvm.Cond.methodLink "SendHall" (321 : Nat) ({ cls := "SendHall$Life", name := "hashes", desc := "()V" } : Jvm.MethodName)) ∈ lw_all := lw_g (lw_at lw_m4 4 rfl) rfl
theorem q840 : (Jvm.Cond.methodLink "SendHall" (327 : Nat) ({ cls := "java/util/ArrayList", name := "clear", desc := "()V" } : Jvm.MethodName)) ∈ lw_all := lw_g (lw_at lw_m4 8 rfl) rfl
theorem q844 : (Jvm.Cond.methodLink "SendHall" (330 : Nat) ({ cls := "SendHall", name := "moves", desc := "(LSendHall$Life;II)I" } : Jvm.MethodName)) ∈ lw_all := lw_g (lw_at lw_m4 12 rfl) rfl
theorem q845 : (Jvm.Cond.privateMethod ({ cls := "SendHall", name := "moves", desc := "(LSendHall$Life;II)I" } : Jvm.MethodName)) ∈ lw_tbl := lw_at lw_m4 13 rfl
theorem q846 : (Jvm.Cond.instanceMethod ({ cls := "SendHall", name := "moves", desc := "(LSendHall$Life;II)I" } : Jvm.MethodName)) ∈ lw_all := lw_g (lw_at lw_m4 14 rfl) rfl
theorem q847 : (Jvm.Cond.code ({ cls := "SendHall", name := "moves", desc := "(LSendHall$Life;II)I" } : Jvm.MethodName) prog_1_method_7_code (7 : Nat) (Option.some Jvm.ClassFile.FieldType.int)) ∈ lw_all := lw_g (lw_at lw_m4 15 rfl) rfl
theorem q848 : (Jvm.Cond.methodLink "SendHall" (101 : Nat) ({ cls := "SendHall$Life", name := "hasEnded", desc := "(I)Z" } : Jvm.MethodName)) ∈ lw_all := lw_g (lw_at lw_m4 16 rfl) rfl
theorem q852 : (Jvm.Cond.methodLink "SendHall" (106 : Nat) ({ cls := "SendHall", name := "mayLie", desc := "(LSendHall$Life;II)Z" } : Jvm.MethodName)) ∈ lw_all := lw_g (lw_at lw_m4 20 rfl) rfl
theorem q853 : (Jvm.Cond.privateMethod ({ cls := "SendHall", name := "mayLie", desc := "(LSendHall$Life;II)Z" } : Jvm.MethodName)) ∈ lw_tbl := lw_at lw_m4 21 rfl
theorem q854 : (Jvm.Cond.instanceMethod ({ cls := "SendHall", name := "mayLie", desc := "(LSendHall$Life;II)Z" } : Jvm.MethodName)) ∈ lw_all := lw_g (lw_at lw_m4 22 rfl) rfl
theorem q855 : (Jvm.Cond.code ({ cls := "SendHall", name := "mayLie", desc := "(LSendHall$Life;II)Z" } : Jvm.MethodName) prog_1_method_6_code (5 : Nat) (Option.some Jvm.ClassFile.FieldType.boolean)) ∈ lw_all := lw_g (lw_at lw_m4 23 rfl) rfl
theorem q856 : (Jvm.Cond.classLink "SendHall" (73 : Nat) "SendHall$Send") ∈ lw_all := lw_g (lw_at lw_m4 24 rfl) rfl
theorem q857 : (Jvm.Cond.methodLink "SendHall" (75 : Nat) ({ cls := "SendHall$Send", name := "to", desc := "(LSendHall$Life;I)I" } : Jvm.MethodName)) ∈ lw_all := lw_g (lw_at lw_m4 25 rfl) rfl
theorem q858 : (Jvm.Cond.methodLink "SendHall" (97 : Nat) ({ cls := "SendHall$Life", name := "sent", desc := "(II)I" } : Jvm.MethodName)) ∈ lw_all := lw_g (lw_at lw_m4 26 rfl) rfl
theorem q862 : (Jvm.Cond.methodLink "SendHall" (109 : Nat) ({ cls := "SendHall", name := "handsOver", desc := "(LSendHall$Life;I)Z" } : Jvm.MethodName)) ∈ lw_all := lw_g (lw_at lw_m4 30 rfl) rfl
theorem q863 : (Jvm.Cond.privateMethod ({ cls := "SendHall", name := "handsOver", desc := "(LSendHall$Life;I)Z" } : Jvm.MethodName)) ∈ lw_tbl := lw_at lw_m4 31 rfl
theorem q864 : (Jvm.Cond.instanceMethod ({ cls := "SendHall", name := "handsOver", desc := "(LSendHall$Life;I)Z" } : Jvm.MethodName)) ∈ lw_all := lw_g (lw_at lw_m4 32 rfl) rfl
theorem q865 : (Jvm.Cond.code ({ cls := "SendHall", name := "handsOver", desc := "(LSendHall$Life;I)Z" } : Jvm.MethodName) prog_1_method_4_code (7 : Nat) (Option.some Jvm.ClassFile.FieldType.boolean)) ∈ lw_all := lw_g (lw_at lw_m4 33 rfl) rfl
theorem q866 : (Jvm.Cond.methodLink "SendHall" (79 : Nat) ({ cls := "SendHall$Send", name := "mark", desc := "(LSendHall$Life;I)I" } : Jvm.MethodName)) ∈ lw_all := lw_g (lw_at lw_m4 34 rfl) rfl
theorem q874 : (Jvm.Cond.methodLink "SendHall" (82 : Nat) ({ cls := "SendHall$Life", name := "isAt", desc := "(II)Z" } : Jvm.MethodName)) ∈ lw_all := lw_g (lw_at lw_m4 42 rfl) rfl
theorem q878 : (Jvm.Cond.classLink "SendHall" (59 : Nat) "SendHall$Wait") ∈ lw_all := lw_g (lw_at lw_m4 46 rfl) rfl
theorem q879 : (Jvm.Cond.methodLink "SendHall" (86 : Nat) ({ cls := "SendHall$Wait", name := "takes", desc := "(LSendHall$Life;II)Z" } : Jvm.MethodName)) ∈ lw_all := lw_g (lw_at lw_m4 47 rfl) rfl
theorem q883 : (Jvm.Cond.methodLink "SendHall" (90 : Nat) ({ cls := "SendHall$Wait", name := "mark", desc := "(LSendHall$Life;I)I" } : Jvm.MethodName)) ∈ lw_all := lw_g (lw_at lw_m4 51 rfl) rfl
theorem q886 : (Jvm.Cond.methodLink "SendHall" (91 : Nat) ({ cls := "SendHall$Life", name := "first", desc := "(III)I" } : Jvm.MethodName)) ∈ lw_all := lw_g (lw_at lw_m4 54 rfl) rfl
theorem q890 : (Jvm.Cond.methodLink "SendHall" (113 : Nat) ({ cls := "SendHall$Wait", name := "of", desc := "(LSendHall$Life;I)I" } : Jvm.MethodName)) ∈ lw_all := lw_g (lw_at lw_m4 58 rfl) rfl
theorem q891 : (Jvm.Cond.methodLink "SendHall" (116 : Nat) ({ cls := "SendHall$Life", name := "begun", desc := "(I)I" } : Jvm.MethodName)) ∈ lw_all := lw_g (lw_at lw_m4 59 rfl) rfl
theorem q895 : (Jvm.Cond.methodLink "SendHall" (119 : Nat) ({ cls := "SendHall", name := "areAllAt", desc := "(LSendHall$Life;I)Z" } : Jvm.MethodName)) ∈ lw_all := lw_g (lw_at lw_m4 63 rfl) rfl
theorem q896 : (Jvm.Cond.privateMethod ({ cls := "SendHall", name := "areAllAt", desc := "(LSendHall$Life;I)Z" } : Jvm.MethodName)) ∈ lw_tbl := lw_at lw_m4 64 rfl
theorem q897 : (Jvm.Cond.instanceMethod ({ cls := "SendHall", name := "areAllAt", desc := "(LSendHall$Life;I)Z" } : Jvm.MethodName)) ∈ lw_all := lw_g (lw_at lw_m4 65 rfl) rfl
theorem q898 : (Jvm.Cond.code ({ cls := "SendHall", name := "areAllAt", desc := "(LSendHall$Life;I)Z" } : Jvm.MethodName) prog_1_method_5_code (4 : Nat) (Option.some Jvm.ClassFile.FieldType.boolean)) ∈ lw_all := lw_g (lw_at lw_m4 66 rfl) rfl
theorem q899 : (Jvm.Cond.methodLink "SendHall" (334 : Nat) ({ cls := "SendHall", name := "tries", desc := "(IIII)Z" } : Jvm.MethodName)) ∈ lw_all := lw_g (lw_at lw_m4 67 rfl) rfl
theorem q900 : (Jvm.Cond.privateMethod ({ cls := "SendHall", name := "tries", desc := "(IIII)Z" } : Jvm.MethodName)) ∈ lw_tbl := lw_at lw_m4 68 rfl
theorem q901 : (Jvm.Cond.instanceMethod ({ cls := "SendHall", name := "tries", desc := "(IIII)Z" } : Jvm.MethodName)) ∈ lw_all := lw_g (lw_at lw_m4 69 rfl) rfl
theorem q902 : (Jvm.Cond.code ({ cls := "SendHall", name := "tries", desc := "(IIII)Z" } : Jvm.MethodName) prog_1_method_26_code (7 : Nat) (Option.some Jvm.ClassFile.FieldType.boolean)) ∈ lw_all := lw_g (lw_at lw_m4 70 rfl) rfl
theorem q903 : (Jvm.Cond.methodLink "SendHall" (342 : Nat) ({ cls := "SendHall$Life", name := "copy", desc := "(LSendHall$Life;)V" } : Jvm.MethodName)) ∈ lw_all := lw_g (lw_at lw_m4 71 rfl) rfl
theorem q911 : (Jvm.Cond.methodLink "SendHall" (345 : Nat) ({ cls := "SendHall", name := "notes", desc := "(LSendHall$Life;III)V" } : Jvm.MethodName)) ∈ lw_all := lw_g (lw_at lw_m4 79 rfl) rfl
theorem q912 : (Jvm.Cond.privateMethod ({ cls := "SendHall", name := "notes", desc := "(LSendHall$Life;III)V" } : Jvm.MethodName)) ∈ lw_tbl := lw_at lw_m4 80 rfl
theorem q913 : (Jvm.Cond.instanceMethod ({ cls := "SendHall", name := "notes", desc := "(LSendHall$Life;III)V" } : Jvm.MethodName)) ∈ lw_all := lw_g (lw_at lw_m4 81 rfl) rfl
theorem q914 : (Jvm.Cond.code ({ cls := "SendHall", name := "notes", desc := "(LSendHall$Life;III)V" } : Jvm.MethodName) prog_1_method_27_code (6 : Nat) (Option.none : Option Jvm.ClassFile.FieldType)) ∈ lw_all := lw_g (lw_at lw_m4 82 rfl) rfl
theorem q915 : (Jvm.Cond.methodLink "SendHall" (349 : Nat) ({ cls := "SendHall", name := "move", desc := "(LSendHall$Life;III)V" } : Jvm.MethodName)) ∈ lw_all := lw_g (lw_at lw_m4 83 rfl) rfl
theorem q916 : (Jvm.Cond.privateMethod ({ cls := "SendHall", name := "move", desc := "(LSendHall$Life;III)V" } : Jvm.MethodName)) ∈ lw_tbl := lw_at lw_m4 84 rfl
theorem q917 : (Jvm.Cond.instanceMethod ({ cls := "SendHall", name := "move", desc := "(LSendHall$Life;III)V" } : Jvm.MethodName)) ∈ lw_all := lw_g (lw_at lw_m4 85 rfl) rfl
theorem q918 : (Jvm.Cond.code ({ cls := "SendHall", name := "move", desc := "(LSendHall$Life;III)V" } : Jvm.MethodName) prog_1_method_8_code (6 : Nat) (Option.none : Option Jvm.ClassFile.FieldType)) ∈ lw_all := lw_g (lw_at lw_m4 86 rfl) rfl
theorem q919 : (Jvm.Cond.methodLink "SendHall" (122 : Nat) ({ cls := "SendHall", name := "sends", desc := "(LSendHall$Life;ILSendHall$Send;I)V" } : Jvm.MethodName)) ∈ lw_all := lw_g (lw_at lw_m4 87 rfl) rfl
theorem q920 : (Jvm.Cond.privateMethod ({ cls := "SendHall", name := "sends", desc := "(LSendHall$Life;ILSendHall$Send;I)V" } : Jvm.MethodName)) ∈ lw_tbl := lw_at lw_m4 88 rfl
theorem q921 : (Jvm.Cond.instanceMethod ({ cls := "SendHall", name := "sends", desc := "(LSendHall$Life;ILSendHall$Send;I)V" } : Jvm.MethodName)) ∈ lw_all := lw_g (lw_at lw_m4 89 rfl) rfl
theorem q922 : (Jvm.Cond.code ({ cls := "SendHall", name := "sends", desc := "(LSendHall$Life;ILSendHall$Send;I)V" } : Jvm.MethodName) prog_1_method_9_code (8 : Nat) (Option.none : Option Jvm.ClassFile.FieldType)) ∈ lw_all := lw_g (lw_at lw_m4 90 rfl) rfl
theorem q923 : (Jvm.Cond.methodLink "SendHall" (63 : Nat) ({ cls := "java/lang/Math", name := "abs", desc := "(I)I" } : Jvm.MethodName)) ∈ lw_all := lw_g (lw_at lw_m4 91 rfl) rfl
theorem q926 : (Jvm.Cond.interfaceEntry "SendHall" (153 : Nat)) ∈ lw_tbl := lw_at lw_m4 94 rfl
theorem q927 : (Jvm.Cond.methodLink "SendHall" (153 : Nat) ({ cls := "SendHall$Expr", name := "value", desc := "(LSendHall$Life;I)I" } : Jvm.MethodName)) ∈ lw_all := lw_g (lw_at lw_m4 95 rfl) rfl
theorem q928 : (Jvm.Cond.methodLink "SendHall" (161 : Nat) ({ cls := "SendHall$Life", name := "lie", desc := "(IIIIII)V" } : Jvm.MethodName)) ∈ lw_all := lw_g (lw_at lw_m4 96 rfl) rfl
theorem q932 : (Jvm.Cond.methodLink "SendHall" (165 : Nat) ({ cls := "java/lang/Math", name := "max", desc := "(II)I" } : Jvm.MethodName)) ∈ lw_all := lw_g (lw_at lw_m4 100 rfl) rfl
theorem q933 : (Jvm.Cond.methodLink "SendHall" (132 : Nat) ({ cls := "SendHall", name := "clocks", desc := "(II)V" } : Jvm.MethodName)) ∈ lw_all := lw_g (lw_at lw_m4 101 rfl) rfl
theorem q934 : (Jvm.Cond.privateMethod ({ cls := "SendHall", name := "clocks", desc := "(II)V" } : Jvm.MethodName)) ∈ lw_tbl := lw_at lw_m4 102 rfl
theorem q935 : (Jvm.Cond.instanceMethod ({ cls := "SendHall", name := "clocks", desc := "(II)V" } : Jvm.MethodName)) ∈ lw_all := lw_g (lw_at lw_m4 103 rfl) rfl
theorem q936 : (Jvm.Cond.code ({ cls := "SendHall", name := "clocks", desc := "(II)V" } : Jvm.MethodName) prog_1_method_12_code (3 : Nat) (Option.none : Option Jvm.ClassFile.FieldType)) ∈ lw_all := lw_g (lw_at lw_m4 104 rfl) rfl
theorem q937 : (Jvm.Cond.methodLink "SendHall" (168 : Nat) ({ cls := "SendHall", name := "gets", desc := "(LSendHall$Life;IIII)V" } : Jvm.MethodName)) ∈ lw_all := lw_g (lw_at lw_m4 105 rfl) rfl
theorem q938 : (Jvm.Cond.privateMethod ({ cls := "SendHall", name := "gets", desc := "(LSendHall$Life;IIII)V" } : Jvm.MethodName)) ∈ lw_tbl := lw_at lw_m4 106 rfl
theorem q939 : (Jvm.Cond.instanceMethod ({ cls := "SendHall", name := "gets", desc := "(LSendHall$Life;IIII)V" } : Jvm.MethodName)) ∈ lw_all := lw_g (lw_at lw_m4 107 rfl) rfl
theorem q940 : (Jvm.Cond.code ({ cls := "SendHall", name := "gets", desc := "(LSendHall$Life;IIII)V" } : Jvm.MethodName) prog_1_method_3_code (7 : Nat) (Option.none : Option Jvm.ClassFile.FieldType)) ∈ lw_all := lw_g (lw_at lw_m4 108 rfl) rfl
theorem q941 : (Jvm.Cond.methodLink "SendHall" (126 : Nat) ({ cls := "SendHall", name := "takes", desc := "(LSendHall$Life;II)V" } : Jvm.MethodName)) ∈ lw_all := lw_g (lw_at lw_m4 109 rfl) rfl
theorem q942 : (Jvm.Cond.privateMethod ({ cls := "SendHall", name := "takes", desc := "(LSendHall$Life;II)V" } : Jvm.MethodName)) ∈ lw_tbl := lw_at lw_m4 110 rfl
theorem q943 : (Jvm.Cond.instanceMethod ({ cls := "SendHall", name := "takes", desc := "(LSendHall$Life;II)V" } : Jvm.MethodName)) ∈ lw_all := lw_g (lw_at lw_m4 111 rfl) rfl
theorem q944 : (Jvm.Cond.code ({ cls := "SendHall", name := "takes", desc := "(LSendHall$Life;II)V" } : Jvm.MethodName) prog_1_method_10_code (7 : Nat) (Option.none : Option Jvm.ClassFile.FieldType)) ∈ lw_all := lw_g (lw_at lw_m4 112 rfl) rfl
theorem q945 : (Jvm.Cond.methodLink "SendHall" (180 : Nat) ({ cls := "SendHall$Life", name := "takeOut", desc := "(I)V" } : Jvm.MethodName)) ∈ lw_all := lw_g (lw_at lw_m4 113 rfl) rfl
theorem q949 : (Jvm.Cond.methodLink "SendHall" (139 : Nat) ({ cls := "SendHall", name := "together", desc := "(LSendHall$Life;I)V" } : Jvm.MethodName)) ∈ lw_all := lw_g (lw_at lw_m4 117 rfl) rfl
theorem q950 : (Jvm.Cond.privateMethod ({ cls := "SendHall", name := "together", desc := "(LSendHall$Life;I)V" } : Jvm.MethodName)) ∈ lw_tbl := lw_at lw_m4 118 rfl
theorem q951 : (Jvm.Cond.instanceMethod ({ cls := "SendHall", name := "together", desc := "(LSendHall$Life;I)V" } : Jvm.MethodName)) ∈ lw_all := lw_g (lw_at lw_m4 119 rfl) rfl
theorem q952 : (Jvm.Cond.code ({ cls := "SendHall", name := "together", desc := "(LSendHall$Life;I)V" } : Jvm.MethodName) prog_1_method_11_code (7 : Nat) (Option.none : Option Jvm.ClassFile.FieldType)) ∈ lw_all := lw_g (lw_at lw_m4 120 rfl) rfl
theorem q953 : (Jvm.Cond.classLink "SendHall" (184 : Nat) "SendHall$Plain") ∈ lw_all := lw_g (lw_at lw_m4 121 rfl) rfl
theorem q954 : (Jvm.Cond.methodLink "SendHall" (352 : Nat) ({ cls := "SendHall$Life", name := "isLike", desc := "(LSendHall$Life;)Z" } : Jvm.MethodName)) ∈ lw_all := lw_g (lw_at lw_m4 122 rfl) rfl
theorem q958 : (Jvm.Cond.methodLink "SendHall" (338 : Nat) ({ cls := "SendHall", name := "endsWith", desc := "(LSendHall$Life;)V" } : Jvm.MethodName)) ∈ lw_all := lw_g (lw_at lw_m4 126 rfl) rfl
theorem q959 : (Jvm.Cond.privateMethod ({ cls := "SendHall", name := "endsWith", desc := "(LSendHall$Life;)V" } : Jvm.MethodName)) ∈ lw_tbl := lw_at lw_m4 127 rfl
theorem q960 : (Jvm.Cond.instanceMethod ({ cls := "SendHall", name := "endsWith", desc := "(LSendHall$Life;)V" } : Jvm.MethodName)) ∈ lw_all := lw_g (lw_at lw_m4 128 rfl) rfl
theorem q961 : (Jvm.Cond.code ({ cls := "SendHall", name := "endsWith", desc := "(LSendHall$Life;)V" } : Jvm.MethodName) prog_1_method_28_code (4 : Nat) (Option.none : Option Jvm.ClassFile.FieldType)) ∈ lw_all := lw_g (lw_at lw_m4 129 rfl) rfl
theorem q962 : (Jvm.Cond.classLink "SendHall" (356 : Nat) "SendHall$Ending") ∈ lw_all := lw_g (lw_at lw_m4 130 rfl) rfl
theorem q964 : (Jvm.Cond.methodLinkNest "SendHall" (358 : Nat) ({ cls := "SendHall$Ending", name := "<init>", desc := "()V" } : Jvm.MethodName) "SendHall") ∈ lw_tbl := lw_at lw_m4 132 rfl
theorem q969 : (Jvm.Cond.fieldLinkNest "SendHall" (361 : Nat) "SendHall$Ending" "kind" "I" "SendHall") ∈ lw_tbl := lw_at lw_m4 137 rfl
theorem q971 : (Jvm.Cond.fieldLinkNest "SendHall" (362 : Nat) "SendHall$Ending" "words" "I" "SendHall") ∈ lw_tbl := lw_at lw_m4 139 rfl
theorem q973 : (Jvm.Cond.fieldLinkNest "SendHall" (366 : Nat) "SendHall$Ending" "bits" "I" "SendHall") ∈ lw_tbl := lw_at lw_m4 141 rfl
theorem q975 : (Jvm.Cond.fieldLinkNest "SendHall" (368 : Nat) "SendHall$Ending" "told" "[I" "SendHall") ∈ lw_tbl := lw_at lw_m4 143 rfl
theorem q985 : (Jvm.Cond.methodLink "SendHall" (359 : Nat) ({ cls := "SendHall$Life", name := "kind", desc := "()I" } : Jvm.MethodName)) ∈ lw_all := lw_g (lw_at lw_m4 153 rfl) rfl
theorem q994 : (Jvm.Cond.methodLink "SendHall" (363 : Nat) ({ cls := "SendHall$Life", name := "bits", desc := "()I" } : Jvm.MethodName)) ∈ lw_all := lw_g (lw_at lw_m4 162 rfl) rfl
theorem q995 : (Jvm.Cond.methodLink "SendHall" (207 : Nat) ({ cls := "java/util/ArrayList", name := "size", desc := "()I" } : Jvm.MethodName)) ∈ lw_all := lw_g (lw_at lw_m4 163 rfl) rfl
theorem q996 : (Jvm.Cond.methodLink "SendHall" (314 : Nat) ({ cls := "java/util/ArrayList", name := "get", desc := "(I)Ljava/lang/Object;" } : Jvm.MethodName)) ∈ lw_all := lw_g (lw_at lw_m4 164 rfl) rfl
theorem q997 : (Jvm.Cond.methodLink "SendHall" (369 : Nat) ({ cls := "SendHall$Ending", name := "isAhead", desc := "(LSendHall$Ending;I)Z" } : Jvm.MethodName)) ∈ lw_all := lw_g (lw_at lw_m4 165 rfl) rfl
theorem q1001 : (Jvm.Cond.methodLink "SendHall" (373 : Nat) ({ cls := "SendHall$Ending", name := "isLike", desc := "(LSendHall$Ending;I)Z" } : Jvm.MethodName)) ∈ lw_all := lw_g (lw_at lw_m4 169 rfl) rfl
theorem q1006 : (Jvm.Cond.methodLink "SendHall" (375 : Nat) ({ cls := "java/util/ArrayList", name := "add", desc := "(ILjava/lang/Object;)V" } : Jvm.MethodName)) ∈ lw_all := lw_g (lw_at lw_m4 174 rfl) rfl
theorem q1031 : (Jvm.Cond.selects "SendHall" ({ cls := "java/lang/Object", name := "getClass", desc := "()Ljava/lang/Class;" } : Jvm.MethodName) ({ cls := "java/lang/Object", name := "getClass", desc := "()Ljava/lang/Class;" } : Jvm.MethodName)) ∈ lw_all := lw_g (lw_at lw_m4 199 rfl) rfl
theorem q1064 : (Jvm.Cond.instanceMethod ({ cls := "SendHall", name := "differs", desc := "()Z" } : Jvm.MethodName)) ∈ lw_all := lw_g (lw_at lw_m4 232 rfl) rfl
theorem q1065 : (Jvm.Cond.selects "SendHall" ({ cls := "SendHall", name := "differs", desc := "()Z" } : Jvm.MethodName) ({ cls := "SendHall", name := "differs", desc := "()Z" } : Jvm.MethodName)) ∈ lw_all := lw_g (lw_at lw_m4 233 rfl) rfl
theorem q1066 : (Jvm.Cond.code ({ cls := "SendHall", name := "differs", desc := "()Z" } : Jvm.MethodName) prog_1_method_34_code (5 : Nat) (Option.some Jvm.ClassFile.FieldType.boolean)) ∈ lw_all := lw_g (lw_at lw_m4 234 rfl) rfl
theorem q1068 : (Jvm.Cond.instanceMethod ({ cls := "SendHall", name := "needs", desc := "()I" } : Jvm.MethodName)) ∈ lw_all := lw_g (lw_at lw_m4 236 rfl) rfl
theorem q1069 : (Jvm.Cond.selects "SendHall" ({ cls := "SendHall", name := "needs", desc := "()I" } : Jvm.MethodName) ({ cls := "SendHall", name := "needs", desc := "()I" } : Jvm.MethodName)) ∈ lw_all := lw_g (lw_at lw_m4 237 rfl) rfl
theorem q1070 : (Jvm.Cond.code ({ cls := "SendHall", name := "needs", desc := "()I" } : Jvm.MethodName) prog_1_method_36_code (2 : Nat) (Option.some Jvm.ClassFile.FieldType.int)) ∈ lw_all := lw_g (lw_at lw_m4 238 rfl) rfl
theorem q1071 : (Jvm.Cond.methodLink "SendHall" (392 : Nat) ({ cls := "SendHall", name := "hasLocked", desc := "()Z" } : Jvm.MethodName)) ∈ lw_all := lw_g (lw_at lw_m4 239 rfl) rfl
theorem q1072 : (Jvm.Cond.privateMethod ({ cls := "SendHall", name := "hasLocked", desc := "()Z" } : Jvm.MethodName)) ∈ lw_tbl := lw_at lw_m5 0 rfl
theorem q1073 : (Jvm.Cond.instanceMethod ({ cls := "SendHall", name := "hasLocked", desc := "()Z" } : Jvm.MethodName)) ∈ lw_all := lw_g (lw_at lw_m5 1 rfl) rfl
theorem q1074 : (Jvm.Cond.code ({ cls := "SendHall", name := "hasLocked", desc := "()Z" } : Jvm.MethodName) prog_1_method_30_code (1 : Nat) (Option.some Jvm.ClassFile.FieldType.boolean)) ∈ lw_all := lw_g (lw_at lw_m5 2 rfl) rfl
theorem q1075 : (Jvm.Cond.methodLink "SendHall" (385 : Nat) ({ cls := "java/util/ArrayList", name := "isEmpty", desc := "()Z" } : Jvm.MethodName)) ∈ lw_all := lw_g (lw_at lw_m5 3 rfl) rfl
theorem q1080 : (Jvm.Cond.instanceMethod ({ cls := "SendHall", name := "cut", desc := "()I" } : Jvm.MethodName)) ∈ lw_all := lw_g (lw_at lw_m5 8 rfl) rfl
theorem q1081 : (Jvm.Cond.selects "SendHall" ({ cls := "SendHall", name := "cut", desc := "()I" } : Jvm.MethodName) ({ cls := "SendHall", name := "cut", desc := "()I" } : Jvm.MethodName)) ∈ lw_all := lw_g (lw_at lw_m5 9 rfl) rfl
theorem q1082 : (Jvm.Cond.code ({ cls := "SendHall", name := "cut", desc := "()I" } : Jvm.MethodName) prog_1_method_37_code (3 : Nat) (Option.some Jvm.ClassFile.FieldType.int)) ∈ lw_all := lw_g (lw_at lw_m5 10 rfl) rfl
theorem q1083 : (Jvm.Cond.classLink "SendHall" (8 : Nat) "SendHall$Step") ∈ lw_all := lw_g (lw_at lw_m5 11 rfl) rfl
theorem q1089 : (Jvm.Cond.instanceMethod ({ cls := "SendHall", name := "text", desc := "(I)I" } : Jvm.MethodName)) ∈ lw_all := lw_g (lw_at lw_m5 17 rfl) rfl
theorem q1090 : (Jvm.Cond.selects "SendHall" ({ cls := "SendHall", name := "text", desc := "(I)I" } : Jvm.MethodName) ({ cls := "SendHall", name := "text", desc := "(I)I" } : Jvm.MethodName)) ∈ lw_all := lw_g (lw_at lw_m5 18 rfl) rfl
theorem q1091 : (Jvm.Cond.codeWith ({ cls := "SendHall", name := "text", desc := "(I)I" } : Jvm.MethodName) prog_1_method_20_code (3 : Nat) (Option.some Jvm.ClassFile.FieldType.int) [((30 : Nat), (65 : Nat), (66 : Nat), (293 : Nat))]) ∈ lw_all := lw_g (lw_at lw_m5 19 rfl) rfl
theorem q1092 : (Jvm.Cond.classLink "SendHall" (293 : Nat) "SendHall$Fault") ∈ lw_all := lw_g (lw_at lw_m5 20 rfl) rfl
theorem q1093 : (Jvm.Cond.methodLink "SendHall" (270 : Nat) ({ cls := "SendHall", name := "right", desc := "(Z)V" } : Jvm.MethodName)) ∈ lw_all := lw_g (lw_at lw_m5 21 rfl) rfl
theorem q1094 : (Jvm.Cond.static ({ cls := "SendHall", name := "right", desc := "(Z)V" } : Jvm.MethodName)) ∈ lw_all := lw_g (lw_at lw_m5 22 rfl) rfl
theorem q1095 : (Jvm.Cond.code ({ cls := "SendHall", name := "right", desc := "(Z)V" } : Jvm.MethodName) prog_1_method_13_code (1 : Nat) (Option.none : Option Jvm.ClassFile.FieldType)) ∈ lw_all := lw_g (lw_at lw_m5 23 rfl) rfl
theorem q1096 : (Jvm.Cond.classLink "SendHall" (194 : Nat) "java/lang/IllegalArgumentException") ∈ lw_all := lw_g (lw_at lw_m5 24 rfl) rfl
theorem q1097 : (Jvm.Cond.methodLink "SendHall" (196 : Nat) ({ cls := "java/lang/IllegalArgumentException", name := "<init>", desc := "()V" } : Jvm.MethodName)) ∈ lw_all := lw_g (lw_at lw_m5 25 rfl) rfl
theorem q1107 : (Jvm.Cond.classLink "SendHall" (274 : Nat) "SendHall$Reader") ∈ lw_all := lw_g (lw_at lw_m5 35 rfl) rfl
theorem q1109 : (Jvm.Cond.methodLink "SendHall" (276 : Nat) ({ cls := "SendHall$Reader", name := "<init>", desc := "([BI)V" } : Jvm.MethodName)) ∈ lw_all := lw_g (lw_at lw_m5 37 rfl) rfl
theorem q1276 : (Jvm.Cond.methodLink "SendHall" (279 : Nat) ({ cls := "SendHall$Reader", name := "read", desc := "()LSendHall$Text;" } : Jvm.MethodName)) ∈ lw_all := lw_g (lw_at lw_m5 204 rfl) rfl
theorem q1381 : (Jvm.Cond.fieldLinkNest "SendHall" (298 : Nat) "SendHall$Fault" "kind" "I" "SendHall") ∈ lw_tbl := lw_at lw_m6 69 rfl
theorem q1383 : (Jvm.Cond.fieldLinkNest "SendHall" (295 : Nat) "SendHall$Fault" "place" "I" "SendHall") ∈ lw_tbl := lw_at lw_m6 71 rfl
theorem q1408 : (Jvm.Cond.fieldLinkNest "SendHall" (149 : Nat) "SendHall$Send" "word" "LSendHall$Expr;" "SendHall") ∈ lw_tbl := lw_at lw_m6 96 rfl
theorem q1411 : (Jvm.Cond.fieldLinkNest "SendHall" (158 : Nat) "SendHall$Send" "length" "I" "SendHall") ∈ lw_tbl := lw_at lw_m6 99 rfl
theorem q1419 : (Jvm.Cond.fieldLink "SendHall" (94 : Nat) "SendHall$Send" "kind" "I") ∈ lw_all := lw_g (lw_at lw_m6 107 rfl) rfl
theorem q1422 : (Jvm.Cond.fieldLink "SendHall" (105 : Nat) "SendHall$Step" "kind" "I") ∈ lw_all := lw_g (lw_at lw_m6 110 rfl) rfl
theorem q1428 : (Jvm.Cond.fieldLink "SendHall" (7 : Nat) "SendHall$Step" "number" "I") ∈ lw_all := lw_g (lw_at lw_m6 116 rfl) rfl
theorem q1430 : (Jvm.Cond.fieldLink "SendHall" (13 : Nat) "SendHall$Step" "next" "LSendHall$Step;") ∈ lw_all := lw_g (lw_at lw_m6 118 rfl) rfl
theorem q1435 : (Jvm.Cond.fieldLink "SendHall" (72 : Nat) "SendHall$Wait" "next" "LSendHall$Step;") ∈ lw_all := lw_g (lw_at lw_m6 123 rfl) rfl
theorem q1437 : (Jvm.Cond.fieldLink "SendHall" (172 : Nat) "SendHall$Send" "next" "LSendHall$Step;") ∈ lw_all := lw_g (lw_at lw_m6 125 rfl) rfl
theorem q1439 : (Jvm.Cond.fieldLink "SendHall" (190 : Nat) "SendHall$Plain" "next" "LSendHall$Step;") ∈ lw_all := lw_g (lw_at lw_m6 127 rfl) rfl
theorem q1593 : (Jvm.Cond.fieldLinkNest "SendHall" (61 : Nat) "SendHall$Wait" "var" "I" "SendHall") ∈ lw_tbl := lw_at lw_m7 41 rfl
theorem q1596 : (Jvm.Cond.fieldLinkNest "SendHall" (69 : Nat) "SendHall$Wait" "most" "I" "SendHall") ∈ lw_tbl := lw_at lw_m7 44 rfl
theorem q1686 : (Jvm.Cond.fieldLinkNest "SendHall" (186 : Nat) "SendHall$Plain" "e" "LSendHall$Expr;" "SendHall") ∈ lw_tbl := lw_at lw_m7 134 rfl
theorem q1688 : (Jvm.Cond.fieldLinkNest "SendHall" (189 : Nat) "SendHall$Plain" "var" "I" "SendHall") ∈ lw_tbl := lw_at lw_m7 136 rfl
theorem q1718 : (Jvm.Cond.instanceMethod ({ cls := "SendHall", name := "count", desc := "(I)I" } : Jvm.MethodName)) ∈ lw_all := lw_g (lw_at lw_m7 166 rfl) rfl
theorem q1719 : (Jvm.Cond.selects "SendHall" ({ cls := "SendHall", name := "count", desc := "(I)I" } : Jvm.MethodName) ({ cls := "SendHall", name := "count", desc := "(I)I" } : Jvm.MethodName)) ∈ lw_all := lw_g (lw_at lw_m7 167 rfl) rfl
theorem q1720 : (Jvm.Cond.code ({ cls := "SendHall", name := "count", desc := "(I)I" } : Jvm.MethodName) prog_1_method_23_code (2 : Nat) (Option.some Jvm.ClassFile.FieldType.int)) ∈ lw_all := lw_g (lw_at lw_m7 168 rfl) rfl
theorem q1721 : (Jvm.Cond.methodLink "SendHall" (306 : Nat) ({ cls := "SendHall", name := "there", desc := "(Z)V" } : Jvm.MethodName)) ∈ lw_all := lw_g (lw_at lw_m7 169 rfl) rfl
theorem q1722 : (Jvm.Cond.static ({ cls := "SendHall", name := "there", desc := "(Z)V" } : Jvm.MethodName)) ∈ lw_all := lw_g (lw_at lw_m7 170 rfl) rfl
theorem q1723 : (Jvm.Cond.code ({ cls := "SendHall", name := "there", desc := "(Z)V" } : Jvm.MethodName) prog_1_method_14_code (1 : Nat) (Option.none : Option Jvm.ClassFile.FieldType)) ∈ lw_all := lw_g (lw_at lw_m7 171 rfl) rfl
theorem q1724 : (Jvm.Cond.classLink "SendHall" (200 : Nat) "java/util/NoSuchElementException") ∈ lw_all := lw_g (lw_at lw_m7 172 rfl) rfl
theorem q1733 : (Jvm.Cond.methodLink "SendHall" (202 : Nat) ({ cls := "java/util/NoSuchElementException", name := "<init>", desc := "()V" } : Jvm.MethodName)) ∈ lw_all := lw_g (lw_at lw_m7 181 rfl) rfl
theorem q1743 : (Jvm.Cond.instanceMethod ({ cls := "SendHall", name := "step", desc := "(I)I" } : Jvm.MethodName)) ∈ lw_all := lw_g (lw_at lw_m7 191 rfl) rfl
theorem q1744 : (Jvm.Cond.selects "SendHall" ({ cls := "SendHall", name := "step", desc := "(I)I" } : Jvm.MethodName) ({ cls := "SendHall", name := "step", desc := "(I)I" } : Jvm.MethodName)) ∈ lw_all := lw_g (lw_at lw_m7 192 rfl) rfl
theorem q1745 : (Jvm.Cond.code ({ cls := "SendHall", name := "step", desc := "(I)I" } : Jvm.MethodName) prog_1_method_24_code (2 : Nat) (Option.some Jvm.ClassFile.FieldType.int)) ∈ lw_all := lw_g (lw_at lw_m7 193 rfl) rfl
theorem q1746 : (Jvm.Cond.methodLink "SendHall" (311 : Nat) ({ cls := "SendHall", name := "isStep", desc := "(I)Z" } : Jvm.MethodName)) ∈ lw_all := lw_g (lw_at lw_m7 194 rfl) rfl
theorem q1747 : (Jvm.Cond.privateMethod ({ cls := "SendHall", name := "isStep", desc := "(I)Z" } : Jvm.MethodName)) ∈ lw_tbl := lw_at lw_m7 195 rfl
theorem q1748 : (Jvm.Cond.instanceMethod ({ cls := "SendHall", name := "isStep", desc := "(I)Z" } : Jvm.MethodName)) ∈ lw_all := lw_g (lw_at lw_m7 196 rfl) rfl
theorem q1749 : (Jvm.Cond.code ({ cls := "SendHall", name := "isStep", desc := "(I)Z" } : Jvm.MethodName) prog_1_method_16_code (2 : Nat) (Option.some Jvm.ClassFile.FieldType.boolean)) ∈ lw_all := lw_g (lw_at lw_m7 197 rfl) rfl
theorem q1754 : (Jvm.Cond.instanceMethod ({ cls := "SendHall", name := "endings", desc := "(I)I" } : Jvm.MethodName)) ∈ lw_all := lw_g (lw_at lw_m7 202 rfl) rfl
theorem q1755 : (Jvm.Cond.selects "SendHall" ({ cls := "SendHall", name := "endings", desc := "(I)I" } : Jvm.MethodName) ({ cls := "SendHall", name := "endings", desc := "(I)I" } : Jvm.MethodName)) ∈ lw_all := lw_g (lw_at lw_m7 203 rfl) rfl
theorem q1756 : (Jvm.Cond.code ({ cls := "SendHall", name := "endings", desc := "(I)I" } : Jvm.MethodName) prog_1_method_32_code (4 : Nat) (Option.some Jvm.ClassFile.FieldType.int)) ∈ lw_all := lw_g (lw_at lw_m7 204 rfl) rfl
theorem q1761 : (Jvm.Cond.instanceMethod ({ cls := "SendHall", name := "ending", desc := "(II)I" } : Jvm.MethodName)) ∈ lw_all := lw_g (lw_at lw_m7 209 rfl) rfl
theorem q1762 : (Jvm.Cond.selects "SendHall" ({ cls := "SendHall", name := "ending", desc := "(II)I" } : Jvm.MethodName) ({ cls := "SendHall", name := "ending", desc := "(II)I" } : Jvm.MethodName)) ∈ lw_all := lw_g (lw_at lw_m7 210 rfl) rfl
theorem q1763 : (Jvm.Cond.code ({ cls := "SendHall", name := "ending", desc := "(II)I" } : Jvm.MethodName) prog_1_method_33_code (4 : Nat) (Option.some Jvm.ClassFile.FieldType.int)) ∈ lw_all := lw_g (lw_at lw_m7 211 rfl) rfl
theorem q1768 : (Jvm.Cond.instanceMethod ({ cls := "SendHall", name := "could", desc := "(II)I" } : Jvm.MethodName)) ∈ lw_all := lw_g (lw_at lw_m7 216 rfl) rfl
theorem q1769 : (Jvm.Cond.selects "SendHall" ({ cls := "SendHall", name := "could", desc := "(II)I" } : Jvm.MethodName) ({ cls := "SendHall", name := "could", desc := "(II)I" } : Jvm.MethodName)) ∈ lw_all := lw_g (lw_at lw_m7 217 rfl) rfl
theorem q1770 : (Jvm.Cond.code ({ cls := "SendHall", name := "could", desc := "(II)I" } : Jvm.MethodName) prog_1_method_35_code (3 : Nat) (Option.some Jvm.ClassFile.FieldType.int)) ∈ lw_all := lw_g (lw_at lw_m7 218 rfl) rfl
theorem q1775 : (Jvm.Cond.instanceMethod ({ cls := "SendHall", name := "left", desc := "(I)Z" } : Jvm.MethodName)) ∈ lw_all := lw_g (lw_at lw_m7 223 rfl) rfl
theorem q1776 : (Jvm.Cond.selects "SendHall" ({ cls := "SendHall", name := "left", desc := "(I)Z" } : Jvm.MethodName) ({ cls := "SendHall", name := "left", desc := "(I)Z" } : Jvm.MethodName)) ∈ lw_all := lw_g (lw_at lw_m7 224 rfl) rfl
theorem q1777 : (Jvm.Cond.code ({ cls := "SendHall", name := "left", desc := "(I)Z" } : Jvm.MethodName) prog_1_method_38_code (2 : Nat) (Option.some Jvm.ClassFile.FieldType.boolean)) ∈ lw_all := lw_g (lw_at lw_m7 225 rfl) rfl
theorem q1782 : (Jvm.Cond.instanceMethod ({ cls := "SendHall", name := "play", desc := "(IJ)I" } : Jvm.MethodName)) ∈ lw_all := lw_g (lw_at lw_m7 230 rfl) rfl
theorem q1783 : (Jvm.Cond.selects "SendHall" ({ cls := "SendHall", name := "play", desc := "(IJ)I" } : Jvm.MethodName) ({ cls := "SendHall", name := "play", desc := "(IJ)I" } : Jvm.MethodName)) ∈ lw_all := lw_g (lw_at lw_m7 231 rfl) rfl
theorem q1784 : (Jvm.Cond.code ({ cls := "SendHall", name := "play", desc := "(IJ)I" } : Jvm.MethodName) prog_1_method_42_code (5 : Nat) (Option.some Jvm.ClassFile.FieldType.int)) ∈ lw_all := lw_g (lw_at lw_m7 232 rfl) rfl
theorem q1785 : (Jvm.Cond.constantLong "SendHall" (412 : Nat) (15 : Int64)) ∈ lw_all := lw_g (lw_at lw_m7 233 rfl) rfl
theorem q1786 : (Jvm.Cond.methodLink "SendHall" (414 : Nat) ({ cls := "SendHall", name := "plays", desc := "(LSendHall$Life;II)V" } : Jvm.MethodName)) ∈ lw_all := lw_g (lw_at lw_m7 234 rfl) rfl
theorem q1787 : (Jvm.Cond.privateMethod ({ cls := "SendHall", name := "plays", desc := "(LSendHall$Life;II)V" } : Jvm.MethodName)) ∈ lw_tbl := lw_at lw_m7 235 rfl
theorem q1788 : (Jvm.Cond.instanceMethod ({ cls := "SendHall", name := "plays", desc := "(LSendHall$Life;II)V" } : Jvm.MethodName)) ∈ lw_all := lw_g (lw_at lw_m7 236 rfl) rfl
theorem q1789 : (Jvm.Cond.code ({ cls := "SendHall", name := "plays", desc := "(LSendHall$Life;II)V" } : Jvm.MethodName) prog_1_method_41_code (6 : Nat) (Option.none : Option Jvm.ClassFile.FieldType)) ∈ lw_all := lw_g (lw_at lw_m7 237 rfl) rfl
theorem q1790 : (Jvm.Cond.methodLink "SendHall" (409 : Nat) ({ cls := "SendHall", name := "goesOn", desc := "(LSendHall$Life;II)Z" } : Jvm.MethodName)) ∈ lw_all := lw_g (lw_at lw_m7 238 rfl) rfl
theorem q1791 : (Jvm.Cond.privateMethod ({ cls := "SendHall", name := "goesOn", desc := "(LSendHall$Life;II)Z" } : Jvm.MethodName)) ∈ lw_tbl := lw_at lw_m7 239 rfl
theorem q1792 : (Jvm.Cond.instanceMethod ({ cls := "SendHall", name := "goesOn", desc := "(LSendHall$Life;II)Z" } : Jvm.MethodName)) ∈ lw_all := lw_g (lw_at lw_m8 0 rfl) rfl
theorem q1793 : (Jvm.Cond.code ({ cls := "SendHall", name := "goesOn", desc := "(LSendHall$Life;II)Z" } : Jvm.MethodName) prog_1_method_40_code (8 : Nat) (Option.some Jvm.ClassFile.FieldType.boolean)) ∈ lw_all := lw_g (lw_at lw_m8 1 rfl) rfl
theorem q1794 : (Jvm.Cond.methodLink "SendHall" (401 : Nat) ({ cls := "SendHall", name := "nextChoice", desc := "()I" } : Jvm.MethodName)) ∈ lw_all := lw_g (lw_at lw_m8 2 rfl) rfl
theorem q1795 : (Jvm.Cond.privateMethod ({ cls := "SendHall", name := "nextChoice", desc := "()I" } : Jvm.MethodName)) ∈ lw_tbl := lw_at lw_m8 3 rfl
theorem q1796 : (Jvm.Cond.instanceMethod ({ cls := "SendHall", name := "nextChoice", desc := "()I" } : Jvm.MethodName)) ∈ lw_all := lw_g (lw_at lw_m8 4 rfl) rfl
theorem q1797 : (Jvm.Cond.code ({ cls := "SendHall", name := "nextChoice", desc := "()I" } : Jvm.MethodName) prog_1_method_39_code (1 : Nat) (Option.some Jvm.ClassFile.FieldType.int)) ∈ lw_all := lw_g (lw_at lw_m8 5 rfl) rfl
theorem q1798 : (Jvm.Cond.methodLink "SendHall" (404 : Nat) ({ cls := "java/lang/Integer", name := "numberOfTrailingZeros", desc := "(I)I" } : Jvm.MethodName)) ∈ lw_all := lw_g (lw_at lw_m8 6 rfl) rfl
theorem q1802 : (Jvm.Cond.methodLink "SendHall" (417 : Nat) ({ cls := "SendHall", name := "rounds", desc := "()V" } : Jvm.MethodName)) ∈ lw_all := lw_g (lw_at lw_m8 10 rfl) rfl
theorem q1803 : (Jvm.Cond.privateMethod ({ cls := "SendHall", name := "rounds", desc := "()V" } : Jvm.MethodName)) ∈ lw_tbl := lw_at lw_m8 11 rfl
theorem q1804 : (Jvm.Cond.instanceMethod ({ cls := "SendHall", name := "rounds", desc := "()V" } : Jvm.MethodName)) ∈ lw_all := lw_g (lw_at lw_m8 12 rfl) rfl
theorem q1805 : (Jvm.Cond.code ({ cls := "SendHall", name := "rounds", desc := "()V" } : Jvm.MethodName) prog_1_method_44_code (7 : Nat) (Option.none : Option Jvm.ClassFile.FieldType)) ∈ lw_all := lw_g (lw_at lw_m8 13 rfl) rfl
theorem q1806 : (Jvm.Cond.methodLink "SendHall" (426 : Nat) ({ cls := "SendHall", name := "waitsFor", desc := "(LSendHall$Life;I)I" } : Jvm.MethodName)) ∈ lw_all := lw_g (lw_at lw_m8 14 rfl) rfl
theorem q1807 : (Jvm.Cond.privateMethod ({ cls := "SendHall", name := "waitsFor", desc := "(LSendHall$Life;I)I" } : Jvm.MethodName)) ∈ lw_tbl := lw_at lw_m8 15 rfl
theorem q1808 : (Jvm.Cond.instanceMethod ({ cls := "SendHall", name := "waitsFor", desc := "(LSendHall$Life;I)I" } : Jvm.MethodName)) ∈ lw_all := lw_g (lw_at lw_m8 16 rfl) rfl
theorem q1809 : (Jvm.Cond.code ({ cls := "SendHall", name := "waitsFor", desc := "(LSendHall$Life;I)I" } : Jvm.MethodName) prog_1_method_43_code (6 : Nat) (Option.some Jvm.ClassFile.FieldType.int)) ∈ lw_all := lw_g (lw_at lw_m8 17 rfl) rfl
theorem q1814 : (Jvm.Cond.instanceMethod ({ cls := "SendHall", name := "of", desc := "(II)I" } : Jvm.MethodName)) ∈ lw_all := lw_g (lw_at lw_m8 22 rfl) rfl
theorem q1815 : (Jvm.Cond.selects "SendHall" ({ cls := "SendHall", name := "of", desc := "(II)I" } : Jvm.MethodName) ({ cls := "SendHall", name := "of", desc := "(II)I" } : Jvm.MethodName)) ∈ lw_all := lw_g (lw_at lw_m8 23 rfl) rfl
theorem q1816 : (Jvm.Cond.code ({ cls := "SendHall", name := "of", desc := "(II)I" } : Jvm.MethodName) prog_1_method_45_code (3 : Nat) (Option.some Jvm.ClassFile.FieldType.int)) ∈ lw_all := lw_g (lw_at lw_m8 24 rfl) rfl
theorem q1821 : (Jvm.Cond.instanceMethod ({ cls := "SendHall", name := "ring", desc := "(I)I" } : Jvm.MethodName)) ∈ lw_all := lw_g (lw_at lw_m8 29 rfl) rfl
theorem q1822 : (Jvm.Cond.selects "SendHall" ({ cls := "SendHall", name := "ring", desc := "(I)I" } : Jvm.MethodName) ({ cls := "SendHall", name := "ring", desc := "(I)I" } : Jvm.MethodName)) ∈ lw_all := lw_g (lw_at lw_m8 30 rfl) rfl
theorem q1823 : (Jvm.Cond.code ({ cls := "SendHall", name := "ring", desc := "(I)I" } : Jvm.MethodName) prog_1_method_46_code (2 : Nat) (Option.some Jvm.ClassFile.FieldType.int)) ∈ lw_all := lw_g (lw_at lw_m8 31 rfl) rfl
theorem q1828 : (Jvm.Cond.instanceMethod ({ cls := "SendHall", name := "chose", desc := "(I)I" } : Jvm.MethodName)) ∈ lw_all := lw_g (lw_at lw_m8 36 rfl) rfl
theorem q1829 : (Jvm.Cond.selects "SendHall" ({ cls := "SendHall", name := "chose", desc := "(I)I" } : Jvm.MethodName) ({ cls := "SendHall", name := "chose", desc := "(I)I" } : Jvm.MethodName)) ∈ lw_all := lw_g (lw_at lw_m8 37 rfl) rfl
theorem q1830 : (Jvm.Cond.code ({ cls := "SendHall", name := "chose", desc := "(I)I" } : Jvm.MethodName) prog_1_method_47_code (2 : Nat) (Option.some Jvm.ClassFile.FieldType.int)) ∈ lw_all := lw_g (lw_at lw_m8 38 rfl) rfl
theorem q1835 : (Jvm.Cond.instanceMethod ({ cls := "SendHall", name := "least", desc := "(I)I" } : Jvm.MethodName)) ∈ lw_all := lw_g (lw_at lw_m8 43 rfl) rfl
theorem q1836 : (Jvm.Cond.selects "SendHall" ({ cls := "SendHall", name := "least", desc := "(I)I" } : Jvm.MethodName) ({ cls := "SendHall", name := "least", desc := "(I)I" } : Jvm.MethodName)) ∈ lw_all := lw_g (lw_at lw_m8 44 rfl) rfl
theorem q1837 : (Jvm.Cond.code ({ cls := "SendHall", name := "least", desc := "(I)I" } : Jvm.MethodName) prog_1_method_48_code (3 : Nat) (Option.some Jvm.ClassFile.FieldType.int)) ∈ lw_all := lw_g (lw_at lw_m8 45 rfl) rfl
theorem q2467 : (Jvm.Cond.castable "SendHall" "java/lang/Object") ∈ lw_tbl := lw_at lw_m10 195 rfl
theorem in_X1 : ∀ w ∈ wsX10, w ∈ lw_all := lw_in wsX10 [630, 632, 634, 636, 638, 640, 642, 644, 646, 648, 650, 652, 654, 656, 658, 660, 662, 664, 666, 668, 670, 672, 674, 676, 678, 680, 682, 684, 686, 688, 690, 692, 694] (by decide +kernel) (by decide +kernel)
