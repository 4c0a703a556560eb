/-! SendHallLaw -/
set_option maxRecDepth 100000
def RX0 : String := "SendHallLaw"
abbrev cX0_text : ByteArray := method_3_code
def yX0_text : MethodName := ⟨RX0, "text", "(LSendHall;I[J)I"⟩
def dkwX0_text_0 : List UInt8 := [44, 3, 42, 27, 182, 0, 7, 133, 80, 167, 0, 6, 78, 4, 172, 3, 172]
abbrev dktX0_text_0 : List UInt8 := dkwX0_text_0 ++ []
theorem dksX0_text_0 : cX0_text.data.toList.drop 0 = dktX0_text_0 := by decide +kernel
theorem dX0_text_0 : decode cX0_text 0 = .ok (.aload_n 2, 1) := dk_44 (dk_at dksX0_text_0 0 rfl rfl)
theorem dX0_text_1 : decode cX0_text 1 = .ok (.iconst 0, 1) := dk_3 (dk_at dksX0_text_0 1 rfl rfl)
theorem dX0_text_2 : decode cX0_text 2 = .ok (.aload_n 0, 1) := dk_42 (dk_at dksX0_text_0 2 rfl rfl)
theorem dX0_text_3 : decode cX0_text 3 = .ok (.iload_n 1, 1) := dk_27 (dk_at dksX0_text_0 3 rfl rfl)
theorem dX0_text_4 : decode cX0_text 4 = .ok (.invokevirtual 7, 3) := dk_182 0 7 (dk_at dksX0_text_0 4 rfl rfl)
theorem dX0_text_7 : decode cX0_text 7 = .ok (.i2l, 1) := dk_133 (dk_at dksX0_text_0 7 rfl rfl)
theorem dX0_text_8 : decode cX0_text 8 = .ok (.lastore, 1) := dk_80 (dk_at dksX0_text_0 8 rfl rfl)
theorem dX0_text_9 : decode cX0_text 9 = .ok (.goto 6, 3) := dk_167 0 6 (dk_at dksX0_text_0 9 rfl rfl)
theorem dX0_text_12 : decode cX0_text 12 = .ok (.astore_n 3, 1) := dk_78 (dk_at dksX0_text_0 12 rfl rfl)
theorem dX0_text_13 : decode cX0_text 13 = .ok (.iconst 1, 1) := dk_4 (dk_at dksX0_text_0 13 rfl rfl)
theorem dX0_text_14 : decode cX0_text 14 = .ok (.ireturn, 1) := dk_172 (dk_at dksX0_text_0 14 rfl rfl)
theorem dX0_text_15 : decode cX0_text 15 = .ok (.iconst 0, 1) := dk_3 (dk_at dksX0_text_0 15 rfl rfl)
theorem dX0_text_16 : decode cX0_text 16 = .ok (.ireturn, 1) := dk_172 (dk_at dksX0_text_0 16 rfl rfl)
abbrev cX0_count : ByteArray := method_4_code
def yX0_count : MethodName := ⟨RX0, "count", "(LSendHall;I[J)I"⟩
def dkwX0_count_0 : List UInt8 := [44, 3, 42, 27, 182, 0, 15, 133, 80, 167, 0, 6, 78, 4, 172, 3, 172]
abbrev dktX0_count_0 : List UInt8 := dkwX0_count_0 ++ []
theorem dksX0_count_0 : cX0_count.data.toList.drop 0 = dktX0_count_0 := by decide +kernel
theorem dX0_count_0 : decode cX0_count 0 = .ok (.aload_n 2, 1) := dk_44 (dk_at dksX0_count_0 0 rfl rfl)
theorem dX0_count_1 : decode cX0_count 1 = .ok (.iconst 0, 1) := dk_3 (dk_at dksX0_count_0 1 rfl rfl)
theorem dX0_count_2 : decode cX0_count 2 = .ok (.aload_n 0, 1) := dk_42 (dk_at dksX0_count_0 2 rfl rfl)
theorem dX0_count_3 : decode cX0_count 3 = .ok (.iload_n 1, 1) := dk_27 (dk_at dksX0_count_0 3 rfl rfl)
theorem dX0_count_4 : decode cX0_count 4 = .ok (.invokevirtual 15, 3) := dk_182 0 15 (dk_at dksX0_count_0 4 rfl rfl)
theorem dX0_count_7 : decode cX0_count 7 = .ok (.i2l, 1) := dk_133 (dk_at dksX0_count_0 7 rfl rfl)
theorem dX0_count_8 : decode cX0_count 8 = .ok (.lastore, 1) := dk_80 (dk_at dksX0_count_0 8 rfl rfl)
theorem dX0_count_9 : decode cX0_count 9 = .ok (.goto 6, 3) := dk_167 0 6 (dk_at dksX0_count_0 9 rfl rfl)
theorem dX0_count_12 : decode cX0_count 12 = .ok (.astore_n 3, 1) := dk_78 (dk_at dksX0_count_0 12 rfl rfl)
theorem dX0_count_13 : decode cX0_count 13 = .ok (.iconst 1, 1) := dk_4 (dk_at dksX0_count_0 13 rfl rfl)
theorem dX0_count_14 : decode cX0_count 14 = .ok (.ireturn, 1) := dk_172 (dk_at dksX0_count_0 14 rfl rfl)
theorem dX0_count_15 : decode cX0_count 15 = .ok (.iconst 0, 1) := dk_3 (dk_at dksX0_count_0 15 rfl rfl)
theorem dX0_count_16 : decode cX0_count 16 = .ok (.ireturn, 1) := dk_172 (dk_at dksX0_count_0 16 rfl rfl)
abbrev cX0_step : ByteArray := method_5_code
def yX0_step : MethodName := ⟨RX0, "step", "(LSendHall;I[J)I"⟩
def dkwX0_step_0 : List UInt8 := [44, 3, 42, 27, 182, 0, 20, 133, 80, 167, 0, 6, 78, 4, 172, 3, 172]
abbrev dktX0_step_0 : List UInt8 := dkwX0_step_0 ++ []
theorem dksX0_step_0 : cX0_step.data.toList.drop 0 = dktX0_step_0 := by decide +kernel
theorem dX0_step_0 : decode cX0_step 0 = .ok (.aload_n 2, 1) := dk_44 (dk_at dksX0_step_0 0 rfl rfl)
theorem dX0_step_1 : decode cX0_step 1 = .ok (.iconst 0, 1) := dk_3 (dk_at dksX0_step_0 1 rfl rfl)
theorem dX0_step_2 : decode cX0_step 2 = .ok (.aload_n 0, 1) := dk_42 (dk_at dksX0_step_0 2 rfl rfl)
theorem dX0_step_3 : decode cX0_step 3 = .ok (.iload_n 1, 1) := dk_27 (dk_at dksX0_step_0 3 rfl rfl)
theorem dX0_step_4 : decode cX0_step 4 = .ok (.invokevirtual 20, 3) := dk_182 0 20 (dk_at dksX0_step_0 4 rfl rfl)
theorem dX0_step_7 : decode cX0_step 7 = .ok (.i2l, 1) := dk_133 (dk_at dksX0_step_0 7 rfl rfl)
theorem dX0_step_8 : decode cX0_step 8 = .ok (.lastore, 1) := dk_80 (dk_at dksX0_step_0 8 rfl rfl)
theorem dX0_step_9 : decode cX0_step 9 = .ok (.goto 6, 3) := dk_167 0 6 (dk_at dksX0_step_0 9 rfl rfl)
theorem dX0_step_12 : decode cX0_step 12 = .ok (.astore_n 3, 1) := dk_78 (dk_at dksX0_step_0 12 rfl rfl)
theorem dX0_step_13 : decode cX0_step 13 = .ok (.iconst 1, 1) := dk_4 (dk_at dksX0_step_0 13 rfl rfl)
theorem dX0_step_14 : decode cX0_step 14 = .ok (.ireturn, 1) := dk_172 (dk_at dksX0_step_0 14 rfl rfl)
theorem dX0_step_15 : decode cX0_step 15 = .ok (.iconst 0, 1) := dk_3 (dk_at dksX0_step_0 15 rfl rfl)
theorem dX0_step_16 : decode cX0_step 16 = .ok (.ireturn, 1) := dk_172 (dk_at dksX0_step_0 16 rfl rfl)
abbrev cX0_endings : ByteArray := method_6_code
def yX0_endings : MethodName := ⟨RX0, "endings", "(LSendHall;I[J)I"⟩
def dkwX0_endings_0 : List UInt8 := [44, 3, 42, 27, 182, 0, 23, 133, 80, 167, 0, 6, 78, 4, 172, 3, 172]
abbrev dktX0_endings_0 : List UInt8 := dkwX0_endings_0 ++ []
theorem dksX0_endings_0 : cX0_endings.data.toList.drop 0 = dktX0_endings_0 := by decide +kernel
theorem dX0_endings_0 : decode cX0_endings 0 = .ok (.aload_n 2, 1) := dk_44 (dk_at dksX0_endings_0 0 rfl rfl)
theorem dX0_endings_1 : decode cX0_endings 1 = .ok (.iconst 0, 1) := dk_3 (dk_at dksX0_endings_0 1 rfl rfl)
theorem dX0_endings_2 : decode cX0_endings 2 = .ok (.aload_n 0, 1) := dk_42 (dk_at dksX0_endings_0 2 rfl rfl)
theorem dX0_endings_3 : decode cX0_endings 3 = .ok (.iload_n 1, 1) := dk_27 (dk_at dksX0_endings_0 3 rfl rfl)
theorem dX0_endings_4 : decode cX0_endings 4 = .ok (.invokevirtual 23, 3) := dk_182 0 23 (dk_at dksX0_endings_0 4 rfl rfl)
theorem dX0_endings_7 : decode cX0_endings 7 = .ok (.i2l, 1) := dk_133 (dk_at dksX0_endings_0 7 rfl rfl)
theorem dX0_endings_8 : decode cX0_endings 8 = .ok (.lastore, 1) := dk_80 (dk_at dksX0_endings_0 8 rfl rfl)
theorem dX0_endings_9 : decode cX0_endings 9 = .ok (.goto 6, 3) := dk_167 0 6 (dk_at dksX0_endings_0 9 rfl rfl)
theorem dX0_endings_12 : decode cX0_endings 12 = .ok (.astore_n 3, 1) := dk_78 (dk_at dksX0_endings_0 12 rfl rfl)
theorem dX0_endings_13 : decode cX0_endings 13 = .ok (.iconst 1, 1) := dk_4 (dk_at dksX0_endings_0 13 rfl rfl)
theorem dX0_endings_14 : decode cX0_endings 14 = .ok (.ireturn, 1) := dk_172 (dk_at dksX0_endings_0 14 rfl rfl)
theorem dX0_endings_15 : decode cX0_endings 15 = .ok (.iconst 0, 1) := dk_3 (dk_at dksX0_endings_0 15 rfl rfl)
theorem dX0_endings_16 : decode cX0_endings 16 = .ok (.ireturn, 1) := dk_172 (dk_at dksX0_endings_0 16 rfl rfl)
abbrev cX0_ending : ByteArray := method_7_code
def yX0_ending : MethodName := ⟨RX0, "ending", "(LSendHall;II[J)I"⟩
def dkwX0_ending_0 : List UInt8 := [45, 3, 42, 27, 28, 182, 0, 26, 133, 80, 167, 0, 7, 58, 4, 4, 172, 3, 172]
abbrev dktX0_ending_0 : List UInt8 := dkwX0_ending_0 ++ []
theorem dksX0_ending_0 : cX0_ending.data.toList.drop 0 = dktX0_ending_0 := by decide +kernel
theorem dX0_ending_0 : decode cX0_ending 0 = .ok (.aload_n 3, 1) := dk_45 (dk_at dksX0_ending_0 0 rfl rfl)
theorem dX0_ending_1 : decode cX0_ending 1 = .ok (.iconst 0, 1) := dk_3 (dk_at dksX0_ending_0 1 rfl rfl)
theorem dX0_ending_2 : decode cX0_ending 2 = .ok (.aload_n 0, 1) := dk_42 (dk_at dksX0_ending_0 2 rfl rfl)
theorem dX0_ending_3 : decode cX0_ending 3 = .ok (.iload_n 1, 1) := dk_27 (dk_at dksX0_ending_0 3 rfl rfl)
theorem dX0_ending_4 : decode cX0_ending 4 = .ok (.iload_n 2, 1) := dk_28 (dk_at dksX0_ending_0 4 rfl rfl)
theorem dX0_ending_5 : decode cX0_ending 5 = .ok (.invokevirtual 26, 3) := dk_182 0 26 (dk_at dksX0_ending_0 5 rfl rfl)
theorem dX0_ending_8 : decode cX0_ending 8 = .ok (.i2l, 1) := dk_133 (dk_at dksX0_ending_0 8 rfl rfl)
theorem dX0_ending_9 : decode cX0_ending 9 = .ok (.lastore, 1) := dk_80 (dk_at dksX0_ending_0 9 rfl rfl)
theorem dX0_ending_10 : decode cX0_ending 10 = .ok (.goto 7, 3) := dk_167 0 7 (dk_at dksX0_ending_0 10 rfl rfl)
theorem dX0_ending_13 : decode cX0_ending 13 = .ok (.astore 4, 2) := dk_58 4 (dk_at dksX0_ending_0 13 rfl rfl)
theorem dX0_ending_15 : decode cX0_ending 15 = .ok (.iconst 1, 1) := dk_4 (dk_at dksX0_ending_0 15 rfl rfl)
theorem dX0_ending_16 : decode cX0_ending 16 = .ok (.ireturn, 1) := dk_172 (dk_at dksX0_ending_0 16 rfl rfl)
theorem dX0_ending_17 : decode cX0_ending 17 = .ok (.iconst 0, 1) := dk_3 (dk_at dksX0_ending_0 17 rfl rfl)
theorem dX0_ending_18 : decode cX0_ending 18 = .ok (.ireturn, 1) := dk_172 (dk_at dksX0_ending_0 18 rfl rfl)
abbrev cX0_could : ByteArray := method_8_code
def yX0_could : MethodName := ⟨RX0, "could", "(LSendHall;II[J)I"⟩
def dkwX0_could_0 : List UInt8 := [45, 3, 42, 27, 28, 182, 0, 30, 133, 80, 167, 0, 7, 58, 4, 4, 172, 3, 172]
abbrev dktX0_could_0 : List UInt8 := dkwX0_could_0 ++ []
theorem dksX0_could_0 : cX0_could.data.toList.drop 0 = dktX0_could_0 := by decide +kernel
theorem dX0_could_0 : decode cX0_could 0 = .ok (.aload_n 3, 1) := dk_45 (dk_at dksX0_could_0 0 rfl rfl)
theorem dX0_could_1 : decode cX0_could 1 = .ok (.iconst 0, 1) := dk_3 (dk_at dksX0_could_0 1 rfl rfl)
theorem dX0_could_2 : decode cX0_could 2 = .ok (.aload_n 0, 1) := dk_42 (dk_at dksX0_could_0 2 rfl rfl)
theorem dX0_could_3 : decode cX0_could 3 = .ok (.iload_n 1, 1) := dk_27 (dk_at dksX0_could_0 3 rfl rfl)
theorem dX0_could_4 : decode cX0_could 4 = .ok (.iload_n 2, 1) := dk_28 (dk_at dksX0_could_0 4 rfl rfl)
theorem dX0_could_5 : decode cX0_could 5 = .ok (.invokevirtual 30, 3) := dk_182 0 30 (dk_at dksX0_could_0 5 rfl rfl)
theorem dX0_could_8 : decode cX0_could 8 = .ok (.i2l, 1) := dk_133 (dk_at dksX0_could_0 8 rfl rfl)
theorem dX0_could_9 : decode cX0_could 9 = .ok (.lastore, 1) := dk_80 (dk_at dksX0_could_0 9 rfl rfl)
theorem dX0_could_10 : decode cX0_could 10 = .ok (.goto 7, 3) := dk_167 0 7 (dk_at dksX0_could_0 10 rfl rfl)
theorem dX0_could_13 : decode cX0_could 13 = .ok (.astore 4, 2) := dk_58 4 (dk_at dksX0_could_0 13 rfl rfl)
theorem dX0_could_15 : decode cX0_could 15 = .ok (.iconst 1, 1) := dk_4 (dk_at dksX0_could_0 15 rfl rfl)
theorem dX0_could_16 : decode cX0_could 16 = .ok (.ireturn, 1) := dk_172 (dk_at dksX0_could_0 16 rfl rfl)
theorem dX0_could_17 : decode cX0_could 17 = .ok (.iconst 0, 1) := dk_3 (dk_at dksX0_could_0 17 rfl rfl)
theorem dX0_could_18 : decode cX0_could 18 = .ok (.ireturn, 1) := dk_172 (dk_at dksX0_could_0 18 rfl rfl)
abbrev cX0_left : ByteArray := method_9_code
def yX0_left : MethodName := ⟨RX0, "left", "(LSendHall;I[J)I"⟩
def dkwX0_left_0 : List UInt8 := [44, 3, 42, 27, 182, 0, 33, 153, 0, 7, 10, 167, 0, 4, 9, 80, 167, 0, 6, 78, 4, 172, 3, 172]
abbrev dktX0_left_0 : List UInt8 := dkwX0_left_0 ++ []
theorem dksX0_left_0 : cX0_left.data.toList.drop 0 = dktX0_left_0 := by decide +kernel
theorem dX0_left_0 : decode cX0_left 0 = .ok (.aload_n 2, 1) := dk_44 (dk_at dksX0_left_0 0 rfl rfl)
theorem dX0_left_1 : decode cX0_left 1 = .ok (.iconst 0, 1) := dk_3 (dk_at dksX0_left_0 1 rfl rfl)
theorem dX0_left_2 : decode cX0_left 2 = .ok (.aload_n 0, 1) := dk_42 (dk_at dksX0_left_0 2 rfl rfl)
theorem dX0_left_3 : decode cX0_left 3 = .ok (.iload_n 1, 1) := dk_27 (dk_at dksX0_left_0 3 rfl rfl)
theorem dX0_left_4 : decode cX0_left 4 = .ok (.invokevirtual 33, 3) := dk_182 0 33 (dk_at dksX0_left_0 4 rfl rfl)
theorem dX0_left_7 : decode cX0_left 7 = .ok (.ifCond .eq 7, 3) := dk_153 0 7 (dk_at dksX0_left_0 7 rfl rfl)
theorem dX0_left_10 : decode cX0_left 10 = .ok (.lconst 1, 1) := dk_10 (dk_at dksX0_left_0 10 rfl rfl)
theorem dX0_left_11 : decode cX0_left 11 = .ok (.goto 4, 3) := dk_167 0 4 (dk_at dksX0_left_0 11 rfl rfl)
theorem dX0_left_14 : decode cX0_left 14 = .ok (.lconst 0, 1) := dk_9 (dk_at dksX0_left_0 14 rfl rfl)
theorem dX0_left_15 : decode cX0_left 15 = .ok (.lastore, 1) := dk_80 (dk_at dksX0_left_0 15 rfl rfl)
theorem dX0_left_16 : decode cX0_left 16 = .ok (.goto 6, 3) := dk_167 0 6 (dk_at dksX0_left_0 16 rfl rfl)
theorem dX0_left_19 : decode cX0_left 19 = .ok (.astore_n 3, 1) := dk_78 (dk_at dksX0_left_0 19 rfl rfl)
theorem dX0_left_20 : decode cX0_left 20 = .ok (.iconst 1, 1) := dk_4 (dk_at dksX0_left_0 20 rfl rfl)
theorem dX0_left_21 : decode cX0_left 21 = .ok (.ireturn, 1) := dk_172 (dk_at dksX0_left_0 21 rfl rfl)
theorem dX0_left_22 : decode cX0_left 22 = .ok (.iconst 0, 1) := dk_3 (dk_at dksX0_left_0 22 rfl rfl)
theorem dX0_left_23 : decode cX0_left 23 = .ok (.ireturn, 1) := dk_172 (dk_at dksX0_left_0 23 rfl rfl)
abbrev cX0_play : ByteArray := method_10_code
def yX0_play : MethodName := ⟨RX0, "play", "(LSendHall;IJ[J)I"⟩
def dkwX0_play_0 : List UInt8 := [25, 4, 3, 42, 27, 32, 182, 0, 37, 133, 80, 167, 0, 7, 58, 5, 4, 172, 3, 172]
abbrev dktX0_play_0 : List UInt8 := dkwX0_play_0 ++ []
theorem dksX0_play_0 : cX0_play.data.toList.drop 0 = dktX0_play_0 := by decide +kernel
theorem dX0_play_0 : decode cX0_play 0 = .ok (.aload 4, 2) := dk_25 4 (dk_at dksX0_play_0 0 rfl rfl)
theorem dX0_play_2 : decode cX0_play 2 = .ok (.iconst 0, 1) := dk_3 (dk_at dksX0_play_0 2 rfl rfl)
theorem dX0_play_3 : decode cX0_play 3 = .ok (.aload_n 0, 1) := dk_42 (dk_at dksX0_play_0 3 rfl rfl)
theorem dX0_play_4 : decode cX0_play 4 = .ok (.iload_n 1, 1) := dk_27 (dk_at dksX0_play_0 4 rfl rfl)
theorem dX0_play_5 : decode cX0_play 5 = .ok (.lload_n 2, 1) := dk_32 (dk_at dksX0_play_0 5 rfl rfl)
theorem dX0_play_6 : decode cX0_play 6 = .ok (.invokevirtual 37, 3) := dk_182 0 37 (dk_at dksX0_play_0 6 rfl rfl)
theorem dX0_play_9 : decode cX0_play 9 = .ok (.i2l, 1) := dk_133 (dk_at dksX0_play_0 9 rfl rfl)
theorem dX0_play_10 : decode cX0_play 10 = .ok (.lastore, 1) := dk_80 (dk_at dksX0_play_0 10 rfl rfl)
theorem dX0_play_11 : decode cX0_play 11 = .ok (.goto 7, 3) := dk_167 0 7 (dk_at dksX0_play_0 11 rfl rfl)
theorem dX0_play_14 : decode cX0_play 14 = .ok (.astore 5, 2) := dk_58 5 (dk_at dksX0_play_0 14 rfl rfl)
theorem dX0_play_16 : decode cX0_play 16 = .ok (.iconst 1, 1) := dk_4 (dk_at dksX0_play_0 16 rfl rfl)
theorem dX0_play_17 : decode cX0_play 17 = .ok (.ireturn, 1) := dk_172 (dk_at dksX0_play_0 17 rfl rfl)
theorem dX0_play_18 : decode cX0_play 18 = .ok (.iconst 0, 1) := dk_3 (dk_at dksX0_play_0 18 rfl rfl)
theorem dX0_play_19 : decode cX0_play 19 = .ok (.ireturn, 1) := dk_172 (dk_at dksX0_play_0 19 rfl rfl)
abbrev cX0_of : ByteArray := method_11_code
def yX0_of : MethodName := ⟨RX0, "of", "(LSendHall;II[J)I"⟩
def dkwX0_of_0 : List UInt8 := [45, 3, 42, 27, 28, 182, 0, 41, 133, 80, 167, 0, 7, 58, 4, 4, 172, 3, 172]
abbrev dktX0_of_0 : List UInt8 := dkwX0_of_0 ++ []
theorem dksX0_of_0 : cX0_of.data.toList.drop 0 = dktX0_of_0 := by decide +kernel
theorem dX0_of_0 : decode cX0_of 0 = .ok (.aload_n 3, 1) := dk_45 (dk_at dksX0_of_0 0 rfl rfl)
theorem dX0_of_1 : decode cX0_of 1 = .ok (.iconst 0, 1) := dk_3 (dk_at dksX0_of_0 1 rfl rfl)
theorem dX0_of_2 : decode cX0_of 2 = .ok (.aload_n 0, 1) := dk_42 (dk_at dksX0_of_0 2 rfl rfl)
theorem dX0_of_3 : decode cX0_of 3 = .ok (.iload_n 1, 1) := dk_27 (dk_at dksX0_of_0 3 rfl rfl)
theorem dX0_of_4 : decode cX0_of 4 = .ok (.iload_n 2, 1) := dk_28 (dk_at dksX0_of_0 4 rfl rfl)
theorem dX0_of_5 : decode cX0_of 5 = .ok (.invokevirtual 41, 3) := dk_182 0 41 (dk_at dksX0_of_0 5 rfl rfl)
theorem dX0_of_8 : decode cX0_of 8 = .ok (.i2l, 1) := dk_133 (dk_at dksX0_of_0 8 rfl rfl)
theorem dX0_of_9 : decode cX0_of 9 = .ok (.lastore, 1) := dk_80 (dk_at dksX0_of_0 9 rfl rfl)
theorem dX0_of_10 : decode cX0_of 10 = .ok (.goto 7, 3) := dk_167 0 7 (dk_at dksX0_of_0 10 rfl rfl)
theorem dX0_of_13 : decode cX0_of 13 = .ok (.astore 4, 2) := dk_58 4 (dk_at dksX0_of_0 13 rfl rfl)
theorem dX0_of_15 : decode cX0_of 15 = .ok (.iconst 1, 1) := dk_4 (dk_at dksX0_of_0 15 rfl rfl)
theorem dX0_of_16 : decode cX0_of 16 = .ok (.ireturn, 1) := dk_172 (dk_at dksX0_of_0 16 rfl rfl)
theorem dX0_of_17 : decode cX0_of 17 = .ok (.iconst 0, 1) := dk_3 (dk_at dksX0_of_0 17 rfl rfl)
theorem dX0_of_18 : decode cX0_of 18 = .ok (.ireturn, 1) := dk_172 (dk_at dksX0_of_0 18 rfl rfl)
abbrev cX0_ring : ByteArray := method_12_code
def yX0_ring : MethodName := ⟨RX0, "ring", "(LSendHall;I[J)I"⟩
def dkwX0_ring_0 : List UInt8 := [44, 3, 42, 27, 182, 0, 44, 133, 80, 167, 0, 6, 78, 4, 172, 3, 172]
abbrev dktX0_ring_0 : List UInt8 := dkwX0_ring_0 ++ []
theorem dksX0_ring_0 : cX0_ring.data.toList.drop 0 = dktX0_ring_0 := by decide +kernel
theorem dX0_ring_0 : decode cX0_ring 0 = .ok (.aload_n 2, 1) := dk_44 (dk_at dksX0_ring_0 0 rfl rfl)
theorem dX0_ring_1 : decode cX0_ring 1 = .ok (.iconst 0, 1) := dk_3 (dk_at dksX0_ring_0 1 rfl rfl)
theorem dX0_ring_2 : decode cX0_ring 2 = .ok (.aload_n 0, 1) := dk_42 (dk_at dksX0_ring_0 2 rfl rfl)
theorem dX0_ring_3 : decode cX0_ring 3 = .ok (.iload_n 1, 1) := dk_27 (dk_at dksX0_ring_0 3 rfl rfl)
theorem dX0_ring_4 : decode cX0_ring 4 = .ok (.invokevirtual 44, 3) := dk_182 0 44 (dk_at dksX0_ring_0 4 rfl rfl)
theorem dX0_ring_7 : decode cX0_ring 7 = .ok (.i2l, 1) := dk_133 (dk_at dksX0_ring_0 7 rfl rfl)
theorem dX0_ring_8 : decode cX0_ring 8 = .ok (.lastore, 1) := dk_80 (dk_at dksX0_ring_0 8 rfl rfl)
theorem dX0_ring_9 : decode cX0_ring 9 = .ok (.goto 6, 3) := dk_167 0 6 (dk_at dksX0_ring_0 9 rfl rfl)
theorem dX0_ring_12 : decode cX0_ring 12 = .ok (.astore_n 3, 1) := dk_78 (dk_at dksX0_ring_0 12 rfl rfl)
theorem dX0_ring_13 : decode cX0_ring 13 = .ok (.iconst 1, 1) := dk_4 (dk_at dksX0_ring_0 13 rfl rfl)
theorem dX0_ring_14 : decode cX0_ring 14 = .ok (.ireturn, 1) := dk_172 (dk_at dksX0_ring_0 14 rfl rfl)
theorem dX0_ring_15 : decode cX0_ring 15 = .ok (.iconst 0, 1) := dk_3 (dk_at dksX0_ring_0 15 rfl rfl)
theorem dX0_ring_16 : decode cX0_ring 16 = .ok (.ireturn, 1) := dk_172 (dk_at dksX0_ring_0 16 rfl rfl)
abbrev cX0_chose : ByteArray := method_13_code
def yX0_chose : MethodName := ⟨RX0, "chose", "(LSendHall;I[J)I"⟩
def dkwX0_chose_0 : List UInt8 := [44, 3, 42, 27, 182, 0, 47, 133, 80, 167, 0, 6, 78, 4, 172, 3, 172]
abbrev dktX0_chose_0 : List UInt8 := dkwX0_chose_0 ++ []
theorem dksX0_chose_0 : cX0_chose.data.toList.drop 0 = dktX0_chose_0 := by decide +kernel
theorem dX0_chose_0 : decode cX0_chose 0 = .ok (.aload_n 2, 1) := dk_44 (dk_at dksX0_chose_0 0 rfl rfl)
theorem dX0_chose_1 : decode cX0_chose 1 = .ok (.iconst 0, 1) := dk_3 (dk_at dksX0_chose_0 1 rfl rfl)
theorem dX0_chose_2 : decode cX0_chose 2 = .ok (.aload_n 0, 1) := dk_42 (dk_at dksX0_chose_0 2 rfl rfl)
theorem dX0_chose_3 : decode cX0_chose 3 = .ok (.iload_n 1, 1) := dk_27 (dk_at dksX0_chose_0 3 rfl rfl)
theorem dX0_chose_4 : decode cX0_chose 4 = .ok (.invokevirtual 47, 3) := dk_182 0 47 (dk_at dksX0_chose_0 4 rfl rfl)
theorem dX0_chose_7 : decode cX0_chose 7 = .ok (.i2l, 1) := dk_133 (dk_at dksX0_chose_0 7 rfl rfl)
theorem dX0_chose_8 : decode cX0_chose 8 = .ok (.lastore, 1) := dk_80 (dk_at dksX0_chose_0 8 rfl rfl)
theorem dX0_chose_9 : decode cX0_chose 9 = .ok (.goto 6, 3) := dk_167 0 6 (dk_at dksX0_chose_0 9 rfl rfl)
theorem dX0_chose_12 : decode cX0_chose 12 = .ok (.astore_n 3, 1) := dk_78 (dk_at dksX0_chose_0 12 rfl rfl)
theorem dX0_chose_13 : decode cX0_chose 13 = .ok (.iconst 1, 1) := dk_4 (dk_at dksX0_chose_0 13 rfl rfl)
theorem dX0_chose_14 : decode cX0_chose 14 = .ok (.ireturn, 1) := dk_172 (dk_at dksX0_chose_0 14 rfl rfl)
theorem dX0_chose_15 : decode cX0_chose 15 = .ok (.iconst 0, 1) := dk_3 (dk_at dksX0_chose_0 15 rfl rfl)
theorem dX0_chose_16 : decode cX0_chose 16 = .ok (.ireturn, 1) := dk_172 (dk_at dksX0_chose_0 16 rfl rfl)
abbrev cX0_least : ByteArray := method_14_code
def yX0_least : MethodName := ⟨RX0, "least", "(LSendHall;I[J)I"⟩
def dkwX0_least_0 : List UInt8 := [44, 3, 42, 27, 182, 0, 50, 133, 80, 167, 0, 6, 78, 4, 172, 3, 172]
abbrev dktX0_least_0 : List UInt8 := dkwX0_least_0 ++ []
theorem dksX0_least_0 : cX0_least.data.toList.drop 0 = dktX0_least_0 := by decide +kernel
theorem dX0_least_0 : decode cX0_least 0 = .ok (.aload_n 2, 1) := dk_44 (dk_at dksX0_least_0 0 rfl rfl)
theorem dX0_least_1 : decode cX0_least 1 = .ok (.iconst 0, 1) := dk_3 (dk_at dksX0_least_0 1 rfl rfl)
theorem dX0_least_2 : decode cX0_least 2 = .ok (.aload_n 0, 1) := dk_42 (dk_at dksX0_least_0 2 rfl rfl)
theorem dX0_least_3 : decode cX0_least 3 = .ok (.iload_n 1, 1) := dk_27 (dk_at dksX0_least_0 3 rfl rfl)
theorem dX0_least_4 : decode cX0_least 4 = .ok (.invokevirtual 50, 3) := dk_182 0 50 (dk_at dksX0_least_0 4 rfl rfl)
theorem dX0_least_7 : decode cX0_least 7 = .ok (.i2l, 1) := dk_133 (dk_at dksX0_least_0 7 rfl rfl)
theorem dX0_least_8 : decode cX0_least 8 = .ok (.lastore, 1) := dk_80 (dk_at dksX0_least_0 8 rfl rfl)
theorem dX0_least_9 : decode cX0_least 9 = .ok (.goto 6, 3) := dk_167 0 6 (dk_at dksX0_least_0 9 rfl rfl)
theorem dX0_least_12 : decode cX0_least 12 = .ok (.astore_n 3, 1) := dk_78 (dk_at dksX0_least_0 12 rfl rfl)
theorem dX0_least_13 : decode cX0_least 13 = .ok (.iconst 1, 1) := dk_4 (dk_at dksX0_least_0 13 rfl rfl)
theorem dX0_least_14 : decode cX0_least 14 = .ok (.ireturn, 1) := dk_172 (dk_at dksX0_least_0 14 rfl rfl)
theorem dX0_least_15 : decode cX0_least 15 = .ok (.iconst 0, 1) := dk_3 (dk_at dksX0_least_0 15 rfl rfl)
theorem dX0_least_16 : decode cX0_least 16 = .ok (.ireturn, 1) := dk_172 (dk_at dksX0_least_0 16 rfl rfl)
theorem q112 : (Jvm.Cond.initialized "SendHallLaw") ∈ lw_all := lw_g (lw_at lw_m1 0 rfl) rfl
theorem q156 : (Jvm.Cond.classLink "SendHallLaw" (8 : Nat) "SendHall") ∈ lw_all := lw_g (lw_at lw_m1 44 rfl) rfl
theorem q158 : (Jvm.Cond.methodLink "SendHallLaw" (53 : Nat) ({ cls := "SendHall", name := "<init>", desc := "()V" } : Jvm.MethodName)) ∈ lw_all := lw_g (lw_at lw_m1 46 rfl) rfl
theorem q697 : (Jvm.Cond.methodLink "SendHallLaw" (57 : Nat) ({ cls := "SendHall", name := "feed", desc := "(IIIII)I" } : Jvm.MethodName)) ∈ lw_all := lw_g (lw_at lw_m3 105 rfl) rfl
theorem q705 : (Jvm.Cond.methodLink "SendHallLaw" (72 : Nat) ({ cls := "SendHall", name := "fault", desc := "()I" } : Jvm.MethodName)) ∈ lw_all := lw_g (lw_at lw_m3 113 rfl) rfl
theorem q709 : (Jvm.Cond.methodLink "SendHallLaw" (76 : Nat) ({ cls := "SendHall", name := "world", desc := "(IIII)Z" } : Jvm.MethodName)) ∈ lw_all := lw_g (lw_at lw_m3 117 rfl) rfl
theorem q716 : (Jvm.Cond.methodLink "SendHallLaw" (87 : Nat) ({ cls := "SendHall", name := "reached", desc := "()I" } : Jvm.MethodName)) ∈ lw_all := lw_g (lw_at lw_m3 124 rfl) rfl
theorem q1063 : (Jvm.Cond.methodLink "SendHallLaw" (98 : Nat) ({ cls := "SendHall", name := "differs", desc := "()Z" } : Jvm.MethodName)) ∈ lw_all := lw_g (lw_at lw_m4 231 rfl) rfl
theorem q1067 : (Jvm.Cond.methodLink "SendHallLaw" (106 : Nat) ({ cls := "SendHall", name := "needs", desc := "()I" } : Jvm.MethodName)) ∈ lw_all := lw_g (lw_at lw_m4 235 rfl) rfl
theorem q1079 : (Jvm.Cond.methodLink "SendHallLaw" (110 : Nat) ({ cls := "SendHall", name := "cut", desc := "()I" } : Jvm.MethodName)) ∈ lw_all := lw_g (lw_at lw_m5 7 rfl) rfl
theorem q1084 : (Jvm.Cond.methodLink "SendHallLaw" (62 : Nat) ({ cls := "SendHallLaw", name := "text", desc := "(LSendHall;I[J)I" } : Jvm.MethodName)) ∈ lw_all := lw_g (lw_at lw_m5 12 rfl) rfl
theorem q1085 : (Jvm.Cond.static ({ cls := "SendHallLaw", name := "text", desc := "(LSendHall;I[J)I" } : Jvm.MethodName)) ∈ lw_all := lw_g (lw_at lw_m5 13 rfl) rfl
theorem q1086 : (Jvm.Cond.codeWith ({ cls := "SendHallLaw", name := "text", desc := "(LSendHall;I[J)I" } : Jvm.MethodName) method_3_code (4 : Nat) (Option.some Jvm.ClassFile.FieldType.int) [((0 : Nat), (9 : Nat), (12 : Nat), (13 : Nat))]) ∈ lw_all := lw_g (lw_at lw_m5 14 rfl) rfl
theorem q1087 : (Jvm.Cond.classLink "SendHallLaw" (13 : Nat) "java/lang/IllegalArgumentException") ∈ lw_all := lw_g (lw_at lw_m5 15 rfl) rfl
theorem q1088 : (Jvm.Cond.methodLink "SendHallLaw" (7 : Nat) ({ cls := "SendHall", name := "text", desc := "(I)I" } : Jvm.MethodName)) ∈ lw_all := lw_g (lw_at lw_m5 16 rfl) rfl
theorem q1713 : (Jvm.Cond.methodLink "SendHallLaw" (81 : Nat) ({ cls := "SendHallLaw", name := "count", desc := "(LSendHall;I[J)I" } : Jvm.MethodName)) ∈ lw_all := lw_g (lw_at lw_m7 161 rfl) rfl
theorem q1714 : (Jvm.Cond.static ({ cls := "SendHallLaw", name := "count", desc := "(LSendHall;I[J)I" } : Jvm.MethodName)) ∈ lw_all := lw_g (lw_at lw_m7 162 rfl) rfl
theorem q1715 : (Jvm.Cond.codeWith ({ cls := "SendHallLaw", name := "count", desc := "(LSendHall;I[J)I" } : Jvm.MethodName) method_4_code (4 : Nat) (Option.some Jvm.ClassFile.FieldType.int) [((0 : Nat), (9 : Nat), (12 : Nat), (18 : Nat))]) ∈ lw_all := lw_g (lw_at lw_m7 163 rfl) rfl
theorem q1716 : (Jvm.Cond.classLink "SendHallLaw" (18 : Nat) "java/util/NoSuchElementException") ∈ lw_all := lw_g (lw_at lw_m7 164 rfl) rfl
theorem q1717 : (Jvm.Cond.methodLink "SendHallLaw" (15 : Nat) ({ cls := "SendHall", name := "count", desc := "(I)I" } : Jvm.MethodName)) ∈ lw_all := lw_g (lw_at lw_m7 165 rfl) rfl
theorem q1739 : (Jvm.Cond.methodLink "SendHallLaw" (84 : Nat) ({ cls := "SendHallLaw", name := "step", desc := "(LSendHall;I[J)I" } : Jvm.MethodName)) ∈ lw_all := lw_g (lw_at lw_m7 187 rfl) rfl
theorem q1740 : (Jvm.Cond.static ({ cls := "SendHallLaw", name := "step", desc := "(LSendHall;I[J)I" } : Jvm.MethodName)) ∈ lw_all := lw_g (lw_at lw_m7 188 rfl) rfl
theorem q1741 : (Jvm.Cond.codeWith ({ cls := "SendHallLaw", name := "step", desc := "(LSendHall;I[J)I" } : Jvm.MethodName) method_5_code (4 : Nat) (Option.some Jvm.ClassFile.FieldType.int) [((0 : Nat), (9 : Nat), (12 : Nat), (18 : Nat))]) ∈ lw_all := lw_g (lw_at lw_m7 189 rfl) rfl
theorem q1742 : (Jvm.Cond.methodLink "SendHallLaw" (20 : Nat) ({ cls := "SendHall", name := "step", desc := "(I)I" } : Jvm.MethodName)) ∈ lw_all := lw_g (lw_at lw_m7 190 rfl) rfl
theorem q1750 : (Jvm.Cond.methodLink "SendHallLaw" (91 : Nat) ({ cls := "SendHallLaw", name := "endings", desc := "(LSendHall;I[J)I" } : Jvm.MethodName)) ∈ lw_all := lw_g (lw_at lw_m7 198 rfl) rfl
theorem q1751 : (Jvm.Cond.static ({ cls := "SendHallLaw", name := "endings", desc := "(LSendHall;I[J)I" } : Jvm.MethodName)) ∈ lw_all := lw_g (lw_at lw_m7 199 rfl) rfl
theorem q1752 : (Jvm.Cond.codeWith ({ cls := "SendHallLaw", name := "endings", desc := "(LSendHall;I[J)I" } : Jvm.MethodName) method_6_code (4 : Nat) (Option.some Jvm.ClassFile.FieldType.int) [((0 : Nat), (9 : Nat), (12 : Nat), (18 : Nat))]) ∈ lw_all := lw_g (lw_at lw_m7 200 rfl) rfl
theorem q1753 : (Jvm.Cond.methodLink "SendHallLaw" (23 : Nat) ({ cls := "SendHall", name := "endings", desc := "(I)I" } : Jvm.MethodName)) ∈ lw_all := lw_g (lw_at lw_m7 201 rfl) rfl
theorem q1757 : (Jvm.Cond.methodLink "SendHallLaw" (94 : Nat) ({ cls := "SendHallLaw", name := "ending", desc := "(LSendHall;II[J)I" } : Jvm.MethodName)) ∈ lw_all := lw_g (lw_at lw_m7 205 rfl) rfl
theorem q1758 : (Jvm.Cond.static ({ cls := "SendHallLaw", name := "ending", desc := "(LSendHall;II[J)I" } : Jvm.MethodName)) ∈ lw_all := lw_g (lw_at lw_m7 206 rfl) rfl
theorem q1759 : (Jvm.Cond.codeWith ({ cls := "SendHallLaw", name := "ending", desc := "(LSendHall;II[J)I" } : Jvm.MethodName) method_7_code (5 : Nat) (Option.some Jvm.ClassFile.FieldType.int) [((0 : Nat), (10 : Nat), (13 : Nat), (18 : Nat))]) ∈ lw_all := lw_g (lw_at lw_m7 207 rfl) rfl
theorem q1760 : (Jvm.Cond.methodLink "SendHallLaw" (26 : Nat) ({ cls := "SendHall", name := "ending", desc := "(II)I" } : Jvm.MethodName)) ∈ lw_all := lw_g (lw_at lw_m7 208 rfl) rfl
theorem q1764 : (Jvm.Cond.methodLink "SendHallLaw" (103 : Nat) ({ cls := "SendHallLaw", name := "could", desc := "(LSendHall;II[J)I" } : Jvm.MethodName)) ∈ lw_all := lw_g (lw_at lw_m7 212 rfl) rfl
theorem q1765 : (Jvm.Cond.static ({ cls := "SendHallLaw", name := "could", desc := "(LSendHall;II[J)I" } : Jvm.MethodName)) ∈ lw_all := lw_g (lw_at lw_m7 213 rfl) rfl
theorem q1766 : (Jvm.Cond.codeWith ({ cls := "SendHallLaw", name := "could", desc := "(LSendHall;II[J)I" } : Jvm.MethodName) method_8_code (5 : Nat) (Option.some Jvm.ClassFile.FieldType.int) [((0 : Nat), (10 : Nat), (13 : Nat), (18 : Nat))]) ∈ lw_all := lw_g (lw_at lw_m7 214 rfl) rfl
theorem q1767 : (Jvm.Cond.methodLink "SendHallLaw" (30 : Nat) ({ cls := "SendHall", name := "could", desc := "(II)I" } : Jvm.MethodName)) ∈ lw_all := lw_g (lw_at lw_m7 215 rfl) rfl
theorem q1771 : (Jvm.Cond.methodLink "SendHallLaw" (114 : Nat) ({ cls := "SendHallLaw", name := "left", desc := "(LSendHall;I[J)I" } : Jvm.MethodName)) ∈ lw_all := lw_g (lw_at lw_m7 219 rfl) rfl
theorem q1772 : (Jvm.Cond.static ({ cls := "SendHallLaw", name := "left", desc := "(LSendHall;I[J)I" } : Jvm.MethodName)) ∈ lw_all := lw_g (lw_at lw_m7 220 rfl) rfl
theorem q1773 : (Jvm.Cond.codeWith ({ cls := "SendHallLaw", name := "left", desc := "(LSendHall;I[J)I" } : Jvm.MethodName) method_9_code (4 : Nat) (Option.some Jvm.ClassFile.FieldType.int) [((0 : Nat), (16 : Nat), (19 : Nat), (18 : Nat))]) ∈ lw_all := lw_g (lw_at lw_m7 221 rfl) rfl
theorem q1774 : (Jvm.Cond.methodLink "SendHallLaw" (33 : Nat) ({ cls := "SendHall", name := "left", desc := "(I)Z" } : Jvm.MethodName)) ∈ lw_all := lw_g (lw_at lw_m7 222 rfl) rfl
theorem q1778 : (Jvm.Cond.methodLink "SendHallLaw" (119 : Nat) ({ cls := "SendHallLaw", name := "play", desc := "(LSendHall;IJ[J)I" } : Jvm.MethodName)) ∈ lw_all := lw_g (lw_at lw_m7 226 rfl) rfl
theorem q1779 : (Jvm.Cond.static ({ cls := "SendHallLaw", name := "play", desc := "(LSendHall;IJ[J)I" } : Jvm.MethodName)) ∈ lw_all := lw_g (lw_at lw_m7 227 rfl) rfl
theorem q1780 : (Jvm.Cond.codeWith ({ cls := "SendHallLaw", name := "play", desc := "(LSendHall;IJ[J)I" } : Jvm.MethodName) method_10_code (6 : Nat) (Option.some Jvm.ClassFile.FieldType.int) [((0 : Nat), (11 : Nat), (14 : Nat), (13 : Nat))]) ∈ lw_all := lw_g (lw_at lw_m7 228 rfl) rfl
theorem q1781 : (Jvm.Cond.methodLink "SendHallLaw" (37 : Nat) ({ cls := "SendHall", name := "play", desc := "(IJ)I" } : Jvm.MethodName)) ∈ lw_all := lw_g (lw_at lw_m7 229 rfl) rfl
theorem q1810 : (Jvm.Cond.methodLink "SendHallLaw" (123 : Nat) ({ cls := "SendHallLaw", name := "of", desc := "(LSendHall;II[J)I" } : Jvm.MethodName)) ∈ lw_all := lw_g (lw_at lw_m8 18 rfl) rfl
theorem q1811 : (Jvm.Cond.static ({ cls := "SendHallLaw", name := "of", desc := "(LSendHall;II[J)I" } : Jvm.MethodName)) ∈ lw_all := lw_g (lw_at lw_m8 19 rfl) rfl
theorem q1812 : (Jvm.Cond.codeWith ({ cls := "SendHallLaw", name := "of", desc := "(LSendHall;II[J)I" } : Jvm.MethodName) method_11_code (5 : Nat) (Option.some Jvm.ClassFile.FieldType.int) [((0 : Nat), (10 : Nat), (13 : Nat), (18 : Nat))]) ∈ lw_all := lw_g (lw_at lw_m8 20 rfl) rfl
theorem q1813 : (Jvm.Cond.methodLink "SendHallLaw" (41 : Nat) ({ cls := "SendHall", name := "of", desc := "(II)I" } : Jvm.MethodName)) ∈ lw_all := lw_g (lw_at lw_m8 21 rfl) rfl
theorem q1817 : (Jvm.Cond.methodLink "SendHallLaw" (126 : Nat) ({ cls := "SendHallLaw", name := "ring", desc := "(LSendHall;I[J)I" } : Jvm.MethodName)) ∈ lw_all := lw_g (lw_at lw_m8 25 rfl) rfl
theorem q1818 : (Jvm.Cond.static ({ cls := "SendHallLaw", name := "ring", desc := "(LSendHall;I[J)I" } : Jvm.MethodName)) ∈ lw_all := lw_g (lw_at lw_m8 26 rfl) rfl
theorem q1819 : (Jvm.Cond.codeWith ({ cls := "SendHallLaw", name := "ring", desc := "(LSendHall;I[J)I" } : Jvm.MethodName) method_12_code (4 : Nat) (Option.some Jvm.ClassFile.FieldType.int) [((0 : Nat), (9 : Nat), (12 : Nat), (18 : Nat))]) ∈ lw_all := lw_g (lw_at lw_m8 27 rfl) rfl
theorem q1820 : (Jvm.Cond.methodLink "SendHallLaw" (44 : Nat) ({ cls := "SendHall", name := "ring", desc := "(I)I" } : Jvm.MethodName)) ∈ lw_all := lw_g (lw_at lw_m8 28 rfl) rfl
theorem q1824 : (Jvm.Cond.methodLink "SendHallLaw" (129 : Nat) ({ cls := "SendHallLaw", name := "chose", desc := "(LSendHall;I[J)I" } : Jvm.MethodName)) ∈ lw_all := lw_g (lw_at lw_m8 32 rfl) rfl
theorem q1825 : (Jvm.Cond.static ({ cls := "SendHallLaw", name := "chose", desc := "(LSendHall;I[J)I" } : Jvm.MethodName)) ∈ lw_all := lw_g (lw_at lw_m8 33 rfl) rfl
theorem q1826 : (Jvm.Cond.codeWith ({ cls := "SendHallLaw", name := "chose", desc := "(LSendHall;I[J)I" } : Jvm.MethodName) method_13_code (4 : Nat) (Option.some Jvm.ClassFile.FieldType.int) [((0 : Nat), (9 : Nat), (12 : Nat), (18 : Nat))]) ∈ lw_all := lw_g (lw_at lw_m8 34 rfl) rfl
theorem q1827 : (Jvm.Cond.methodLink "SendHallLaw" (47 : Nat) ({ cls := "SendHall", name := "chose", desc := "(I)I" } : Jvm.MethodName)) ∈ lw_all := lw_g (lw_at lw_m8 35 rfl) rfl
theorem q1831 : (Jvm.Cond.methodLink "SendHallLaw" (132 : Nat) ({ cls := "SendHallLaw", name := "least", desc := "(LSendHall;I[J)I" } : Jvm.MethodName)) ∈ lw_all := lw_g (lw_at lw_m8 39 rfl) rfl
theorem q1832 : (Jvm.Cond.static ({ cls := "SendHallLaw", name := "least", desc := "(LSendHall;I[J)I" } : Jvm.MethodName)) ∈ lw_all := lw_g (lw_at lw_m8 40 rfl) rfl
theorem q1833 : (Jvm.Cond.codeWith ({ cls := "SendHallLaw", name := "least", desc := "(LSendHall;I[J)I" } : Jvm.MethodName) method_14_code (4 : Nat) (Option.some Jvm.ClassFile.FieldType.int) [((0 : Nat), (9 : Nat), (12 : Nat), (13 : Nat))]) ∈ lw_all := lw_g (lw_at lw_m8 41 rfl) rfl
theorem q1834 : (Jvm.Cond.methodLink "SendHallLaw" (50 : Nat) ({ cls := "SendHall", name := "least", desc := "(I)I" } : Jvm.MethodName)) ∈ lw_all := lw_g (lw_at lw_m8 42 rfl) rfl
theorem q1838 : (Jvm.Cond.classLink "SendHallLaw" (54 : Nat) "SendHallModel") ∈ lw_all := lw_g (lw_at lw_m8 46 rfl) rfl
theorem q1840 : (Jvm.Cond.methodLink "SendHallLaw" (56 : Nat) ({ cls := "SendHallModel", name := "<init>", desc := "()V" } : Jvm.MethodName)) ∈ lw_all := lw_g (lw_at lw_m8 48 rfl) rfl
theorem q2076 : (Jvm.Cond.methodLink "SendHallLaw" (68 : Nat) ({ cls := "SendHallModel", name := "thrown", desc := "()I" } : Jvm.MethodName)) ∈ lw_all := lw_g (lw_at lw_m9 44 rfl) rfl
theorem q2080 : (Jvm.Cond.methodLink "SendHallLaw" (61 : Nat) ({ cls := "SendHallModel", name := "feed", desc := "(IIIII)I" } : Jvm.MethodName)) ∈ lw_all := lw_g (lw_at lw_m9 48 rfl) rfl
theorem q2084 : (Jvm.Cond.methodLink "SendHallLaw" (67 : Nat) ({ cls := "SendHallModel", name := "text", desc := "(I)I" } : Jvm.MethodName)) ∈ lw_all := lw_g (lw_at lw_m9 52 rfl) rfl
theorem q2189 : (Jvm.Cond.methodLink "SendHallLaw" (75 : Nat) ({ cls := "SendHallModel", name := "fault", desc := "()I" } : Jvm.MethodName)) ∈ lw_all := lw_g (lw_at lw_m9 157 rfl) rfl
theorem q2193 : (Jvm.Cond.methodLink "SendHallLaw" (80 : Nat) ({ cls := "SendHallModel", name := "world", desc := "(IIII)Z" } : Jvm.MethodName)) ∈ lw_all := lw_g (lw_at lw_m9 161 rfl) rfl
theorem q2197 : (Jvm.Cond.methodLink "SendHallLaw" (83 : Nat) ({ cls := "SendHallModel", name := "count", desc := "(I)I" } : Jvm.MethodName)) ∈ lw_all := lw_g (lw_at lw_m9 165 rfl) rfl
theorem q2205 : (Jvm.Cond.methodLink "SendHallLaw" (86 : Nat) ({ cls := "SendHallModel", name := "step", desc := "(I)I" } : Jvm.MethodName)) ∈ lw_all := lw_g (lw_at lw_m9 173 rfl) rfl
theorem q2213 : (Jvm.Cond.methodLink "SendHallLaw" (90 : Nat) ({ cls := "SendHallModel", name := "reached", desc := "()I" } : Jvm.MethodName)) ∈ lw_all := lw_g (lw_at lw_m9 181 rfl) rfl
theorem q2368 : (Jvm.Cond.methodLink "SendHallLaw" (93 : Nat) ({ cls := "SendHallModel", name := "endings", desc := "(I)I" } : Jvm.MethodName)) ∈ lw_all := lw_g (lw_at lw_m10 96 rfl) rfl
theorem q2372 : (Jvm.Cond.methodLink "SendHallLaw" (97 : Nat) ({ cls := "SendHallModel", name := "ending", desc := "(II)I" } : Jvm.MethodName)) ∈ lw_all := lw_g (lw_at lw_m10 100 rfl) rfl
theorem q2376 : (Jvm.Cond.methodLink "SendHallLaw" (102 : Nat) ({ cls := "SendHallModel", name := "differs", desc := "()Z" } : Jvm.MethodName)) ∈ lw_all := lw_g (lw_at lw_m10 104 rfl) rfl
theorem q2380 : (Jvm.Cond.methodLink "SendHallLaw" (105 : Nat) ({ cls := "SendHallModel", name := "could", desc := "(II)I" } : Jvm.MethodName)) ∈ lw_all := lw_g (lw_at lw_m10 108 rfl) rfl
theorem q2388 : (Jvm.Cond.methodLink "SendHallLaw" (109 : Nat) ({ cls := "SendHallModel", name := "needs", desc := "()I" } : Jvm.MethodName)) ∈ lw_all := lw_g (lw_at lw_m10 116 rfl) rfl
theorem q2396 : (Jvm.Cond.methodLink "SendHallLaw" (113 : Nat) ({ cls := "SendHallModel", name := "cut", desc := "()I" } : Jvm.MethodName)) ∈ lw_all := lw_g (lw_at lw_m10 124 rfl) rfl
theorem q2400 : (Jvm.Cond.methodLink "SendHallLaw" (116 : Nat) ({ cls := "SendHallModel", name := "left", desc := "(I)Z" } : Jvm.MethodName)) ∈ lw_all := lw_g (lw_at lw_m10 128 rfl) rfl
theorem q2408 : (Jvm.Cond.methodLink "SendHallLaw" (122 : Nat) ({ cls := "SendHallModel", name := "play", desc := "(IJ)I" } : Jvm.MethodName)) ∈ lw_all := lw_g (lw_at lw_m10 136 rfl) rfl
theorem q2424 : (Jvm.Cond.methodLink "SendHallLaw" (125 : Nat) ({ cls := "SendHallModel", name := "of", desc := "(II)I" } : Jvm.MethodName)) ∈ lw_all := lw_g (lw_at lw_m10 152 rfl) rfl
theorem q2432 : (Jvm.Cond.methodLink "SendHallLaw" (128 : Nat) ({ cls := "SendHallModel", name := "ring", desc := "(I)I" } : Jvm.MethodName)) ∈ lw_all := lw_g (lw_at lw_m10 160 rfl) rfl
theorem q2436 : (Jvm.Cond.methodLink "SendHallLaw" (131 : Nat) ({ cls := "SendHallModel", name := "chose", desc := "(I)I" } : Jvm.MethodName)) ∈ lw_all := lw_g (lw_at lw_m10 164 rfl) rfl
theorem q2440 : (Jvm.Cond.methodLink "SendHallLaw" (134 : Nat) ({ cls := "SendHallModel", name := "least", desc := "(I)I" } : Jvm.MethodName)) ∈ lw_all := lw_g (lw_at lw_m10 168 rfl) rfl
theorem q2444 : (Jvm.Cond.constantLong "SendHallLaw" (117 : Nat) (4294967295 : Int64)) ∈ lw_all := lw_g (lw_at lw_m10 172 rfl) rfl
/-! SendHall$Constant -/
set_option maxRecDepth 100000
def RX10 : String := "SendHall$Constant"
def TX10 : u_T := fun k => match k with
  | _ => ("SendHall$Constant", "v", "I", true)
def tyX10 : Nat → FieldType := fun k => match k with
  | _ => .int
abbrev wsX100 : List Cond := u_ws RX10 TX10 1
theorem nmX10 : ∀ a, a < 1 → ∀ b, b < 1 → a ≠ b → (TX10 a).2.1 ≠ (TX10 b).2.1 := by decide +kernel
theorem tyX10_ok : ∀ k, k < 1 → parseFieldDescriptor (TX10 k).2.2.1 = some (tyX10 k) := by decide +kernel
abbrev cX10_value : ByteArray := prog_2_method_2_code
def yX10_value : MethodName := ⟨RX10, "value", "(LSendHall$Life;I)I"⟩
theorem dX10_value_0 : decode cX10_value 0 = .ok (.aload_n 0, 1) := by decide +kernel
theorem dX10_value_1 : decode cX10_value 1 = .ok (.getfield 7, 3) := by decide +kernel
theorem dX10_value_4 : decode cX10_value 4 = .ok (.ireturn, 1) := by decide +kernel
abbrev cX10_init : ByteArray := prog_2_method_1_code
def yX10_init : MethodName := ⟨RX10, "<init>", "(I)V"⟩
def dkwX10_init_0 : List UInt8 := [42, 183, 0, 1, 42, 27, 181, 0, 7, 177]
abbrev dktX10_init_0 : List UInt8 := dkwX10_init_0 ++ []
theorem dksX10_init_0 : cX10_init.data.toList.drop 0 = dktX10_init_0 := by decide +kernel
theorem dX10_init_0 : decode cX10_init 0 = .ok (.aload_n 0, 1) := dk_42 (dk_at dksX10_init_0 0 rfl rfl)
theorem dX10_init_1 : decode cX10_init 1 = .ok (.invokespecial 1, 3) := dk_183 0 1 (dk_at dksX10_init_0 1 rfl rfl)
theorem dX10_init_4 : decode cX10_init 4 = .ok (.aload_n 0, 1) := dk_42 (dk_at dksX10_init_0 4 rfl rfl)
theorem dX10_init_5 : decode cX10_init 5 = .ok (.iload_n 1, 1) := dk_27 (dk_at dksX10_init_0 5 rfl rfl)
theorem dX10_init_6 : decode cX10_init 6 = .ok (.putfield 7, 3) := dk_181 0 7 (dk_at dksX10_init_0 6 rfl rfl)
theorem dX10_init_9 : decode cX10_init 9 = .ok (.return_, 1) := dk_177 (dk_at dksX10_init_0 9 rfl rfl)
theorem q144 : (Jvm.Cond.initialized "SendHall$Constant") ∈ lw_all := lw_g (lw_at lw_m1 32 rfl) rfl
theorem q746 : (Jvm.Cond.castable "SendHall$Constant" "SendHall$Expr") ∈ lw_tbl := lw_at lw_m3 154 rfl
theorem q747 : (Jvm.Cond.selects "SendHall$Constant" ({ cls := "SendHall$Expr", name := "value", desc := "(LSendHall$Life;I)I" } : Jvm.MethodName) ({ cls := "SendHall$Constant", name := "value", desc := "(LSendHall$Life;I)I" } : Jvm.MethodName)) ∈ lw_all := lw_g (lw_at lw_m3 155 rfl) rfl
theorem q748 : (Jvm.Cond.unhidden "SendHall$Constant" "value" "(LSendHall$Life;I)I") ∈ lw_tbl := lw_at lw_m3 156 rfl
theorem q749 : (Jvm.Cond.instanceMethod ({ cls := "SendHall$Constant", name := "value", desc := "(LSendHall$Life;I)I" } : Jvm.MethodName)) ∈ lw_all := lw_g (lw_at lw_m3 157 rfl) rfl
theorem q750 : (Jvm.Cond.publicMethod ({ cls := "SendHall$Constant", name := "value", desc := "(LSendHall$Life;I)I" } : Jvm.MethodName)) ∈ lw_tbl := lw_at lw_m3 158 rfl
theorem q751 : (Jvm.Cond.code ({ cls := "SendHall$Constant", name := "value", desc := "(LSendHall$Life;I)I" } : Jvm.MethodName) prog_2_method_2_code (3 : Nat) (Option.some Jvm.ClassFile.FieldType.int)) ∈ lw_all := lw_g (lw_at lw_m3 159 rfl) rfl
theorem q1032 : (Jvm.Cond.selects "SendHall$Constant" ({ cls := "java/lang/Object", name := "getClass", desc := "()Ljava/lang/Class;" } : Jvm.MethodName) ({ cls := "java/lang/Object", name := "getClass", desc := "()Ljava/lang/Class;" } : Jvm.MethodName)) ∈ lw_all := lw_g (lw_at lw_m4 200 rfl) rfl
theorem q1488 : (Jvm.Cond.instantiable "SendHall$Constant" (1 : Nat)) ∈ lw_all := lw_g (lw_at lw_m6 176 rfl) rfl
theorem q1494 : (Jvm.Cond.instanceMethod ({ cls := "SendHall$Constant", name := "<init>", desc := "(I)V" } : Jvm.MethodName)) ∈ lw_all := lw_g (lw_at lw_m6 182 rfl) rfl
theorem q1495 : (Jvm.Cond.code ({ cls := "SendHall$Constant", name := "<init>", desc := "(I)V" } : Jvm.MethodName) prog_2_method_1_code (2 : Nat) (Option.none : Option Jvm.ClassFile.FieldType)) ∈ lw_all := lw_g (lw_at lw_m6 183 rfl) rfl
theorem q1496 : (Jvm.Cond.methodLink "SendHall$Constant" (1 : Nat) ({ cls := "java/lang/Object", name := "<init>", desc := "()V" } : Jvm.MethodName)) ∈ lw_all := lw_g (lw_at lw_m6 184 rfl) rfl
theorem q1497 : (Jvm.Cond.fieldLink "SendHall$Constant" (7 : Nat) "SendHall$Constant" "v" "I") ∈ lw_all := lw_g (lw_at lw_m6 185 rfl) rfl
theorem q1498 : (Jvm.Cond.laysFinal "SendHall$Constant" "SendHall$Constant" "v" "I") ∈ lw_all := lw_g (lw_at lw_m6 186 rfl) rfl
theorem q1499 : (Jvm.Cond.soleField "SendHall$Constant" "v") ∈ lw_all := lw_g (lw_at lw_m6 187 rfl) rfl
theorem q1500 : (Jvm.Cond.superclass "SendHall$Constant" "java/lang/Object") ∈ lw_all := lw_g (lw_at lw_m6 188 rfl) rfl
theorem q2478 : (Jvm.Cond.castable "SendHall$Constant" "java/lang/Object") ∈ lw_tbl := lw_at lw_m10 206 rfl
theorem in_X10 : ∀ w ∈ wsX100, w ∈ lw_all := lw_in wsX100 [1498] (by decide +kernel) (by decide +kernel)
/-! SendHall$Row -/
set_option maxRecDepth 100000
def RX11 : String := "SendHall$Row"
def TX11 : u_T := fun k => match k with
  | 0 => ("SendHall$Row", "parts", "Ljava/util/ArrayList;", true)
  | _ => ("SendHall$Row", "signs", "Ljava/util/ArrayList;", true)
def tyX11 : Nat → FieldType := fun k => match k with
  | 0 => .object "java/util/ArrayList"
  | _ => .object "java/util/ArrayList"
abbrev wsX110 : List Cond := u_ws RX11 TX11 2
theorem nmX11 : ∀ a, a < 2 → ∀ b, b < 2 → a ≠ b → (TX11 a).2.1 ≠ (TX11 b).2.1 := by decide +kernel
theorem tyX11_ok : ∀ k, k < 2 → parseFieldDescriptor (TX11 k).2.2.1 = some (tyX11 k) := by decide +kernel
abbrev cX11_value : ByteArray := prog_10_method_3_code
def yX11_value : MethodName := ⟨RX11, "value", "(LSendHall$Life;I)I"⟩
def dkwX11_value_3 : List UInt8 := [185, 0, 37, 3, 0, 184, 0, 49, 62, 132, 4, 1, 167, 255, 200, 29, 172]
abbrev dktX11_value_3 : List UInt8 := dkwX11_value_3 ++ []
def dkwX11_value_2 : List UInt8 := [192, 0, 26, 182, 0, 45, 42, 180, 0, 12, 21, 4, 182, 0, 31, 192, 0, 35, 43, 28]
abbrev dktX11_value_2 : List UInt8 := dkwX11_value_2 ++ dktX11_value_3
def dkwX11_value_1 : List UInt8 := [42, 180, 0, 12, 182, 0, 41, 162, 0, 50, 29, 42, 180, 0, 18, 21, 4, 4, 100, 182, 0, 31]
abbrev dktX11_value_1 : List UInt8 := dkwX11_value_1 ++ dktX11_value_2
def dkwX11_value_0 : List UInt8 := [42, 180, 0, 12, 3, 182, 0, 31, 192, 0, 35, 43, 28, 185, 0, 37, 3, 0, 62, 4, 54, 4, 21, 4]
abbrev dktX11_value_0 : List UInt8 := dkwX11_value_0 ++ dktX11_value_1
theorem dksX11_value_0 : cX11_value.data.toList.drop 0 = dktX11_value_0 := by decide +kernel
theorem dksX11_value_1 : cX11_value.data.toList.drop 24 = dktX11_value_1 := dk_seg dksX11_value_0 24 rfl rfl
theorem dksX11_value_2 : cX11_value.data.toList.drop 46 = dktX11_value_2 := dk_seg dksX11_value_1 22 rfl rfl
theorem dksX11_value_3 : cX11_value.data.toList.drop 66 = dktX11_value_3 := dk_seg dksX11_value_2 20 rfl rfl
theorem dX11_value_0 : decode cX11_value 0 = .ok (.aload_n 0, 1) := dk_42 (dk_at dksX11_value_0 0 rfl rfl)
theorem dX11_value_1 : decode cX11_value 1 = .ok (.getfield 12, 3) := dk_180 0 12 (dk_at dksX11_value_0 1 rfl rfl)
theorem dX11_value_4 : decode cX11_value 4 = .ok (.iconst 0, 1) := dk_3 (dk_at dksX11_value_0 4 rfl rfl)
theorem dX11_value_5 : decode cX11_value 5 = .ok (.invokevirtual 31, 3) := dk_182 0 31 (dk_at dksX11_value_0 5 rfl rfl)
theorem dX11_value_8 : decode cX11_value 8 = .ok (.checkcast 35, 3) := dk_192 0 35 (dk_at dksX11_value_0 8 rfl rfl)
theorem dX11_value_11 : decode cX11_value 11 = .ok (.aload_n 1, 1) := dk_43 (dk_at dksX11_value_0 11 rfl rfl)
theorem dX11_value_12 : decode cX11_value 12 = .ok (.iload_n 2, 1) := dk_28 (dk_at dksX11_value_0 12 rfl rfl)
theorem dX11_value_13 : decode cX11_value 13 = .ok (.invokeinterface 37 3, 5) := by decide +kernel
theorem dX11_value_18 : decode cX11_value 18 = .ok (.istore_n 3, 1) := dk_62 (dk_at dksX11_value_0 18 rfl rfl)
theorem dX11_value_19 : decode cX11_value 19 = .ok (.iconst 1, 1) := dk_4 (dk_at dksX11_value_0 19 rfl rfl)
theorem dX11_value_20 : decode cX11_value 20 = .ok (.istore 4, 2) := dk_54 4 (dk_at dksX11_value_0 20 rfl rfl)
theorem dX11_value_22 : decode cX11_value 22 = .ok (.iload 4, 2) := dk_21 4 (dk_at dksX11_value_0 22 rfl rfl)
theorem dX11_value_24 : decode cX11_value 24 = .ok (.aload_n 0, 1) := dk_42 (dk_at dksX11_value_1 0 rfl rfl)
theorem dX11_value_25 : decode cX11_value 25 = .ok (.getfield 12, 3) := dk_180 0 12 (dk_at dksX11_value_1 1 rfl rfl)
theorem dX11_value_28 : decode cX11_value 28 = .ok (.invokevirtual 41, 3) := dk_182 0 41 (dk_at dksX11_value_1 4 rfl rfl)
theorem dX11_value_31 : decode cX11_value 31 = .ok (.if_icmp .ge 50, 3) := dk_162 0 50 (dk_at dksX11_value_1 7 rfl rfl)
theorem dX11_value_34 : decode cX11_value 34 = .ok (.iload_n 3, 1) := dk_29 (dk_at dksX11_value_1 10 rfl rfl)
theorem dX11_value_35 : decode cX11_value 35 = .ok (.aload_n 0, 1) := dk_42 (dk_at dksX11_value_1 11 rfl rfl)
theorem dX11_value_36 : decode cX11_value 36 = .ok (.getfield 18, 3) := dk_180 0 18 (dk_at dksX11_value_1 12 rfl rfl)
theorem dX11_value_39 : decode cX11_value 39 = .ok (.iload 4, 2) := dk_21 4 (dk_at dksX11_value_1 15 rfl rfl)
theorem dX11_value_41 : decode cX11_value 41 = .ok (.iconst 1, 1) := dk_4 (dk_at dksX11_value_1 17 rfl rfl)
theorem dX11_value_42 : decode cX11_value 42 = .ok (.isub, 1) := dk_100 (dk_at dksX11_value_1 18 rfl rfl)
theorem dX11_value_43 : decode cX11_value 43 = .ok (.invokevirtual 31, 3) := dk_182 0 31 (dk_at dksX11_value_1 19 rfl rfl)
theorem dX11_value_46 : decode cX11_value 46 = .ok (.checkcast 26, 3) := dk_192 0 26 (dk_at dksX11_value_2 0 rfl rfl)
theorem dX11_value_49 : decode cX11_value 49 = .ok (.invokevirtual 45, 3) := dk_182 0 45 (dk_at dksX11_value_2 3 rfl rfl)
theorem dX11_value_52 : decode cX11_value 52 = .ok (.aload_n 0, 1) := dk_42 (dk_at dksX11_value_2 6 rfl rfl)
theorem dX11_value_53 : decode cX11_value 53 = .ok (.getfield 12, 3) := dk_180 0 12 (dk_at dksX11_value_2 7 rfl rfl)
theorem dX11_value_56 : decode cX11_value 56 = .ok (.iload 4, 2) := dk_21 4 (dk_at dksX11_value_2 10 rfl rfl)
theorem dX11_value_58 : decode cX11_value 58 = .ok (.invokevirtual 31, 3) := dk_182 0 31 (dk_at dksX11_value_2 12 rfl rfl)
theorem dX11_value_61 : decode cX11_value 61 = .ok (.checkcast 35, 3) := dk_192 0 35 (dk_at dksX11_value_2 15 rfl rfl)
theorem dX11_value_64 : decode cX11_value 64 = .ok (.aload_n 1, 1) := dk_43 (dk_at dksX11_value_2 18 rfl rfl)
theorem dX11_value_65 : decode cX11_value 65 = .ok (.iload_n 2, 1) := dk_28 (dk_at dksX11_value_2 19 rfl rfl)
theorem dX11_value_66 : decode cX11_value 66 = .ok (.invokeinterface 37 3, 5) := by decide +kernel
theorem dX11_value_71 : decode cX11_value 71 = .ok (.invokestatic 49, 3) := dk_184 0 49 (dk_at dksX11_value_3 5 rfl rfl)
theorem dX11_value_74 : decode cX11_value 74 = .ok (.istore_n 3, 1) := dk_62 (dk_at dksX11_value_3 8 rfl rfl)
theorem dX11_value_75 : decode cX11_value 75 = .ok (.iinc 4 1, 3) := dk_132 4 1 (dk_at dksX11_value_3 9 rfl rfl)
theorem dX11_value_78 : decode cX11_value 78 = .ok (.goto (-56), 3) := dk_167 255 200 (dk_at dksX11_value_3 12 rfl rfl)
theorem dX11_value_81 : decode cX11_value 81 = .ok (.iload_n 3, 1) := dk_29 (dk_at dksX11_value_3 15 rfl rfl)
theorem dX11_value_82 : decode cX11_value 82 = .ok (.ireturn, 1) := dk_172 (dk_at dksX11_value_3 16 rfl rfl)
abbrev cX11_works : ByteArray := prog_10_method_4_code
def yX11_works : MethodName := ⟨RX11, "works", "(ICI)I"⟩
def dkwX11_works_3 : List UInt8 := [26, 28, 162, 0, 7, 4, 167, 0, 4, 3, 172, 26, 28, 160, 0, 7, 4, 167, 0, 4, 3, 172]
abbrev dktX11_works_3 : List UInt8 := dkwX11_works_3 ++ []
def dkwX11_works_2 : List UInt8 := [26, 28, 96, 172, 26, 28, 100, 172, 26, 28, 104, 172, 28, 154, 0, 7, 3, 167, 0, 6, 26, 28, 108, 172]
abbrev dktX11_works_2 : List UInt8 := dkwX11_works_2 ++ dktX11_works_3
def dkwX11_works_1 : List UInt8 := [171, 0, 0, 0, 0, 0, 86, 0, 0, 0, 5, 0, 0, 0, 42, 0, 0, 0, 59, 0, 0, 0, 43, 0, 0, 0, 51, 0, 0, 0, 45, 0, 0, 0, 55, 0, 0, 0, 47, 0, 0, 0, 63, 0, 0, 0, 60, 0, 0, 0, 75]
abbrev dktX11_works_1 : List UInt8 := dkwX11_works_1 ++ dktX11_works_2
def dkwX11_works_0 : List UInt8 := [27]
abbrev dktX11_works_0 : List UInt8 := dkwX11_works_0 ++ dktX11_works_1
theorem dksX11_works_0 : cX11_works.data.toList.drop 0 = dktX11_works_0 := by decide +kernel
theorem dksX11_works_1 : cX11_works.data.toList.drop 1 = dktX11_works_1 := dk_seg dksX11_works_0 1 rfl rfl
theorem dksX11_works_2 : cX11_works.data.toList.drop 52 = dktX11_works_2 := dk_seg dksX11_works_1 51 rfl rfl
theorem dksX11_works_3 : cX11_works.data.toList.drop 76 = dktX11_works_3 := dk_seg dksX11_works_2 24 rfl rfl
theorem dX11_works_0 : decode cX11_works 0 = .ok (.iload_n 1, 1) := dk_27 (dk_at dksX11_works_0 0 rfl rfl)
theorem dX11_works_1 : decode cX11_works 1 = .ok (.lookupswitch 86 #[(42, 59), (43, 51), (45, 55), (47, 63), (60, 75)], 51) := by decide +kernel
theorem dX11_works_52 : decode cX11_works 52 = .ok (.iload_n 0, 1) := dk_26 (dk_at dksX11_works_2 0 rfl rfl)
theorem dX11_works_53 : decode cX11_works 53 = .ok (.iload_n 2, 1) := dk_28 (dk_at dksX11_works_2 1 rfl rfl)
theorem dX11_works_54 : decode cX11_works 54 = .ok (.iadd, 1) := dk_96 (dk_at dksX11_works_2 2 rfl rfl)
theorem dX11_works_55 : decode cX11_works 55 = .ok (.ireturn, 1) := dk_172 (dk_at dksX11_works_2 3 rfl rfl)
theorem dX11_works_56 : decode cX11_works 56 = .ok (.iload_n 0, 1) := dk_26 (dk_at dksX11_works_2 4 rfl rfl)
theorem dX11_works_57 : decode cX11_works 57 = .ok (.iload_n 2, 1) := dk_28 (dk_at dksX11_works_2 5 rfl rfl)
theorem dX11_works_58 : decode cX11_works 58 = .ok (.isub, 1) := dk_100 (dk_at dksX11_works_2 6 rfl rfl)
theorem dX11_works_59 : decode cX11_works 59 = .ok (.ireturn, 1) := dk_172 (dk_at dksX11_works_2 7 rfl rfl)
theorem dX11_works_60 : decode cX11_works 60 = .ok (.iload_n 0, 1) := dk_26 (dk_at dksX11_works_2 8 rfl rfl)
theorem dX11_works_61 : decode cX11_works 61 = .ok (.iload_n 2, 1) := dk_28 (dk_at dksX11_works_2 9 rfl rfl)
theorem dX11_works_62 : decode cX11_works 62 = .ok (.imul, 1) := dk_104 (dk_at dksX11_works_2 10 rfl rfl)
theorem dX11_works_63 : decode cX11_works 63 = .ok (.ireturn, 1) := dk_172 (dk_at dksX11_works_2 11 rfl rfl)
theorem dX11_works_64 : decode cX11_works 64 = .ok (.iload_n 2, 1) := dk_28 (dk_at dksX11_works_2 12 rfl rfl)
theorem dX11_works_65 : decode cX11_works 65 = .ok (.ifCond .ne 7, 3) := dk_154 0 7 (dk_at dksX11_works_2 13 rfl rfl)
theorem dX11_works_68 : decode cX11_works 68 = .ok (.iconst 0, 1) := dk_3 (dk_at dksX11_works_2 16 rfl rfl)
theorem dX11_works_69 : decode cX11_works 69 = .ok (.goto 6, 3) := dk_167 0 6 (dk_at dksX11_works_2 17 rfl rfl)
theorem dX11_works_72 : decode cX11_works 72 = .ok (.iload_n 0, 1) := dk_26 (dk_at dksX11_works_2 20 rfl rfl)
theorem dX11_works_73 : decode cX11_works 73 = .ok (.iload_n 2, 1) := dk_28 (dk_at dksX11_works_2 21 rfl rfl)
theorem dX11_works_74 : decode cX11_works 74 = .ok (.idiv, 1) := dk_108 (dk_at dksX11_works_2 22 rfl rfl)
theorem dX11_works_75 : decode cX11_works 75 = .ok (.ireturn, 1) := dk_172 (dk_at dksX11_works_2 23 rfl rfl)
theorem dX11_works_76 : decode cX11_works 76 = .ok (.iload_n 0, 1) := dk_26 (dk_at dksX11_works_3 0 rfl rfl)
theorem dX11_works_77 : decode cX11_works 77 = .ok (.iload_n 2, 1) := dk_28 (dk_at dksX11_works_3 1 rfl rfl)
theorem dX11_works_78 : decode cX11_works 78 = .ok (.if_icmp .ge 7, 3) := dk_162 0 7 (dk_at dksX11_works_3 2 rfl rfl)
theorem dX11_works_81 : decode cX11_works 81 = .ok (.iconst 1, 1) := dk_4 (dk_at dksX11_works_3 5 rfl rfl)
theorem dX11_works_82 : decode cX11_works 82 = .ok (.goto 4, 3) := dk_167 0 4 (dk_at dksX11_works_3 6 rfl rfl)
theorem dX11_works_85 : decode cX11_works 85 = .ok (.iconst 0, 1) := dk_3 (dk_at dksX11_works_3 9 rfl rfl)
theorem dX11_works_86 : decode cX11_works 86 = .ok (.ireturn, 1) := dk_172 (dk_at dksX11_works_3 10 rfl rfl)
theorem dX11_works_87 : decode cX11_works 87 = .ok (.iload_n 0, 1) := dk_26 (dk_at dksX11_works_3 11 rfl rfl)
theorem dX11_works_88 : decode cX11_works 88 = .ok (.iload_n 2, 1) := dk_28 (dk_at dksX11_works_3 12 rfl rfl)
theorem dX11_works_89 : decode cX11_works 89 = .ok (.if_icmp .ne 7, 3) := dk_160 0 7 (dk_at dksX11_works_3 13 rfl rfl)
theorem dX11_works_92 : decode cX11_works 92 = .ok (.iconst 1, 1) := dk_4 (dk_at dksX11_works_3 16 rfl rfl)
theorem dX11_works_93 : decode cX11_works 93 = .ok (.goto 4, 3) := dk_167 0 4 (dk_at dksX11_works_3 17 rfl rfl)
theorem dX11_works_96 : decode cX11_works 96 = .ok (.iconst 0, 1) := dk_3 (dk_at dksX11_works_3 20 rfl rfl)
theorem dX11_works_97 : decode cX11_works 97 = .ok (.ireturn, 1) := dk_172 (dk_at dksX11_works_3 21 rfl rfl)
abbrev cX11_init : ByteArray := prog_10_method_1_code
def yX11_init : MethodName := ⟨RX11, "<init>", "(LSendHall$Expr;)V"⟩
def dkwX11_init_1 : List UInt8 := [183, 0, 9, 181, 0, 18, 42, 180, 0, 12, 43, 182, 0, 21, 87, 177]
abbrev dktX11_init_1 : List UInt8 := dkwX11_init_1 ++ []
def dkwX11_init_0 : List UInt8 := [42, 183, 0, 1, 42, 187, 0, 7, 89, 5, 183, 0, 9, 181, 0, 12, 42, 187, 0, 7, 89, 4]
abbrev dktX11_init_0 : List UInt8 := dkwX11_init_0 ++ dktX11_init_1
theorem dksX11_init_0 : cX11_init.data.toList.drop 0 = dktX11_init_0 := by decide +kernel
theorem dksX11_init_1 : cX11_init.data.toList.drop 22 = dktX11_init_1 := dk_seg dksX11_init_0 22 rfl rfl
theorem dX11_init_0 : decode cX11_init 0 = .ok (.aload_n 0, 1) := dk_42 (dk_at dksX11_init_0 0 rfl rfl)
theorem dX11_init_1 : decode cX11_init 1 = .ok (.invokespecial 1, 3) := dk_183 0 1 (dk_at dksX11_init_0 1 rfl rfl)
theorem dX11_init_4 : decode cX11_init 4 = .ok (.aload_n 0, 1) := dk_42 (dk_at dksX11_init_0 4 rfl rfl)
theorem dX11_init_5 : decode cX11_init 5 = .ok (.new 7, 3) := dk_187 0 7 (dk_at dksX11_init_0 5 rfl rfl)
theorem dX11_init_8 : decode cX11_init 8 = .ok (.dup, 1) := dk_89 (dk_at dksX11_init_0 8 rfl rfl)
theorem dX11_init_9 : decode cX11_init 9 = .ok (.iconst 2, 1) := dk_5 (dk_at dksX11_init_0 9 rfl rfl)
theorem dX11_init_10 : decode cX11_init 10 = .ok (.invokespecial 9, 3) := dk_183 0 9 (dk_at dksX11_init_0 10 rfl rfl)
theorem dX11_init_13 : decode cX11_init 13 = .ok (.putfield 12, 3) := dk_181 0 12 (dk_at dksX11_init_0 13 rfl rfl)
theorem dX11_init_16 : decode cX11_init 16 = .ok (.aload_n 0, 1) := dk_42 (dk_at dksX11_init_0 16 rfl rfl)
theorem dX11_init_17 : decode cX11_init 17 = .ok (.new 7, 3) := dk_187 0 7 (dk_at dksX11_init_0 17 rfl rfl)
theorem dX11_init_20 : decode cX11_init 20 = .ok (.dup, 1) := dk_89 (dk_at dksX11_init_0 20 rfl rfl)
theorem dX11_init_21 : decode cX11_init 21 = .ok (.iconst 1, 1) := dk_4 (dk_at dksX11_init_0 21 rfl rfl)
theorem dX11_init_22 : decode cX11_init 22 = .ok (.invokespecial 9, 3) := dk_183 0 9 (dk_at dksX11_init_1 0 rfl rfl)
theorem dX11_init_25 : decode cX11_init 25 = .ok (.putfield 18, 3) := dk_181 0 18 (dk_at dksX11_init_1 3 rfl rfl)
theorem dX11_init_28 : decode cX11_init 28 = .ok (.aload_n 0, 1) := dk_42 (dk_at dksX11_init_1 6 rfl rfl)
theorem dX11_init_29 : decode cX11_init 29 = .ok (.getfield 12, 3) := dk_180 0 12 (dk_at dksX11_init_1 7 rfl rfl)
theorem dX11_init_32 : decode cX11_init 32 = .ok (.aload_n 1, 1) := dk_43 (dk_at dksX11_init_1 10 rfl rfl)
theorem dX11_init_33 : decode cX11_init 33 = .ok (.invokevirtual 21, 3) := dk_182 0 21 (dk_at dksX11_init_1 11 rfl rfl)
theorem dX11_init_36 : decode cX11_init 36 = .ok (.pop, 1) := dk_87 (dk_at dksX11_init_1 14 rfl rfl)
theorem dX11_init_37 : decode cX11_init 37 = .ok (.return_, 1) := dk_177 (dk_at dksX11_init_1 15 rfl rfl)
abbrev cX11_add : ByteArray := prog_10_method_2_code
def yX11_add : MethodName := ⟨RX11, "add", "(CLSendHall$Expr;)V"⟩
def dkwX11_add_0 : List UInt8 := [42, 180, 0, 18, 27, 184, 0, 25, 182, 0, 21, 87, 42, 180, 0, 12, 44, 182, 0, 21, 87, 177]
abbrev dktX11_add_0 : List UInt8 := dkwX11_add_0 ++ []
theorem dksX11_add_0 : cX11_add.data.toList.drop 0 = dktX11_add_0 := by decide +kernel
theorem dX11_add_0 : decode cX11_add 0 = .ok (.aload_n 0, 1) := dk_42 (dk_at dksX11_add_0 0 rfl rfl)
theorem dX11_add_1 : decode cX11_add 1 = .ok (.getfield 18, 3) := dk_180 0 18 (dk_at dksX11_add_0 1 rfl rfl)
theorem dX11_add_4 : decode cX11_add 4 = .ok (.iload_n 1, 1) := dk_27 (dk_at dksX11_add_0 4 rfl rfl)
theorem dX11_add_5 : decode cX11_add 5 = .ok (.invokestatic 25, 3) := dk_184 0 25 (dk_at dksX11_add_0 5 rfl rfl)
theorem dX11_add_8 : decode cX11_add 8 = .ok (.invokevirtual 21, 3) := dk_182 0 21 (dk_at dksX11_add_0 8 rfl rfl)
theorem dX11_add_11 : decode cX11_add 11 = .ok (.pop, 1) := dk_87 (dk_at dksX11_add_0 11 rfl rfl)
theorem dX11_add_12 : decode cX11_add 12 = .ok (.aload_n 0, 1) := dk_42 (dk_at dksX11_add_0 12 rfl rfl)
theorem dX11_add_13 : decode cX11_add 13 = .ok (.getfield 12, 3) := dk_180 0 12 (dk_at dksX11_add_0 13 rfl rfl)
theorem dX11_add_16 : decode cX11_add 16 = .ok (.aload_n 2, 1) := dk_44 (dk_at dksX11_add_0 16 rfl rfl)
theorem dX11_add_17 : decode cX11_add 17 = .ok (.invokevirtual 21, 3) := dk_182 0 21 (dk_at dksX11_add_0 17 rfl rfl)
theorem dX11_add_20 : decode cX11_add 20 = .ok (.pop, 1) := dk_87 (dk_at dksX11_add_0 20 rfl rfl)
theorem dX11_add_21 : decode cX11_add 21 = .ok (.return_, 1) := dk_177 (dk_at dksX11_add_0 21 rfl rfl)
theorem q145 : (Jvm.Cond.initialized "SendHall$Row") ∈ lw_all := lw_g (lw_at lw_m1 33 rfl) rfl
theorem q752 : (Jvm.Cond.castable "SendHall$Row" "SendHall$Expr") ∈ lw_tbl := lw_at lw_m3 160 rfl
theorem q753 : (Jvm.Cond.selects "SendHall$Row" ({ cls := "SendHall$Expr", name := "value", desc := "(LSendHall$Life;I)I" } : Jvm.MethodName) ({ cls := "SendHall$Row", name := "value", desc := "(LSendHall$Life;I)I" } : Jvm.MethodName)) ∈ lw_all := lw_g (lw_at lw_m3 161 rfl) rfl
theorem q754 : (Jvm.Cond.unhidden "SendHall$Row" "value" "(LSendHall$Life;I)I") ∈ lw_tbl := lw_at lw_m3 162 rfl
theorem q755 : (Jvm.Cond.instanceMethod ({ cls := "SendHall$Row", name := "value", desc := "(LSendHall$Life;I)I" } : Jvm.MethodName)) ∈ lw_all := lw_g (lw_at lw_m3 163 rfl) rfl
theorem q756 : (Jvm.Cond.publicMethod ({ cls := "SendHall$Row", name := "value", desc := "(LSendHall$Life;I)I" } : Jvm.MethodName)) ∈ lw_tbl := lw_at lw_m3 164 rfl
theorem q757 : (Jvm.Cond.code ({ cls := "SendHall$Row", name := "value", desc := "(LSendHall$Life;I)I" } : Jvm.MethodName) prog_10_method_3_code (5 : Nat) (Option.some Jvm.ClassFile.FieldType.int)) ∈ lw_all := lw_g (lw_at lw_m3 165 rfl) rfl
theorem q758 : (Jvm.Cond.methodLink "SendHall$Row" (31 : Nat) ({ cls := "java/util/ArrayList", name := "get", desc := "(I)Ljava/lang/Object;" } : Jvm.MethodName)) ∈ lw_all := lw_g (lw_at lw_m3 166 rfl) rfl
theorem q772 : (Jvm.Cond.classLink "SendHall$Row" (35 : Nat) "SendHall$Expr") ∈ lw_all := lw_g (lw_at lw_m3 180 rfl) rfl
theorem q773 : (Jvm.Cond.interfaceEntry "SendHall$Row" (37 : Nat)) ∈ lw_tbl := lw_at lw_m3 181 rfl
theorem q774 : (Jvm.Cond.methodLink "SendHall$Row" (37 : Nat) ({ cls := "SendHall$Expr", name := "value", desc := "(LSendHall$Life;I)I" } : Jvm.MethodName)) ∈ lw_all := lw_g (lw_at lw_m3 182 rfl) rfl
theorem q781 : (Jvm.Cond.methodLink "SendHall$Row" (41 : Nat) ({ cls := "java/util/ArrayList", name := "size", desc := "()I" } : Jvm.MethodName)) ∈ lw_all := lw_g (lw_at lw_m3 189 rfl) rfl
theorem q785 : (Jvm.Cond.classLink "SendHall$Row" (26 : Nat) "java/lang/Character") ∈ lw_all := lw_g (lw_at lw_m3 193 rfl) rfl
theorem q786 : (Jvm.Cond.methodLink "SendHall$Row" (45 : Nat) ({ cls := "java/lang/Character", name := "charValue", desc := "()C" } : Jvm.MethodName)) ∈ lw_all := lw_g (lw_at lw_m3 194 rfl) rfl
theorem q790 : (Jvm.Cond.methodLink "SendHall$Row" (49 : Nat) ({ cls := "SendHall$Row", name := "works", desc := "(ICI)I" } : Jvm.MethodName)) ∈ lw_all := lw_g (lw_at lw_m3 198 rfl) rfl
theorem q791 : (Jvm.Cond.static ({ cls := "SendHall$Row", name := "works", desc := "(ICI)I" } : Jvm.MethodName)) ∈ lw_all := lw_g (lw_at lw_m3 199 rfl) rfl
theorem q792 : (Jvm.Cond.code ({ cls := "SendHall$Row", name := "works", desc := "(ICI)I" } : Jvm.MethodName) prog_10_method_4_code (3 : Nat) (Option.some Jvm.ClassFile.FieldType.int)) ∈ lw_all := lw_g (lw_at lw_m3 200 rfl) rfl
theorem q1039 : (Jvm.Cond.selects "SendHall$Row" ({ cls := "java/lang/Object", name := "getClass", desc := "()Ljava/lang/Class;" } : Jvm.MethodName) ({ cls := "java/lang/Object", name := "getClass", desc := "()Ljava/lang/Class;" } : Jvm.MethodName)) ∈ lw_all := lw_g (lw_at lw_m4 207 rfl) rfl
theorem q1508 : (Jvm.Cond.instantiable "SendHall$Row" (2 : Nat)) ∈ lw_all := lw_g (lw_at lw_m6 196 rfl) rfl
theorem q1510 : (Jvm.Cond.instanceMethod ({ cls := "SendHall$Row", name := "<init>", desc := "(LSendHall$Expr;)V" } : Jvm.MethodName)) ∈ lw_all := lw_g (lw_at lw_m6 198 rfl) rfl
theorem q1511 : (Jvm.Cond.code ({ cls := "SendHall$Row", name := "<init>", desc := "(LSendHall$Expr;)V" } : Jvm.MethodName) prog_10_method_1_code (2 : Nat) (Option.none : Option Jvm.ClassFile.FieldType)) ∈ lw_all := lw_g (lw_at lw_m6 199 rfl) rfl
theorem q1512 : (Jvm.Cond.methodLink "SendHall$Row" (1 : Nat) ({ cls := "java/lang/Object", name := "<init>", desc := "()V" } : Jvm.MethodName)) ∈ lw_all := lw_g (lw_at lw_m6 200 rfl) rfl
theorem q1513 : (Jvm.Cond.classLink "SendHall$Row" (7 : Nat) "java/util/ArrayList") ∈ lw_all := lw_g (lw_at lw_m6 201 rfl) rfl
theorem q1514 : (Jvm.Cond.methodLink "SendHall$Row" (9 : Nat) ({ cls := "java/util/ArrayList", name := "<init>", desc := "(I)V" } : Jvm.MethodName)) ∈ lw_all := lw_g (lw_at lw_m6 202 rfl) rfl
theorem q1515 : (Jvm.Cond.methodLink "SendHall$Row" (21 : Nat) ({ cls := "java/util/ArrayList", name := "add", desc := "(Ljava/lang/Object;)Z" } : Jvm.MethodName)) ∈ lw_all := lw_g (lw_at lw_m6 203 rfl) rfl
theorem q1516 : (Jvm.Cond.fieldLink "SendHall$Row" (12 : Nat) "SendHall$Row" "parts" "Ljava/util/ArrayList;") ∈ lw_all := lw_g (lw_at lw_m6 204 rfl) rfl
theorem q1517 : (Jvm.Cond.fieldLink "SendHall$Row" (18 : Nat) "SendHall$Row" "signs" "Ljava/util/ArrayList;") ∈ lw_all := lw_g (lw_at lw_m6 205 rfl) rfl
theorem q1518 : (Jvm.Cond.laysFinal "SendHall$Row" "SendHall$Row" "parts" "Ljava/util/ArrayList;") ∈ lw_all := lw_g (lw_at lw_m6 206 rfl) rfl
theorem q1519 : (Jvm.Cond.soleField "SendHall$Row" "parts") ∈ lw_all := lw_g (lw_at lw_m6 207 rfl) rfl
theorem q1520 : (Jvm.Cond.laysFinal "SendHall$Row" "SendHall$Row" "signs" "Ljava/util/ArrayList;") ∈ lw_all := lw_g (lw_at lw_m6 208 rfl) rfl
theorem q1521 : (Jvm.Cond.soleField "SendHall$Row" "signs") ∈ lw_all := lw_g (lw_at lw_m6 209 rfl) rfl
theorem q1522 : (Jvm.Cond.superclass "SendHall$Row" "java/lang/Object") ∈ lw_all := lw_g (lw_at lw_m6 210 rfl) rfl
theorem q1535 : (Jvm.Cond.instanceMethod ({ cls := "SendHall$Row", name := "add", desc := "(CLSendHall$Expr;)V" } : Jvm.MethodName)) ∈ lw_all := lw_g (lw_at lw_m6 223 rfl) rfl
theorem q1536 : (Jvm.Cond.selects "SendHall$Row" ({ cls := "SendHall$Row", name := "add", desc := "(CLSendHall$Expr;)V" } : Jvm.MethodName) ({ cls := "SendHall$Row", name := "add", desc := "(CLSendHall$Expr;)V" } : Jvm.MethodName)) ∈ lw_all := lw_g (lw_at lw_m6 224 rfl) rfl
theorem q1537 : (Jvm.Cond.code ({ cls := "SendHall$Row", name := "add", desc := "(CLSendHall$Expr;)V" } : Jvm.MethodName) prog_10_method_2_code (3 : Nat) (Option.none : Option Jvm.ClassFile.FieldType)) ∈ lw_all := lw_g (lw_at lw_m6 225 rfl) rfl
theorem q1538 : (Jvm.Cond.methodLink "SendHall$Row" (25 : Nat) ({ cls := "java/lang/Character", name := "valueOf", desc := "(C)Ljava/lang/Character;" } : Jvm.MethodName)) ∈ lw_all := lw_g (lw_at lw_m6 226 rfl) rfl
theorem q2479 : (Jvm.Cond.castable "SendHall$Row" "java/lang/Object") ∈ lw_tbl := lw_at lw_m10 207 rfl
theorem in_X11 : ∀ w ∈ wsX110, w ∈ lw_all := lw_in wsX110 [1518, 1520] (by decide +kernel) (by decide +kernel)
/-! SendHall$Value -/
set_option maxRecDepth 100000
def RX12 : String := "SendHall$Value"
def TX12 : u_T := fun k => match k with
  | _ => ("SendHall$Value", "which", "I", true)
def tyX12 : Nat → FieldType := fun k => match k with
  | _ => .int
abbrev wsX120 : List Cond := u_ws RX12 TX12 1
theorem nmX12 : ∀ a, a < 1 → ∀ b, b < 1 → a ≠ b → (TX12 a).2.1 ≠ (TX12 b).2.1 := by decide +kernel
theorem tyX12_ok : ∀ k, k < 1 → parseFieldDescriptor (TX12 k).2.2.1 = some (tyX12 k) := by decide +kernel
abbrev cX12_value : ByteArray := prog_18_method_2_code
def yX12_value : MethodName := ⟨RX12, "value", "(LSendHall$Life;I)I"⟩
def dkwX12_value_2 : List UInt8 := [167, 0, 9, 43, 180, 0, 24, 28, 46, 172]
abbrev dktX12_value_2 : List UInt8 := dkwX12_value_2 ++ []
def dkwX12_value_1 : List UInt8 := [42, 180, 0, 9, 7, 160, 0, 7, 28, 167, 0, 24, 42, 180, 0, 9, 8, 160, 0, 10, 43, 180, 0, 21]
abbrev dktX12_value_1 : List UInt8 := dkwX12_value_1 ++ dktX12_value_2
def dkwX12_value_0 : List UInt8 := [42, 180, 0, 9, 7, 162, 0, 19, 43, 180, 0, 15, 7, 28, 104, 42, 180, 0, 9, 96, 46, 167, 0, 36]
abbrev dktX12_value_0 : List UInt8 := dkwX12_value_0 ++ dktX12_value_1
theorem dksX12_value_0 : cX12_value.data.toList.drop 0 = dktX12_value_0 := by decide +kernel
theorem dksX12_value_1 : cX12_value.data.toList.drop 24 = dktX12_value_1 := dk_seg dksX12_value_0 24 rfl rfl
theorem dksX12_value_2 : cX12_value.data.toList.drop 48 = dktX12_value_2 := dk_seg dksX12_value_1 24 rfl rfl
theorem dX12_value_0 : decode cX12_value 0 = .ok (.aload_n 0, 1) := dk_42 (dk_at dksX12_value_0 0 rfl rfl)
theorem dX12_value_1 : decode cX12_value 1 = .ok (.getfield 9, 3) := dk_180 0 9 (dk_at dksX12_value_0 1 rfl rfl)
theorem dX12_value_4 : decode cX12_value 4 = .ok (.iconst 4, 1) := dk_7 (dk_at dksX12_value_0 4 rfl rfl)
theorem dX12_value_5 : decode cX12_value 5 = .ok (.if_icmp .ge 19, 3) := dk_162 0 19 (dk_at dksX12_value_0 5 rfl rfl)
theorem dX12_value_8 : decode cX12_value 8 = .ok (.aload_n 1, 1) := dk_43 (dk_at dksX12_value_0 8 rfl rfl)
theorem dX12_value_9 : decode cX12_value 9 = .ok (.getfield 15, 3) := dk_180 0 15 (dk_at dksX12_value_0 9 rfl rfl)
theorem dX12_value_12 : decode cX12_value 12 = .ok (.iconst 4, 1) := dk_7 (dk_at dksX12_value_0 12 rfl rfl)
theorem dX12_value_13 : decode cX12_value 13 = .ok (.iload_n 2, 1) := dk_28 (dk_at dksX12_value_0 13 rfl rfl)
theorem dX12_value_14 : decode cX12_value 14 = .ok (.imul, 1) := dk_104 (dk_at dksX12_value_0 14 rfl rfl)
theorem dX12_value_15 : decode cX12_value 15 = .ok (.aload_n 0, 1) := dk_42 (dk_at dksX12_value_0 15 rfl rfl)
theorem dX12_value_16 : decode cX12_value 16 = .ok (.getfield 9, 3) := dk_180 0 9 (dk_at dksX12_value_0 16 rfl rfl)
theorem dX12_value_19 : decode cX12_value 19 = .ok (.iadd, 1) := dk_96 (dk_at dksX12_value_0 19 rfl rfl)
theorem dX12_value_20 : decode cX12_value 20 = .ok (.iaload, 1) := dk_46 (dk_at dksX12_value_0 20 rfl rfl)
theorem dX12_value_21 : decode cX12_value 21 = .ok (.goto 36, 3) := dk_167 0 36 (dk_at dksX12_value_0 21 rfl rfl)
theorem dX12_value_24 : decode cX12_value 24 = .ok (.aload_n 0, 1) := dk_42 (dk_at dksX12_value_1 0 rfl rfl)
theorem dX12_value_25 : decode cX12_value 25 = .ok (.getfield 9, 3) := dk_180 0 9 (dk_at dksX12_value_1 1 rfl rfl)
theorem dX12_value_28 : decode cX12_value 28 = .ok (.iconst 4, 1) := dk_7 (dk_at dksX12_value_1 4 rfl rfl)
theorem dX12_value_29 : decode cX12_value 29 = .ok (.if_icmp .ne 7, 3) := dk_160 0 7 (dk_at dksX12_value_1 5 rfl rfl)
theorem dX12_value_32 : decode cX12_value 32 = .ok (.iload_n 2, 1) := dk_28 (dk_at dksX12_value_1 8 rfl rfl)
theorem dX12_value_33 : decode cX12_value 33 = .ok (.goto 24, 3) := dk_167 0 24 (dk_at dksX12_value_1 9 rfl rfl)
theorem dX12_value_36 : decode cX12_value 36 = .ok (.aload_n 0, 1) := dk_42 (dk_at dksX12_value_1 12 rfl rfl)
theorem dX12_value_37 : decode cX12_value 37 = .ok (.getfield 9, 3) := dk_180 0 9 (dk_at dksX12_value_1 13 rfl rfl)
theorem dX12_value_40 : decode cX12_value 40 = .ok (.iconst 5, 1) := dk_8 (dk_at dksX12_value_1 16 rfl rfl)
theorem dX12_value_41 : decode cX12_value 41 = .ok (.if_icmp .ne 10, 3) := dk_160 0 10 (dk_at dksX12_value_1 17 rfl rfl)
theorem dX12_value_44 : decode cX12_value 44 = .ok (.aload_n 1, 1) := dk_43 (dk_at dksX12_value_1 20 rfl rfl)
theorem dX12_value_45 : decode cX12_value 45 = .ok (.getfield 21, 3) := dk_180 0 21 (dk_at dksX12_value_1 21 rfl rfl)
theorem dX12_value_48 : decode cX12_value 48 = .ok (.goto 9, 3) := dk_167 0 9 (dk_at dksX12_value_2 0 rfl rfl)
theorem dX12_value_51 : decode cX12_value 51 = .ok (.aload_n 1, 1) := dk_43 (dk_at dksX12_value_2 3 rfl rfl)
theorem dX12_value_52 : decode cX12_value 52 = .ok (.getfield 24, 3) := dk_180 0 24 (dk_at dksX12_value_2 4 rfl rfl)
theorem dX12_value_55 : decode cX12_value 55 = .ok (.iload_n 2, 1) := dk_28 (dk_at dksX12_value_2 7 rfl rfl)
theorem dX12_value_56 : decode cX12_value 56 = .ok (.iaload, 1) := dk_46 (dk_at dksX12_value_2 8 rfl rfl)
theorem dX12_value_57 : decode cX12_value 57 = .ok (.ireturn, 1) := dk_172 (dk_at dksX12_value_2 9 rfl rfl)
abbrev cX12_init : ByteArray := prog_18_method_1_code
def yX12_init : MethodName := ⟨RX12, "<init>", "(I)V"⟩
def dkwX12_init_0 : List UInt8 := [42, 183, 0, 3, 42, 27, 181, 0, 9, 177]
abbrev dktX12_init_0 : List UInt8 := dkwX12_init_0 ++ []
theorem dksX12_init_0 : cX12_init.data.toList.drop 0 = dktX12_init_0 := by decide +kernel
theorem dX12_init_0 : decode cX12_init 0 = .ok (.aload_n 0, 1) := dk_42 (dk_at dksX12_init_0 0 rfl rfl)
theorem dX12_init_1 : decode cX12_init 1 = .ok (.invokespecial 3, 3) := dk_183 0 3 (dk_at dksX12_init_0 1 rfl rfl)
theorem dX12_init_4 : decode cX12_init 4 = .ok (.aload_n 0, 1) := dk_42 (dk_at dksX12_init_0 4 rfl rfl)
theorem dX12_init_5 : decode cX12_init 5 = .ok (.iload_n 1, 1) := dk_27 (dk_at dksX12_init_0 5 rfl rfl)
theorem dX12_init_6 : decode cX12_init 6 = .ok (.putfield 9, 3) := dk_181 0 9 (dk_at dksX12_init_0 6 rfl rfl)
theorem dX12_init_9 : decode cX12_init 9 = .ok (.return_, 1) := dk_177 (dk_at dksX12_init_0 9 rfl rfl)
theorem q147 : (Jvm.Cond.initialized "SendHall$Value") ∈ lw_all := lw_g (lw_at lw_m1 35 rfl) rfl
theorem q539 : (Jvm.Cond.fieldLinkNest "SendHall$Value" (21 : Nat) "SendHall$Life" "n" "I" "SendHall") ∈ lw_tbl := lw_at lw_m2 187 rfl
theorem q552 : (Jvm.Cond.fieldLinkNest "SendHall$Value" (15 : Nat) "SendHall$Life" "var" "[I" "SendHall") ∈ lw_tbl := lw_at lw_m2 200 rfl
theorem q556 : (Jvm.Cond.fieldLinkNest "SendHall$Value" (24 : Nat) "SendHall$Life" "from" "[I" "SendHall") ∈ lw_tbl := lw_at lw_m2 204 rfl
theorem q775 : (Jvm.Cond.castable "SendHall$Value" "SendHall$Expr") ∈ lw_tbl := lw_at lw_m3 183 rfl
theorem q776 : (Jvm.Cond.selects "SendHall$Value" ({ cls := "SendHall$Expr", name := "value", desc := "(LSendHall$Life;I)I" } : Jvm.MethodName) ({ cls := "SendHall$Value", name := "value", desc := "(LSendHall$Life;I)I" } : Jvm.MethodName)) ∈ lw_all := lw_g (lw_at lw_m3 184 rfl) rfl
theorem q777 : (Jvm.Cond.unhidden "SendHall$Value" "value" "(LSendHall$Life;I)I") ∈ lw_tbl := lw_at lw_m3 185 rfl
theorem q778 : (Jvm.Cond.instanceMethod ({ cls := "SendHall$Value", name := "value", desc := "(LSendHall$Life;I)I" } : Jvm.MethodName)) ∈ lw_all := lw_g (lw_at lw_m3 186 rfl) rfl
theorem q779 : (Jvm.Cond.publicMethod ({ cls := "SendHall$Value", name := "value", desc := "(LSendHall$Life;I)I" } : Jvm.MethodName)) ∈ lw_tbl := lw_at lw_m3 187 rfl
theorem q780 : (Jvm.Cond.code ({ cls := "SendHall$Value", name := "value", desc := "(LSendHall$Life;I)I" } : Jvm.MethodName) prog_18_method_2_code (3 : Nat) (Option.some Jvm.ClassFile.FieldType.int)) ∈ lw_all := lw_g (lw_at lw_m3 188 rfl) rfl
theorem q1045 : (Jvm.Cond.selects "SendHall$Value" ({ cls := "java/lang/Object", name := "getClass", desc := "()Ljava/lang/Class;" } : Jvm.MethodName) ({ cls := "java/lang/Object", name := "getClass", desc := "()Ljava/lang/Class;" } : Jvm.MethodName)) ∈ lw_all := lw_g (lw_at lw_m4 213 rfl) rfl
theorem q1569 : (Jvm.Cond.instantiable "SendHall$Value" (1 : Nat)) ∈ lw_all := lw_g (lw_at lw_m7 17 rfl) rfl
theorem q1571 : (Jvm.Cond.instanceMethod ({ cls := "SendHall$Value", name := "<init>", desc := "(I)V" } : Jvm.MethodName)) ∈ lw_all := lw_g (lw_at lw_m7 19 rfl) rfl
theorem q1572 : (Jvm.Cond.code ({ cls := "SendHall$Value", name := "<init>", desc := "(I)V" } : Jvm.MethodName) prog_18_method_1_code (2 : Nat) (Option.none : Option Jvm.ClassFile.FieldType)) ∈ lw_all := lw_g (lw_at lw_m7 20 rfl) rfl
theorem q1573 : (Jvm.Cond.methodLink "SendHall$Value" (3 : Nat) ({ cls := "java/lang/Object", name := "<init>", desc := "()V" } : Jvm.MethodName)) ∈ lw_all := lw_g (lw_at lw_m7 21 rfl) rfl
theorem q1574 : (Jvm.Cond.fieldLink "SendHall$Value" (9 : Nat) "SendHall$Value" "which" "I") ∈ lw_all := lw_g (lw_at lw_m7 22 rfl) rfl
theorem q1575 : (Jvm.Cond.laysFinal "SendHall$Value" "SendHall$Value" "which" "I") ∈ lw_all := lw_g (lw_at lw_m7 23 rfl) rfl
theorem q1576 : (Jvm.Cond.soleField "SendHall$Value" "which") ∈ lw_all := lw_g (lw_at lw_m7 24 rfl) rfl
theorem q1577 : (Jvm.Cond.superclass "SendHall$Value" "java/lang/Object") ∈ lw_all := lw_g (lw_at lw_m7 25 rfl) rfl
theorem q2481 : (Jvm.Cond.castable "SendHall$Value" "java/lang/Object") ∈ lw_tbl := lw_at lw_m10 209 rfl
theorem in_X12 : ∀ w ∈ wsX120, w ∈ lw_all := lw_in wsX120 [1575] (by decide +kernel) (by decide +kernel)
/-! SendHall$Wait -/
set_option maxRecDepth 100000
def RX13 : String := "SendHall$Wait"
def TX13 : u_T := fun k => match k with
  | 0 => ("SendHall$Step", "kind", "I", true)
  | 1 => ("SendHall$Step", "number", "I", true)
  | 2 => ("SendHall$Step", "next", "LSendHall$Step;", false)
  | 3 => ("SendHall$Talk", "mark", "LSendHall$Expr;", false)
  | 4 => ("SendHall$Wait", "of", "LSendHall$Expr;", false)
  | 5 => ("SendHall$Wait", "var", "I", false)
  | _ => ("SendHall$Wait", "most", "I", false)
def tyX13 : Nat → FieldType := fun k => match k with
  | 0 => .int
  | 1 => .int
  | 2 => .object "SendHall$Step"
  | 3 => .object "SendHall$Expr"
  | 4 => .object "SendHall$Expr"
  | 5 => .int
  | _ => .int
abbrev wsX130 : List Cond := u_ws RX13 TX13 7
theorem nmX13 : ∀ a, a < 7 → ∀ b, b < 7 → a ≠ b → (TX13 a).2.1 ≠ (TX13 b).2.1 := by decide +kernel
theorem tyX13_ok : ∀ k, k < 7 → parseFieldDescriptor (TX13 k).2.2.1 = some (tyX13 k) := by decide +kernel
abbrev cX13_comes : ByteArray := prog_19_method_4_code
def yX13_comes : MethodName := ⟨RX13, "comes", "(LSendHall$Life;I)LSendHall$Step;"⟩
def dkwX13_comes_1 : List UInt8 := [154, 0, 7, 4, 167, 0, 4, 3, 84, 42, 43, 28, 183, 0, 37, 176]
abbrev dktX13_comes_1 : List UInt8 := dkwX13_comes_1 ++ []
def dkwX13_comes_0 : List UInt8 := [43, 180, 0, 25, 28, 42, 180, 0, 15, 198, 0, 21, 43, 28, 42, 43, 28, 182, 0, 31, 184, 0, 33]
abbrev dktX13_comes_0 : List UInt8 := dkwX13_comes_0 ++ dktX13_comes_1
theorem dksX13_comes_0 : cX13_comes.data.toList.drop 0 = dktX13_comes_0 := by decide +kernel
theorem dksX13_comes_1 : cX13_comes.data.toList.drop 23 = dktX13_comes_1 := dk_seg dksX13_comes_0 23 rfl rfl
theorem dX13_comes_0 : decode cX13_comes 0 = .ok (.aload_n 1, 1) := dk_43 (dk_at dksX13_comes_0 0 rfl rfl)
theorem dX13_comes_1 : decode cX13_comes 1 = .ok (.getfield 25, 3) := dk_180 0 25 (dk_at dksX13_comes_0 1 rfl rfl)
theorem dX13_comes_4 : decode cX13_comes 4 = .ok (.iload_n 2, 1) := dk_28 (dk_at dksX13_comes_0 4 rfl rfl)
theorem dX13_comes_5 : decode cX13_comes 5 = .ok (.aload_n 0, 1) := dk_42 (dk_at dksX13_comes_0 5 rfl rfl)
theorem dX13_comes_6 : decode cX13_comes 6 = .ok (.getfield 15, 3) := dk_180 0 15 (dk_at dksX13_comes_0 6 rfl rfl)
theorem dX13_comes_9 : decode cX13_comes 9 = .ok (.ifnull 21, 3) := dk_198 0 21 (dk_at dksX13_comes_0 9 rfl rfl)
theorem dX13_comes_12 : decode cX13_comes 12 = .ok (.aload_n 1, 1) := dk_43 (dk_at dksX13_comes_0 12 rfl rfl)
theorem dX13_comes_13 : decode cX13_comes 13 = .ok (.iload_n 2, 1) := dk_28 (dk_at dksX13_comes_0 13 rfl rfl)
theorem dX13_comes_14 : decode cX13_comes 14 = .ok (.aload_n 0, 1) := dk_42 (dk_at dksX13_comes_0 14 rfl rfl)
theorem dX13_comes_15 : decode cX13_comes 15 = .ok (.aload_n 1, 1) := dk_43 (dk_at dksX13_comes_0 15 rfl rfl)
theorem dX13_comes_16 : decode cX13_comes 16 = .ok (.iload_n 2, 1) := dk_28 (dk_at dksX13_comes_0 16 rfl rfl)
theorem dX13_comes_17 : decode cX13_comes 17 = .ok (.invokevirtual 31, 3) := dk_182 0 31 (dk_at dksX13_comes_0 17 rfl rfl)
theorem dX13_comes_20 : decode cX13_comes 20 = .ok (.invokestatic 33, 3) := dk_184 0 33 (dk_at dksX13_comes_0 20 rfl rfl)
theorem dX13_comes_23 : decode cX13_comes 23 = .ok (.ifCond .ne 7, 3) := dk_154 0 7 (dk_at dksX13_comes_1 0 rfl rfl)
theorem dX13_comes_26 : decode cX13_comes 26 = .ok (.iconst 1, 1) := dk_4 (dk_at dksX13_comes_1 3 rfl rfl)
theorem dX13_comes_27 : decode cX13_comes 27 = .ok (.goto 4, 3) := dk_167 0 4 (dk_at dksX13_comes_1 4 rfl rfl)
theorem dX13_comes_30 : decode cX13_comes 30 = .ok (.iconst 0, 1) := dk_3 (dk_at dksX13_comes_1 7 rfl rfl)
theorem dX13_comes_31 : decode cX13_comes 31 = .ok (.bastore, 1) := dk_84 (dk_at dksX13_comes_1 8 rfl rfl)
theorem dX13_comes_32 : decode cX13_comes 32 = .ok (.aload_n 0, 1) := dk_42 (dk_at dksX13_comes_1 9 rfl rfl)
theorem dX13_comes_33 : decode cX13_comes 33 = .ok (.aload_n 1, 1) := dk_43 (dk_at dksX13_comes_1 10 rfl rfl)
theorem dX13_comes_34 : decode cX13_comes 34 = .ok (.iload_n 2, 1) := dk_28 (dk_at dksX13_comes_1 11 rfl rfl)
theorem dX13_comes_35 : decode cX13_comes 35 = .ok (.invokespecial 37, 3) := dk_183 0 37 (dk_at dksX13_comes_1 12 rfl rfl)
theorem dX13_comes_38 : decode cX13_comes 38 = .ok (.areturn, 1) := dk_176 (dk_at dksX13_comes_1 15 rfl rfl)
abbrev cX13_of : ByteArray := prog_19_method_2_code
def yX13_of : MethodName := ⟨RX13, "of", "(LSendHall$Life;I)I"⟩
def dkwX13_of_0 : List UInt8 := [42, 180, 0, 15, 199, 0, 7, 2, 167, 0, 14, 42, 180, 0, 15, 43, 28, 185, 0, 19, 3, 0, 172]
abbrev dktX13_of_0 : List UInt8 := dkwX13_of_0 ++ []
theorem dksX13_of_0 : cX13_of.data.toList.drop 0 = dktX13_of_0 := by decide +kernel
theorem dX13_of_0 : decode cX13_of 0 = .ok (.aload_n 0, 1) := dk_42 (dk_at dksX13_of_0 0 rfl rfl)
theorem dX13_of_1 : decode cX13_of 1 = .ok (.getfield 15, 3) := dk_180 0 15 (dk_at dksX13_of_0 1 rfl rfl)
theorem dX13_of_4 : decode cX13_of 4 = .ok (.ifnonnull 7, 3) := dk_199 0 7 (dk_at dksX13_of_0 4 rfl rfl)
theorem dX13_of_7 : decode cX13_of 7 = .ok (.iconst (-1), 1) := dk_2 (dk_at dksX13_of_0 7 rfl rfl)
theorem dX13_of_8 : decode cX13_of 8 = .ok (.goto 14, 3) := dk_167 0 14 (dk_at dksX13_of_0 8 rfl rfl)
theorem dX13_of_11 : decode cX13_of 11 = .ok (.aload_n 0, 1) := dk_42 (dk_at dksX13_of_0 11 rfl rfl)
theorem dX13_of_12 : decode cX13_of 12 = .ok (.getfield 15, 3) := dk_180 0 15 (dk_at dksX13_of_0 12 rfl rfl)
theorem dX13_of_15 : decode cX13_of 15 = .ok (.aload_n 1, 1) := dk_43 (dk_at dksX13_of_0 15 rfl rfl)
theorem dX13_of_16 : decode cX13_of 16 = .ok (.iload_n 2, 1) := dk_28 (dk_at dksX13_of_0 16 rfl rfl)
theorem dX13_of_17 : decode cX13_of 17 = .ok (.invokeinterface 19 3, 5) := by decide +kernel
theorem dX13_of_22 : decode cX13_of 22 = .ok (.ireturn, 1) := dk_172 (dk_at dksX13_of_0 22 rfl rfl)
abbrev cX13_takes : ByteArray := prog_19_method_3_code
def yX13_takes : MethodName := ⟨RX13, "takes", "(LSendHall$Life;II)Z"⟩
def dkwX13_takes_1 : List UInt8 := [167, 0, 4, 3, 172]
abbrev dktX13_takes_1 : List UInt8 := dkwX13_takes_1 ++ []
def dkwX13_takes_0 : List UInt8 := [42, 180, 0, 15, 198, 0, 18, 42, 180, 0, 15, 43, 28, 185, 0, 19, 3, 0, 29, 160, 0, 7, 4]
abbrev dktX13_takes_0 : List UInt8 := dkwX13_takes_0 ++ dktX13_takes_1
theorem dksX13_takes_0 : cX13_takes.data.toList.drop 0 = dktX13_takes_0 := by decide +kernel
theorem dksX13_takes_1 : cX13_takes.data.toList.drop 23 = dktX13_takes_1 := dk_seg dksX13_takes_0 23 rfl rfl
theorem dX13_takes_0 : decode cX13_takes 0 = .ok (.aload_n 0, 1) := dk_42 (dk_at dksX13_takes_0 0 rfl rfl)
theorem dX13_takes_1 : decode cX13_takes 1 = .ok (.getfield 15, 3) := dk_180 0 15 (dk_at dksX13_takes_0 1 rfl rfl)
theorem dX13_takes_4 : decode cX13_takes 4 = .ok (.ifnull 18, 3) := dk_198 0 18 (dk_at dksX13_takes_0 4 rfl rfl)
theorem dX13_takes_7 : decode cX13_takes 7 = .ok (.aload_n 0, 1) := dk_42 (dk_at dksX13_takes_0 7 rfl rfl)
theorem dX13_takes_8 : decode cX13_takes 8 = .ok (.getfield 15, 3) := dk_180 0 15 (dk_at dksX13_takes_0 8 rfl rfl)
theorem dX13_takes_11 : decode cX13_takes 11 = .ok (.aload_n 1, 1) := dk_43 (dk_at dksX13_takes_0 11 rfl rfl)
theorem dX13_takes_12 : decode cX13_takes 12 = .ok (.iload_n 2, 1) := dk_28 (dk_at dksX13_takes_0 12 rfl rfl)
theorem dX13_takes_13 : decode cX13_takes 13 = .ok (.invokeinterface 19 3, 5) := by decide +kernel
theorem dX13_takes_18 : decode cX13_takes 18 = .ok (.iload_n 3, 1) := dk_29 (dk_at dksX13_takes_0 18 rfl rfl)
theorem dX13_takes_19 : decode cX13_takes 19 = .ok (.if_icmp .ne 7, 3) := dk_160 0 7 (dk_at dksX13_takes_0 19 rfl rfl)
theorem dX13_takes_22 : decode cX13_takes 22 = .ok (.iconst 1, 1) := dk_4 (dk_at dksX13_takes_0 22 rfl rfl)
theorem dX13_takes_23 : decode cX13_takes 23 = .ok (.goto 4, 3) := dk_167 0 4 (dk_at dksX13_takes_1 0 rfl rfl)
theorem dX13_takes_26 : decode cX13_takes 26 = .ok (.iconst 0, 1) := dk_3 (dk_at dksX13_takes_1 3 rfl rfl)
theorem dX13_takes_27 : decode cX13_takes 27 = .ok (.ireturn, 1) := dk_172 (dk_at dksX13_takes_1 4 rfl rfl)
abbrev cX13_init : ByteArray := prog_19_method_1_code
def yX13_init : MethodName := ⟨RX13, "<init>", "(II)V"⟩
def dkwX13_init_0 : List UInt8 := [42, 27, 28, 183, 0, 3, 42, 16, 99, 181, 0, 9, 177]
abbrev dktX13_init_0 : List UInt8 := dkwX13_init_0 ++ []
theorem dksX13_init_0 : cX13_init.data.toList.drop 0 = dktX13_init_0 := by decide +kernel
theorem dX13_init_0 : decode cX13_init 0 = .ok (.aload_n 0, 1) := dk_42 (dk_at dksX13_init_0 0 rfl rfl)
theorem dX13_init_1 : decode cX13_init 1 = .ok (.iload_n 1, 1) := dk_27 (dk_at dksX13_init_0 1 rfl rfl)
theorem dX13_init_2 : decode cX13_init 2 = .ok (.iload_n 2, 1) := dk_28 (dk_at dksX13_init_0 2 rfl rfl)
theorem dX13_init_3 : decode cX13_init 3 = .ok (.invokespecial 3, 3) := dk_183 0 3 (dk_at dksX13_init_0 3 rfl rfl)
theorem dX13_init_6 : decode cX13_init 6 = .ok (.aload_n 0, 1) := dk_42 (dk_at dksX13_init_0 6 rfl rfl)
theorem dX13_init_7 : decode cX13_init 7 = .ok (.bipush 99, 2) := dk_16 99 (dk_at dksX13_init_0 7 rfl rfl)
theorem dX13_init_9 : decode cX13_init 9 = .ok (.putfield 9, 3) := dk_181 0 9 (dk_at dksX13_init_0 9 rfl rfl)
theorem dX13_init_12 : decode cX13_init 12 = .ok (.return_, 1) := dk_177 (dk_at dksX13_init_0 12 rfl rfl)
theorem q148 : (Jvm.Cond.initialized "SendHall$Wait") ∈ lw_all := lw_g (lw_at lw_m1 36 rfl) rfl
theorem q549 : (Jvm.Cond.fieldLinkNest "SendHall$Wait" (25 : Nat) "SendHall$Life" "stopped" "[Z" "SendHall") ∈ lw_tbl := lw_at lw_m2 197 rfl
theorem q823 : (Jvm.Cond.selects "SendHall$Wait" ({ cls := "SendHall$Step", name := "comes", desc := "(LSendHall$Life;I)LSendHall$Step;" } : Jvm.MethodName) ({ cls := "SendHall$Wait", name := "comes", desc := "(LSendHall$Life;I)LSendHall$Step;" } : Jvm.MethodName)) ∈ lw_all := lw_g (lw_at lw_m3 231 rfl) rfl
theorem q824 : (Jvm.Cond.instanceMethod ({ cls := "SendHall$Wait", name := "comes", desc := "(LSendHall$Life;I)LSendHall$Step;" } : Jvm.MethodName)) ∈ lw_all := lw_g (lw_at lw_m3 232 rfl) rfl
theorem q825 : (Jvm.Cond.code ({ cls := "SendHall$Wait", name := "comes", desc := "(LSendHall$Life;I)LSendHall$Step;" } : Jvm.MethodName) prog_19_method_4_code (3 : Nat) (Option.some (Jvm.ClassFile.FieldType.object "SendHall$Step"))) ∈ lw_all := lw_g (lw_at lw_m3 233 rfl) rfl
theorem q826 : (Jvm.Cond.methodLink "SendHall$Wait" (31 : Nat) ({ cls := "SendHall$Wait", name := "of", desc := "(LSendHall$Life;I)I" } : Jvm.MethodName)) ∈ lw_all := lw_g (lw_at lw_m3 234 rfl) rfl
theorem q827 : (Jvm.Cond.instanceMethod ({ cls := "SendHall$Wait", name := "of", desc := "(LSendHall$Life;I)I" } : Jvm.MethodName)) ∈ lw_all := lw_g (lw_at lw_m3 235 rfl) rfl
theorem q828 : (Jvm.Cond.selects "SendHall$Wait" ({ cls := "SendHall$Wait", name := "of", desc := "(LSendHall$Life;I)I" } : Jvm.MethodName) ({ cls := "SendHall$Wait", name := "of", desc := "(LSendHall$Life;I)I" } : Jvm.MethodName)) ∈ lw_all := lw_g (lw_at lw_m3 236 rfl) rfl
theorem q829 : (Jvm.Cond.code ({ cls := "SendHall$Wait", name := "of", desc := "(LSendHall$Life;I)I" } : Jvm.MethodName) prog_19_method_2_code (3 : Nat) (Option.some Jvm.ClassFile.FieldType.int)) ∈ lw_all := lw_g (lw_at lw_m3 237 rfl) rfl
theorem q830 : (Jvm.Cond.interfaceEntry "SendHall$Wait" (19 : Nat)) ∈ lw_tbl := lw_at lw_m3 238 rfl
theorem q831 : (Jvm.Cond.methodLink "SendHall$Wait" (19 : Nat) ({ cls := "SendHall$Expr", name := "value", desc := "(LSendHall$Life;I)I" } : Jvm.MethodName)) ∈ lw_all := lw_g (lw_at lw_m3 239 rfl) rfl
theorem q832 : (Jvm.Cond.methodLink "SendHall$Wait" (33 : Nat) ({ cls := "SendHall$Wait", name := "isOther", desc := "(LSendHall$Life;II)Z" } : Jvm.MethodName)) ∈ lw_all := lw_g (lw_at lw_m4 0 rfl) rfl
theorem q833 : (Jvm.Cond.sameMethod "SendHall$Wait" "SendHall$Step" "isOther" "(LSendHall$Life;II)Z") ∈ lw_all := lw_g (lw_at lw_m4 1 rfl) rfl
theorem q834 : (Jvm.Cond.methodLink "SendHall$Wait" (37 : Nat) ({ cls := "SendHall$Talk", name := "comes", desc := "(LSendHall$Life;I)LSendHall$Step;" } : Jvm.MethodName)) ∈ lw_all := lw_g (lw_at lw_m4 2 rfl) rfl
theorem q835 : (Jvm.Cond.superclass "SendHall$Wait" "SendHall$Talk") ∈ lw_all := lw_g (lw_at lw_m4 3 rfl) rfl
theorem q880 : (Jvm.Cond.instanceMethod ({ cls := "SendHall$Wait", name := "takes", desc := "(LSendHall$Life;II)Z" } : Jvm.MethodName)) ∈ lw_all := lw_g (lw_at lw_m4 48 rfl) rfl
theorem q881 : (Jvm.Cond.selects "SendHall$Wait" ({ cls := "SendHall$Wait", name := "takes", desc := "(LSendHall$Life;II)Z" } : Jvm.MethodName) ({ cls := "SendHall$Wait", name := "takes", desc := "(LSendHall$Life;II)Z" } : Jvm.MethodName)) ∈ lw_all := lw_g (lw_at lw_m4 49 rfl) rfl
theorem q882 : (Jvm.Cond.code ({ cls := "SendHall$Wait", name := "takes", desc := "(LSendHall$Life;II)Z" } : Jvm.MethodName) prog_19_method_3_code (4 : Nat) (Option.some Jvm.ClassFile.FieldType.boolean)) ∈ lw_all := lw_g (lw_at lw_m4 50 rfl) rfl
theorem q884 : (Jvm.Cond.sameMethod "SendHall$Wait" "SendHall$Talk" "mark" "(LSendHall$Life;I)I") ∈ lw_all := lw_g (lw_at lw_m4 52 rfl) rfl
theorem q885 : (Jvm.Cond.selects "SendHall$Wait" ({ cls := "SendHall$Wait", name := "mark", desc := "(LSendHall$Life;I)I" } : Jvm.MethodName) ({ cls := "SendHall$Talk", name := "mark", desc := "(LSendHall$Life;I)I" } : Jvm.MethodName)) ∈ lw_all := lw_g (lw_at lw_m4 53 rfl) rfl
theorem q1046 : (Jvm.Cond.selects "SendHall$Wait" ({ cls := "java/lang/Object", name := "getClass", desc := "()Ljava/lang/Class;" } : Jvm.MethodName) ({ cls := "java/lang/Object", name := "getClass", desc := "()Ljava/lang/Class;" } : Jvm.MethodName)) ∈ lw_all := lw_g (lw_at lw_m4 214 rfl) rfl
theorem q1417 : (Jvm.Cond.sameField "SendHall$Wait" "SendHall$Talk" "mark" "LSendHall$Expr;") ∈ lw_all := lw_g (lw_at lw_m6 105 rfl) rfl
theorem q1424 : (Jvm.Cond.sameField "SendHall$Wait" "SendHall$Step" "kind" "I") ∈ lw_all := lw_g (lw_at lw_m6 112 rfl) rfl
theorem q1436 : (Jvm.Cond.sameField "SendHall$Wait" "SendHall$Step" "next" "LSendHall$Step;") ∈ lw_all := lw_g (lw_at lw_m6 124 rfl) rfl
theorem q1586 : (Jvm.Cond.instantiable "SendHall$Wait" (7 : Nat)) ∈ lw_all := lw_g (lw_at lw_m7 34 rfl) rfl
theorem q1588 : (Jvm.Cond.instanceMethod ({ cls := "SendHall$Wait", name := "<init>", desc := "(II)V" } : Jvm.MethodName)) ∈ lw_all := lw_g (lw_at lw_m7 36 rfl) rfl
theorem q1589 : (Jvm.Cond.code ({ cls := "SendHall$Wait", name := "<init>", desc := "(II)V" } : Jvm.MethodName) prog_19_method_1_code (3 : Nat) (Option.none : Option Jvm.ClassFile.FieldType)) ∈ lw_all := lw_g (lw_at lw_m7 37 rfl) rfl
theorem q1590 : (Jvm.Cond.methodLink "SendHall$Wait" (3 : Nat) ({ cls := "SendHall$Talk", name := "<init>", desc := "(II)V" } : Jvm.MethodName)) ∈ lw_all := lw_g (lw_at lw_m7 38 rfl) rfl
theorem q1591 : (Jvm.Cond.fieldLink "SendHall$Wait" (15 : Nat) "SendHall$Wait" "of" "LSendHall$Expr;") ∈ lw_all := lw_g (lw_at lw_m7 39 rfl) rfl
theorem q1595 : (Jvm.Cond.fieldLink "SendHall$Wait" (9 : Nat) "SendHall$Wait" "most" "I") ∈ lw_all := lw_g (lw_at lw_m7 43 rfl) rfl
theorem q1598 : (Jvm.Cond.lays "SendHall$Wait" "SendHall$Wait" "of" "LSendHall$Expr;") ∈ lw_all := lw_g (lw_at lw_m7 46 rfl) rfl
theorem q1599 : (Jvm.Cond.soleField "SendHall$Wait" "of") ∈ lw_all := lw_g (lw_at lw_m7 47 rfl) rfl
theorem q1600 : (Jvm.Cond.lays "SendHall$Wait" "SendHall$Wait" "var" "I") ∈ lw_all := lw_g (lw_at lw_m7 48 rfl) rfl
theorem q1601 : (Jvm.Cond.soleField "SendHall$Wait" "var") ∈ lw_all := lw_g (lw_at lw_m7 49 rfl) rfl
theorem q1602 : (Jvm.Cond.lays "SendHall$Wait" "SendHall$Wait" "most" "I") ∈ lw_all := lw_g (lw_at lw_m7 50 rfl) rfl
theorem q1603 : (Jvm.Cond.soleField "SendHall$Wait" "most") ∈ lw_all := lw_g (lw_at lw_m7 51 rfl) rfl
theorem q1604 : (Jvm.Cond.lays "SendHall$Wait" "SendHall$Talk" "mark" "LSendHall$Expr;") ∈ lw_all := lw_g (lw_at lw_m7 52 rfl) rfl
theorem q1605 : (Jvm.Cond.laysFinal "SendHall$Wait" "SendHall$Step" "kind" "I") ∈ lw_all := lw_g (lw_at lw_m7 53 rfl) rfl
theorem q1606 : (Jvm.Cond.laysFinal "SendHall$Wait" "SendHall$Step" "number" "I") ∈ lw_all := lw_g (lw_at lw_m7 54 rfl) rfl
theorem q1607 : (Jvm.Cond.lays "SendHall$Wait" "SendHall$Step" "next" "LSendHall$Step;") ∈ lw_all := lw_g (lw_at lw_m7 55 rfl) rfl
theorem q2463 : (Jvm.Cond.castable "SendHall$Wait" "SendHall$Step") ∈ lw_tbl := lw_at lw_m10 191 rfl
theorem q2482 : (Jvm.Cond.castable "SendHall$Wait" "java/lang/Object") ∈ lw_tbl := lw_at lw_m10 210 rfl
theorem in_X13 : ∀ w ∈ wsX130, w ∈ lw_all := lw_in wsX130 [1605, 1606, 1607, 1604, 1598, 1600, 1602] (by decide +kernel) (by decide +kernel)
/-! SendHall$Set -/
set_option maxRecDepth 100000
def RX14 : String := "SendHall$Set"
def TX14 : u_T := fun k => match k with
  | 0 => ("SendHall$Step", "kind", "I", true)
  | 1 => ("SendHall$Step", "number", "I", true)
  | 2 => ("SendHall$Step", "next", "LSendHall$Step;", false)
  | 3 => ("SendHall$Set", "var", "I", true)
  | _ => ("SendHall$Set", "e", "LSendHall$Expr;", true)
def tyX14 : Nat → FieldType := fun k => match k with
  | 0 => .int
  | 1 => .int
  | 2 => .object "SendHall$Step"
  | 3 => .int
  | _ => .object "SendHall$Expr"
abbrev wsX140 : List Cond := u_ws RX14 TX14 5
theorem nmX14 : ∀ a, a < 5 → ∀ b, b < 5 → a ≠ b → (TX14 a).2.1 ≠ (TX14 b).2.1 := by decide +kernel
theorem tyX14_ok : ∀ k, k < 5 → parseFieldDescriptor (TX14 k).2.2.1 = some (tyX14 k) := by decide +kernel
abbrev cX14_comes : ByteArray := prog_12_method_2_code
def yX14_comes : MethodName := ⟨RX14, "comes", "(LSendHall$Life;I)LSendHall$Step;"⟩
def dkwX14_comes_1 : List UInt8 := [42, 180, 0, 30, 176]
abbrev dktX14_comes_1 : List UInt8 := dkwX14_comes_1 ++ []
def dkwX14_comes_0 : List UInt8 := [43, 180, 0, 19, 7, 28, 104, 42, 180, 0, 9, 96, 42, 180, 0, 15, 43, 28, 185, 0, 24, 3, 0, 79]
abbrev dktX14_comes_0 : List UInt8 := dkwX14_comes_0 ++ dktX14_comes_1
theorem dksX14_comes_0 : cX14_comes.data.toList.drop 0 = dktX14_comes_0 := by decide +kernel
theorem dksX14_comes_1 : cX14_comes.data.toList.drop 24 = dktX14_comes_1 := dk_seg dksX14_comes_0 24 rfl rfl
theorem dX14_comes_0 : decode cX14_comes 0 = .ok (.aload_n 1, 1) := dk_43 (dk_at dksX14_comes_0 0 rfl rfl)
theorem dX14_comes_1 : decode cX14_comes 1 = .ok (.getfield 19, 3) := dk_180 0 19 (dk_at dksX14_comes_0 1 rfl rfl)
theorem dX14_comes_4 : decode cX14_comes 4 = .ok (.iconst 4, 1) := dk_7 (dk_at dksX14_comes_0 4 rfl rfl)
theorem dX14_comes_5 : decode cX14_comes 5 = .ok (.iload_n 2, 1) := dk_28 (dk_at dksX14_comes_0 5 rfl rfl)
theorem dX14_comes_6 : decode cX14_comes 6 = .ok (.imul, 1) := dk_104 (dk_at dksX14_comes_0 6 rfl rfl)
theorem dX14_comes_7 : decode cX14_comes 7 = .ok (.aload_n 0, 1) := dk_42 (dk_at dksX14_comes_0 7 rfl rfl)
theorem dX14_comes_8 : decode cX14_comes 8 = .ok (.getfield 9, 3) := dk_180 0 9 (dk_at dksX14_comes_0 8 rfl rfl)
theorem dX14_comes_11 : decode cX14_comes 11 = .ok (.iadd, 1) := dk_96 (dk_at dksX14_comes_0 11 rfl rfl)
theorem dX14_comes_12 : decode cX14_comes 12 = .ok (.aload_n 0, 1) := dk_42 (dk_at dksX14_comes_0 12 rfl rfl)
theorem dX14_comes_13 : decode cX14_comes 13 = .ok (.getfield 15, 3) := dk_180 0 15 (dk_at dksX14_comes_0 13 rfl rfl)
theorem dX14_comes_16 : decode cX14_comes 16 = .ok (.aload_n 1, 1) := dk_43 (dk_at dksX14_comes_0 16 rfl rfl)
theorem dX14_comes_17 : decode cX14_comes 17 = .ok (.iload_n 2, 1) := dk_28 (dk_at dksX14_comes_0 17 rfl rfl)
theorem dX14_comes_18 : decode cX14_comes 18 = .ok (.invokeinterface 24 3, 5) := by decide +kernel
theorem dX14_comes_23 : decode cX14_comes 23 = .ok (.iastore, 1) := dk_79 (dk_at dksX14_comes_0 23 rfl rfl)
theorem dX14_comes_24 : decode cX14_comes 24 = .ok (.aload_n 0, 1) := dk_42 (dk_at dksX14_comes_1 0 rfl rfl)
theorem dX14_comes_25 : decode cX14_comes 25 = .ok (.getfield 30, 3) := dk_180 0 30 (dk_at dksX14_comes_1 1 rfl rfl)
theorem dX14_comes_28 : decode cX14_comes 28 = .ok (.areturn, 1) := dk_176 (dk_at dksX14_comes_1 4 rfl rfl)
abbrev cX14_init : ByteArray := prog_12_method_1_code
def yX14_init : MethodName := ⟨RX14, "<init>", "(IILSendHall$Expr;)V"⟩
def dkwX14_init_0 : List UInt8 := [42, 16, 8, 27, 183, 0, 3, 42, 28, 181, 0, 9, 42, 45, 181, 0, 15, 177]
abbrev dktX14_init_0 : List UInt8 := dkwX14_init_0 ++ []
theorem dksX14_init_0 : cX14_init.data.toList.drop 0 = dktX14_init_0 := by decide +kernel
theorem dX14_init_0 : decode cX14_init 0 = .ok (.aload_n 0, 1) := dk_42 (dk_at dksX14_init_0 0 rfl rfl)
theorem dX14_init_1 : decode cX14_init 1 = .ok (.bipush 8, 2) := dk_16 8 (dk_at dksX14_init_0 1 rfl rfl)
theorem dX14_init_3 : decode cX14_init 3 = .ok (.iload_n 1, 1) := dk_27 (dk_at dksX14_init_0 3 rfl rfl)
theorem dX14_init_4 : decode cX14_init 4 = .ok (.invokespecial 3, 3) := dk_183 0 3 (dk_at dksX14_init_0 4 rfl rfl)
theorem dX14_init_7 : decode cX14_init 7 = .ok (.aload_n 0, 1) := dk_42 (dk_at dksX14_init_0 7 rfl rfl)
theorem dX14_init_8 : decode cX14_init 8 = .ok (.iload_n 2, 1) := dk_28 (dk_at dksX14_init_0 8 rfl rfl)
theorem dX14_init_9 : decode cX14_init 9 = .ok (.putfield 9, 3) := dk_181 0 9 (dk_at dksX14_init_0 9 rfl rfl)
theorem dX14_init_12 : decode cX14_init 12 = .ok (.aload_n 0, 1) := dk_42 (dk_at dksX14_init_0 12 rfl rfl)
theorem dX14_init_13 : decode cX14_init 13 = .ok (.aload_n 3, 1) := dk_45 (dk_at dksX14_init_0 13 rfl rfl)
theorem dX14_init_14 : decode cX14_init 14 = .ok (.putfield 15, 3) := dk_181 0 15 (dk_at dksX14_init_0 14 rfl rfl)
theorem dX14_init_17 : decode cX14_init 17 = .ok (.return_, 1) := dk_177 (dk_at dksX14_init_0 17 rfl rfl)
theorem q149 : (Jvm.Cond.initialized "SendHall$Set") ∈ lw_all := lw_g (lw_at lw_m1 37 rfl) rfl
theorem q551 : (Jvm.Cond.fieldLinkNest "SendHall$Set" (19 : Nat) "SendHall$Life" "var" "[I" "SendHall") ∈ lw_tbl := lw_at lw_m2 199 rfl
theorem q813 : (Jvm.Cond.selects "SendHall$Set" ({ cls := "SendHall$Step", name := "comes", desc := "(LSendHall$Life;I)LSendHall$Step;" } : Jvm.MethodName) ({ cls := "SendHall$Set", name := "comes", desc := "(LSendHall$Life;I)LSendHall$Step;" } : Jvm.MethodName)) ∈ lw_all := lw_g (lw_at lw_m3 221 rfl) rfl
theorem q814 : (Jvm.Cond.instanceMethod ({ cls := "SendHall$Set", name := "comes", desc := "(LSendHall$Life;I)LSendHall$Step;" } : Jvm.MethodName)) ∈ lw_all := lw_g (lw_at lw_m3 222 rfl) rfl
theorem q815 : (Jvm.Cond.code ({ cls := "SendHall$Set", name := "comes", desc := "(LSendHall$Life;I)LSendHall$Step;" } : Jvm.MethodName) prog_12_method_2_code (3 : Nat) (Option.some (Jvm.ClassFile.FieldType.object "SendHall$Step"))) ∈ lw_all := lw_g (lw_at lw_m3 223 rfl) rfl
theorem q816 : (Jvm.Cond.interfaceEntry "SendHall$Set" (24 : Nat)) ∈ lw_tbl := lw_at lw_m3 224 rfl
theorem q817 : (Jvm.Cond.methodLink "SendHall$Set" (24 : Nat) ({ cls := "SendHall$Expr", name := "value", desc := "(LSendHall$Life;I)I" } : Jvm.MethodName)) ∈ lw_all := lw_g (lw_at lw_m3 225 rfl) rfl
theorem q1041 : (Jvm.Cond.selects "SendHall$Set" ({ cls := "java/lang/Object", name := "getClass", desc := "()Ljava/lang/Class;" } : Jvm.MethodName) ({ cls := "java/lang/Object", name := "getClass", desc := "()Ljava/lang/Class;" } : Jvm.MethodName)) ∈ lw_all := lw_g (lw_at lw_m4 209 rfl) rfl
theorem q1431 : (Jvm.Cond.fieldLink "SendHall$Set" (30 : Nat) "SendHall$Set" "next" "LSendHall$Step;") ∈ lw_all := lw_g (lw_at lw_m6 119 rfl) rfl
theorem q1432 : (Jvm.Cond.sameField "SendHall$Set" "SendHall$Step" "next" "LSendHall$Step;") ∈ lw_all := lw_g (lw_at lw_m6 120 rfl) rfl
theorem q1620 : (Jvm.Cond.instantiable "SendHall$Set" (5 : Nat)) ∈ lw_all := lw_g (lw_at lw_m7 68 rfl) rfl
theorem q1622 : (Jvm.Cond.instanceMethod ({ cls := "SendHall$Set", name := "<init>", desc := "(IILSendHall$Expr;)V" } : Jvm.MethodName)) ∈ lw_all := lw_g (lw_at lw_m7 70 rfl) rfl
theorem q1623 : (Jvm.Cond.code ({ cls := "SendHall$Set", name := "<init>", desc := "(IILSendHall$Expr;)V" } : Jvm.MethodName) prog_12_method_1_code (4 : Nat) (Option.none : Option Jvm.ClassFile.FieldType)) ∈ lw_all := lw_g (lw_at lw_m7 71 rfl) rfl
theorem q1624 : (Jvm.Cond.methodLink "SendHall$Set" (3 : Nat) ({ cls := "SendHall$Step", name := "<init>", desc := "(II)V" } : Jvm.MethodName)) ∈ lw_all := lw_g (lw_at lw_m7 72 rfl) rfl
theorem q1625 : (Jvm.Cond.fieldLink "SendHall$Set" (9 : Nat) "SendHall$Set" "var" "I") ∈ lw_all := lw_g (lw_at lw_m7 73 rfl) rfl
theorem q1626 : (Jvm.Cond.fieldLink "SendHall$Set" (15 : Nat) "SendHall$Set" "e" "LSendHall$Expr;") ∈ lw_all := lw_g (lw_at lw_m7 74 rfl) rfl
theorem q1627 : (Jvm.Cond.laysFinal "SendHall$Set" "SendHall$Set" "var" "I") ∈ lw_all := lw_g (lw_at lw_m7 75 rfl) rfl
theorem q1628 : (Jvm.Cond.soleField "SendHall$Set" "var") ∈ lw_all := lw_g (lw_at lw_m7 76 rfl) rfl
theorem q1629 : (Jvm.Cond.laysFinal "SendHall$Set" "SendHall$Set" "e" "LSendHall$Expr;") ∈ lw_all := lw_g (lw_at lw_m7 77 rfl) rfl
theorem q1630 : (Jvm.Cond.soleField "SendHall$Set" "e") ∈ lw_all := lw_g (lw_at lw_m7 78 rfl) rfl
theorem q1631 : (Jvm.Cond.laysFinal "SendHall$Set" "SendHall$Step" "kind" "I") ∈ lw_all := lw_g (lw_at lw_m7 79 rfl) rfl
theorem q1632 : (Jvm.Cond.laysFinal "SendHall$Set" "SendHall$Step" "number" "I") ∈ lw_all := lw_g (lw_at lw_m7 80 rfl) rfl
theorem q1633 : (Jvm.Cond.lays "SendHall$Set" "SendHall$Step" "next" "LSendHall$Step;") ∈ lw_all := lw_g (lw_at lw_m7 81 rfl) rfl
theorem q1634 : (Jvm.Cond.superclass "SendHall$Set" "SendHall$Step") ∈ lw_all := lw_g (lw_at lw_m7 82 rfl) rfl
theorem q2461 : (Jvm.Cond.castable "SendHall$Set" "SendHall$Step") ∈ lw_tbl := lw_at lw_m10 189 rfl
theorem q2483 : (Jvm.Cond.castable "SendHall$Set" "java/lang/Object") ∈ lw_tbl := lw_at lw_m10 211 rfl
theorem in_X14 : ∀ w ∈ wsX140, w ∈ lw_all := lw_in wsX140 [1631, 1632, 1633, 1627, 1629] (by decide +kernel) (by decide +kernel)
/-! SendHall$Tell -/
set_option maxRecDepth 100000
def RX15 : String := "SendHall$Tell"
def TX15 : u_T := fun k => match k with
  | 0 => ("SendHall$Step", "kind", "I", true)
  | 1 => ("SendHall$Step", "number", "I", true)
  | 2 => ("SendHall$Step", "next", "LSendHall$Step;", false)
  | _ => ("SendHall$Tell", "e", "LSendHall$Expr;", true)
def tyX15 : Nat → FieldType := fun k => match k with
  | 0 => .int
  | 1 => .int
  | 2 => .object "SendHall$Step"
  | _ => .object "SendHall$Expr"
abbrev wsX150 : List Cond := u_ws RX15 TX15 4
theorem nmX15 : ∀ a, a < 4 → ∀ b, b < 4 → a ≠ b → (TX15 a).2.1 ≠ (TX15 b).2.1 := by decide +kernel
theorem tyX15_ok : ∀ k, k < 4 → parseFieldDescriptor (TX15 k).2.2.1 = some (tyX15 k) := by decide +kernel
abbrev cX15_comes : ByteArray := prog_16_method_2_code
def yX15_comes : MethodName := ⟨RX15, "comes", "(LSendHall$Life;I)LSendHall$Step;"⟩
def dkwX15_comes_1 : List UInt8 := [185, 0, 21, 3, 0, 96, 79, 42, 180, 0, 27, 176]
abbrev dktX15_comes_1 : List UInt8 := dkwX15_comes_1 ++ []
def dkwX15_comes_0 : List UInt8 := [43, 180, 0, 15, 28, 16, 31, 43, 180, 0, 15, 28, 46, 104, 42, 180, 0, 9, 43, 28]
abbrev dktX15_comes_0 : List UInt8 := dkwX15_comes_0 ++ dktX15_comes_1
theorem dksX15_comes_0 : cX15_comes.data.toList.drop 0 = dktX15_comes_0 := by decide +kernel
theorem dksX15_comes_1 : cX15_comes.data.toList.drop 20 = dktX15_comes_1 := dk_seg dksX15_comes_0 20 rfl rfl
theorem dX15_comes_0 : decode cX15_comes 0 = .ok (.aload_n 1, 1) := dk_43 (dk_at dksX15_comes_0 0 rfl rfl)
theorem dX15_comes_1 : decode cX15_comes 1 = .ok (.getfield 15, 3) := dk_180 0 15 (dk_at dksX15_comes_0 1 rfl rfl)
theorem dX15_comes_4 : decode cX15_comes 4 = .ok (.iload_n 2, 1) := dk_28 (dk_at dksX15_comes_0 4 rfl rfl)
theorem dX15_comes_5 : decode cX15_comes 5 = .ok (.bipush 31, 2) := dk_16 31 (dk_at dksX15_comes_0 5 rfl rfl)
theorem dX15_comes_7 : decode cX15_comes 7 = .ok (.aload_n 1, 1) := dk_43 (dk_at dksX15_comes_0 7 rfl rfl)
theorem dX15_comes_8 : decode cX15_comes 8 = .ok (.getfield 15, 3) := dk_180 0 15 (dk_at dksX15_comes_0 8 rfl rfl)
theorem dX15_comes_11 : decode cX15_comes 11 = .ok (.iload_n 2, 1) := dk_28 (dk_at dksX15_comes_0 11 rfl rfl)
theorem dX15_comes_12 : decode cX15_comes 12 = .ok (.iaload, 1) := dk_46 (dk_at dksX15_comes_0 12 rfl rfl)
theorem dX15_comes_13 : decode cX15_comes 13 = .ok (.imul, 1) := dk_104 (dk_at dksX15_comes_0 13 rfl rfl)
theorem dX15_comes_14 : decode cX15_comes 14 = .ok (.aload_n 0, 1) := dk_42 (dk_at dksX15_comes_0 14 rfl rfl)
theorem dX15_comes_15 : decode cX15_comes 15 = .ok (.getfield 9, 3) := dk_180 0 9 (dk_at dksX15_comes_0 15 rfl rfl)
theorem dX15_comes_18 : decode cX15_comes 18 = .ok (.aload_n 1, 1) := dk_43 (dk_at dksX15_comes_0 18 rfl rfl)
theorem dX15_comes_19 : decode cX15_comes 19 = .ok (.iload_n 2, 1) := dk_28 (dk_at dksX15_comes_0 19 rfl rfl)
theorem dX15_comes_20 : decode cX15_comes 20 = .ok (.invokeinterface 21 3, 5) := by decide +kernel
theorem dX15_comes_25 : decode cX15_comes 25 = .ok (.iadd, 1) := dk_96 (dk_at dksX15_comes_1 5 rfl rfl)
theorem dX15_comes_26 : decode cX15_comes 26 = .ok (.iastore, 1) := dk_79 (dk_at dksX15_comes_1 6 rfl rfl)
theorem dX15_comes_27 : decode cX15_comes 27 = .ok (.aload_n 0, 1) := dk_42 (dk_at dksX15_comes_1 7 rfl rfl)
theorem dX15_comes_28 : decode cX15_comes 28 = .ok (.getfield 27, 3) := dk_180 0 27 (dk_at dksX15_comes_1 8 rfl rfl)
theorem dX15_comes_31 : decode cX15_comes 31 = .ok (.areturn, 1) := dk_176 (dk_at dksX15_comes_1 11 rfl rfl)
abbrev cX15_init : ByteArray := prog_16_method_1_code
def yX15_init : MethodName := ⟨RX15, "<init>", "(ILSendHall$Expr;)V"⟩
def dkwX15_init_0 : List UInt8 := [42, 16, 9, 27, 183, 0, 3, 42, 44, 181, 0, 9, 177]
abbrev dktX15_init_0 : List UInt8 := dkwX15_init_0 ++ []
theorem dksX15_init_0 : cX15_init.data.toList.drop 0 = dktX15_init_0 := by decide +kernel
theorem dX15_init_0 : decode cX15_init 0 = .ok (.aload_n 0, 1) := dk_42 (dk_at dksX15_init_0 0 rfl rfl)
theorem dX15_init_1 : decode cX15_init 1 = .ok (.bipush 9, 2) := dk_16 9 (dk_at dksX15_init_0 1 rfl rfl)
theorem dX15_init_3 : decode cX15_init 3 = .ok (.iload_n 1, 1) := dk_27 (dk_at dksX15_init_0 3 rfl rfl)
theorem dX15_init_4 : decode cX15_init 4 = .ok (.invokespecial 3, 3) := dk_183 0 3 (dk_at dksX15_init_0 4 rfl rfl)
theorem dX15_init_7 : decode cX15_init 7 = .ok (.aload_n 0, 1) := dk_42 (dk_at dksX15_init_0 7 rfl rfl)
theorem dX15_init_8 : decode cX15_init 8 = .ok (.aload_n 2, 1) := dk_44 (dk_at dksX15_init_0 8 rfl rfl)
theorem dX15_init_9 : decode cX15_init 9 = .ok (.putfield 9, 3) := dk_181 0 9 (dk_at dksX15_init_0 9 rfl rfl)
theorem dX15_init_12 : decode cX15_init 12 = .ok (.return_, 1) := dk_177 (dk_at dksX15_init_0 12 rfl rfl)
theorem q150 : (Jvm.Cond.initialized "SendHall$Tell") ∈ lw_all := lw_g (lw_at lw_m1 38 rfl) rfl
theorem q558 : (Jvm.Cond.fieldLinkNest "SendHall$Tell" (15 : Nat) "SendHall$Life" "told" "[I" "SendHall") ∈ lw_tbl := lw_at lw_m2 206 rfl
theorem q818 : (Jvm.Cond.selects "SendHall$Tell" ({ cls := "SendHall$Step", name := "comes", desc := "(LSendHall$Life;I)LSendHall$Step;" } : Jvm.MethodName) ({ cls := "SendHall$Tell", name := "comes", desc := "(LSendHall$Life;I)LSendHall$Step;" } : Jvm.MethodName)) ∈ lw_all := lw_g (lw_at lw_m3 226 rfl) rfl
theorem q819 : (Jvm.Cond.instanceMethod ({ cls := "SendHall$Tell", name := "comes", desc := "(LSendHall$Life;I)LSendHall$Step;" } : Jvm.MethodName)) ∈ lw_all := lw_g (lw_at lw_m3 227 rfl) rfl
theorem q820 : (Jvm.Cond.code ({ cls := "SendHall$Tell", name := "comes", desc := "(LSendHall$Life;I)LSendHall$Step;" } : Jvm.MethodName) prog_16_method_2_code (3 : Nat) (Option.some (Jvm.ClassFile.FieldType.object "SendHall$Step"))) ∈ lw_all := lw_g (lw_at lw_m3 228 rfl) rfl
theorem q821 : (Jvm.Cond.interfaceEntry "SendHall$Tell" (21 : Nat)) ∈ lw_tbl := lw_at lw_m3 229 rfl
theorem q822 : (Jvm.Cond.methodLink "SendHall$Tell" (21 : Nat) ({ cls := "SendHall$Expr", name := "value", desc := "(LSendHall$Life;I)I" } : Jvm.MethodName)) ∈ lw_all := lw_g (lw_at lw_m3 230 rfl) rfl
theorem q1043 : (Jvm.Cond.selects "SendHall$Tell" ({ cls := "java/lang/Object", name := "getClass", desc := "()Ljava/lang/Class;" } : Jvm.MethodName) ({ cls := "java/lang/Object", name := "getClass", desc := "()Ljava/lang/Class;" } : Jvm.MethodName)) ∈ lw_all := lw_g (lw_at lw_m4 211 rfl) rfl
theorem q1433 : (Jvm.Cond.fieldLink "SendHall$Tell" (27 : Nat) "SendHall$Tell" "next" "LSendHall$Step;") ∈ lw_all := lw_g (lw_at lw_m6 121 rfl) rfl
theorem q1434 : (Jvm.Cond.sameField "SendHall$Tell" "SendHall$Step" "next" "LSendHall$Step;") ∈ lw_all := lw_g (lw_at lw_m6 122 rfl) rfl
theorem q1636 : (Jvm.Cond.instantiable "SendHall$Tell" (4 : Nat)) ∈ lw_all := lw_g (lw_at lw_m7 84 rfl) rfl
theorem q1638 : (Jvm.Cond.instanceMethod ({ cls := "SendHall$Tell", name := "<init>", desc := "(ILSendHall$Expr;)V" } : Jvm.MethodName)) ∈ lw_all := lw_g (lw_at lw_m7 86 rfl) rfl
theorem q1639 : (Jvm.Cond.code ({ cls := "SendHall$Tell", name := "<init>", desc := "(ILSendHall$Expr;)V" } : Jvm.MethodName) prog_16_method_1_code (3 : Nat) (Option.none : Option Jvm.ClassFile.FieldType)) ∈ lw_all := lw_g (lw_at lw_m7 87 rfl) rfl
theorem q1640 : (Jvm.Cond.methodLink "SendHall$Tell" (3 : Nat) ({ cls := "SendHall$Step", name := "<init>", desc := "(II)V" } : Jvm.MethodName)) ∈ lw_all := lw_g (lw_at lw_m7 88 rfl) rfl
theorem q1641 : (Jvm.Cond.fieldLink "SendHall$Tell" (9 : Nat) "SendHall$Tell" "e" "LSendHall$Expr;") ∈ lw_all := lw_g (lw_at lw_m7 89 rfl) rfl
theorem q1642 : (Jvm.Cond.laysFinal "SendHall$Tell" "SendHall$Tell" "e" "LSendHall$Expr;") ∈ lw_all := lw_g (lw_at lw_m7 90 rfl) rfl
theorem q1643 : (Jvm.Cond.soleField "SendHall$Tell" "e") ∈ lw_all := lw_g (lw_at lw_m7 91 rfl) rfl
theorem q1644 : (Jvm.Cond.laysFinal "SendHall$Tell" "SendHall$Step" "kind" "I") ∈ lw_all := lw_g (lw_at lw_m7 92 rfl) rfl
theorem q1645 : (Jvm.Cond.laysFinal "SendHall$Tell" "SendHall$Step" "number" "I") ∈ lw_all := lw_g (lw_at lw_m7 93 rfl) rfl
theorem q1646 : (Jvm.Cond.lays "SendHall$Tell" "SendHall$Step" "next" "LSendHall$Step;") ∈ lw_all := lw_g (lw_at lw_m7 94 rfl) rfl
theorem q1647 : (Jvm.Cond.superclass "SendHall$Tell" "SendHall$Step") ∈ lw_all := lw_g (lw_at lw_m7 95 rfl) rfl
theorem q2462 : (Jvm.Cond.castable "SendHall$Tell" "SendHall$Step") ∈ lw_tbl := lw_at lw_m10 190 rfl
theorem q2484 : (Jvm.Cond.castable "SendHall$Tell" "java/lang/Object") ∈ lw_tbl := lw_at lw_m10 212 rfl
theorem in_X15 : ∀ w ∈ wsX150, w ∈ lw_all := lw_in wsX150 [1644, 1645, 1646, 1642] (by decide +kernel) (by decide +kernel)
/-! SendHall$If -/
set_option maxRecDepth 100000
def RX16 : String := "SendHall$If"
def TX16 : u_T := fun k => match k with
  | 0 => ("SendHall$Step", "kind", "I", true)
  | 1 => ("SendHall$Step", "number", "I", true)
  | 2 => ("SendHall$Step", "next", "LSendHall$Step;", false)
  | 3 => ("SendHall$If", "e", "LSendHall$Expr;", true)
  | 4 => ("SendHall$If", "then", "LSendHall$Step;", false)
  | _ => ("SendHall$If", "other", "LSendHall$Step;", false)
def tyX16 : Nat → FieldType := fun k => match k with
  | 0 => .int
  | 1 => .int
  | 2 => .object "SendHall$Step"
  | 3 => .object "SendHall$Expr"
  | 4 => .object "SendHall$Step"
  | _ => .object "SendHall$Step"
abbrev wsX160 : List Cond := u_ws RX16 TX16 6
theorem nmX16 : ∀ a, a < 6 → ∀ b, b < 6 → a ≠ b → (TX16 a).2.1 ≠ (TX16 b).2.1 := by decide +kernel
theorem tyX16_ok : ∀ k, k < 6 → parseFieldDescriptor (TX16 k).2.2.1 = some (tyX16 k) := by decide +kernel
abbrev cX16_comes : ByteArray := prog_6_method_2_code
def yX16_comes : MethodName := ⟨RX16, "comes", "(LSendHall$Life;I)LSendHall$Step;"⟩
def dkwX16_comes_1 : List UInt8 := [180, 0, 25, 176]
abbrev dktX16_comes_1 : List UInt8 := dkwX16_comes_1 ++ []
def dkwX16_comes_0 : List UInt8 := [42, 180, 0, 9, 43, 28, 185, 0, 15, 3, 0, 153, 0, 10, 42, 180, 0, 21, 167, 0, 7, 42]
abbrev dktX16_comes_0 : List UInt8 := dkwX16_comes_0 ++ dktX16_comes_1
theorem dksX16_comes_0 : cX16_comes.data.toList.drop 0 = dktX16_comes_0 := by decide +kernel
theorem dksX16_comes_1 : cX16_comes.data.toList.drop 22 = dktX16_comes_1 := dk_seg dksX16_comes_0 22 rfl rfl
theorem dX16_comes_0 : decode cX16_comes 0 = .ok (.aload_n 0, 1) := dk_42 (dk_at dksX16_comes_0 0 rfl rfl)
theorem dX16_comes_1 : decode cX16_comes 1 = .ok (.getfield 9, 3) := dk_180 0 9 (dk_at dksX16_comes_0 1 rfl rfl)
theorem dX16_comes_4 : decode cX16_comes 4 = .ok (.aload_n 1, 1) := dk_43 (dk_at dksX16_comes_0 4 rfl rfl)
theorem dX16_comes_5 : decode cX16_comes 5 = .ok (.iload_n 2, 1) := dk_28 (dk_at dksX16_comes_0 5 rfl rfl)
theorem dX16_comes_6 : decode cX16_comes 6 = .ok (.invokeinterface 15 3, 5) := by decide +kernel
theorem dX16_comes_11 : decode cX16_comes 11 = .ok (.ifCond .eq 10, 3) := dk_153 0 10 (dk_at dksX16_comes_0 11 rfl rfl)
theorem dX16_comes_14 : decode cX16_comes 14 = .ok (.aload_n 0, 1) := dk_42 (dk_at dksX16_comes_0 14 rfl rfl)
theorem dX16_comes_15 : decode cX16_comes 15 = .ok (.getfield 21, 3) := dk_180 0 21 (dk_at dksX16_comes_0 15 rfl rfl)
theorem dX16_comes_18 : decode cX16_comes 18 = .ok (.goto 7, 3) := dk_167 0 7 (dk_at dksX16_comes_0 18 rfl rfl)
theorem dX16_comes_21 : decode cX16_comes 21 = .ok (.aload_n 0, 1) := dk_42 (dk_at dksX16_comes_0 21 rfl rfl)
theorem dX16_comes_22 : decode cX16_comes 22 = .ok (.getfield 25, 3) := dk_180 0 25 (dk_at dksX16_comes_1 0 rfl rfl)
theorem dX16_comes_25 : decode cX16_comes 25 = .ok (.areturn, 1) := dk_176 (dk_at dksX16_comes_1 3 rfl rfl)
abbrev cX16_init : ByteArray := prog_6_method_1_code
def yX16_init : MethodName := ⟨RX16, "<init>", "(ILSendHall$Expr;)V"⟩
def dkwX16_init_0 : List UInt8 := [42, 16, 10, 27, 183, 0, 3, 42, 44, 181, 0, 9, 177]
abbrev dktX16_init_0 : List UInt8 := dkwX16_init_0 ++ []
theorem dksX16_init_0 : cX16_init.data.toList.drop 0 = dktX16_init_0 := by decide +kernel
theorem dX16_init_0 : decode cX16_init 0 = .ok (.aload_n 0, 1) := dk_42 (dk_at dksX16_init_0 0 rfl rfl)
theorem dX16_init_1 : decode cX16_init 1 = .ok (.bipush 10, 2) := dk_16 10 (dk_at dksX16_init_0 1 rfl rfl)
theorem dX16_init_3 : decode cX16_init 3 = .ok (.iload_n 1, 1) := dk_27 (dk_at dksX16_init_0 3 rfl rfl)
theorem dX16_init_4 : decode cX16_init 4 = .ok (.invokespecial 3, 3) := dk_183 0 3 (dk_at dksX16_init_0 4 rfl rfl)
theorem dX16_init_7 : decode cX16_init 7 = .ok (.aload_n 0, 1) := dk_42 (dk_at dksX16_init_0 7 rfl rfl)
theorem dX16_init_8 : decode cX16_init 8 = .ok (.aload_n 2, 1) := dk_44 (dk_at dksX16_init_0 8 rfl rfl)
theorem dX16_init_9 : decode cX16_init 9 = .ok (.putfield 9, 3) := dk_181 0 9 (dk_at dksX16_init_0 9 rfl rfl)
theorem dX16_init_12 : decode cX16_init 12 = .ok (.return_, 1) := dk_177 (dk_at dksX16_init_0 12 rfl rfl)
theorem q151 : (Jvm.Cond.initialized "SendHall$If") ∈ lw_all := lw_g (lw_at lw_m1 39 rfl) rfl
theorem q739 : (Jvm.Cond.selects "SendHall$If" ({ cls := "SendHall$Step", name := "comes", desc := "(LSendHall$Life;I)LSendHall$Step;" } : Jvm.MethodName) ({ cls := "SendHall$If", name := "comes", desc := "(LSendHall$Life;I)LSendHall$Step;" } : Jvm.MethodName)) ∈ lw_all := lw_g (lw_at lw_m3 147 rfl) rfl
theorem q740 : (Jvm.Cond.instanceMethod ({ cls := "SendHall$If", name := "comes", desc := "(LSendHall$Life;I)LSendHall$Step;" } : Jvm.MethodName)) ∈ lw_all := lw_g (lw_at lw_m3 148 rfl) rfl
theorem q741 : (Jvm.Cond.code ({ cls := "SendHall$If", name := "comes", desc := "(LSendHall$Life;I)LSendHall$Step;" } : Jvm.MethodName) prog_6_method_2_code (3 : Nat) (Option.some (Jvm.ClassFile.FieldType.object "SendHall$Step"))) ∈ lw_all := lw_g (lw_at lw_m3 149 rfl) rfl
theorem q742 : (Jvm.Cond.interfaceEntry "SendHall$If" (15 : Nat)) ∈ lw_tbl := lw_at lw_m3 150 rfl
theorem q743 : (Jvm.Cond.methodLink "SendHall$If" (15 : Nat) ({ cls := "SendHall$Expr", name := "value", desc := "(LSendHall$Life;I)I" } : Jvm.MethodName)) ∈ lw_all := lw_g (lw_at lw_m3 151 rfl) rfl
theorem q1035 : (Jvm.Cond.selects "SendHall$If" ({ cls := "java/lang/Object", name := "getClass", desc := "()Ljava/lang/Class;" } : Jvm.MethodName) ({ cls := "java/lang/Object", name := "getClass", desc := "()Ljava/lang/Class;" } : Jvm.MethodName)) ∈ lw_all := lw_g (lw_at lw_m4 203 rfl) rfl
theorem q1443 : (Jvm.Cond.sameField "SendHall$If" "SendHall$Step" "next" "LSendHall$Step;") ∈ lw_all := lw_g (lw_at lw_m6 131 rfl) rfl
theorem q1653 : (Jvm.Cond.instantiable "SendHall$If" (6 : Nat)) ∈ lw_all := lw_g (lw_at lw_m7 101 rfl) rfl
theorem q1655 : (Jvm.Cond.instanceMethod ({ cls := "SendHall$If", name := "<init>", desc := "(ILSendHall$Expr;)V" } : Jvm.MethodName)) ∈ lw_all := lw_g (lw_at lw_m7 103 rfl) rfl
theorem q1656 : (Jvm.Cond.code ({ cls := "SendHall$If", name := "<init>", desc := "(ILSendHall$Expr;)V" } : Jvm.MethodName) prog_6_method_1_code (3 : Nat) (Option.none : Option Jvm.ClassFile.FieldType)) ∈ lw_all := lw_g (lw_at lw_m7 104 rfl) rfl
theorem q1657 : (Jvm.Cond.methodLink "SendHall$If" (3 : Nat) ({ cls := "SendHall$Step", name := "<init>", desc := "(II)V" } : Jvm.MethodName)) ∈ lw_all := lw_g (lw_at lw_m7 105 rfl) rfl
theorem q1658 : (Jvm.Cond.fieldLink "SendHall$If" (9 : Nat) "SendHall$If" "e" "LSendHall$Expr;") ∈ lw_all := lw_g (lw_at lw_m7 106 rfl) rfl
theorem q1659 : (Jvm.Cond.fieldLink "SendHall$If" (21 : Nat) "SendHall$If" "then" "LSendHall$Step;") ∈ lw_all := lw_g (lw_at lw_m7 107 rfl) rfl
theorem q1661 : (Jvm.Cond.fieldLink "SendHall$If" (25 : Nat) "SendHall$If" "other" "LSendHall$Step;") ∈ lw_all := lw_g (lw_at lw_m7 109 rfl) rfl
theorem q1663 : (Jvm.Cond.laysFinal "SendHall$If" "SendHall$If" "e" "LSendHall$Expr;") ∈ lw_all := lw_g (lw_at lw_m7 111 rfl) rfl
theorem q1664 : (Jvm.Cond.soleField "SendHall$If" "e") ∈ lw_all := lw_g (lw_at lw_m7 112 rfl) rfl
theorem q1665 : (Jvm.Cond.lays "SendHall$If" "SendHall$If" "then" "LSendHall$Step;") ∈ lw_all := lw_g (lw_at lw_m7 113 rfl) rfl
theorem q1666 : (Jvm.Cond.soleField "SendHall$If" "then") ∈ lw_all := lw_g (lw_at lw_m7 114 rfl) rfl
theorem q1667 : (Jvm.Cond.lays "SendHall$If" "SendHall$If" "other" "LSendHall$Step;") ∈ lw_all := lw_g (lw_at lw_m7 115 rfl) rfl
theorem q1668 : (Jvm.Cond.soleField "SendHall$If" "other") ∈ lw_all := lw_g (lw_at lw_m7 116 rfl) rfl
theorem q1669 : (Jvm.Cond.laysFinal "SendHall$If" "SendHall$Step" "kind" "I") ∈ lw_all := lw_g (lw_at lw_m7 117 rfl) rfl
theorem q1670 : (Jvm.Cond.laysFinal "SendHall$If" "SendHall$Step" "number" "I") ∈ lw_all := lw_g (lw_at lw_m7 118 rfl) rfl
theorem q1671 : (Jvm.Cond.lays "SendHall$If" "SendHall$Step" "next" "LSendHall$Step;") ∈ lw_all := lw_g (lw_at lw_m7 119 rfl) rfl
theorem q1672 : (Jvm.Cond.superclass "SendHall$If" "SendHall$Step") ∈ lw_all := lw_g (lw_at lw_m7 120 rfl) rfl
theorem q2458 : (Jvm.Cond.castable "SendHall$If" "SendHall$Step") ∈ lw_tbl := lw_at lw_m10 186 rfl
theorem q2485 : (Jvm.Cond.castable "SendHall$If" "java/lang/Object") ∈ lw_tbl := lw_at lw_m10 213 rfl
theorem in_X16 : ∀ w ∈ wsX160, w ∈ lw_all := lw_in wsX160 [1669, 1670, 1671, 1663, 1665, 1667] (by decide +kernel) (by decide +kernel)
/-! SendHall$Plain -/
set_option maxRecDepth 100000
def RX17 : String := "SendHall$Plain"
def TX17 : u_T := fun k => match k with
  | 0 => ("SendHall$Step", "kind", "I", true)
  | 1 => ("SendHall$Step", "number", "I", true)
  | 2 => ("SendHall$Step", "next", "LSendHall$Step;", false)
  | 3 => ("SendHall$Plain", "e", "LSendHall$Expr;", false)
  | _ => ("SendHall$Plain", "var", "I", false)
def tyX17 : Nat → FieldType := fun k => match k with
  | 0 => .int
  | 1 => .int
  | 2 => .object "SendHall$Step"
  | 3 => .object "SendHall$Expr"
  | _ => .int
abbrev wsX170 : List Cond := u_ws RX17 TX17 5
theorem nmX17 : ∀ a, a < 5 → ∀ b, b < 5 → a ≠ b → (TX17 a).2.1 ≠ (TX17 b).2.1 := by decide +kernel
theorem tyX17_ok : ∀ k, k < 5 → parseFieldDescriptor (TX17 k).2.2.1 = some (tyX17 k) := by decide +kernel
abbrev cX17_init : ByteArray := prog_8_method_1_code
def yX17_init : MethodName := ⟨RX17, "<init>", "(II)V"⟩
def dkwX17_init_0 : List UInt8 := [42, 27, 28, 183, 0, 1, 177]
abbrev dktX17_init_0 : List UInt8 := dkwX17_init_0 ++ []
theorem dksX17_init_0 : cX17_init.data.toList.drop 0 = dktX17_init_0 := by decide +kernel
theorem dX17_init_0 : decode cX17_init 0 = .ok (.aload_n 0, 1) := dk_42 (dk_at dksX17_init_0 0 rfl rfl)
theorem dX17_init_1 : decode cX17_init 1 = .ok (.iload_n 1, 1) := dk_27 (dk_at dksX17_init_0 1 rfl rfl)
theorem dX17_init_2 : decode cX17_init 2 = .ok (.iload_n 2, 1) := dk_28 (dk_at dksX17_init_0 2 rfl rfl)
theorem dX17_init_3 : decode cX17_init 3 = .ok (.invokespecial 1, 3) := dk_183 0 1 (dk_at dksX17_init_0 3 rfl rfl)
theorem dX17_init_6 : decode cX17_init 6 = .ok (.return_, 1) := dk_177 (dk_at dksX17_init_0 6 rfl rfl)
theorem q153 : (Jvm.Cond.initialized "SendHall$Plain") ∈ lw_all := lw_g (lw_at lw_m1 41 rfl) rfl
theorem q793 : (Jvm.Cond.selects "SendHall$Plain" ({ cls := "SendHall$Step", name := "comes", desc := "(LSendHall$Life;I)LSendHall$Step;" } : Jvm.MethodName) ({ cls := "SendHall$Step", name := "comes", desc := "(LSendHall$Life;I)LSendHall$Step;" } : Jvm.MethodName)) ∈ lw_all := lw_g (lw_at lw_m3 201 rfl) rfl
theorem q1037 : (Jvm.Cond.selects "SendHall$Plain" ({ cls := "java/lang/Object", name := "getClass", desc := "()Ljava/lang/Class;" } : Jvm.MethodName) ({ cls := "java/lang/Object", name := "getClass", desc := "()Ljava/lang/Class;" } : Jvm.MethodName)) ∈ lw_all := lw_g (lw_at lw_m4 205 rfl) rfl
theorem q1426 : (Jvm.Cond.sameField "SendHall$Plain" "SendHall$Step" "kind" "I") ∈ lw_all := lw_g (lw_at lw_m6 114 rfl) rfl
theorem q1440 : (Jvm.Cond.sameField "SendHall$Plain" "SendHall$Step" "next" "LSendHall$Step;") ∈ lw_all := lw_g (lw_at lw_m6 128 rfl) rfl
theorem q1681 : (Jvm.Cond.instantiable "SendHall$Plain" (5 : Nat)) ∈ lw_all := lw_g (lw_at lw_m7 129 rfl) rfl
theorem q1683 : (Jvm.Cond.instanceMethod ({ cls := "SendHall$Plain", name := "<init>", desc := "(II)V" } : Jvm.MethodName)) ∈ lw_all := lw_g (lw_at lw_m7 131 rfl) rfl
theorem q1684 : (Jvm.Cond.code ({ cls := "SendHall$Plain", name := "<init>", desc := "(II)V" } : Jvm.MethodName) prog_8_method_1_code (3 : Nat) (Option.none : Option Jvm.ClassFile.FieldType)) ∈ lw_all := lw_g (lw_at lw_m7 132 rfl) rfl
theorem q1685 : (Jvm.Cond.methodLink "SendHall$Plain" (1 : Nat) ({ cls := "SendHall$Step", name := "<init>", desc := "(II)V" } : Jvm.MethodName)) ∈ lw_all := lw_g (lw_at lw_m7 133 rfl) rfl
theorem q1690 : (Jvm.Cond.lays "SendHall$Plain" "SendHall$Plain" "e" "LSendHall$Expr;") ∈ lw_all := lw_g (lw_at lw_m7 138 rfl) rfl
theorem q1691 : (Jvm.Cond.soleField "SendHall$Plain" "e") ∈ lw_all := lw_g (lw_at lw_m7 139 rfl) rfl
theorem q1692 : (Jvm.Cond.lays "SendHall$Plain" "SendHall$Plain" "var" "I") ∈ lw_all := lw_g (lw_at lw_m7 140 rfl) rfl
theorem q1693 : (Jvm.Cond.soleField "SendHall$Plain" "var") ∈ lw_all := lw_g (lw_at lw_m7 141 rfl) rfl
theorem q1694 : (Jvm.Cond.laysFinal "SendHall$Plain" "SendHall$Step" "kind" "I") ∈ lw_all := lw_g (lw_at lw_m7 142 rfl) rfl
theorem q1695 : (Jvm.Cond.laysFinal "SendHall$Plain" "SendHall$Step" "number" "I") ∈ lw_all := lw_g (lw_at lw_m7 143 rfl) rfl
theorem q1696 : (Jvm.Cond.lays "SendHall$Plain" "SendHall$Step" "next" "LSendHall$Step;") ∈ lw_all := lw_g (lw_at lw_m7 144 rfl) rfl
theorem q1697 : (Jvm.Cond.superclass "SendHall$Plain" "SendHall$Step") ∈ lw_all := lw_g (lw_at lw_m7 145 rfl) rfl
theorem q2459 : (Jvm.Cond.castable "SendHall$Plain" "SendHall$Step") ∈ lw_tbl := lw_at lw_m10 187 rfl
theorem q2486 : (Jvm.Cond.castable "SendHall$Plain" "java/lang/Object") ∈ lw_tbl := lw_at lw_m10 214 rfl
theorem in_X17 : ∀ w ∈ wsX170, w ∈ lw_all := lw_in wsX170 [1694, 1695, 1696, 1690, 1692] (by decide +kernel) (by decide +kernel)
/-! SendHall$Ending -/
set_option maxRecDepth 100000
def RX18 : String := "SendHall$Ending"
def TX18 : u_T := fun k => match k with
  | 0 => ("SendHall$Ending", "kind", "I", false)
  | 1 => ("SendHall$Ending", "words", "I", false)
  | 2 => ("SendHall$Ending", "bits", "I", false)
  | _ => ("SendHall$Ending", "told", "[I", true)
def tyX18 : Nat → FieldType := fun k => match k with
  | 0 => .int
  | 1 => .int
  | 2 => .int
  | _ => .array .int
abbrev wsX180 : List Cond := u_ws RX18 TX18 4
theorem nmX18 : ∀ a, a < 4 → ∀ b, b < 4 → a ≠ b → (TX18 a).2.1 ≠ (TX18 b).2.1 := by decide +kernel
theorem tyX18_ok : ∀ k, k < 4 → parseFieldDescriptor (TX18 k).2.2.1 = some (tyX18 k) := by decide +kernel
abbrev cX18_init : ByteArray := prog_3_method_1_code
def yX18_init : MethodName := ⟨RX18, "<init>", "()V"⟩
def dkwX18_init_0 : List UInt8 := [42, 183, 0, 3, 42, 16, 8, 188, 10, 181, 0, 9, 177]
abbrev dktX18_init_0 : List UInt8 := dkwX18_init_0 ++ []
theorem dksX18_init_0 : cX18_init.data.toList.drop 0 = dktX18_init_0 := by decide +kernel
theorem dX18_init_0 : decode cX18_init 0 = .ok (.aload_n 0, 1) := dk_42 (dk_at dksX18_init_0 0 rfl rfl)
theorem dX18_init_1 : decode cX18_init 1 = .ok (.invokespecial 3, 3) := dk_183 0 3 (dk_at dksX18_init_0 1 rfl rfl)
theorem dX18_init_4 : decode cX18_init 4 = .ok (.aload_n 0, 1) := dk_42 (dk_at dksX18_init_0 4 rfl rfl)
theorem dX18_init_5 : decode cX18_init 5 = .ok (.bipush 8, 2) := dk_16 8 (dk_at dksX18_init_0 5 rfl rfl)
theorem dX18_init_7 : decode cX18_init 7 = .ok (.newarray .int, 2) := dk_188_10 (dk_at dksX18_init_0 7 rfl rfl)
theorem dX18_init_9 : decode cX18_init 9 = .ok (.putfield 9, 3) := dk_181 0 9 (dk_at dksX18_init_0 9 rfl rfl)
theorem dX18_init_12 : decode cX18_init 12 = .ok (.return_, 1) := dk_177 (dk_at dksX18_init_0 12 rfl rfl)
abbrev cX18_isAhead : ByteArray := prog_3_method_2_code
def yX18_isAhead : MethodName := ⟨RX18, "isAhead", "(LSendHall$Ending;I)Z"⟩
def dkwX18_isAhead_5 : List UInt8 := [162, 0, 7, 4, 167, 0, 4, 3, 172]
abbrev dktX18_isAhead_5 : List UInt8 := dkwX18_isAhead_5 ++ []
def dkwX18_isAhead_4 : List UInt8 := [180, 0, 19, 162, 0, 7, 4, 167, 0, 23, 3, 167, 0, 19, 42, 180, 0, 22, 43, 180, 0, 22]
abbrev dktX18_isAhead_4 : List UInt8 := dkwX18_isAhead_4 ++ dktX18_isAhead_5
def dkwX18_isAhead_3 : List UInt8 := [132, 3, 1, 167, 255, 212, 42, 180, 0, 19, 43, 180, 0, 19, 159, 0, 22, 42, 180, 0, 19, 43]
abbrev dktX18_isAhead_3 : List UInt8 := dkwX18_isAhead_3 ++ dktX18_isAhead_4
def dkwX18_isAhead_2 : List UInt8 := [159, 0, 24, 42, 180, 0, 9, 29, 46, 43, 180, 0, 9, 29, 46, 162, 0, 7, 4, 167, 0, 4, 3, 172]
abbrev dktX18_isAhead_2 : List UInt8 := dkwX18_isAhead_2 ++ dktX18_isAhead_3
def dkwX18_isAhead_1 : List UInt8 := [167, 0, 4, 3, 172, 3, 62, 29, 28, 162, 0, 45, 42, 180, 0, 9, 29, 46, 43, 180, 0, 9, 29, 46]
abbrev dktX18_isAhead_1 : List UInt8 := dkwX18_isAhead_1 ++ dktX18_isAhead_2
def dkwX18_isAhead_0 : List UInt8 := [42, 180, 0, 15, 43, 180, 0, 15, 159, 0, 20, 42, 180, 0, 15, 43, 180, 0, 15, 162, 0, 7, 4]
abbrev dktX18_isAhead_0 : List UInt8 := dkwX18_isAhead_0 ++ dktX18_isAhead_1
theorem dksX18_isAhead_0 : cX18_isAhead.data.toList.drop 0 = dktX18_isAhead_0 := by decide +kernel
theorem dksX18_isAhead_1 : cX18_isAhead.data.toList.drop 23 = dktX18_isAhead_1 := dk_seg dksX18_isAhead_0 23 rfl rfl
theorem dksX18_isAhead_2 : cX18_isAhead.data.toList.drop 47 = dktX18_isAhead_2 := dk_seg dksX18_isAhead_1 24 rfl rfl
theorem dksX18_isAhead_3 : cX18_isAhead.data.toList.drop 71 = dktX18_isAhead_3 := dk_seg dksX18_isAhead_2 24 rfl rfl
theorem dksX18_isAhead_4 : cX18_isAhead.data.toList.drop 93 = dktX18_isAhead_4 := dk_seg dksX18_isAhead_3 22 rfl rfl
theorem dksX18_isAhead_5 : cX18_isAhead.data.toList.drop 115 = dktX18_isAhead_5 := dk_seg dksX18_isAhead_4 22 rfl rfl
theorem dX18_isAhead_0 : decode cX18_isAhead 0 = .ok (.aload_n 0, 1) := dk_42 (dk_at dksX18_isAhead_0 0 rfl rfl)
theorem dX18_isAhead_1 : decode cX18_isAhead 1 = .ok (.getfield 15, 3) := dk_180 0 15 (dk_at dksX18_isAhead_0 1 rfl rfl)
theorem dX18_isAhead_4 : decode cX18_isAhead 4 = .ok (.aload_n 1, 1) := dk_43 (dk_at dksX18_isAhead_0 4 rfl rfl)
theorem dX18_isAhead_5 : decode cX18_isAhead 5 = .ok (.getfield 15, 3) := dk_180 0 15 (dk_at dksX18_isAhead_0 5 rfl rfl)
theorem dX18_isAhead_8 : decode cX18_isAhead 8 = .ok (.if_icmp .eq 20, 3) := dk_159 0 20 (dk_at dksX18_isAhead_0 8 rfl rfl)
theorem dX18_isAhead_11 : decode cX18_isAhead 11 = .ok (.aload_n 0, 1) := dk_42 (dk_at dksX18_isAhead_0 11 rfl rfl)
theorem dX18_isAhead_12 : decode cX18_isAhead 12 = .ok (.getfield 15, 3) := dk_180 0 15 (dk_at dksX18_isAhead_0 12 rfl rfl)
theorem dX18_isAhead_15 : decode cX18_isAhead 15 = .ok (.aload_n 1, 1) := dk_43 (dk_at dksX18_isAhead_0 15 rfl rfl)
theorem dX18_isAhead_16 : decode cX18_isAhead 16 = .ok (.getfield 15, 3) := dk_180 0 15 (dk_at dksX18_isAhead_0 16 rfl rfl)
theorem dX18_isAhead_19 : decode cX18_isAhead 19 = .ok (.if_icmp .ge 7, 3) := dk_162 0 7 (dk_at dksX18_isAhead_0 19 rfl rfl)
theorem dX18_isAhead_22 : decode cX18_isAhead 22 = .ok (.iconst 1, 1) := dk_4 (dk_at dksX18_isAhead_0 22 rfl rfl)
theorem dX18_isAhead_23 : decode cX18_isAhead 23 = .ok (.goto 4, 3) := dk_167 0 4 (dk_at dksX18_isAhead_1 0 rfl rfl)
theorem dX18_isAhead_26 : decode cX18_isAhead 26 = .ok (.iconst 0, 1) := dk_3 (dk_at dksX18_isAhead_1 3 rfl rfl)
theorem dX18_isAhead_27 : decode cX18_isAhead 27 = .ok (.ireturn, 1) := dk_172 (dk_at dksX18_isAhead_1 4 rfl rfl)
theorem dX18_isAhead_28 : decode cX18_isAhead 28 = .ok (.iconst 0, 1) := dk_3 (dk_at dksX18_isAhead_1 5 rfl rfl)
theorem dX18_isAhead_29 : decode cX18_isAhead 29 = .ok (.istore_n 3, 1) := dk_62 (dk_at dksX18_isAhead_1 6 rfl rfl)
theorem dX18_isAhead_30 : decode cX18_isAhead 30 = .ok (.iload_n 3, 1) := dk_29 (dk_at dksX18_isAhead_1 7 rfl rfl)
theorem dX18_isAhead_31 : decode cX18_isAhead 31 = .ok (.iload_n 2, 1) := dk_28 (dk_at dksX18_isAhead_1 8 rfl rfl)
theorem dX18_isAhead_32 : decode cX18_isAhead 32 = .ok (.if_icmp .ge 45, 3) := dk_162 0 45 (dk_at dksX18_isAhead_1 9 rfl rfl)
theorem dX18_isAhead_35 : decode cX18_isAhead 35 = .ok (.aload_n 0, 1) := dk_42 (dk_at dksX18_isAhead_1 12 rfl rfl)
theorem dX18_isAhead_36 : decode cX18_isAhead 36 = .ok (.getfield 9, 3) := dk_180 0 9 (dk_at dksX18_isAhead_1 13 rfl rfl)
theorem dX18_isAhead_39 : decode cX18_isAhead 39 = .ok (.iload_n 3, 1) := dk_29 (dk_at dksX18_isAhead_1 16 rfl rfl)
theorem dX18_isAhead_40 : decode cX18_isAhead 40 = .ok (.iaload, 1) := dk_46 (dk_at dksX18_isAhead_1 17 rfl rfl)
theorem dX18_isAhead_41 : decode cX18_isAhead 41 = .ok (.aload_n 1, 1) := dk_43 (dk_at dksX18_isAhead_1 18 rfl rfl)
theorem dX18_isAhead_42 : decode cX18_isAhead 42 = .ok (.getfield 9, 3) := dk_180 0 9 (dk_at dksX18_isAhead_1 19 rfl rfl)
theorem dX18_isAhead_45 : decode cX18_isAhead 45 = .ok (.iload_n 3, 1) := dk_29 (dk_at dksX18_isAhead_1 22 rfl rfl)
theorem dX18_isAhead_46 : decode cX18_isAhead 46 = .ok (.iaload, 1) := dk_46 (dk_at dksX18_isAhead_1 23 rfl rfl)
theorem dX18_isAhead_47 : decode cX18_isAhead 47 = .ok (.if_icmp .eq 24, 3) := dk_159 0 24 (dk_at dksX18_isAhead_2 0 rfl rfl)
theorem dX18_isAhead_50 : decode cX18_isAhead 50 = .ok (.aload_n 0, 1) := dk_42 (dk_at dksX18_isAhead_2 3 rfl rfl)
theorem dX18_isAhead_51 : decode cX18_isAhead 51 = .ok (.getfield 9, 3) := dk_180 0 9 (dk_at dksX18_isAhead_2 4 rfl rfl)
theorem dX18_isAhead_54 : decode cX18_isAhead 54 = .ok (.iload_n 3, 1) := dk_29 (dk_at dksX18_isAhead_2 7 rfl rfl)
theorem dX18_isAhead_55 : decode cX18_isAhead 55 = .ok (.iaload, 1) := dk_46 (dk_at dksX18_isAhead_2 8 rfl rfl)
theorem dX18_isAhead_56 : decode cX18_isAhead 56 = .ok (.aload_n 1, 1) := dk_43 (dk_at dksX18_isAhead_2 9 rfl rfl)
theorem dX18_isAhead_57 : decode cX18_isAhead 57 = .ok (.getfield 9, 3) := dk_180 0 9 (dk_at dksX18_isAhead_2 10 rfl rfl)
theorem dX18_isAhead_60 : decode cX18_isAhead 60 = .ok (.iload_n 3, 1) := dk_29 (dk_at dksX18_isAhead_2 13 rfl rfl)
theorem dX18_isAhead_61 : decode cX18_isAhead 61 = .ok (.iaload, 1) := dk_46 (dk_at dksX18_isAhead_2 14 rfl rfl)
theorem dX18_isAhead_62 : decode cX18_isAhead 62 = .ok (.if_icmp .ge 7, 3) := dk_162 0 7 (dk_at dksX18_isAhead_2 15 rfl rfl)
theorem dX18_isAhead_65 : decode cX18_isAhead 65 = .ok (.iconst 1, 1) := dk_4 (dk_at dksX18_isAhead_2 18 rfl rfl)
theorem dX18_isAhead_66 : decode cX18_isAhead 66 = .ok (.goto 4, 3) := dk_167 0 4 (dk_at dksX18_isAhead_2 19 rfl rfl)
theorem dX18_isAhead_69 : decode cX18_isAhead 69 = .ok (.iconst 0, 1) := dk_3 (dk_at dksX18_isAhead_2 22 rfl rfl)
theorem dX18_isAhead_70 : decode cX18_isAhead 70 = .ok (.ireturn, 1) := dk_172 (dk_at dksX18_isAhead_2 23 rfl rfl)
theorem dX18_isAhead_71 : decode cX18_isAhead 71 = .ok (.iinc 3 1, 3) := dk_132 3 1 (dk_at dksX18_isAhead_3 0 rfl rfl)
theorem dX18_isAhead_74 : decode cX18_isAhead 74 = .ok (.goto (-44), 3) := dk_167 255 212 (dk_at dksX18_isAhead_3 3 rfl rfl)
theorem dX18_isAhead_77 : decode cX18_isAhead 77 = .ok (.aload_n 0, 1) := dk_42 (dk_at dksX18_isAhead_3 6 rfl rfl)
theorem dX18_isAhead_78 : decode cX18_isAhead 78 = .ok (.getfield 19, 3) := dk_180 0 19 (dk_at dksX18_isAhead_3 7 rfl rfl)
theorem dX18_isAhead_81 : decode cX18_isAhead 81 = .ok (.aload_n 1, 1) := dk_43 (dk_at dksX18_isAhead_3 10 rfl rfl)
theorem dX18_isAhead_82 : decode cX18_isAhead 82 = .ok (.getfield 19, 3) := dk_180 0 19 (dk_at dksX18_isAhead_3 11 rfl rfl)
theorem dX18_isAhead_85 : decode cX18_isAhead 85 = .ok (.if_icmp .eq 22, 3) := dk_159 0 22 (dk_at dksX18_isAhead_3 14 rfl rfl)
theorem dX18_isAhead_88 : decode cX18_isAhead 88 = .ok (.aload_n 0, 1) := dk_42 (dk_at dksX18_isAhead_3 17 rfl rfl)
theorem dX18_isAhead_89 : decode cX18_isAhead 89 = .ok (.getfield 19, 3) := dk_180 0 19 (dk_at dksX18_isAhead_3 18 rfl rfl)
theorem dX18_isAhead_92 : decode cX18_isAhead 92 = .ok (.aload_n 1, 1) := dk_43 (dk_at dksX18_isAhead_3 21 rfl rfl)
theorem dX18_isAhead_93 : decode cX18_isAhead 93 = .ok (.getfield 19, 3) := dk_180 0 19 (dk_at dksX18_isAhead_4 0 rfl rfl)
theorem dX18_isAhead_96 : decode cX18_isAhead 96 = .ok (.if_icmp .ge 7, 3) := dk_162 0 7 (dk_at dksX18_isAhead_4 3 rfl rfl)
theorem dX18_isAhead_99 : decode cX18_isAhead 99 = .ok (.iconst 1, 1) := dk_4 (dk_at dksX18_isAhead_4 6 rfl rfl)
theorem dX18_isAhead_100 : decode cX18_isAhead 100 = .ok (.goto 23, 3) := dk_167 0 23 (dk_at dksX18_isAhead_4 7 rfl rfl)
theorem dX18_isAhead_103 : decode cX18_isAhead 103 = .ok (.iconst 0, 1) := dk_3 (dk_at dksX18_isAhead_4 10 rfl rfl)
theorem dX18_isAhead_104 : decode cX18_isAhead 104 = .ok (.goto 19, 3) := dk_167 0 19 (dk_at dksX18_isAhead_4 11 rfl rfl)
theorem dX18_isAhead_107 : decode cX18_isAhead 107 = .ok (.aload_n 0, 1) := dk_42 (dk_at dksX18_isAhead_4 14 rfl rfl)
theorem dX18_isAhead_108 : decode cX18_isAhead 108 = .ok (.getfield 22, 3) := dk_180 0 22 (dk_at dksX18_isAhead_4 15 rfl rfl)
theorem dX18_isAhead_111 : decode cX18_isAhead 111 = .ok (.aload_n 1, 1) := dk_43 (dk_at dksX18_isAhead_4 18 rfl rfl)
theorem dX18_isAhead_112 : decode cX18_isAhead 112 = .ok (.getfield 22, 3) := dk_180 0 22 (dk_at dksX18_isAhead_4 19 rfl rfl)
theorem dX18_isAhead_115 : decode cX18_isAhead 115 = .ok (.if_icmp .ge 7, 3) := dk_162 0 7 (dk_at dksX18_isAhead_5 0 rfl rfl)
theorem dX18_isAhead_118 : decode cX18_isAhead 118 = .ok (.iconst 1, 1) := dk_4 (dk_at dksX18_isAhead_5 3 rfl rfl)
theorem dX18_isAhead_119 : decode cX18_isAhead 119 = .ok (.goto 4, 3) := dk_167 0 4 (dk_at dksX18_isAhead_5 4 rfl rfl)
theorem dX18_isAhead_122 : decode cX18_isAhead 122 = .ok (.iconst 0, 1) := dk_3 (dk_at dksX18_isAhead_5 7 rfl rfl)
theorem dX18_isAhead_123 : decode cX18_isAhead 123 = .ok (.ireturn, 1) := dk_172 (dk_at dksX18_isAhead_5 8 rfl rfl)
abbrev cX18_isLike : ByteArray := prog_3_method_3_code
def yX18_isLike : MethodName := ⟨RX18, "isLike", "(LSendHall$Ending;I)Z"⟩
def dkwX18_isLike_0 : List UInt8 := [42, 43, 28, 182, 0, 25, 154, 0, 16, 43, 42, 28, 182, 0, 25, 154, 0, 7, 4, 167, 0, 4, 3, 172]
abbrev dktX18_isLike_0 : List UInt8 := dkwX18_isLike_0 ++ []
theorem dksX18_isLike_0 : cX18_isLike.data.toList.drop 0 = dktX18_isLike_0 := by decide +kernel
theorem dX18_isLike_0 : decode cX18_isLike 0 = .ok (.aload_n 0, 1) := dk_42 (dk_at dksX18_isLike_0 0 rfl rfl)
theorem dX18_isLike_1 : decode cX18_isLike 1 = .ok (.aload_n 1, 1) := dk_43 (dk_at dksX18_isLike_0 1 rfl rfl)
theorem dX18_isLike_2 : decode cX18_isLike 2 = .ok (.iload_n 2, 1) := dk_28 (dk_at dksX18_isLike_0 2 rfl rfl)
theorem dX18_isLike_3 : decode cX18_isLike 3 = .ok (.invokevirtual 25, 3) := dk_182 0 25 (dk_at dksX18_isLike_0 3 rfl rfl)
theorem dX18_isLike_6 : decode cX18_isLike 6 = .ok (.ifCond .ne 16, 3) := dk_154 0 16 (dk_at dksX18_isLike_0 6 rfl rfl)
theorem dX18_isLike_9 : decode cX18_isLike 9 = .ok (.aload_n 1, 1) := dk_43 (dk_at dksX18_isLike_0 9 rfl rfl)
theorem dX18_isLike_10 : decode cX18_isLike 10 = .ok (.aload_n 0, 1) := dk_42 (dk_at dksX18_isLike_0 10 rfl rfl)
theorem dX18_isLike_11 : decode cX18_isLike 11 = .ok (.iload_n 2, 1) := dk_28 (dk_at dksX18_isLike_0 11 rfl rfl)
theorem dX18_isLike_12 : decode cX18_isLike 12 = .ok (.invokevirtual 25, 3) := dk_182 0 25 (dk_at dksX18_isLike_0 12 rfl rfl)
theorem dX18_isLike_15 : decode cX18_isLike 15 = .ok (.ifCond .ne 7, 3) := dk_154 0 7 (dk_at dksX18_isLike_0 15 rfl rfl)
theorem dX18_isLike_18 : decode cX18_isLike 18 = .ok (.iconst 1, 1) := dk_4 (dk_at dksX18_isLike_0 18 rfl rfl)
theorem dX18_isLike_19 : decode cX18_isLike 19 = .ok (.goto 4, 3) := dk_167 0 4 (dk_at dksX18_isLike_0 19 rfl rfl)
theorem dX18_isLike_22 : decode cX18_isLike 22 = .ok (.iconst 0, 1) := dk_3 (dk_at dksX18_isLike_0 22 rfl rfl)
theorem dX18_isLike_23 : decode cX18_isLike 23 = .ok (.ireturn, 1) := dk_172 (dk_at dksX18_isLike_0 23 rfl rfl)
theorem q155 : (Jvm.Cond.initialized "SendHall$Ending") ∈ lw_all := lw_g (lw_at lw_m1 43 rfl) rfl
theorem q963 : (Jvm.Cond.instantiable "SendHall$Ending" (4 : Nat)) ∈ lw_all := lw_g (lw_at lw_m4 131 rfl) rfl
theorem q965 : (Jvm.Cond.instanceMethod ({ cls := "SendHall$Ending", name := "<init>", desc := "()V" } : Jvm.MethodName)) ∈ lw_all := lw_g (lw_at lw_m4 133 rfl) rfl
theorem q966 : (Jvm.Cond.code ({ cls := "SendHall$Ending", name := "<init>", desc := "()V" } : Jvm.MethodName) prog_3_method_1_code (1 : Nat) (Option.none : Option Jvm.ClassFile.FieldType)) ∈ lw_all := lw_g (lw_at lw_m4 134 rfl) rfl
theorem q967 : (Jvm.Cond.methodLink "SendHall$Ending" (3 : Nat) ({ cls := "java/lang/Object", name := "<init>", desc := "()V" } : Jvm.MethodName)) ∈ lw_all := lw_g (lw_at lw_m4 135 rfl) rfl
theorem q968 : (Jvm.Cond.fieldLink "SendHall$Ending" (15 : Nat) "SendHall$Ending" "kind" "I") ∈ lw_all := lw_g (lw_at lw_m4 136 rfl) rfl
theorem q970 : (Jvm.Cond.fieldLink "SendHall$Ending" (19 : Nat) "SendHall$Ending" "words" "I") ∈ lw_all := lw_g (lw_at lw_m4 138 rfl) rfl
theorem q972 : (Jvm.Cond.fieldLink "SendHall$Ending" (22 : Nat) "SendHall$Ending" "bits" "I") ∈ lw_all := lw_g (lw_at lw_m4 140 rfl) rfl
theorem q974 : (Jvm.Cond.fieldLink "SendHall$Ending" (9 : Nat) "SendHall$Ending" "told" "[I") ∈ lw_all := lw_g (lw_at lw_m4 142 rfl) rfl
theorem q976 : (Jvm.Cond.lays "SendHall$Ending" "SendHall$Ending" "kind" "I") ∈ lw_all := lw_g (lw_at lw_m4 144 rfl) rfl
theorem q977 : (Jvm.Cond.soleField "SendHall$Ending" "kind") ∈ lw_all := lw_g (lw_at lw_m4 145 rfl) rfl
theorem q978 : (Jvm.Cond.lays "SendHall$Ending" "SendHall$Ending" "words" "I") ∈ lw_all := lw_g (lw_at lw_m4 146 rfl) rfl
theorem q979 : (Jvm.Cond.soleField "SendHall$Ending" "words") ∈ lw_all := lw_g (lw_at lw_m4 147 rfl) rfl
theorem q980 : (Jvm.Cond.lays "SendHall$Ending" "SendHall$Ending" "bits" "I") ∈ lw_all := lw_g (lw_at lw_m4 148 rfl) rfl
theorem q981 : (Jvm.Cond.soleField "SendHall$Ending" "bits") ∈ lw_all := lw_g (lw_at lw_m4 149 rfl) rfl
theorem q982 : (Jvm.Cond.laysFinal "SendHall$Ending" "SendHall$Ending" "told" "[I") ∈ lw_all := lw_g (lw_at lw_m4 150 rfl) rfl
theorem q983 : (Jvm.Cond.soleField "SendHall$Ending" "told") ∈ lw_all := lw_g (lw_at lw_m4 151 rfl) rfl
theorem q984 : (Jvm.Cond.superclass "SendHall$Ending" "java/lang/Object") ∈ lw_all := lw_g (lw_at lw_m4 152 rfl) rfl
theorem q998 : (Jvm.Cond.instanceMethod ({ cls := "SendHall$Ending", name := "isAhead", desc := "(LSendHall$Ending;I)Z" } : Jvm.MethodName)) ∈ lw_all := lw_g (lw_at lw_m4 166 rfl) rfl
theorem q999 : (Jvm.Cond.selects "SendHall$Ending" ({ cls := "SendHall$Ending", name := "isAhead", desc := "(LSendHall$Ending;I)Z" } : Jvm.MethodName) ({ cls := "SendHall$Ending", name := "isAhead", desc := "(LSendHall$Ending;I)Z" } : Jvm.MethodName)) ∈ lw_all := lw_g (lw_at lw_m4 167 rfl) rfl
theorem q1000 : (Jvm.Cond.code ({ cls := "SendHall$Ending", name := "isAhead", desc := "(LSendHall$Ending;I)Z" } : Jvm.MethodName) prog_3_method_2_code (4 : Nat) (Option.some Jvm.ClassFile.FieldType.boolean)) ∈ lw_all := lw_g (lw_at lw_m4 168 rfl) rfl
theorem q1002 : (Jvm.Cond.instanceMethod ({ cls := "SendHall$Ending", name := "isLike", desc := "(LSendHall$Ending;I)Z" } : Jvm.MethodName)) ∈ lw_all := lw_g (lw_at lw_m4 170 rfl) rfl
theorem q1003 : (Jvm.Cond.selects "SendHall$Ending" ({ cls := "SendHall$Ending", name := "isLike", desc := "(LSendHall$Ending;I)Z" } : Jvm.MethodName) ({ cls := "SendHall$Ending", name := "isLike", desc := "(LSendHall$Ending;I)Z" } : Jvm.MethodName)) ∈ lw_all := lw_g (lw_at lw_m4 171 rfl) rfl
theorem q1004 : (Jvm.Cond.code ({ cls := "SendHall$Ending", name := "isLike", desc := "(LSendHall$Ending;I)Z" } : Jvm.MethodName) prog_3_method_3_code (3 : Nat) (Option.some Jvm.ClassFile.FieldType.boolean)) ∈ lw_all := lw_g (lw_at lw_m4 172 rfl) rfl
theorem q1005 : (Jvm.Cond.methodLink "SendHall$Ending" (25 : Nat) ({ cls := "SendHall$Ending", name := "isAhead", desc := "(LSendHall$Ending;I)Z" } : Jvm.MethodName)) ∈ lw_all := lw_g (lw_at lw_m4 173 rfl) rfl
theorem q1033 : (Jvm.Cond.selects "SendHall$Ending" ({ cls := "java/lang/Object", name := "getClass", desc := "()Ljava/lang/Class;" } : Jvm.MethodName) ({ cls := "java/lang/Object", name := "getClass", desc := "()Ljava/lang/Class;" } : Jvm.MethodName)) ∈ lw_all := lw_g (lw_at lw_m4 201 rfl) rfl
theorem q2488 : (Jvm.Cond.castable "SendHall$Ending" "java/lang/Object") ∈ lw_tbl := lw_at lw_m10 216 rfl
theorem in_X18 : ∀ w ∈ wsX180, w ∈ lw_all := lw_in wsX180 [976, 978, 980, 982] (by decide +kernel) (by decide +kernel)
/-! SendHall$Text -/
set_option maxRecDepth 100000
def RX2 : String := "SendHall$Text"
def TX2 : u_T := fun k => match k with
  | 0 => ("SendHall$Text", "steps", "Ljava/util/ArrayList;", true)
  | 1 => ("SendHall$Text", "first", "LSendHall$Step;", false)
  | _ => ("SendHall$Text", "anys", "I", false)
def tyX2 : Nat → FieldType := fun k => match k with
  | 0 => .object "java/util/ArrayList"
  | 1 => .object "SendHall$Step"
  | _ => .int
abbrev wsX20 : List Cond := u_ws RX2 TX2 3
theorem nmX2 : ∀ a, a < 3 → ∀ b, b < 3 → a ≠ b → (TX2 a).2.1 ≠ (TX2 b).2.1 := by decide +kernel
theorem tyX2_ok : ∀ k, k < 3 → parseFieldDescriptor (TX2 k).2.2.1 = some (tyX2 k) := by decide +kernel
abbrev cX2_init : ByteArray := prog_17_method_1_code
def yX2_init : MethodName := ⟨RX2, "<init>", "()V"⟩
def dkwX2_init_0 : List UInt8 := [42, 183, 0, 1, 42, 187, 0, 7, 89, 7, 183, 0, 9, 181, 0, 12, 177]
abbrev dktX2_init_0 : List UInt8 := dkwX2_init_0 ++ []
theorem dksX2_init_0 : cX2_init.data.toList.drop 0 = dktX2_init_0 := by decide +kernel
theorem dX2_init_0 : decode cX2_init 0 = .ok (.aload_n 0, 1) := dk_42 (dk_at dksX2_init_0 0 rfl rfl)
theorem dX2_init_1 : decode cX2_init 1 = .ok (.invokespecial 1, 3) := dk_183 0 1 (dk_at dksX2_init_0 1 rfl rfl)
theorem dX2_init_4 : decode cX2_init 4 = .ok (.aload_n 0, 1) := dk_42 (dk_at dksX2_init_0 4 rfl rfl)
theorem dX2_init_5 : decode cX2_init 5 = .ok (.new 7, 3) := dk_187 0 7 (dk_at dksX2_init_0 5 rfl rfl)
theorem dX2_init_8 : decode cX2_init 8 = .ok (.dup, 1) := dk_89 (dk_at dksX2_init_0 8 rfl rfl)
theorem dX2_init_9 : decode cX2_init 9 = .ok (.iconst 4, 1) := dk_7 (dk_at dksX2_init_0 9 rfl rfl)
theorem dX2_init_10 : decode cX2_init 10 = .ok (.invokespecial 9, 3) := dk_183 0 9 (dk_at dksX2_init_0 10 rfl rfl)
theorem dX2_init_13 : decode cX2_init 13 = .ok (.putfield 12, 3) := dk_181 0 12 (dk_at dksX2_init_0 13 rfl rfl)
theorem dX2_init_16 : decode cX2_init 16 = .ok (.return_, 1) := dk_177 (dk_at dksX2_init_0 16 rfl rfl)
theorem q114 : (Jvm.Cond.initialized "SendHall$Text") ∈ lw_all := lw_g (lw_at lw_m1 2 rfl) rfl
theorem q165 : (Jvm.Cond.instantiable "SendHall$Text" (3 : Nat)) ∈ lw_all := lw_g (lw_at lw_m1 53 rfl) rfl
theorem q167 : (Jvm.Cond.instanceMethod ({ cls := "SendHall$Text", name := "<init>", desc := "()V" } : Jvm.MethodName)) ∈ lw_all := lw_g (lw_at lw_m1 55 rfl) rfl
theorem q168 : (Jvm.Cond.code ({ cls := "SendHall$Text", name := "<init>", desc := "()V" } : Jvm.MethodName) prog_17_method_1_code (1 : Nat) (Option.none : Option Jvm.ClassFile.FieldType)) ∈ lw_all := lw_g (lw_at lw_m1 56 rfl) rfl
theorem q169 : (Jvm.Cond.methodLink "SendHall$Text" (1 : Nat) ({ cls := "java/lang/Object", name := "<init>", desc := "()V" } : Jvm.MethodName)) ∈ lw_all := lw_g (lw_at lw_m1 57 rfl) rfl
theorem q170 : (Jvm.Cond.classLink "SendHall$Text" (7 : Nat) "java/util/ArrayList") ∈ lw_all := lw_g (lw_at lw_m1 58 rfl) rfl
theorem q172 : (Jvm.Cond.methodLink "SendHall$Text" (9 : Nat) ({ cls := "java/util/ArrayList", name := "<init>", desc := "(I)V" } : Jvm.MethodName)) ∈ lw_all := lw_g (lw_at lw_m1 60 rfl) rfl
theorem q512 : (Jvm.Cond.fieldLink "SendHall$Text" (12 : Nat) "SendHall$Text" "steps" "Ljava/util/ArrayList;") ∈ lw_all := lw_g (lw_at lw_m2 160 rfl) rfl
theorem q519 : (Jvm.Cond.laysFinal "SendHall$Text" "SendHall$Text" "steps" "Ljava/util/ArrayList;") ∈ lw_all := lw_g (lw_at lw_m2 167 rfl) rfl
theorem q520 : (Jvm.Cond.soleField "SendHall$Text" "steps") ∈ lw_all := lw_g (lw_at lw_m2 168 rfl) rfl
theorem q521 : (Jvm.Cond.lays "SendHall$Text" "SendHall$Text" "first" "LSendHall$Step;") ∈ lw_all := lw_g (lw_at lw_m2 169 rfl) rfl
theorem q522 : (Jvm.Cond.soleField "SendHall$Text" "first") ∈ lw_all := lw_g (lw_at lw_m2 170 rfl) rfl
theorem q523 : (Jvm.Cond.lays "SendHall$Text" "SendHall$Text" "anys" "I") ∈ lw_all := lw_g (lw_at lw_m2 171 rfl) rfl
theorem q524 : (Jvm.Cond.soleField "SendHall$Text" "anys") ∈ lw_all := lw_g (lw_at lw_m2 172 rfl) rfl
theorem q525 : (Jvm.Cond.superclass "SendHall$Text" "java/lang/Object") ∈ lw_all := lw_g (lw_at lw_m2 173 rfl) rfl
theorem q1044 : (Jvm.Cond.selects "SendHall$Text" ({ cls := "java/lang/Object", name := "getClass", desc := "()Ljava/lang/Class;" } : Jvm.MethodName) ({ cls := "java/lang/Object", name := "getClass", desc := "()Ljava/lang/Class;" } : Jvm.MethodName)) ∈ lw_all := lw_g (lw_at lw_m4 212 rfl) rfl
theorem q2468 : (Jvm.Cond.castable "SendHall$Text" "java/lang/Object") ∈ lw_tbl := lw_at lw_m10 196 rfl
theorem in_X2 : ∀ w ∈ wsX20, w ∈ lw_all := lw_in wsX20 [519, 521, 523] (by decide +kernel) (by decide +kernel)
/-! SendHall$Life -/
set_option maxRecDepth 100000
def RX3 : String := "SendHall$Life"
def TX3 : u_T := fun k => match k with
  | 0 => ("SendHall$Life", "n", "I", false)
  | 1 => ("SendHall$Life", "words", "I", false)
  | 2 => ("SendHall$Life", "hash", "I", false)
  | 3 => ("SendHall$Life", "at", "[LSendHall$Step;", true)
  | 4 => ("SendHall$Life", "stopped", "[Z", true)
  | 5 => ("SendHall$Life", "var", "[I", true)
  | 6 => ("SendHall$Life", "from", "[I", true)
  | 7 => ("SendHall$Life", "told", "[I", true)
  | 8 => ("SendHall$Life", "pair", "[I", true)
  | 9 => ("SendHall$Life", "mark", "[I", true)
  | 10 => ("SendHall$Life", "word", "[I", true)
  | 11 => ("SendHall$Life", "length", "[I", true)
  | _ => ("SendHall$Life", "there", "[I", true)
def tyX3 : Nat → FieldType := fun k => match k with
  | 0 => .int
  | 1 => .int
  | 2 => .int
  | 3 => .array (.object "SendHall$Step")
  | 4 => .array .boolean
  | 5 => .array .int
  | 6 => .array .int
  | 7 => .array .int
  | 8 => .array .int
  | 9 => .array .int
  | 10 => .array .int
  | 11 => .array .int
  | _ => .array .int
abbrev wsX30 : List Cond := u_ws RX3 TX3 13
set_option maxRecDepth 100000 in
theorem nmX3 : ∀ a, a < 13 → ∀ b, b < 13 → a ≠ b → (TX3 a).2.1 ≠ (TX3 b).2.1 := by decide +kernel
set_option maxRecDepth 100000 in
theorem tyX3_ok : ∀ k, k < 13 → parseFieldDescriptor (TX3 k).2.2.1 = some (tyX3 k) := by decide +kernel
abbrev cX3_init : ByteArray := prog_7_method_1_code
def yX3_init : MethodName := ⟨RX3, "<init>", "()V"⟩
def dkwX3_init_3 : List UInt8 := [181, 0, 37, 42, 17, 1, 64, 188, 10, 181, 0, 40, 42, 17, 1, 64, 188, 10, 181, 0, 43, 177]
abbrev dktX3_init_3 : List UInt8 := dkwX3_init_3 ++ []
def dkwX3_init_2 : List UInt8 := [17, 1, 64, 188, 10, 181, 0, 31, 42, 17, 1, 64, 188, 10, 181, 0, 34, 42, 17, 1, 64, 188, 10]
abbrev dktX3_init_2 : List UInt8 := dkwX3_init_2 ++ dktX3_init_3
def dkwX3_init_1 : List UInt8 := [188, 10, 181, 0, 21, 42, 16, 8, 188, 10, 181, 0, 25, 42, 16, 8, 188, 10, 181, 0, 28, 42]
abbrev dktX3_init_1 : List UInt8 := dkwX3_init_1 ++ dktX3_init_2
def dkwX3_init_0 : List UInt8 := [42, 183, 0, 3, 42, 16, 8, 189, 0, 9, 181, 0, 11, 42, 16, 8, 188, 4, 181, 0, 17, 42, 16, 32]
abbrev dktX3_init_0 : List UInt8 := dkwX3_init_0 ++ dktX3_init_1
theorem dksX3_init_0 : cX3_init.data.toList.drop 0 = dktX3_init_0 := by decide +kernel
theorem dksX3_init_1 : cX3_init.data.toList.drop 24 = dktX3_init_1 := dk_seg dksX3_init_0 24 rfl rfl
theorem dksX3_init_2 : cX3_init.data.toList.drop 46 = dktX3_init_2 := dk_seg dksX3_init_1 22 rfl rfl
theorem dksX3_init_3 : cX3_init.data.toList.drop 69 = dktX3_init_3 := dk_seg dksX3_init_2 23 rfl rfl
theorem dX3_init_0 : decode cX3_init 0 = .ok (.aload_n 0, 1) := dk_42 (dk_at dksX3_init_0 0 rfl rfl)
theorem dX3_init_1 : decode cX3_init 1 = .ok (.invokespecial 3, 3) := dk_183 0 3 (dk_at dksX3_init_0 1 rfl rfl)
theorem dX3_init_4 : decode cX3_init 4 = .ok (.aload_n 0, 1) := dk_42 (dk_at dksX3_init_0 4 rfl rfl)
theorem dX3_init_5 : decode cX3_init 5 = .ok (.bipush 8, 2) := dk_16 8 (dk_at dksX3_init_0 5 rfl rfl)
theorem dX3_init_7 : decode cX3_init 7 = .ok (.anewarray 9, 3) := dk_189 0 9 (dk_at dksX3_init_0 7 rfl rfl)
theorem dX3_init_10 : decode cX3_init 10 = .ok (.putfield 11, 3) := dk_181 0 11 (dk_at dksX3_init_0 10 rfl rfl)
theorem dX3_init_13 : decode cX3_init 13 = .ok (.aload_n 0, 1) := dk_42 (dk_at dksX3_init_0 13 rfl rfl)
theorem dX3_init_14 : decode cX3_init 14 = .ok (.bipush 8, 2) := dk_16 8 (dk_at dksX3_init_0 14 rfl rfl)
theorem dX3_init_16 : decode cX3_init 16 = .ok (.newarray .boolean, 2) := dk_188_4 (dk_at dksX3_init_0 16 rfl rfl)
theorem dX3_init_18 : decode cX3_init 18 = .ok (.putfield 17, 3) := dk_181 0 17 (dk_at dksX3_init_0 18 rfl rfl)
theorem dX3_init_21 : decode cX3_init 21 = .ok (.aload_n 0, 1) := dk_42 (dk_at dksX3_init_0 21 rfl rfl)
theorem dX3_init_22 : decode cX3_init 22 = .ok (.bipush 32, 2) := dk_16 32 (dk_at dksX3_init_0 22 rfl rfl)
theorem dX3_init_24 : decode cX3_init 24 = .ok (.newarray .int, 2) := dk_188_10 (dk_at dksX3_init_1 0 rfl rfl)
theorem dX3_init_26 : decode cX3_init 26 = .ok (.putfield 21, 3) := dk_181 0 21 (dk_at dksX3_init_1 2 rfl rfl)
theorem dX3_init_29 : decode cX3_init 29 = .ok (.aload_n 0, 1) := dk_42 (dk_at dksX3_init_1 5 rfl rfl)
theorem dX3_init_30 : decode cX3_init 30 = .ok (.bipush 8, 2) := dk_16 8 (dk_at dksX3_init_1 6 rfl rfl)
theorem dX3_init_32 : decode cX3_init 32 = .ok (.newarray .int, 2) := dk_188_10 (dk_at dksX3_init_1 8 rfl rfl)
theorem dX3_init_34 : decode cX3_init 34 = .ok (.putfield 25, 3) := dk_181 0 25 (dk_at dksX3_init_1 10 rfl rfl)
theorem dX3_init_37 : decode cX3_init 37 = .ok (.aload_n 0, 1) := dk_42 (dk_at dksX3_init_1 13 rfl rfl)
theorem dX3_init_38 : decode cX3_init 38 = .ok (.bipush 8, 2) := dk_16 8 (dk_at dksX3_init_1 14 rfl rfl)
theorem dX3_init_40 : decode cX3_init 40 = .ok (.newarray .int, 2) := dk_188_10 (dk_at dksX3_init_1 16 rfl rfl)
theorem dX3_init_42 : decode cX3_init 42 = .ok (.putfield 28, 3) := dk_181 0 28 (dk_at dksX3_init_1 18 rfl rfl)
theorem dX3_init_45 : decode cX3_init 45 = .ok (.aload_n 0, 1) := dk_42 (dk_at dksX3_init_1 21 rfl rfl)
theorem dX3_init_46 : decode cX3_init 46 = .ok (.sipush 320, 3) := dk_17 1 64 (dk_at dksX3_init_2 0 rfl rfl)
theorem dX3_init_49 : decode cX3_init 49 = .ok (.newarray .int, 2) := dk_188_10 (dk_at dksX3_init_2 3 rfl rfl)
theorem dX3_init_51 : decode cX3_init 51 = .ok (.putfield 31, 3) := dk_181 0 31 (dk_at dksX3_init_2 5 rfl rfl)
theorem dX3_init_54 : decode cX3_init 54 = .ok (.aload_n 0, 1) := dk_42 (dk_at dksX3_init_2 8 rfl rfl)
theorem dX3_init_55 : decode cX3_init 55 = .ok (.sipush 320, 3) := dk_17 1 64 (dk_at dksX3_init_2 9 rfl rfl)
theorem dX3_init_58 : decode cX3_init 58 = .ok (.newarray .int, 2) := dk_188_10 (dk_at dksX3_init_2 12 rfl rfl)
theorem dX3_init_60 : decode cX3_init 60 = .ok (.putfield 34, 3) := dk_181 0 34 (dk_at dksX3_init_2 14 rfl rfl)
theorem dX3_init_63 : decode cX3_init 63 = .ok (.aload_n 0, 1) := dk_42 (dk_at dksX3_init_2 17 rfl rfl)
theorem dX3_init_64 : decode cX3_init 64 = .ok (.sipush 320, 3) := dk_17 1 64 (dk_at dksX3_init_2 18 rfl rfl)
theorem dX3_init_67 : decode cX3_init 67 = .ok (.newarray .int, 2) := dk_188_10 (dk_at dksX3_init_2 21 rfl rfl)
theorem dX3_init_69 : decode cX3_init 69 = .ok (.putfield 37, 3) := dk_181 0 37 (dk_at dksX3_init_3 0 rfl rfl)
theorem dX3_init_72 : decode cX3_init 72 = .ok (.aload_n 0, 1) := dk_42 (dk_at dksX3_init_3 3 rfl rfl)
theorem dX3_init_73 : decode cX3_init 73 = .ok (.sipush 320, 3) := dk_17 1 64 (dk_at dksX3_init_3 4 rfl rfl)
theorem dX3_init_76 : decode cX3_init 76 = .ok (.newarray .int, 2) := dk_188_10 (dk_at dksX3_init_3 7 rfl rfl)
theorem dX3_init_78 : decode cX3_init 78 = .ok (.putfield 40, 3) := dk_181 0 40 (dk_at dksX3_init_3 9 rfl rfl)
theorem dX3_init_81 : decode cX3_init 81 = .ok (.aload_n 0, 1) := dk_42 (dk_at dksX3_init_3 12 rfl rfl)
theorem dX3_init_82 : decode cX3_init 82 = .ok (.sipush 320, 3) := dk_17 1 64 (dk_at dksX3_init_3 13 rfl rfl)
theorem dX3_init_85 : decode cX3_init 85 = .ok (.newarray .int, 2) := dk_188_10 (dk_at dksX3_init_3 16 rfl rfl)
theorem dX3_init_87 : decode cX3_init 87 = .ok (.putfield 43, 3) := dk_181 0 43 (dk_at dksX3_init_3 18 rfl rfl)
theorem dX3_init_90 : decode cX3_init 90 = .ok (.return_, 1) := dk_177 (dk_at dksX3_init_3 21 rfl rfl)
abbrev cX3_hashes : ByteArray := prog_7_method_4_code
def yX3_hashes : MethodName := ⟨RX3, "hashes", "()V"⟩
def dkwX3_hashes_5 : List UInt8 := [28, 46, 96, 60, 132, 2, 1, 167, 255, 223, 42, 27, 181, 0, 60, 177]
abbrev dktX3_hashes_5 : List UInt8 := dkwX3_hashes_5 ++ []
def dkwX3_hashes_4 : List UInt8 := [180, 0, 50, 162, 0, 31, 16, 31, 16, 31, 27, 104, 42, 180, 0, 31, 28, 46, 96, 104, 42, 180, 0, 37]
abbrev dktX3_hashes_4 : List UInt8 := dkwX3_hashes_4 ++ dktX3_hashes_5
def dkwX3_hashes_3 : List UInt8 := [104, 29, 96, 46, 96, 60, 132, 3, 1, 167, 255, 232, 132, 2, 1, 167, 255, 176, 3, 61, 28, 42]
abbrev dktX3_hashes_3 : List UInt8 := dkwX3_hashes_3 ++ dktX3_hashes_4
def dkwX3_hashes_2 : List UInt8 := [180, 0, 28, 28, 46, 96, 60, 3, 62, 29, 7, 162, 0, 25, 16, 31, 27, 104, 42, 180, 0, 21, 7, 28]
abbrev dktX3_hashes_2 : List UInt8 := dkwX3_hashes_2 ++ dktX3_hashes_3
def dkwX3_hashes_1 : List UInt8 := [50, 199, 0, 7, 2, 167, 0, 12, 42, 180, 0, 11, 28, 50, 180, 0, 57, 96, 60, 16, 31, 27, 104, 42]
abbrev dktX3_hashes_1 : List UInt8 := dkwX3_hashes_1 ++ dktX3_hashes_2
def dkwX3_hashes_0 : List UInt8 := [42, 180, 0, 50, 60, 3, 61, 28, 42, 180, 0, 46, 162, 0, 78, 16, 31, 27, 104, 42, 180, 0, 11, 28]
abbrev dktX3_hashes_0 : List UInt8 := dkwX3_hashes_0 ++ dktX3_hashes_1
theorem dksX3_hashes_0 : cX3_hashes.data.toList.drop 0 = dktX3_hashes_0 := by decide +kernel
theorem dksX3_hashes_1 : cX3_hashes.data.toList.drop 24 = dktX3_hashes_1 := dk_seg dksX3_hashes_0 24 rfl rfl
theorem dksX3_hashes_2 : cX3_hashes.data.toList.drop 48 = dktX3_hashes_2 := dk_seg dksX3_hashes_1 24 rfl rfl
theorem dksX3_hashes_3 : cX3_hashes.data.toList.drop 72 = dktX3_hashes_3 := dk_seg dksX3_hashes_2 24 rfl rfl
theorem dksX3_hashes_4 : cX3_hashes.data.toList.drop 94 = dktX3_hashes_4 := dk_seg dksX3_hashes_3 22 rfl rfl
theorem dksX3_hashes_5 : cX3_hashes.data.toList.drop 118 = dktX3_hashes_5 := dk_seg dksX3_hashes_4 24 rfl rfl
theorem dX3_hashes_0 : decode cX3_hashes 0 = .ok (.aload_n 0, 1) := dk_42 (dk_at dksX3_hashes_0 0 rfl rfl)
theorem dX3_hashes_1 : decode cX3_hashes 1 = .ok (.getfield 50, 3) := dk_180 0 50 (dk_at dksX3_hashes_0 1 rfl rfl)
theorem dX3_hashes_4 : decode cX3_hashes 4 = .ok (.istore_n 1, 1) := dk_60 (dk_at dksX3_hashes_0 4 rfl rfl)
theorem dX3_hashes_5 : decode cX3_hashes 5 = .ok (.iconst 0, 1) := dk_3 (dk_at dksX3_hashes_0 5 rfl rfl)
theorem dX3_hashes_6 : decode cX3_hashes 6 = .ok (.istore_n 2, 1) := dk_61 (dk_at dksX3_hashes_0 6 rfl rfl)
theorem dX3_hashes_7 : decode cX3_hashes 7 = .ok (.iload_n 2, 1) := dk_28 (dk_at dksX3_hashes_0 7 rfl rfl)
theorem dX3_hashes_8 : decode cX3_hashes 8 = .ok (.aload_n 0, 1) := dk_42 (dk_at dksX3_hashes_0 8 rfl rfl)
theorem dX3_hashes_9 : decode cX3_hashes 9 = .ok (.getfield 46, 3) := dk_180 0 46 (dk_at dksX3_hashes_0 9 rfl rfl)
theorem dX3_hashes_12 : decode cX3_hashes 12 = .ok (.if_icmp .ge 78, 3) := dk_162 0 78 (dk_at dksX3_hashes_0 12 rfl rfl)
theorem dX3_hashes_15 : decode cX3_hashes 15 = .ok (.bipush 31, 2) := dk_16 31 (dk_at dksX3_hashes_0 15 rfl rfl)
theorem dX3_hashes_17 : decode cX3_hashes 17 = .ok (.iload_n 1, 1) := dk_27 (dk_at dksX3_hashes_0 17 rfl rfl)
theorem dX3_hashes_18 : decode cX3_hashes 18 = .ok (.imul, 1) := dk_104 (dk_at dksX3_hashes_0 18 rfl rfl)
theorem dX3_hashes_19 : decode cX3_hashes 19 = .ok (.aload_n 0, 1) := dk_42 (dk_at dksX3_hashes_0 19 rfl rfl)
theorem dX3_hashes_20 : decode cX3_hashes 20 = .ok (.getfield 11, 3) := dk_180 0 11 (dk_at dksX3_hashes_0 20 rfl rfl)
theorem dX3_hashes_23 : decode cX3_hashes 23 = .ok (.iload_n 2, 1) := dk_28 (dk_at dksX3_hashes_0 23 rfl rfl)
theorem dX3_hashes_24 : decode cX3_hashes 24 = .ok (.aaload, 1) := dk_50 (dk_at dksX3_hashes_1 0 rfl rfl)
theorem dX3_hashes_25 : decode cX3_hashes 25 = .ok (.ifnonnull 7, 3) := dk_199 0 7 (dk_at dksX3_hashes_1 1 rfl rfl)
theorem dX3_hashes_28 : decode cX3_hashes 28 = .ok (.iconst (-1), 1) := dk_2 (dk_at dksX3_hashes_1 4 rfl rfl)
theorem dX3_hashes_29 : decode cX3_hashes 29 = .ok (.goto 12, 3) := dk_167 0 12 (dk_at dksX3_hashes_1 5 rfl rfl)
theorem dX3_hashes_32 : decode cX3_hashes 32 = .ok (.aload_n 0, 1) := dk_42 (dk_at dksX3_hashes_1 8 rfl rfl)
theorem dX3_hashes_33 : decode cX3_hashes 33 = .ok (.getfield 11, 3) := dk_180 0 11 (dk_at dksX3_hashes_1 9 rfl rfl)
theorem dX3_hashes_36 : decode cX3_hashes 36 = .ok (.iload_n 2, 1) := dk_28 (dk_at dksX3_hashes_1 12 rfl rfl)
theorem dX3_hashes_37 : decode cX3_hashes 37 = .ok (.aaload, 1) := dk_50 (dk_at dksX3_hashes_1 13 rfl rfl)
theorem dX3_hashes_38 : decode cX3_hashes 38 = .ok (.getfield 57, 3) := dk_180 0 57 (dk_at dksX3_hashes_1 14 rfl rfl)
theorem dX3_hashes_41 : decode cX3_hashes 41 = .ok (.iadd, 1) := dk_96 (dk_at dksX3_hashes_1 17 rfl rfl)
theorem dX3_hashes_42 : decode cX3_hashes 42 = .ok (.istore_n 1, 1) := dk_60 (dk_at dksX3_hashes_1 18 rfl rfl)
theorem dX3_hashes_43 : decode cX3_hashes 43 = .ok (.bipush 31, 2) := dk_16 31 (dk_at dksX3_hashes_1 19 rfl rfl)
theorem dX3_hashes_45 : decode cX3_hashes 45 = .ok (.iload_n 1, 1) := dk_27 (dk_at dksX3_hashes_1 21 rfl rfl)
theorem dX3_hashes_46 : decode cX3_hashes 46 = .ok (.imul, 1) := dk_104 (dk_at dksX3_hashes_1 22 rfl rfl)
theorem dX3_hashes_47 : decode cX3_hashes 47 = .ok (.aload_n 0, 1) := dk_42 (dk_at dksX3_hashes_1 23 rfl rfl)
theorem dX3_hashes_48 : decode cX3_hashes 48 = .ok (.getfield 28, 3) := dk_180 0 28 (dk_at dksX3_hashes_2 0 rfl rfl)
theorem dX3_hashes_51 : decode cX3_hashes 51 = .ok (.iload_n 2, 1) := dk_28 (dk_at dksX3_hashes_2 3 rfl rfl)
theorem dX3_hashes_52 : decode cX3_hashes 52 = .ok (.iaload, 1) := dk_46 (dk_at dksX3_hashes_2 4 rfl rfl)
theorem dX3_hashes_53 : decode cX3_hashes 53 = .ok (.iadd, 1) := dk_96 (dk_at dksX3_hashes_2 5 rfl rfl)
theorem dX3_hashes_54 : decode cX3_hashes 54 = .ok (.istore_n 1, 1) := dk_60 (dk_at dksX3_hashes_2 6 rfl rfl)
theorem dX3_hashes_55 : decode cX3_hashes 55 = .ok (.iconst 0, 1) := dk_3 (dk_at dksX3_hashes_2 7 rfl rfl)
theorem dX3_hashes_56 : decode cX3_hashes 56 = .ok (.istore_n 3, 1) := dk_62 (dk_at dksX3_hashes_2 8 rfl rfl)
theorem dX3_hashes_57 : decode cX3_hashes 57 = .ok (.iload_n 3, 1) := dk_29 (dk_at dksX3_hashes_2 9 rfl rfl)
theorem dX3_hashes_58 : decode cX3_hashes 58 = .ok (.iconst 4, 1) := dk_7 (dk_at dksX3_hashes_2 10 rfl rfl)
theorem dX3_hashes_59 : decode cX3_hashes 59 = .ok (.if_icmp .ge 25, 3) := dk_162 0 25 (dk_at dksX3_hashes_2 11 rfl rfl)
theorem dX3_hashes_62 : decode cX3_hashes 62 = .ok (.bipush 31, 2) := dk_16 31 (dk_at dksX3_hashes_2 14 rfl rfl)
theorem dX3_hashes_64 : decode cX3_hashes 64 = .ok (.iload_n 1, 1) := dk_27 (dk_at dksX3_hashes_2 16 rfl rfl)
theorem dX3_hashes_65 : decode cX3_hashes 65 = .ok (.imul, 1) := dk_104 (dk_at dksX3_hashes_2 17 rfl rfl)
theorem dX3_hashes_66 : decode cX3_hashes 66 = .ok (.aload_n 0, 1) := dk_42 (dk_at dksX3_hashes_2 18 rfl rfl)
theorem dX3_hashes_67 : decode cX3_hashes 67 = .ok (.getfield 21, 3) := dk_180 0 21 (dk_at dksX3_hashes_2 19 rfl rfl)
theorem dX3_hashes_70 : decode cX3_hashes 70 = .ok (.iconst 4, 1) := dk_7 (dk_at dksX3_hashes_2 22 rfl rfl)
theorem dX3_hashes_71 : decode cX3_hashes 71 = .ok (.iload_n 2, 1) := dk_28 (dk_at dksX3_hashes_2 23 rfl rfl)
theorem dX3_hashes_72 : decode cX3_hashes 72 = .ok (.imul, 1) := dk_104 (dk_at dksX3_hashes_3 0 rfl rfl)
theorem dX3_hashes_73 : decode cX3_hashes 73 = .ok (.iload_n 3, 1) := dk_29 (dk_at dksX3_hashes_3 1 rfl rfl)
theorem dX3_hashes_74 : decode cX3_hashes 74 = .ok (.iadd, 1) := dk_96 (dk_at dksX3_hashes_3 2 rfl rfl)
theorem dX3_hashes_75 : decode cX3_hashes 75 = .ok (.iaload, 1) := dk_46 (dk_at dksX3_hashes_3 3 rfl rfl)
theorem dX3_hashes_76 : decode cX3_hashes 76 = .ok (.iadd, 1) := dk_96 (dk_at dksX3_hashes_3 4 rfl rfl)
theorem dX3_hashes_77 : decode cX3_hashes 77 = .ok (.istore_n 1, 1) := dk_60 (dk_at dksX3_hashes_3 5 rfl rfl)
theorem dX3_hashes_78 : decode cX3_hashes 78 = .ok (.iinc 3 1, 3) := dk_132 3 1 (dk_at dksX3_hashes_3 6 rfl rfl)
theorem dX3_hashes_81 : decode cX3_hashes 81 = .ok (.goto (-24), 3) := dk_167 255 232 (dk_at dksX3_hashes_3 9 rfl rfl)
theorem dX3_hashes_84 : decode cX3_hashes 84 = .ok (.iinc 2 1, 3) := dk_132 2 1 (dk_at dksX3_hashes_3 12 rfl rfl)
theorem dX3_hashes_87 : decode cX3_hashes 87 = .ok (.goto (-80), 3) := dk_167 255 176 (dk_at dksX3_hashes_3 15 rfl rfl)
theorem dX3_hashes_90 : decode cX3_hashes 90 = .ok (.iconst 0, 1) := dk_3 (dk_at dksX3_hashes_3 18 rfl rfl)
theorem dX3_hashes_91 : decode cX3_hashes 91 = .ok (.istore_n 2, 1) := dk_61 (dk_at dksX3_hashes_3 19 rfl rfl)
theorem dX3_hashes_92 : decode cX3_hashes 92 = .ok (.iload_n 2, 1) := dk_28 (dk_at dksX3_hashes_3 20 rfl rfl)
theorem dX3_hashes_93 : decode cX3_hashes 93 = .ok (.aload_n 0, 1) := dk_42 (dk_at dksX3_hashes_3 21 rfl rfl)
theorem dX3_hashes_94 : decode cX3_hashes 94 = .ok (.getfield 50, 3) := dk_180 0 50 (dk_at dksX3_hashes_4 0 rfl rfl)
theorem dX3_hashes_97 : decode cX3_hashes 97 = .ok (.if_icmp .ge 31, 3) := dk_162 0 31 (dk_at dksX3_hashes_4 3 rfl rfl)
theorem dX3_hashes_100 : decode cX3_hashes 100 = .ok (.bipush 31, 2) := dk_16 31 (dk_at dksX3_hashes_4 6 rfl rfl)
theorem dX3_hashes_102 : decode cX3_hashes 102 = .ok (.bipush 31, 2) := dk_16 31 (dk_at dksX3_hashes_4 8 rfl rfl)
theorem dX3_hashes_104 : decode cX3_hashes 104 = .ok (.iload_n 1, 1) := dk_27 (dk_at dksX3_hashes_4 10 rfl rfl)
theorem dX3_hashes_105 : decode cX3_hashes 105 = .ok (.imul, 1) := dk_104 (dk_at dksX3_hashes_4 11 rfl rfl)
theorem dX3_hashes_106 : decode cX3_hashes 106 = .ok (.aload_n 0, 1) := dk_42 (dk_at dksX3_hashes_4 12 rfl rfl)
theorem dX3_hashes_107 : decode cX3_hashes 107 = .ok (.getfield 31, 3) := dk_180 0 31 (dk_at dksX3_hashes_4 13 rfl rfl)
theorem dX3_hashes_110 : decode cX3_hashes 110 = .ok (.iload_n 2, 1) := dk_28 (dk_at dksX3_hashes_4 16 rfl rfl)
theorem dX3_hashes_111 : decode cX3_hashes 111 = .ok (.iaload, 1) := dk_46 (dk_at dksX3_hashes_4 17 rfl rfl)
theorem dX3_hashes_112 : decode cX3_hashes 112 = .ok (.iadd, 1) := dk_96 (dk_at dksX3_hashes_4 18 rfl rfl)
theorem dX3_hashes_113 : decode cX3_hashes 113 = .ok (.imul, 1) := dk_104 (dk_at dksX3_hashes_4 19 rfl rfl)
theorem dX3_hashes_114 : decode cX3_hashes 114 = .ok (.aload_n 0, 1) := dk_42 (dk_at dksX3_hashes_4 20 rfl rfl)
theorem dX3_hashes_115 : decode cX3_hashes 115 = .ok (.getfield 37, 3) := dk_180 0 37 (dk_at dksX3_hashes_4 21 rfl rfl)
theorem dX3_hashes_118 : decode cX3_hashes 118 = .ok (.iload_n 2, 1) := dk_28 (dk_at dksX3_hashes_5 0 rfl rfl)
theorem dX3_hashes_119 : decode cX3_hashes 119 = .ok (.iaload, 1) := dk_46 (dk_at dksX3_hashes_5 1 rfl rfl)
theorem dX3_hashes_120 : decode cX3_hashes 120 = .ok (.iadd, 1) := dk_96 (dk_at dksX3_hashes_5 2 rfl rfl)
theorem dX3_hashes_121 : decode cX3_hashes 121 = .ok (.istore_n 1, 1) := dk_60 (dk_at dksX3_hashes_5 3 rfl rfl)
theorem dX3_hashes_122 : decode cX3_hashes 122 = .ok (.iinc 2 1, 3) := dk_132 2 1 (dk_at dksX3_hashes_5 4 rfl rfl)
theorem dX3_hashes_125 : decode cX3_hashes 125 = .ok (.goto (-33), 3) := dk_167 255 223 (dk_at dksX3_hashes_5 7 rfl rfl)
theorem dX3_hashes_128 : decode cX3_hashes 128 = .ok (.aload_n 0, 1) := dk_42 (dk_at dksX3_hashes_5 10 rfl rfl)
theorem dX3_hashes_129 : decode cX3_hashes 129 = .ok (.iload_n 1, 1) := dk_27 (dk_at dksX3_hashes_5 11 rfl rfl)
theorem dX3_hashes_130 : decode cX3_hashes 130 = .ok (.putfield 60, 3) := dk_181 0 60 (dk_at dksX3_hashes_5 12 rfl rfl)
theorem dX3_hashes_133 : decode cX3_hashes 133 = .ok (.return_, 1) := dk_177 (dk_at dksX3_hashes_5 15 rfl rfl)
abbrev cX3_hasEnded : ByteArray := prog_7_method_7_code
def yX3_hasEnded : MethodName := ⟨RX3, "hasEnded", "(I)Z"⟩
def dkwX3_hasEnded_0 : List UInt8 := [42, 180, 0, 11, 27, 50, 199, 0, 7, 4, 167, 0, 4, 3, 172]
abbrev dktX3_hasEnded_0 : List UInt8 := dkwX3_hasEnded_0 ++ []
theorem dksX3_hasEnded_0 : cX3_hasEnded.data.toList.drop 0 = dktX3_hasEnded_0 := by decide +kernel
theorem dX3_hasEnded_0 : decode cX3_hasEnded 0 = .ok (.aload_n 0, 1) := dk_42 (dk_at dksX3_hasEnded_0 0 rfl rfl)
theorem dX3_hasEnded_1 : decode cX3_hasEnded 1 = .ok (.getfield 11, 3) := dk_180 0 11 (dk_at dksX3_hasEnded_0 1 rfl rfl)
theorem dX3_hasEnded_4 : decode cX3_hasEnded 4 = .ok (.iload_n 1, 1) := dk_27 (dk_at dksX3_hasEnded_0 4 rfl rfl)
theorem dX3_hasEnded_5 : decode cX3_hasEnded 5 = .ok (.aaload, 1) := dk_50 (dk_at dksX3_hasEnded_0 5 rfl rfl)
theorem dX3_hasEnded_6 : decode cX3_hasEnded 6 = .ok (.ifnonnull 7, 3) := dk_199 0 7 (dk_at dksX3_hasEnded_0 6 rfl rfl)
theorem dX3_hasEnded_9 : decode cX3_hasEnded 9 = .ok (.iconst 1, 1) := dk_4 (dk_at dksX3_hasEnded_0 9 rfl rfl)
theorem dX3_hasEnded_10 : decode cX3_hasEnded 10 = .ok (.goto 4, 3) := dk_167 0 4 (dk_at dksX3_hasEnded_0 10 rfl rfl)
theorem dX3_hasEnded_13 : decode cX3_hasEnded 13 = .ok (.iconst 0, 1) := dk_3 (dk_at dksX3_hasEnded_0 13 rfl rfl)
theorem dX3_hasEnded_14 : decode cX3_hasEnded 14 = .ok (.ireturn, 1) := dk_172 (dk_at dksX3_hasEnded_0 14 rfl rfl)
abbrev cX3_sent : ByteArray := prog_7_method_11_code
def yX3_sent : MethodName := ⟨RX3, "sent", "(II)I"⟩
def dkwX3_sent_2 : List UInt8 := [167, 255, 215, 29, 172]
abbrev dktX3_sent_2 : List UInt8 := dkwX3_sent_2 ++ []
def dkwX3_sent_1 : List UInt8 := [104, 28, 96, 160, 0, 16, 42, 180, 0, 40, 21, 4, 46, 158, 0, 6, 132, 3, 1, 132, 4, 1]
abbrev dktX3_sent_1 : List UInt8 := dkwX3_sent_1 ++ dktX3_sent_2
def dkwX3_sent_0 : List UInt8 := [3, 62, 3, 54, 4, 21, 4, 42, 180, 0, 50, 162, 0, 38, 42, 180, 0, 31, 21, 4, 46, 16, 8, 27]
abbrev dktX3_sent_0 : List UInt8 := dkwX3_sent_0 ++ dktX3_sent_1
theorem dksX3_sent_0 : cX3_sent.data.toList.drop 0 = dktX3_sent_0 := by decide +kernel
theorem dksX3_sent_1 : cX3_sent.data.toList.drop 24 = dktX3_sent_1 := dk_seg dksX3_sent_0 24 rfl rfl
theorem dksX3_sent_2 : cX3_sent.data.toList.drop 46 = dktX3_sent_2 := dk_seg dksX3_sent_1 22 rfl rfl
theorem dX3_sent_0 : decode cX3_sent 0 = .ok (.iconst 0, 1) := dk_3 (dk_at dksX3_sent_0 0 rfl rfl)
theorem dX3_sent_1 : decode cX3_sent 1 = .ok (.istore_n 3, 1) := dk_62 (dk_at dksX3_sent_0 1 rfl rfl)
theorem dX3_sent_2 : decode cX3_sent 2 = .ok (.iconst 0, 1) := dk_3 (dk_at dksX3_sent_0 2 rfl rfl)
theorem dX3_sent_3 : decode cX3_sent 3 = .ok (.istore 4, 2) := dk_54 4 (dk_at dksX3_sent_0 3 rfl rfl)
theorem dX3_sent_5 : decode cX3_sent 5 = .ok (.iload 4, 2) := dk_21 4 (dk_at dksX3_sent_0 5 rfl rfl)
theorem dX3_sent_7 : decode cX3_sent 7 = .ok (.aload_n 0, 1) := dk_42 (dk_at dksX3_sent_0 7 rfl rfl)
theorem dX3_sent_8 : decode cX3_sent 8 = .ok (.getfield 50, 3) := dk_180 0 50 (dk_at dksX3_sent_0 8 rfl rfl)
theorem dX3_sent_11 : decode cX3_sent 11 = .ok (.if_icmp .ge 38, 3) := dk_162 0 38 (dk_at dksX3_sent_0 11 rfl rfl)
theorem dX3_sent_14 : decode cX3_sent 14 = .ok (.aload_n 0, 1) := dk_42 (dk_at dksX3_sent_0 14 rfl rfl)
theorem dX3_sent_15 : decode cX3_sent 15 = .ok (.getfield 31, 3) := dk_180 0 31 (dk_at dksX3_sent_0 15 rfl rfl)
theorem dX3_sent_18 : decode cX3_sent 18 = .ok (.iload 4, 2) := dk_21 4 (dk_at dksX3_sent_0 18 rfl rfl)
theorem dX3_sent_20 : decode cX3_sent 20 = .ok (.iaload, 1) := dk_46 (dk_at dksX3_sent_0 20 rfl rfl)
theorem dX3_sent_21 : decode cX3_sent 21 = .ok (.bipush 8, 2) := dk_16 8 (dk_at dksX3_sent_0 21 rfl rfl)
theorem dX3_sent_23 : decode cX3_sent 23 = .ok (.iload_n 1, 1) := dk_27 (dk_at dksX3_sent_0 23 rfl rfl)
theorem dX3_sent_24 : decode cX3_sent 24 = .ok (.imul, 1) := dk_104 (dk_at dksX3_sent_1 0 rfl rfl)
theorem dX3_sent_25 : decode cX3_sent 25 = .ok (.iload_n 2, 1) := dk_28 (dk_at dksX3_sent_1 1 rfl rfl)
theorem dX3_sent_26 : decode cX3_sent 26 = .ok (.iadd, 1) := dk_96 (dk_at dksX3_sent_1 2 rfl rfl)
theorem dX3_sent_27 : decode cX3_sent 27 = .ok (.if_icmp .ne 16, 3) := dk_160 0 16 (dk_at dksX3_sent_1 3 rfl rfl)
theorem dX3_sent_30 : decode cX3_sent 30 = .ok (.aload_n 0, 1) := dk_42 (dk_at dksX3_sent_1 6 rfl rfl)
theorem dX3_sent_31 : decode cX3_sent 31 = .ok (.getfield 40, 3) := dk_180 0 40 (dk_at dksX3_sent_1 7 rfl rfl)
theorem dX3_sent_34 : decode cX3_sent 34 = .ok (.iload 4, 2) := dk_21 4 (dk_at dksX3_sent_1 10 rfl rfl)
theorem dX3_sent_36 : decode cX3_sent 36 = .ok (.iaload, 1) := dk_46 (dk_at dksX3_sent_1 12 rfl rfl)
theorem dX3_sent_37 : decode cX3_sent 37 = .ok (.ifCond .le 6, 3) := dk_158 0 6 (dk_at dksX3_sent_1 13 rfl rfl)
theorem dX3_sent_40 : decode cX3_sent 40 = .ok (.iinc 3 1, 3) := dk_132 3 1 (dk_at dksX3_sent_1 16 rfl rfl)
theorem dX3_sent_43 : decode cX3_sent 43 = .ok (.iinc 4 1, 3) := dk_132 4 1 (dk_at dksX3_sent_1 19 rfl rfl)
theorem dX3_sent_46 : decode cX3_sent 46 = .ok (.goto (-41), 3) := dk_167 255 215 (dk_at dksX3_sent_2 0 rfl rfl)
theorem dX3_sent_49 : decode cX3_sent 49 = .ok (.iload_n 3, 1) := dk_29 (dk_at dksX3_sent_2 3 rfl rfl)
theorem dX3_sent_50 : decode cX3_sent 50 = .ok (.ireturn, 1) := dk_172 (dk_at dksX3_sent_2 4 rfl rfl)
abbrev cX3_isAt : ByteArray := prog_7_method_6_code
def yX3_isAt : MethodName := ⟨RX3, "isAt", "(II)Z"⟩
def dkwX3_isAt_1 : List UInt8 := [180, 0, 63, 28, 160, 0, 7, 4, 167, 0, 4, 3, 172]
abbrev dktX3_isAt_1 : List UInt8 := dkwX3_isAt_1 ++ []
def dkwX3_isAt_0 : List UInt8 := [42, 180, 0, 11, 27, 50, 198, 0, 29, 42, 180, 0, 17, 27, 51, 154, 0, 20, 42, 180, 0, 11, 27, 50]
abbrev dktX3_isAt_0 : List UInt8 := dkwX3_isAt_0 ++ dktX3_isAt_1
theorem dksX3_isAt_0 : cX3_isAt.data.toList.drop 0 = dktX3_isAt_0 := by decide +kernel
theorem dksX3_isAt_1 : cX3_isAt.data.toList.drop 24 = dktX3_isAt_1 := dk_seg dksX3_isAt_0 24 rfl rfl
theorem dX3_isAt_0 : decode cX3_isAt 0 = .ok (.aload_n 0, 1) := dk_42 (dk_at dksX3_isAt_0 0 rfl rfl)
theorem dX3_isAt_1 : decode cX3_isAt 1 = .ok (.getfield 11, 3) := dk_180 0 11 (dk_at dksX3_isAt_0 1 rfl rfl)
theorem dX3_isAt_4 : decode cX3_isAt 4 = .ok (.iload_n 1, 1) := dk_27 (dk_at dksX3_isAt_0 4 rfl rfl)
theorem dX3_isAt_5 : decode cX3_isAt 5 = .ok (.aaload, 1) := dk_50 (dk_at dksX3_isAt_0 5 rfl rfl)
theorem dX3_isAt_6 : decode cX3_isAt 6 = .ok (.ifnull 29, 3) := dk_198 0 29 (dk_at dksX3_isAt_0 6 rfl rfl)
theorem dX3_isAt_9 : decode cX3_isAt 9 = .ok (.aload_n 0, 1) := dk_42 (dk_at dksX3_isAt_0 9 rfl rfl)
theorem dX3_isAt_10 : decode cX3_isAt 10 = .ok (.getfield 17, 3) := dk_180 0 17 (dk_at dksX3_isAt_0 10 rfl rfl)
theorem dX3_isAt_13 : decode cX3_isAt 13 = .ok (.iload_n 1, 1) := dk_27 (dk_at dksX3_isAt_0 13 rfl rfl)
theorem dX3_isAt_14 : decode cX3_isAt 14 = .ok (.baload, 1) := dk_51 (dk_at dksX3_isAt_0 14 rfl rfl)
theorem dX3_isAt_15 : decode cX3_isAt 15 = .ok (.ifCond .ne 20, 3) := dk_154 0 20 (dk_at dksX3_isAt_0 15 rfl rfl)
theorem dX3_isAt_18 : decode cX3_isAt 18 = .ok (.aload_n 0, 1) := dk_42 (dk_at dksX3_isAt_0 18 rfl rfl)
theorem dX3_isAt_19 : decode cX3_isAt 19 = .ok (.getfield 11, 3) := dk_180 0 11 (dk_at dksX3_isAt_0 19 rfl rfl)
theorem dX3_isAt_22 : decode cX3_isAt 22 = .ok (.iload_n 1, 1) := dk_27 (dk_at dksX3_isAt_0 22 rfl rfl)
theorem dX3_isAt_23 : decode cX3_isAt 23 = .ok (.aaload, 1) := dk_50 (dk_at dksX3_isAt_0 23 rfl rfl)
theorem dX3_isAt_24 : decode cX3_isAt 24 = .ok (.getfield 63, 3) := dk_180 0 63 (dk_at dksX3_isAt_1 0 rfl rfl)
theorem dX3_isAt_27 : decode cX3_isAt 27 = .ok (.iload_n 2, 1) := dk_28 (dk_at dksX3_isAt_1 3 rfl rfl)
theorem dX3_isAt_28 : decode cX3_isAt 28 = .ok (.if_icmp .ne 7, 3) := dk_160 0 7 (dk_at dksX3_isAt_1 4 rfl rfl)
theorem dX3_isAt_31 : decode cX3_isAt 31 = .ok (.iconst 1, 1) := dk_4 (dk_at dksX3_isAt_1 7 rfl rfl)
theorem dX3_isAt_32 : decode cX3_isAt 32 = .ok (.goto 4, 3) := dk_167 0 4 (dk_at dksX3_isAt_1 8 rfl rfl)
theorem dX3_isAt_35 : decode cX3_isAt 35 = .ok (.iconst 0, 1) := dk_3 (dk_at dksX3_isAt_1 11 rfl rfl)
theorem dX3_isAt_36 : decode cX3_isAt 36 = .ok (.ireturn, 1) := dk_172 (dk_at dksX3_isAt_1 12 rfl rfl)
abbrev cX3_first : ByteArray := prog_7_method_9_code
def yX3_first : MethodName := ⟨RX3, "first", "(III)I"⟩
def dkwX3_first_2 : List UInt8 := [2, 172]
abbrev dktX3_first_2 : List UInt8 := dkwX3_first_2 ++ []
def dkwX3_first_1 : List UInt8 := [96, 160, 0, 17, 42, 180, 0, 34, 21, 4, 46, 29, 160, 0, 6, 21, 4, 172, 132, 4, 1, 167, 255, 214]
abbrev dktX3_first_1 : List UInt8 := dkwX3_first_1 ++ dktX3_first_2
def dkwX3_first_0 : List UInt8 := [3, 54, 4, 21, 4, 42, 180, 0, 50, 162, 0, 39, 42, 180, 0, 31, 21, 4, 46, 16, 8, 27, 104, 28]
abbrev dktX3_first_0 : List UInt8 := dkwX3_first_0 ++ dktX3_first_1
theorem dksX3_first_0 : cX3_first.data.toList.drop 0 = dktX3_first_0 := by decide +kernel
theorem dksX3_first_1 : cX3_first.data.toList.drop 24 = dktX3_first_1 := dk_seg dksX3_first_0 24 rfl rfl
theorem dksX3_first_2 : cX3_first.data.toList.drop 48 = dktX3_first_2 := dk_seg dksX3_first_1 24 rfl rfl
theorem dX3_first_0 : decode cX3_first 0 = .ok (.iconst 0, 1) := dk_3 (dk_at dksX3_first_0 0 rfl rfl)
theorem dX3_first_1 : decode cX3_first 1 = .ok (.istore 4, 2) := dk_54 4 (dk_at dksX3_first_0 1 rfl rfl)
theorem dX3_first_3 : decode cX3_first 3 = .ok (.iload 4, 2) := dk_21 4 (dk_at dksX3_first_0 3 rfl rfl)
theorem dX3_first_5 : decode cX3_first 5 = .ok (.aload_n 0, 1) := dk_42 (dk_at dksX3_first_0 5 rfl rfl)
theorem dX3_first_6 : decode cX3_first 6 = .ok (.getfield 50, 3) := dk_180 0 50 (dk_at dksX3_first_0 6 rfl rfl)
theorem dX3_first_9 : decode cX3_first 9 = .ok (.if_icmp .ge 39, 3) := dk_162 0 39 (dk_at dksX3_first_0 9 rfl rfl)
theorem dX3_first_12 : decode cX3_first 12 = .ok (.aload_n 0, 1) := dk_42 (dk_at dksX3_first_0 12 rfl rfl)
theorem dX3_first_13 : decode cX3_first 13 = .ok (.getfield 31, 3) := dk_180 0 31 (dk_at dksX3_first_0 13 rfl rfl)
theorem dX3_first_16 : decode cX3_first 16 = .ok (.iload 4, 2) := dk_21 4 (dk_at dksX3_first_0 16 rfl rfl)
theorem dX3_first_18 : decode cX3_first 18 = .ok (.iaload, 1) := dk_46 (dk_at dksX3_first_0 18 rfl rfl)
theorem dX3_first_19 : decode cX3_first 19 = .ok (.bipush 8, 2) := dk_16 8 (dk_at dksX3_first_0 19 rfl rfl)
theorem dX3_first_21 : decode cX3_first 21 = .ok (.iload_n 1, 1) := dk_27 (dk_at dksX3_first_0 21 rfl rfl)
theorem dX3_first_22 : decode cX3_first 22 = .ok (.imul, 1) := dk_104 (dk_at dksX3_first_0 22 rfl rfl)
theorem dX3_first_23 : decode cX3_first 23 = .ok (.iload_n 2, 1) := dk_28 (dk_at dksX3_first_0 23 rfl rfl)
theorem dX3_first_24 : decode cX3_first 24 = .ok (.iadd, 1) := dk_96 (dk_at dksX3_first_1 0 rfl rfl)
theorem dX3_first_25 : decode cX3_first 25 = .ok (.if_icmp .ne 17, 3) := dk_160 0 17 (dk_at dksX3_first_1 1 rfl rfl)
theorem dX3_first_28 : decode cX3_first 28 = .ok (.aload_n 0, 1) := dk_42 (dk_at dksX3_first_1 4 rfl rfl)
theorem dX3_first_29 : decode cX3_first 29 = .ok (.getfield 34, 3) := dk_180 0 34 (dk_at dksX3_first_1 5 rfl rfl)
theorem dX3_first_32 : decode cX3_first 32 = .ok (.iload 4, 2) := dk_21 4 (dk_at dksX3_first_1 8 rfl rfl)
theorem dX3_first_34 : decode cX3_first 34 = .ok (.iaload, 1) := dk_46 (dk_at dksX3_first_1 10 rfl rfl)
theorem dX3_first_35 : decode cX3_first 35 = .ok (.iload_n 3, 1) := dk_29 (dk_at dksX3_first_1 11 rfl rfl)
theorem dX3_first_36 : decode cX3_first 36 = .ok (.if_icmp .ne 6, 3) := dk_160 0 6 (dk_at dksX3_first_1 12 rfl rfl)
theorem dX3_first_39 : decode cX3_first 39 = .ok (.iload 4, 2) := dk_21 4 (dk_at dksX3_first_1 15 rfl rfl)
theorem dX3_first_41 : decode cX3_first 41 = .ok (.ireturn, 1) := dk_172 (dk_at dksX3_first_1 17 rfl rfl)
theorem dX3_first_42 : decode cX3_first 42 = .ok (.iinc 4 1, 3) := dk_132 4 1 (dk_at dksX3_first_1 18 rfl rfl)
theorem dX3_first_45 : decode cX3_first 45 = .ok (.goto (-42), 3) := dk_167 255 214 (dk_at dksX3_first_1 21 rfl rfl)
theorem dX3_first_48 : decode cX3_first 48 = .ok (.iconst (-1), 1) := dk_2 (dk_at dksX3_first_2 0 rfl rfl)
theorem dX3_first_49 : decode cX3_first 49 = .ok (.ireturn, 1) := dk_172 (dk_at dksX3_first_2 1 rfl rfl)
abbrev cX3_begun : ByteArray := prog_7_method_12_code
def yX3_begun : MethodName := ⟨RX3, "begun", "(I)I"⟩
def dkwX3_begun_2 : List UInt8 := [128, 61, 132, 3, 1, 167, 255, 209, 28, 172]
abbrev dktX3_begun_2 : List UInt8 := dkwX3_begun_2 ++ []
def dkwX3_begun_1 : List UInt8 := [160, 0, 26, 42, 180, 0, 40, 29, 46, 156, 0, 17, 28, 4, 42, 180, 0, 31, 29, 46, 16, 8, 112, 120]
abbrev dktX3_begun_1 : List UInt8 := dkwX3_begun_1 ++ dktX3_begun_2
def dkwX3_begun_0 : List UInt8 := [3, 61, 3, 62, 29, 42, 180, 0, 50, 162, 0, 45, 42, 180, 0, 31, 29, 46, 16, 8, 108, 27]
abbrev dktX3_begun_0 : List UInt8 := dkwX3_begun_0 ++ dktX3_begun_1
theorem dksX3_begun_0 : cX3_begun.data.toList.drop 0 = dktX3_begun_0 := by decide +kernel
theorem dksX3_begun_1 : cX3_begun.data.toList.drop 22 = dktX3_begun_1 := dk_seg dksX3_begun_0 22 rfl rfl
theorem dksX3_begun_2 : cX3_begun.data.toList.drop 46 = dktX3_begun_2 := dk_seg dksX3_begun_1 24 rfl rfl
theorem dX3_begun_0 : decode cX3_begun 0 = .ok (.iconst 0, 1) := dk_3 (dk_at dksX3_begun_0 0 rfl rfl)
theorem dX3_begun_1 : decode cX3_begun 1 = .ok (.istore_n 2, 1) := dk_61 (dk_at dksX3_begun_0 1 rfl rfl)
theorem dX3_begun_2 : decode cX3_begun 2 = .ok (.iconst 0, 1) := dk_3 (dk_at dksX3_begun_0 2 rfl rfl)
theorem dX3_begun_3 : decode cX3_begun 3 = .ok (.istore_n 3, 1) := dk_62 (dk_at dksX3_begun_0 3 rfl rfl)
theorem dX3_begun_4 : decode cX3_begun 4 = .ok (.iload_n 3, 1) := dk_29 (dk_at dksX3_begun_0 4 rfl rfl)
theorem dX3_begun_5 : decode cX3_begun 5 = .ok (.aload_n 0, 1) := dk_42 (dk_at dksX3_begun_0 5 rfl rfl)
theorem dX3_begun_6 : decode cX3_begun 6 = .ok (.getfield 50, 3) := dk_180 0 50 (dk_at dksX3_begun_0 6 rfl rfl)
theorem dX3_begun_9 : decode cX3_begun 9 = .ok (.if_icmp .ge 45, 3) := dk_162 0 45 (dk_at dksX3_begun_0 9 rfl rfl)
theorem dX3_begun_12 : decode cX3_begun 12 = .ok (.aload_n 0, 1) := dk_42 (dk_at dksX3_begun_0 12 rfl rfl)
theorem dX3_begun_13 : decode cX3_begun 13 = .ok (.getfield 31, 3) := dk_180 0 31 (dk_at dksX3_begun_0 13 rfl rfl)
theorem dX3_begun_16 : decode cX3_begun 16 = .ok (.iload_n 3, 1) := dk_29 (dk_at dksX3_begun_0 16 rfl rfl)
theorem dX3_begun_17 : decode cX3_begun 17 = .ok (.iaload, 1) := dk_46 (dk_at dksX3_begun_0 17 rfl rfl)
theorem dX3_begun_18 : decode cX3_begun 18 = .ok (.bipush 8, 2) := dk_16 8 (dk_at dksX3_begun_0 18 rfl rfl)
theorem dX3_begun_20 : decode cX3_begun 20 = .ok (.idiv, 1) := dk_108 (dk_at dksX3_begun_0 20 rfl rfl)
theorem dX3_begun_21 : decode cX3_begun 21 = .ok (.iload_n 1, 1) := dk_27 (dk_at dksX3_begun_0 21 rfl rfl)
theorem dX3_begun_22 : decode cX3_begun 22 = .ok (.if_icmp .ne 26, 3) := dk_160 0 26 (dk_at dksX3_begun_1 0 rfl rfl)
theorem dX3_begun_25 : decode cX3_begun 25 = .ok (.aload_n 0, 1) := dk_42 (dk_at dksX3_begun_1 3 rfl rfl)
theorem dX3_begun_26 : decode cX3_begun 26 = .ok (.getfield 40, 3) := dk_180 0 40 (dk_at dksX3_begun_1 4 rfl rfl)
theorem dX3_begun_29 : decode cX3_begun 29 = .ok (.iload_n 3, 1) := dk_29 (dk_at dksX3_begun_1 7 rfl rfl)
theorem dX3_begun_30 : decode cX3_begun 30 = .ok (.iaload, 1) := dk_46 (dk_at dksX3_begun_1 8 rfl rfl)
theorem dX3_begun_31 : decode cX3_begun 31 = .ok (.ifCond .ge 17, 3) := dk_156 0 17 (dk_at dksX3_begun_1 9 rfl rfl)
theorem dX3_begun_34 : decode cX3_begun 34 = .ok (.iload_n 2, 1) := dk_28 (dk_at dksX3_begun_1 12 rfl rfl)
theorem dX3_begun_35 : decode cX3_begun 35 = .ok (.iconst 1, 1) := dk_4 (dk_at dksX3_begun_1 13 rfl rfl)
theorem dX3_begun_36 : decode cX3_begun 36 = .ok (.aload_n 0, 1) := dk_42 (dk_at dksX3_begun_1 14 rfl rfl)
theorem dX3_begun_37 : decode cX3_begun 37 = .ok (.getfield 31, 3) := dk_180 0 31 (dk_at dksX3_begun_1 15 rfl rfl)
theorem dX3_begun_40 : decode cX3_begun 40 = .ok (.iload_n 3, 1) := dk_29 (dk_at dksX3_begun_1 18 rfl rfl)
theorem dX3_begun_41 : decode cX3_begun 41 = .ok (.iaload, 1) := dk_46 (dk_at dksX3_begun_1 19 rfl rfl)
theorem dX3_begun_42 : decode cX3_begun 42 = .ok (.bipush 8, 2) := dk_16 8 (dk_at dksX3_begun_1 20 rfl rfl)
theorem dX3_begun_44 : decode cX3_begun 44 = .ok (.irem, 1) := dk_112 (dk_at dksX3_begun_1 22 rfl rfl)
theorem dX3_begun_45 : decode cX3_begun 45 = .ok (.ishl, 1) := dk_120 (dk_at dksX3_begun_1 23 rfl rfl)
theorem dX3_begun_46 : decode cX3_begun 46 = .ok (.ior, 1) := dk_128 (dk_at dksX3_begun_2 0 rfl rfl)
theorem dX3_begun_47 : decode cX3_begun 47 = .ok (.istore_n 2, 1) := dk_61 (dk_at dksX3_begun_2 1 rfl rfl)
theorem dX3_begun_48 : decode cX3_begun 48 = .ok (.iinc 3 1, 3) := dk_132 3 1 (dk_at dksX3_begun_2 2 rfl rfl)
theorem dX3_begun_51 : decode cX3_begun 51 = .ok (.goto (-47), 3) := dk_167 255 209 (dk_at dksX3_begun_2 5 rfl rfl)
theorem dX3_begun_54 : decode cX3_begun 54 = .ok (.iload_n 2, 1) := dk_28 (dk_at dksX3_begun_2 8 rfl rfl)
theorem dX3_begun_55 : decode cX3_begun 55 = .ok (.ireturn, 1) := dk_172 (dk_at dksX3_begun_2 9 rfl rfl)
abbrev cX3_copy : ByteArray := prog_7_method_2_code
def yX3_copy : MethodName := ⟨RX3, "copy", "(LSendHall$Life;)V"⟩
def dkwX3_copy_5 : List UInt8 := [180, 0, 50, 162, 0, 16, 42, 28, 43, 28, 182, 0, 53, 132, 2, 1, 167, 255, 238, 177]
abbrev dktX3_copy_5 : List UInt8 := dkwX3_copy_5 ++ []
def dkwX3_copy_4 : List UInt8 := [28, 104, 29, 96, 46, 79, 132, 3, 1, 167, 255, 228, 132, 2, 1, 167, 255, 164, 3, 61, 28, 42]
abbrev dktX3_copy_4 : List UInt8 := dkwX3_copy_4 ++ dktX3_copy_5
def dkwX3_copy_3 : List UInt8 := [28, 46, 79, 3, 62, 29, 7, 162, 0, 29, 42, 180, 0, 21, 7, 28, 104, 29, 96, 43, 180, 0, 21, 7]
abbrev dktX3_copy_3 : List UInt8 := dkwX3_copy_3 ++ dktX3_copy_4
def dkwX3_copy_2 : List UInt8 := [28, 51, 84, 42, 180, 0, 25, 28, 43, 180, 0, 25, 28, 46, 79, 42, 180, 0, 28, 28, 43, 180, 0, 28]
abbrev dktX3_copy_2 : List UInt8 := dkwX3_copy_2 ++ dktX3_copy_3
def dkwX3_copy_1 : List UInt8 := [162, 0, 90, 42, 180, 0, 11, 28, 43, 180, 0, 11, 28, 50, 83, 42, 180, 0, 17, 28, 43, 180, 0, 17]
abbrev dktX3_copy_1 : List UInt8 := dkwX3_copy_1 ++ dktX3_copy_2
def dkwX3_copy_0 : List UInt8 := [42, 43, 180, 0, 46, 181, 0, 46, 42, 43, 180, 0, 50, 181, 0, 50, 3, 61, 28, 42, 180, 0, 46]
abbrev dktX3_copy_0 : List UInt8 := dkwX3_copy_0 ++ dktX3_copy_1
theorem dksX3_copy_0 : cX3_copy.data.toList.drop 0 = dktX3_copy_0 := by decide +kernel
theorem dksX3_copy_1 : cX3_copy.data.toList.drop 23 = dktX3_copy_1 := dk_seg dksX3_copy_0 23 rfl rfl
theorem dksX3_copy_2 : cX3_copy.data.toList.drop 47 = dktX3_copy_2 := dk_seg dksX3_copy_1 24 rfl rfl
theorem dksX3_copy_3 : cX3_copy.data.toList.drop 71 = dktX3_copy_3 := dk_seg dksX3_copy_2 24 rfl rfl
theorem dksX3_copy_4 : cX3_copy.data.toList.drop 95 = dktX3_copy_4 := dk_seg dksX3_copy_3 24 rfl rfl
theorem dksX3_copy_5 : cX3_copy.data.toList.drop 117 = dktX3_copy_5 := dk_seg dksX3_copy_4 22 rfl rfl
theorem dX3_copy_0 : decode cX3_copy 0 = .ok (.aload_n 0, 1) := dk_42 (dk_at dksX3_copy_0 0 rfl rfl)
theorem dX3_copy_1 : decode cX3_copy 1 = .ok (.aload_n 1, 1) := dk_43 (dk_at dksX3_copy_0 1 rfl rfl)
theorem dX3_copy_2 : decode cX3_copy 2 = .ok (.getfield 46, 3) := dk_180 0 46 (dk_at dksX3_copy_0 2 rfl rfl)
theorem dX3_copy_5 : decode cX3_copy 5 = .ok (.putfield 46, 3) := dk_181 0 46 (dk_at dksX3_copy_0 5 rfl rfl)
theorem dX3_copy_8 : decode cX3_copy 8 = .ok (.aload_n 0, 1) := dk_42 (dk_at dksX3_copy_0 8 rfl rfl)
theorem dX3_copy_9 : decode cX3_copy 9 = .ok (.aload_n 1, 1) := dk_43 (dk_at dksX3_copy_0 9 rfl rfl)
theorem dX3_copy_10 : decode cX3_copy 10 = .ok (.getfield 50, 3) := dk_180 0 50 (dk_at dksX3_copy_0 10 rfl rfl)
theorem dX3_copy_13 : decode cX3_copy 13 = .ok (.putfield 50, 3) := dk_181 0 50 (dk_at dksX3_copy_0 13 rfl rfl)
theorem dX3_copy_16 : decode cX3_copy 16 = .ok (.iconst 0, 1) := dk_3 (dk_at dksX3_copy_0 16 rfl rfl)
theorem dX3_copy_17 : decode cX3_copy 17 = .ok (.istore_n 2, 1) := dk_61 (dk_at dksX3_copy_0 17 rfl rfl)
theorem dX3_copy_18 : decode cX3_copy 18 = .ok (.iload_n 2, 1) := dk_28 (dk_at dksX3_copy_0 18 rfl rfl)
theorem dX3_copy_19 : decode cX3_copy 19 = .ok (.aload_n 0, 1) := dk_42 (dk_at dksX3_copy_0 19 rfl rfl)
theorem dX3_copy_20 : decode cX3_copy 20 = .ok (.getfield 46, 3) := dk_180 0 46 (dk_at dksX3_copy_0 20 rfl rfl)
theorem dX3_copy_23 : decode cX3_copy 23 = .ok (.if_icmp .ge 90, 3) := dk_162 0 90 (dk_at dksX3_copy_1 0 rfl rfl)
theorem dX3_copy_26 : decode cX3_copy 26 = .ok (.aload_n 0, 1) := dk_42 (dk_at dksX3_copy_1 3 rfl rfl)
theorem dX3_copy_27 : decode cX3_copy 27 = .ok (.getfield 11, 3) := dk_180 0 11 (dk_at dksX3_copy_1 4 rfl rfl)
theorem dX3_copy_30 : decode cX3_copy 30 = .ok (.iload_n 2, 1) := dk_28 (dk_at dksX3_copy_1 7 rfl rfl)
theorem dX3_copy_31 : decode cX3_copy 31 = .ok (.aload_n 1, 1) := dk_43 (dk_at dksX3_copy_1 8 rfl rfl)
theorem dX3_copy_32 : decode cX3_copy 32 = .ok (.getfield 11, 3) := dk_180 0 11 (dk_at dksX3_copy_1 9 rfl rfl)
theorem dX3_copy_35 : decode cX3_copy 35 = .ok (.iload_n 2, 1) := dk_28 (dk_at dksX3_copy_1 12 rfl rfl)
theorem dX3_copy_36 : decode cX3_copy 36 = .ok (.aaload, 1) := dk_50 (dk_at dksX3_copy_1 13 rfl rfl)
theorem dX3_copy_37 : decode cX3_copy 37 = .ok (.aastore, 1) := dk_83 (dk_at dksX3_copy_1 14 rfl rfl)
theorem dX3_copy_38 : decode cX3_copy 38 = .ok (.aload_n 0, 1) := dk_42 (dk_at dksX3_copy_1 15 rfl rfl)
theorem dX3_copy_39 : decode cX3_copy 39 = .ok (.getfield 17, 3) := dk_180 0 17 (dk_at dksX3_copy_1 16 rfl rfl)
theorem dX3_copy_42 : decode cX3_copy 42 = .ok (.iload_n 2, 1) := dk_28 (dk_at dksX3_copy_1 19 rfl rfl)
theorem dX3_copy_43 : decode cX3_copy 43 = .ok (.aload_n 1, 1) := dk_43 (dk_at dksX3_copy_1 20 rfl rfl)
theorem dX3_copy_44 : decode cX3_copy 44 = .ok (.getfield 17, 3) := dk_180 0 17 (dk_at dksX3_copy_1 21 rfl rfl)
theorem dX3_copy_47 : decode cX3_copy 47 = .ok (.iload_n 2, 1) := dk_28 (dk_at dksX3_copy_2 0 rfl rfl)
theorem dX3_copy_48 : decode cX3_copy 48 = .ok (.baload, 1) := dk_51 (dk_at dksX3_copy_2 1 rfl rfl)
theorem dX3_copy_49 : decode cX3_copy 49 = .ok (.bastore, 1) := dk_84 (dk_at dksX3_copy_2 2 rfl rfl)
theorem dX3_copy_50 : decode cX3_copy 50 = .ok (.aload_n 0, 1) := dk_42 (dk_at dksX3_copy_2 3 rfl rfl)
theorem dX3_copy_51 : decode cX3_copy 51 = .ok (.getfield 25, 3) := dk_180 0 25 (dk_at dksX3_copy_2 4 rfl rfl)
theorem dX3_copy_54 : decode cX3_copy 54 = .ok (.iload_n 2, 1) := dk_28 (dk_at dksX3_copy_2 7 rfl rfl)
theorem dX3_copy_55 : decode cX3_copy 55 = .ok (.aload_n 1, 1) := dk_43 (dk_at dksX3_copy_2 8 rfl rfl)
theorem dX3_copy_56 : decode cX3_copy 56 = .ok (.getfield 25, 3) := dk_180 0 25 (dk_at dksX3_copy_2 9 rfl rfl)
theorem dX3_copy_59 : decode cX3_copy 59 = .ok (.iload_n 2, 1) := dk_28 (dk_at dksX3_copy_2 12 rfl rfl)
theorem dX3_copy_60 : decode cX3_copy 60 = .ok (.iaload, 1) := dk_46 (dk_at dksX3_copy_2 13 rfl rfl)
theorem dX3_copy_61 : decode cX3_copy 61 = .ok (.iastore, 1) := dk_79 (dk_at dksX3_copy_2 14 rfl rfl)
theorem dX3_copy_62 : decode cX3_copy 62 = .ok (.aload_n 0, 1) := dk_42 (dk_at dksX3_copy_2 15 rfl rfl)
theorem dX3_copy_63 : decode cX3_copy 63 = .ok (.getfield 28, 3) := dk_180 0 28 (dk_at dksX3_copy_2 16 rfl rfl)
theorem dX3_copy_66 : decode cX3_copy 66 = .ok (.iload_n 2, 1) := dk_28 (dk_at dksX3_copy_2 19 rfl rfl)
theorem dX3_copy_67 : decode cX3_copy 67 = .ok (.aload_n 1, 1) := dk_43 (dk_at dksX3_copy_2 20 rfl rfl)
theorem dX3_copy_68 : decode cX3_copy 68 = .ok (.getfield 28, 3) := dk_180 0 28 (dk_at dksX3_copy_2 21 rfl rfl)
theorem dX3_copy_71 : decode cX3_copy 71 = .ok (.iload_n 2, 1) := dk_28 (dk_at dksX3_copy_3 0 rfl rfl)
theorem dX3_copy_72 : decode cX3_copy 72 = .ok (.iaload, 1) := dk_46 (dk_at dksX3_copy_3 1 rfl rfl)
theorem dX3_copy_73 : decode cX3_copy 73 = .ok (.iastore, 1) := dk_79 (dk_at dksX3_copy_3 2 rfl rfl)
theorem dX3_copy_74 : decode cX3_copy 74 = .ok (.iconst 0, 1) := dk_3 (dk_at dksX3_copy_3 3 rfl rfl)
theorem dX3_copy_75 : decode cX3_copy 75 = .ok (.istore_n 3, 1) := dk_62 (dk_at dksX3_copy_3 4 rfl rfl)
theorem dX3_copy_76 : decode cX3_copy 76 = .ok (.iload_n 3, 1) := dk_29 (dk_at dksX3_copy_3 5 rfl rfl)
theorem dX3_copy_77 : decode cX3_copy 77 = .ok (.iconst 4, 1) := dk_7 (dk_at dksX3_copy_3 6 rfl rfl)
theorem dX3_copy_78 : decode cX3_copy 78 = .ok (.if_icmp .ge 29, 3) := dk_162 0 29 (dk_at dksX3_copy_3 7 rfl rfl)
theorem dX3_copy_81 : decode cX3_copy 81 = .ok (.aload_n 0, 1) := dk_42 (dk_at dksX3_copy_3 10 rfl rfl)
theorem dX3_copy_82 : decode cX3_copy 82 = .ok (.getfield 21, 3) := dk_180 0 21 (dk_at dksX3_copy_3 11 rfl rfl)
theorem dX3_copy_85 : decode cX3_copy 85 = .ok (.iconst 4, 1) := dk_7 (dk_at dksX3_copy_3 14 rfl rfl)
theorem dX3_copy_86 : decode cX3_copy 86 = .ok (.iload_n 2, 1) := dk_28 (dk_at dksX3_copy_3 15 rfl rfl)
theorem dX3_copy_87 : decode cX3_copy 87 = .ok (.imul, 1) := dk_104 (dk_at dksX3_copy_3 16 rfl rfl)
theorem dX3_copy_88 : decode cX3_copy 88 = .ok (.iload_n 3, 1) := dk_29 (dk_at dksX3_copy_3 17 rfl rfl)
theorem dX3_copy_89 : decode cX3_copy 89 = .ok (.iadd, 1) := dk_96 (dk_at dksX3_copy_3 18 rfl rfl)
theorem dX3_copy_90 : decode cX3_copy 90 = .ok (.aload_n 1, 1) := dk_43 (dk_at dksX3_copy_3 19 rfl rfl)
theorem dX3_copy_91 : decode cX3_copy 91 = .ok (.getfield 21, 3) := dk_180 0 21 (dk_at dksX3_copy_3 20 rfl rfl)
theorem dX3_copy_94 : decode cX3_copy 94 = .ok (.iconst 4, 1) := dk_7 (dk_at dksX3_copy_3 23 rfl rfl)
theorem dX3_copy_95 : decode cX3_copy 95 = .ok (.iload_n 2, 1) := dk_28 (dk_at dksX3_copy_4 0 rfl rfl)
theorem dX3_copy_96 : decode cX3_copy 96 = .ok (.imul, 1) := dk_104 (dk_at dksX3_copy_4 1 rfl rfl)
theorem dX3_copy_97 : decode cX3_copy 97 = .ok (.iload_n 3, 1) := dk_29 (dk_at dksX3_copy_4 2 rfl rfl)
theorem dX3_copy_98 : decode cX3_copy 98 = .ok (.iadd, 1) := dk_96 (dk_at dksX3_copy_4 3 rfl rfl)
theorem dX3_copy_99 : decode cX3_copy 99 = .ok (.iaload, 1) := dk_46 (dk_at dksX3_copy_4 4 rfl rfl)
theorem dX3_copy_100 : decode cX3_copy 100 = .ok (.iastore, 1) := dk_79 (dk_at dksX3_copy_4 5 rfl rfl)
theorem dX3_copy_101 : decode cX3_copy 101 = .ok (.iinc 3 1, 3) := dk_132 3 1 (dk_at dksX3_copy_4 6 rfl rfl)
theorem dX3_copy_104 : decode cX3_copy 104 = .ok (.goto (-28), 3) := dk_167 255 228 (dk_at dksX3_copy_4 9 rfl rfl)
theorem dX3_copy_107 : decode cX3_copy 107 = .ok (.iinc 2 1, 3) := dk_132 2 1 (dk_at dksX3_copy_4 12 rfl rfl)
theorem dX3_copy_110 : decode cX3_copy 110 = .ok (.goto (-92), 3) := dk_167 255 164 (dk_at dksX3_copy_4 15 rfl rfl)
theorem dX3_copy_113 : decode cX3_copy 113 = .ok (.iconst 0, 1) := dk_3 (dk_at dksX3_copy_4 18 rfl rfl)
theorem dX3_copy_114 : decode cX3_copy 114 = .ok (.istore_n 2, 1) := dk_61 (dk_at dksX3_copy_4 19 rfl rfl)
theorem dX3_copy_115 : decode cX3_copy 115 = .ok (.iload_n 2, 1) := dk_28 (dk_at dksX3_copy_4 20 rfl rfl)
theorem dX3_copy_116 : decode cX3_copy 116 = .ok (.aload_n 0, 1) := dk_42 (dk_at dksX3_copy_4 21 rfl rfl)
theorem dX3_copy_117 : decode cX3_copy 117 = .ok (.getfield 50, 3) := dk_180 0 50 (dk_at dksX3_copy_5 0 rfl rfl)
theorem dX3_copy_120 : decode cX3_copy 120 = .ok (.if_icmp .ge 16, 3) := dk_162 0 16 (dk_at dksX3_copy_5 3 rfl rfl)
theorem dX3_copy_123 : decode cX3_copy 123 = .ok (.aload_n 0, 1) := dk_42 (dk_at dksX3_copy_5 6 rfl rfl)
theorem dX3_copy_124 : decode cX3_copy 124 = .ok (.iload_n 2, 1) := dk_28 (dk_at dksX3_copy_5 7 rfl rfl)
theorem dX3_copy_125 : decode cX3_copy 125 = .ok (.aload_n 1, 1) := dk_43 (dk_at dksX3_copy_5 8 rfl rfl)
theorem dX3_copy_126 : decode cX3_copy 126 = .ok (.iload_n 2, 1) := dk_28 (dk_at dksX3_copy_5 9 rfl rfl)
theorem dX3_copy_127 : decode cX3_copy 127 = .ok (.invokevirtual 53, 3) := dk_182 0 53 (dk_at dksX3_copy_5 10 rfl rfl)
theorem dX3_copy_130 : decode cX3_copy 130 = .ok (.iinc 2 1, 3) := dk_132 2 1 (dk_at dksX3_copy_5 13 rfl rfl)
theorem dX3_copy_133 : decode cX3_copy 133 = .ok (.goto (-18), 3) := dk_167 255 238 (dk_at dksX3_copy_5 16 rfl rfl)
theorem dX3_copy_136 : decode cX3_copy 136 = .ok (.return_, 1) := dk_177 (dk_at dksX3_copy_5 19 rfl rfl)
abbrev cX3_put : ByteArray := prog_7_method_3_code
def yX3_put : MethodName := ⟨RX3, "put", "(ILSendHall$Life;I)V"⟩
def dkwX3_put_2 : List UInt8 := [42, 180, 0, 43, 27, 44, 180, 0, 43, 29, 46, 79, 177]
abbrev dktX3_put_2 : List UInt8 := dkwX3_put_2 ++ []
def dkwX3_put_1 : List UInt8 := [42, 180, 0, 37, 27, 44, 180, 0, 37, 29, 46, 79, 42, 180, 0, 40, 27, 44, 180, 0, 40, 29, 46, 79]
abbrev dktX3_put_1 : List UInt8 := dkwX3_put_1 ++ dktX3_put_2
def dkwX3_put_0 : List UInt8 := [42, 180, 0, 31, 27, 44, 180, 0, 31, 29, 46, 79, 42, 180, 0, 34, 27, 44, 180, 0, 34, 29, 46, 79]
abbrev dktX3_put_0 : List UInt8 := dkwX3_put_0 ++ dktX3_put_1
theorem dksX3_put_0 : cX3_put.data.toList.drop 0 = dktX3_put_0 := by decide +kernel
theorem dksX3_put_1 : cX3_put.data.toList.drop 24 = dktX3_put_1 := dk_seg dksX3_put_0 24 rfl rfl
theorem dksX3_put_2 : cX3_put.data.toList.drop 48 = dktX3_put_2 := dk_seg dksX3_put_1 24 rfl rfl
theorem dX3_put_0 : decode cX3_put 0 = .ok (.aload_n 0, 1) := dk_42 (dk_at dksX3_put_0 0 rfl rfl)
theorem dX3_put_1 : decode cX3_put 1 = .ok (.getfield 31, 3) := dk_180 0 31 (dk_at dksX3_put_0 1 rfl rfl)
theorem dX3_put_4 : decode cX3_put 4 = .ok (.iload_n 1, 1) := dk_27 (dk_at dksX3_put_0 4 rfl rfl)
theorem dX3_put_5 : decode cX3_put 5 = .ok (.aload_n 2, 1) := dk_44 (dk_at dksX3_put_0 5 rfl rfl)
theorem dX3_put_6 : decode cX3_put 6 = .ok (.getfield 31, 3) := dk_180 0 31 (dk_at dksX3_put_0 6 rfl rfl)
theorem dX3_put_9 : decode cX3_put 9 = .ok (.iload_n 3, 1) := dk_29 (dk_at dksX3_put_0 9 rfl rfl)
theorem dX3_put_10 : decode cX3_put 10 = .ok (.iaload, 1) := dk_46 (dk_at dksX3_put_0 10 rfl rfl)
theorem dX3_put_11 : decode cX3_put 11 = .ok (.iastore, 1) := dk_79 (dk_at dksX3_put_0 11 rfl rfl)
theorem dX3_put_12 : decode cX3_put 12 = .ok (.aload_n 0, 1) := dk_42 (dk_at dksX3_put_0 12 rfl rfl)
theorem dX3_put_13 : decode cX3_put 13 = .ok (.getfield 34, 3) := dk_180 0 34 (dk_at dksX3_put_0 13 rfl rfl)
theorem dX3_put_16 : decode cX3_put 16 = .ok (.iload_n 1, 1) := dk_27 (dk_at dksX3_put_0 16 rfl rfl)
theorem dX3_put_17 : decode cX3_put 17 = .ok (.aload_n 2, 1) := dk_44 (dk_at dksX3_put_0 17 rfl rfl)
theorem dX3_put_18 : decode cX3_put 18 = .ok (.getfield 34, 3) := dk_180 0 34 (dk_at dksX3_put_0 18 rfl rfl)
theorem dX3_put_21 : decode cX3_put 21 = .ok (.iload_n 3, 1) := dk_29 (dk_at dksX3_put_0 21 rfl rfl)
theorem dX3_put_22 : decode cX3_put 22 = .ok (.iaload, 1) := dk_46 (dk_at dksX3_put_0 22 rfl rfl)
theorem dX3_put_23 : decode cX3_put 23 = .ok (.iastore, 1) := dk_79 (dk_at dksX3_put_0 23 rfl rfl)
theorem dX3_put_24 : decode cX3_put 24 = .ok (.aload_n 0, 1) := dk_42 (dk_at dksX3_put_1 0 rfl rfl)
theorem dX3_put_25 : decode cX3_put 25 = .ok (.getfield 37, 3) := dk_180 0 37 (dk_at dksX3_put_1 1 rfl rfl)
theorem dX3_put_28 : decode cX3_put 28 = .ok (.iload_n 1, 1) := dk_27 (dk_at dksX3_put_1 4 rfl rfl)
theorem dX3_put_29 : decode cX3_put 29 = .ok (.aload_n 2, 1) := dk_44 (dk_at dksX3_put_1 5 rfl rfl)
theorem dX3_put_30 : decode cX3_put 30 = .ok (.getfield 37, 3) := dk_180 0 37 (dk_at dksX3_put_1 6 rfl rfl)
theorem dX3_put_33 : decode cX3_put 33 = .ok (.iload_n 3, 1) := dk_29 (dk_at dksX3_put_1 9 rfl rfl)
theorem dX3_put_34 : decode cX3_put 34 = .ok (.iaload, 1) := dk_46 (dk_at dksX3_put_1 10 rfl rfl)
theorem dX3_put_35 : decode cX3_put 35 = .ok (.iastore, 1) := dk_79 (dk_at dksX3_put_1 11 rfl rfl)
theorem dX3_put_36 : decode cX3_put 36 = .ok (.aload_n 0, 1) := dk_42 (dk_at dksX3_put_1 12 rfl rfl)
theorem dX3_put_37 : decode cX3_put 37 = .ok (.getfield 40, 3) := dk_180 0 40 (dk_at dksX3_put_1 13 rfl rfl)
theorem dX3_put_40 : decode cX3_put 40 = .ok (.iload_n 1, 1) := dk_27 (dk_at dksX3_put_1 16 rfl rfl)
theorem dX3_put_41 : decode cX3_put 41 = .ok (.aload_n 2, 1) := dk_44 (dk_at dksX3_put_1 17 rfl rfl)
theorem dX3_put_42 : decode cX3_put 42 = .ok (.getfield 40, 3) := dk_180 0 40 (dk_at dksX3_put_1 18 rfl rfl)
theorem dX3_put_45 : decode cX3_put 45 = .ok (.iload_n 3, 1) := dk_29 (dk_at dksX3_put_1 21 rfl rfl)
theorem dX3_put_46 : decode cX3_put 46 = .ok (.iaload, 1) := dk_46 (dk_at dksX3_put_1 22 rfl rfl)
theorem dX3_put_47 : decode cX3_put 47 = .ok (.iastore, 1) := dk_79 (dk_at dksX3_put_1 23 rfl rfl)
theorem dX3_put_48 : decode cX3_put 48 = .ok (.aload_n 0, 1) := dk_42 (dk_at dksX3_put_2 0 rfl rfl)
theorem dX3_put_49 : decode cX3_put 49 = .ok (.getfield 43, 3) := dk_180 0 43 (dk_at dksX3_put_2 1 rfl rfl)
theorem dX3_put_52 : decode cX3_put 52 = .ok (.iload_n 1, 1) := dk_27 (dk_at dksX3_put_2 4 rfl rfl)
theorem dX3_put_53 : decode cX3_put 53 = .ok (.aload_n 2, 1) := dk_44 (dk_at dksX3_put_2 5 rfl rfl)
theorem dX3_put_54 : decode cX3_put 54 = .ok (.getfield 43, 3) := dk_180 0 43 (dk_at dksX3_put_2 6 rfl rfl)
theorem dX3_put_57 : decode cX3_put 57 = .ok (.iload_n 3, 1) := dk_29 (dk_at dksX3_put_2 9 rfl rfl)
theorem dX3_put_58 : decode cX3_put 58 = .ok (.iaload, 1) := dk_46 (dk_at dksX3_put_2 10 rfl rfl)
theorem dX3_put_59 : decode cX3_put 59 = .ok (.iastore, 1) := dk_79 (dk_at dksX3_put_2 11 rfl rfl)
theorem dX3_put_60 : decode cX3_put 60 = .ok (.return_, 1) := dk_177 (dk_at dksX3_put_2 12 rfl rfl)
abbrev cX3_lie : ByteArray := prog_7_method_8_code
def yX3_lie : MethodName := ⟨RX3, "lie", "(IIIIII)V"⟩
def dkwX3_lie_4 : List UInt8 := [89, 180, 0, 50, 4, 96, 181, 0, 50, 177]
abbrev dktX3_lie_4 : List UInt8 := dkwX3_lie_4 ++ []
def dkwX3_lie_3 : List UInt8 := [21, 8, 21, 4, 79, 42, 180, 0, 40, 21, 8, 21, 5, 79, 42, 180, 0, 43, 21, 8, 21, 6, 79, 42]
abbrev dktX3_lie_3 : List UInt8 := dkwX3_lie_3 ++ dktX3_lie_4
def dkwX3_lie_2 : List UInt8 := [167, 255, 223, 42, 180, 0, 31, 21, 8, 21, 7, 79, 42, 180, 0, 34, 21, 8, 29, 79, 42, 180, 0, 37]
abbrev dktX3_lie_2 : List UInt8 := dkwX3_lie_2 ++ dktX3_lie_3
def dkwX3_lie_1 : List UInt8 := [21, 8, 4, 100, 46, 21, 7, 164, 0, 20, 42, 21, 8, 42, 21, 8, 4, 100, 182, 0, 53, 132, 8, 255]
abbrev dktX3_lie_1 : List UInt8 := dkwX3_lie_1 ++ dktX3_lie_2
def dkwX3_lie_0 : List UInt8 := [16, 8, 27, 104, 28, 96, 54, 7, 42, 180, 0, 50, 54, 8, 21, 8, 158, 0, 34, 42, 180, 0, 31]
abbrev dktX3_lie_0 : List UInt8 := dkwX3_lie_0 ++ dktX3_lie_1
theorem dksX3_lie_0 : cX3_lie.data.toList.drop 0 = dktX3_lie_0 := by decide +kernel
theorem dksX3_lie_1 : cX3_lie.data.toList.drop 23 = dktX3_lie_1 := dk_seg dksX3_lie_0 23 rfl rfl
theorem dksX3_lie_2 : cX3_lie.data.toList.drop 47 = dktX3_lie_2 := dk_seg dksX3_lie_1 24 rfl rfl
theorem dksX3_lie_3 : cX3_lie.data.toList.drop 71 = dktX3_lie_3 := dk_seg dksX3_lie_2 24 rfl rfl
theorem dksX3_lie_4 : cX3_lie.data.toList.drop 95 = dktX3_lie_4 := dk_seg dksX3_lie_3 24 rfl rfl
theorem dX3_lie_0 : decode cX3_lie 0 = .ok (.bipush 8, 2) := dk_16 8 (dk_at dksX3_lie_0 0 rfl rfl)
theorem dX3_lie_2 : decode cX3_lie 2 = .ok (.iload_n 1, 1) := dk_27 (dk_at dksX3_lie_0 2 rfl rfl)
theorem dX3_lie_3 : decode cX3_lie 3 = .ok (.imul, 1) := dk_104 (dk_at dksX3_lie_0 3 rfl rfl)
theorem dX3_lie_4 : decode cX3_lie 4 = .ok (.iload_n 2, 1) := dk_28 (dk_at dksX3_lie_0 4 rfl rfl)
theorem dX3_lie_5 : decode cX3_lie 5 = .ok (.iadd, 1) := dk_96 (dk_at dksX3_lie_0 5 rfl rfl)
theorem dX3_lie_6 : decode cX3_lie 6 = .ok (.istore 7, 2) := dk_54 7 (dk_at dksX3_lie_0 6 rfl rfl)
theorem dX3_lie_8 : decode cX3_lie 8 = .ok (.aload_n 0, 1) := dk_42 (dk_at dksX3_lie_0 8 rfl rfl)
theorem dX3_lie_9 : decode cX3_lie 9 = .ok (.getfield 50, 3) := dk_180 0 50 (dk_at dksX3_lie_0 9 rfl rfl)
theorem dX3_lie_12 : decode cX3_lie 12 = .ok (.istore 8, 2) := dk_54 8 (dk_at dksX3_lie_0 12 rfl rfl)
theorem dX3_lie_14 : decode cX3_lie 14 = .ok (.iload 8, 2) := dk_21 8 (dk_at dksX3_lie_0 14 rfl rfl)
theorem dX3_lie_16 : decode cX3_lie 16 = .ok (.ifCond .le 34, 3) := dk_158 0 34 (dk_at dksX3_lie_0 16 rfl rfl)
theorem dX3_lie_19 : decode cX3_lie 19 = .ok (.aload_n 0, 1) := dk_42 (dk_at dksX3_lie_0 19 rfl rfl)
theorem dX3_lie_20 : decode cX3_lie 20 = .ok (.getfield 31, 3) := dk_180 0 31 (dk_at dksX3_lie_0 20 rfl rfl)
theorem dX3_lie_23 : decode cX3_lie 23 = .ok (.iload 8, 2) := dk_21 8 (dk_at dksX3_lie_1 0 rfl rfl)
theorem dX3_lie_25 : decode cX3_lie 25 = .ok (.iconst 1, 1) := dk_4 (dk_at dksX3_lie_1 2 rfl rfl)
theorem dX3_lie_26 : decode cX3_lie 26 = .ok (.isub, 1) := dk_100 (dk_at dksX3_lie_1 3 rfl rfl)
theorem dX3_lie_27 : decode cX3_lie 27 = .ok (.iaload, 1) := dk_46 (dk_at dksX3_lie_1 4 rfl rfl)
theorem dX3_lie_28 : decode cX3_lie 28 = .ok (.iload 7, 2) := dk_21 7 (dk_at dksX3_lie_1 5 rfl rfl)
theorem dX3_lie_30 : decode cX3_lie 30 = .ok (.if_icmp .le 20, 3) := dk_164 0 20 (dk_at dksX3_lie_1 7 rfl rfl)
theorem dX3_lie_33 : decode cX3_lie 33 = .ok (.aload_n 0, 1) := dk_42 (dk_at dksX3_lie_1 10 rfl rfl)
theorem dX3_lie_34 : decode cX3_lie 34 = .ok (.iload 8, 2) := dk_21 8 (dk_at dksX3_lie_1 11 rfl rfl)
theorem dX3_lie_36 : decode cX3_lie 36 = .ok (.aload_n 0, 1) := dk_42 (dk_at dksX3_lie_1 13 rfl rfl)
theorem dX3_lie_37 : decode cX3_lie 37 = .ok (.iload 8, 2) := dk_21 8 (dk_at dksX3_lie_1 14 rfl rfl)
theorem dX3_lie_39 : decode cX3_lie 39 = .ok (.iconst 1, 1) := dk_4 (dk_at dksX3_lie_1 16 rfl rfl)
theorem dX3_lie_40 : decode cX3_lie 40 = .ok (.isub, 1) := dk_100 (dk_at dksX3_lie_1 17 rfl rfl)
theorem dX3_lie_41 : decode cX3_lie 41 = .ok (.invokevirtual 53, 3) := dk_182 0 53 (dk_at dksX3_lie_1 18 rfl rfl)
theorem dX3_lie_44 : decode cX3_lie 44 = .ok (.iinc 8 (-1), 3) := dk_132 8 255 (dk_at dksX3_lie_1 21 rfl rfl)
theorem dX3_lie_47 : decode cX3_lie 47 = .ok (.goto (-33), 3) := dk_167 255 223 (dk_at dksX3_lie_2 0 rfl rfl)
theorem dX3_lie_50 : decode cX3_lie 50 = .ok (.aload_n 0, 1) := dk_42 (dk_at dksX3_lie_2 3 rfl rfl)
theorem dX3_lie_51 : decode cX3_lie 51 = .ok (.getfield 31, 3) := dk_180 0 31 (dk_at dksX3_lie_2 4 rfl rfl)
theorem dX3_lie_54 : decode cX3_lie 54 = .ok (.iload 8, 2) := dk_21 8 (dk_at dksX3_lie_2 7 rfl rfl)
theorem dX3_lie_56 : decode cX3_lie 56 = .ok (.iload 7, 2) := dk_21 7 (dk_at dksX3_lie_2 9 rfl rfl)
theorem dX3_lie_58 : decode cX3_lie 58 = .ok (.iastore, 1) := dk_79 (dk_at dksX3_lie_2 11 rfl rfl)
theorem dX3_lie_59 : decode cX3_lie 59 = .ok (.aload_n 0, 1) := dk_42 (dk_at dksX3_lie_2 12 rfl rfl)
theorem dX3_lie_60 : decode cX3_lie 60 = .ok (.getfield 34, 3) := dk_180 0 34 (dk_at dksX3_lie_2 13 rfl rfl)
theorem dX3_lie_63 : decode cX3_lie 63 = .ok (.iload 8, 2) := dk_21 8 (dk_at dksX3_lie_2 16 rfl rfl)
theorem dX3_lie_65 : decode cX3_lie 65 = .ok (.iload_n 3, 1) := dk_29 (dk_at dksX3_lie_2 18 rfl rfl)
theorem dX3_lie_66 : decode cX3_lie 66 = .ok (.iastore, 1) := dk_79 (dk_at dksX3_lie_2 19 rfl rfl)
theorem dX3_lie_67 : decode cX3_lie 67 = .ok (.aload_n 0, 1) := dk_42 (dk_at dksX3_lie_2 20 rfl rfl)
theorem dX3_lie_68 : decode cX3_lie 68 = .ok (.getfield 37, 3) := dk_180 0 37 (dk_at dksX3_lie_2 21 rfl rfl)
theorem dX3_lie_71 : decode cX3_lie 71 = .ok (.iload 8, 2) := dk_21 8 (dk_at dksX3_lie_3 0 rfl rfl)
theorem dX3_lie_73 : decode cX3_lie 73 = .ok (.iload 4, 2) := dk_21 4 (dk_at dksX3_lie_3 2 rfl rfl)
theorem dX3_lie_75 : decode cX3_lie 75 = .ok (.iastore, 1) := dk_79 (dk_at dksX3_lie_3 4 rfl rfl)
theorem dX3_lie_76 : decode cX3_lie 76 = .ok (.aload_n 0, 1) := dk_42 (dk_at dksX3_lie_3 5 rfl rfl)
theorem dX3_lie_77 : decode cX3_lie 77 = .ok (.getfield 40, 3) := dk_180 0 40 (dk_at dksX3_lie_3 6 rfl rfl)
theorem dX3_lie_80 : decode cX3_lie 80 = .ok (.iload 8, 2) := dk_21 8 (dk_at dksX3_lie_3 9 rfl rfl)
theorem dX3_lie_82 : decode cX3_lie 82 = .ok (.iload 5, 2) := dk_21 5 (dk_at dksX3_lie_3 11 rfl rfl)
theorem dX3_lie_84 : decode cX3_lie 84 = .ok (.iastore, 1) := dk_79 (dk_at dksX3_lie_3 13 rfl rfl)
theorem dX3_lie_85 : decode cX3_lie 85 = .ok (.aload_n 0, 1) := dk_42 (dk_at dksX3_lie_3 14 rfl rfl)
theorem dX3_lie_86 : decode cX3_lie 86 = .ok (.getfield 43, 3) := dk_180 0 43 (dk_at dksX3_lie_3 15 rfl rfl)
theorem dX3_lie_89 : decode cX3_lie 89 = .ok (.iload 8, 2) := dk_21 8 (dk_at dksX3_lie_3 18 rfl rfl)
theorem dX3_lie_91 : decode cX3_lie 91 = .ok (.iload 6, 2) := dk_21 6 (dk_at dksX3_lie_3 20 rfl rfl)
theorem dX3_lie_93 : decode cX3_lie 93 = .ok (.iastore, 1) := dk_79 (dk_at dksX3_lie_3 22 rfl rfl)
theorem dX3_lie_94 : decode cX3_lie 94 = .ok (.aload_n 0, 1) := dk_42 (dk_at dksX3_lie_3 23 rfl rfl)
theorem dX3_lie_95 : decode cX3_lie 95 = .ok (.dup, 1) := dk_89 (dk_at dksX3_lie_4 0 rfl rfl)
theorem dX3_lie_96 : decode cX3_lie 96 = .ok (.getfield 50, 3) := dk_180 0 50 (dk_at dksX3_lie_4 1 rfl rfl)
theorem dX3_lie_99 : decode cX3_lie 99 = .ok (.iconst 1, 1) := dk_4 (dk_at dksX3_lie_4 4 rfl rfl)
theorem dX3_lie_100 : decode cX3_lie 100 = .ok (.iadd, 1) := dk_96 (dk_at dksX3_lie_4 5 rfl rfl)
theorem dX3_lie_101 : decode cX3_lie 101 = .ok (.putfield 50, 3) := dk_181 0 50 (dk_at dksX3_lie_4 6 rfl rfl)
theorem dX3_lie_104 : decode cX3_lie 104 = .ok (.return_, 1) := dk_177 (dk_at dksX3_lie_4 9 rfl rfl)
abbrev cX3_takeOut : ByteArray := prog_7_method_10_code
def yX3_takeOut : MethodName := ⟨RX3, "takeOut", "(I)V"⟩
def dkwX3_takeOut_1 : List UInt8 := [4, 96, 182, 0, 53, 132, 2, 1, 167, 255, 236, 177]
abbrev dktX3_takeOut_1 : List UInt8 := dkwX3_takeOut_1 ++ []
def dkwX3_takeOut_0 : List UInt8 := [42, 89, 180, 0, 50, 4, 100, 181, 0, 50, 27, 61, 28, 42, 180, 0, 50, 162, 0, 18, 42, 28, 42, 28]
abbrev dktX3_takeOut_0 : List UInt8 := dkwX3_takeOut_0 ++ dktX3_takeOut_1
theorem dksX3_takeOut_0 : cX3_takeOut.data.toList.drop 0 = dktX3_takeOut_0 := by decide +kernel
theorem dksX3_takeOut_1 : cX3_takeOut.data.toList.drop 24 = dktX3_takeOut_1 := dk_seg dksX3_takeOut_0 24 rfl rfl
theorem dX3_takeOut_0 : decode cX3_takeOut 0 = .ok (.aload_n 0, 1) := dk_42 (dk_at dksX3_takeOut_0 0 rfl rfl)
theorem dX3_takeOut_1 : decode cX3_takeOut 1 = .ok (.dup, 1) := dk_89 (dk_at dksX3_takeOut_0 1 rfl rfl)
theorem dX3_takeOut_2 : decode cX3_takeOut 2 = .ok (.getfield 50, 3) := dk_180 0 50 (dk_at dksX3_takeOut_0 2 rfl rfl)
theorem dX3_takeOut_5 : decode cX3_takeOut 5 = .ok (.iconst 1, 1) := dk_4 (dk_at dksX3_takeOut_0 5 rfl rfl)
theorem dX3_takeOut_6 : decode cX3_takeOut 6 = .ok (.isub, 1) := dk_100 (dk_at dksX3_takeOut_0 6 rfl rfl)
theorem dX3_takeOut_7 : decode cX3_takeOut 7 = .ok (.putfield 50, 3) := dk_181 0 50 (dk_at dksX3_takeOut_0 7 rfl rfl)
theorem dX3_takeOut_10 : decode cX3_takeOut 10 = .ok (.iload_n 1, 1) := dk_27 (dk_at dksX3_takeOut_0 10 rfl rfl)
theorem dX3_takeOut_11 : decode cX3_takeOut 11 = .ok (.istore_n 2, 1) := dk_61 (dk_at dksX3_takeOut_0 11 rfl rfl)
theorem dX3_takeOut_12 : decode cX3_takeOut 12 = .ok (.iload_n 2, 1) := dk_28 (dk_at dksX3_takeOut_0 12 rfl rfl)
theorem dX3_takeOut_13 : decode cX3_takeOut 13 = .ok (.aload_n 0, 1) := dk_42 (dk_at dksX3_takeOut_0 13 rfl rfl)
theorem dX3_takeOut_14 : decode cX3_takeOut 14 = .ok (.getfield 50, 3) := dk_180 0 50 (dk_at dksX3_takeOut_0 14 rfl rfl)
theorem dX3_takeOut_17 : decode cX3_takeOut 17 = .ok (.if_icmp .ge 18, 3) := dk_162 0 18 (dk_at dksX3_takeOut_0 17 rfl rfl)
theorem dX3_takeOut_20 : decode cX3_takeOut 20 = .ok (.aload_n 0, 1) := dk_42 (dk_at dksX3_takeOut_0 20 rfl rfl)
theorem dX3_takeOut_21 : decode cX3_takeOut 21 = .ok (.iload_n 2, 1) := dk_28 (dk_at dksX3_takeOut_0 21 rfl rfl)
theorem dX3_takeOut_22 : decode cX3_takeOut 22 = .ok (.aload_n 0, 1) := dk_42 (dk_at dksX3_takeOut_0 22 rfl rfl)
theorem dX3_takeOut_23 : decode cX3_takeOut 23 = .ok (.iload_n 2, 1) := dk_28 (dk_at dksX3_takeOut_0 23 rfl rfl)
theorem dX3_takeOut_24 : decode cX3_takeOut 24 = .ok (.iconst 1, 1) := dk_4 (dk_at dksX3_takeOut_1 0 rfl rfl)
theorem dX3_takeOut_25 : decode cX3_takeOut 25 = .ok (.iadd, 1) := dk_96 (dk_at dksX3_takeOut_1 1 rfl rfl)
theorem dX3_takeOut_26 : decode cX3_takeOut 26 = .ok (.invokevirtual 53, 3) := dk_182 0 53 (dk_at dksX3_takeOut_1 2 rfl rfl)
theorem dX3_takeOut_29 : decode cX3_takeOut 29 = .ok (.iinc 2 1, 3) := dk_132 2 1 (dk_at dksX3_takeOut_1 5 rfl rfl)
theorem dX3_takeOut_32 : decode cX3_takeOut 32 = .ok (.goto (-20), 3) := dk_167 255 236 (dk_at dksX3_takeOut_1 8 rfl rfl)
theorem dX3_takeOut_35 : decode cX3_takeOut 35 = .ok (.return_, 1) := dk_177 (dk_at dksX3_takeOut_1 11 rfl rfl)
abbrev cX3_isLike : ByteArray := prog_7_method_5_code
def yX3_isLike : MethodName := ⟨RX3, "isLike", "(LSendHall$Life;)Z"⟩
def dkwX3_isLike_9 : List UInt8 := [132, 2, 1, 167, 255, 183, 4, 172]
abbrev dktX3_isLike_9 : List UInt8 := dkwX3_isLike_9 ++ []
def dkwX3_isLike_8 : List UInt8 := [28, 46, 160, 0, 18, 42, 180, 0, 40, 28, 46, 43, 180, 0, 40, 28, 46, 159, 0, 5, 3, 172]
abbrev dktX3_isLike_8 : List UInt8 := dkwX3_isLike_8 ++ dktX3_isLike_9
def dkwX3_isLike_7 : List UInt8 := [180, 0, 34, 28, 46, 43, 180, 0, 34, 28, 46, 160, 0, 33, 42, 180, 0, 37, 28, 46, 43, 180, 0, 37]
abbrev dktX3_isLike_7 : List UInt8 := dkwX3_isLike_7 ++ dktX3_isLike_8
def dkwX3_isLike_6 : List UInt8 := [28, 42, 180, 0, 50, 162, 0, 71, 42, 180, 0, 31, 28, 46, 43, 180, 0, 31, 28, 46, 160, 0, 48, 42]
abbrev dktX3_isLike_6 : List UInt8 := dkwX3_isLike_6 ++ dktX3_isLike_7
def dkwX3_isLike_5 : List UInt8 := [28, 104, 29, 96, 46, 159, 0, 5, 3, 172, 132, 3, 1, 167, 255, 223, 132, 2, 1, 167, 255, 145, 3, 61]
abbrev dktX3_isLike_5 : List UInt8 := dkwX3_isLike_5 ++ dktX3_isLike_6
def dkwX3_isLike_4 : List UInt8 := [3, 172, 3, 62, 29, 7, 162, 0, 34, 42, 180, 0, 21, 7, 28, 104, 29, 96, 46, 43, 180, 0, 21, 7]
abbrev dktX3_isLike_4 : List UInt8 := dkwX3_isLike_4 ++ dktX3_isLike_5
def dkwX3_isLike_3 : List UInt8 := [43, 180, 0, 25, 28, 46, 160, 0, 18, 42, 180, 0, 28, 28, 46, 43, 180, 0, 28, 28, 46, 159, 0, 5]
abbrev dktX3_isLike_3 : List UInt8 := dkwX3_isLike_3 ++ dktX3_isLike_4
def dkwX3_isLike_2 : List UInt8 := [166, 0, 48, 42, 180, 0, 17, 28, 51, 43, 180, 0, 17, 28, 51, 160, 0, 33, 42, 180, 0, 25, 28, 46]
abbrev dktX3_isLike_2 : List UInt8 := dkwX3_isLike_2 ++ dktX3_isLike_3
def dkwX3_isLike_1 : List UInt8 := [3, 61, 28, 42, 180, 0, 46, 162, 0, 109, 42, 180, 0, 11, 28, 50, 43, 180, 0, 11, 28, 50]
abbrev dktX3_isLike_1 : List UInt8 := dkwX3_isLike_1 ++ dktX3_isLike_2
def dkwX3_isLike_0 : List UInt8 := [42, 180, 0, 60, 43, 180, 0, 60, 160, 0, 14, 42, 180, 0, 50, 43, 180, 0, 50, 159, 0, 5, 3, 172]
abbrev dktX3_isLike_0 : List UInt8 := dkwX3_isLike_0 ++ dktX3_isLike_1
theorem dksX3_isLike_0 : cX3_isLike.data.toList.drop 0 = dktX3_isLike_0 := by decide +kernel
theorem dksX3_isLike_1 : cX3_isLike.data.toList.drop 24 = dktX3_isLike_1 := dk_seg dksX3_isLike_0 24 rfl rfl
theorem dksX3_isLike_2 : cX3_isLike.data.toList.drop 46 = dktX3_isLike_2 := dk_seg dksX3_isLike_1 22 rfl rfl
theorem dksX3_isLike_3 : cX3_isLike.data.toList.drop 70 = dktX3_isLike_3 := dk_seg dksX3_isLike_2 24 rfl rfl
theorem dksX3_isLike_4 : cX3_isLike.data.toList.drop 94 = dktX3_isLike_4 := dk_seg dksX3_isLike_3 24 rfl rfl
theorem dksX3_isLike_5 : cX3_isLike.data.toList.drop 118 = dktX3_isLike_5 := dk_seg dksX3_isLike_4 24 rfl rfl
theorem dksX3_isLike_6 : cX3_isLike.data.toList.drop 142 = dktX3_isLike_6 := dk_seg dksX3_isLike_5 24 rfl rfl
theorem dksX3_isLike_7 : cX3_isLike.data.toList.drop 166 = dktX3_isLike_7 := dk_seg dksX3_isLike_6 24 rfl rfl
theorem dksX3_isLike_8 : cX3_isLike.data.toList.drop 190 = dktX3_isLike_8 := dk_seg dksX3_isLike_7 24 rfl rfl
theorem dksX3_isLike_9 : cX3_isLike.data.toList.drop 212 = dktX3_isLike_9 := dk_seg dksX3_isLike_8 22 rfl rfl
theorem dX3_isLike_0 : decode cX3_isLike 0 = .ok (.aload_n 0, 1) := dk_42 (dk_at dksX3_isLike_0 0 rfl rfl)
theorem dX3_isLike_1 : decode cX3_isLike 1 = .ok (.getfield 60, 3) := dk_180 0 60 (dk_at dksX3_isLike_0 1 rfl rfl)
theorem dX3_isLike_4 : decode cX3_isLike 4 = .ok (.aload_n 1, 1) := dk_43 (dk_at dksX3_isLike_0 4 rfl rfl)
theorem dX3_isLike_5 : decode cX3_isLike 5 = .ok (.getfield 60, 3) := dk_180 0 60 (dk_at dksX3_isLike_0 5 rfl rfl)
theorem dX3_isLike_8 : decode cX3_isLike 8 = .ok (.if_icmp .ne 14, 3) := dk_160 0 14 (dk_at dksX3_isLike_0 8 rfl rfl)
theorem dX3_isLike_11 : decode cX3_isLike 11 = .ok (.aload_n 0, 1) := dk_42 (dk_at dksX3_isLike_0 11 rfl rfl)
theorem dX3_isLike_12 : decode cX3_isLike 12 = .ok (.getfield 50, 3) := dk_180 0 50 (dk_at dksX3_isLike_0 12 rfl rfl)
theorem dX3_isLike_15 : decode cX3_isLike 15 = .ok (.aload_n 1, 1) := dk_43 (dk_at dksX3_isLike_0 15 rfl rfl)
theorem dX3_isLike_16 : decode cX3_isLike 16 = .ok (.getfield 50, 3) := dk_180 0 50 (dk_at dksX3_isLike_0 16 rfl rfl)
theorem dX3_isLike_19 : decode cX3_isLike 19 = .ok (.if_icmp .eq 5, 3) := dk_159 0 5 (dk_at dksX3_isLike_0 19 rfl rfl)
theorem dX3_isLike_22 : decode cX3_isLike 22 = .ok (.iconst 0, 1) := dk_3 (dk_at dksX3_isLike_0 22 rfl rfl)
theorem dX3_isLike_23 : decode cX3_isLike 23 = .ok (.ireturn, 1) := dk_172 (dk_at dksX3_isLike_0 23 rfl rfl)
theorem dX3_isLike_24 : decode cX3_isLike 24 = .ok (.iconst 0, 1) := dk_3 (dk_at dksX3_isLike_1 0 rfl rfl)
theorem dX3_isLike_25 : decode cX3_isLike 25 = .ok (.istore_n 2, 1) := dk_61 (dk_at dksX3_isLike_1 1 rfl rfl)
theorem dX3_isLike_26 : decode cX3_isLike 26 = .ok (.iload_n 2, 1) := dk_28 (dk_at dksX3_isLike_1 2 rfl rfl)
theorem dX3_isLike_27 : decode cX3_isLike 27 = .ok (.aload_n 0, 1) := dk_42 (dk_at dksX3_isLike_1 3 rfl rfl)
theorem dX3_isLike_28 : decode cX3_isLike 28 = .ok (.getfield 46, 3) := dk_180 0 46 (dk_at dksX3_isLike_1 4 rfl rfl)
theorem dX3_isLike_31 : decode cX3_isLike 31 = .ok (.if_icmp .ge 109, 3) := dk_162 0 109 (dk_at dksX3_isLike_1 7 rfl rfl)
theorem dX3_isLike_34 : decode cX3_isLike 34 = .ok (.aload_n 0, 1) := dk_42 (dk_at dksX3_isLike_1 10 rfl rfl)
theorem dX3_isLike_35 : decode cX3_isLike 35 = .ok (.getfield 11, 3) := dk_180 0 11 (dk_at dksX3_isLike_1 11 rfl rfl)
theorem dX3_isLike_38 : decode cX3_isLike 38 = .ok (.iload_n 2, 1) := dk_28 (dk_at dksX3_isLike_1 14 rfl rfl)
theorem dX3_isLike_39 : decode cX3_isLike 39 = .ok (.aaload, 1) := dk_50 (dk_at dksX3_isLike_1 15 rfl rfl)
theorem dX3_isLike_40 : decode cX3_isLike 40 = .ok (.aload_n 1, 1) := dk_43 (dk_at dksX3_isLike_1 16 rfl rfl)
theorem dX3_isLike_41 : decode cX3_isLike 41 = .ok (.getfield 11, 3) := dk_180 0 11 (dk_at dksX3_isLike_1 17 rfl rfl)
theorem dX3_isLike_44 : decode cX3_isLike 44 = .ok (.iload_n 2, 1) := dk_28 (dk_at dksX3_isLike_1 20 rfl rfl)
theorem dX3_isLike_45 : decode cX3_isLike 45 = .ok (.aaload, 1) := dk_50 (dk_at dksX3_isLike_1 21 rfl rfl)
theorem dX3_isLike_46 : decode cX3_isLike 46 = .ok (.if_acmp .ne 48, 3) := dk_166 0 48 (dk_at dksX3_isLike_2 0 rfl rfl)
theorem dX3_isLike_49 : decode cX3_isLike 49 = .ok (.aload_n 0, 1) := dk_42 (dk_at dksX3_isLike_2 3 rfl rfl)
theorem dX3_isLike_50 : decode cX3_isLike 50 = .ok (.getfield 17, 3) := dk_180 0 17 (dk_at dksX3_isLike_2 4 rfl rfl)
theorem dX3_isLike_53 : decode cX3_isLike 53 = .ok (.iload_n 2, 1) := dk_28 (dk_at dksX3_isLike_2 7 rfl rfl)
theorem dX3_isLike_54 : decode cX3_isLike 54 = .ok (.baload, 1) := dk_51 (dk_at dksX3_isLike_2 8 rfl rfl)
theorem dX3_isLike_55 : decode cX3_isLike 55 = .ok (.aload_n 1, 1) := dk_43 (dk_at dksX3_isLike_2 9 rfl rfl)
theorem dX3_isLike_56 : decode cX3_isLike 56 = .ok (.getfield 17, 3) := dk_180 0 17 (dk_at dksX3_isLike_2 10 rfl rfl)
theorem dX3_isLike_59 : decode cX3_isLike 59 = .ok (.iload_n 2, 1) := dk_28 (dk_at dksX3_isLike_2 13 rfl rfl)
theorem dX3_isLike_60 : decode cX3_isLike 60 = .ok (.baload, 1) := dk_51 (dk_at dksX3_isLike_2 14 rfl rfl)
theorem dX3_isLike_61 : decode cX3_isLike 61 = .ok (.if_icmp .ne 33, 3) := dk_160 0 33 (dk_at dksX3_isLike_2 15 rfl rfl)
theorem dX3_isLike_64 : decode cX3_isLike 64 = .ok (.aload_n 0, 1) := dk_42 (dk_at dksX3_isLike_2 18 rfl rfl)
theorem dX3_isLike_65 : decode cX3_isLike 65 = .ok (.getfield 25, 3) := dk_180 0 25 (dk_at dksX3_isLike_2 19 rfl rfl)
theorem dX3_isLike_68 : decode cX3_isLike 68 = .ok (.iload_n 2, 1) := dk_28 (dk_at dksX3_isLike_2 22 rfl rfl)
theorem dX3_isLike_69 : decode cX3_isLike 69 = .ok (.iaload, 1) := dk_46 (dk_at dksX3_isLike_2 23 rfl rfl)
theorem dX3_isLike_70 : decode cX3_isLike 70 = .ok (.aload_n 1, 1) := dk_43 (dk_at dksX3_isLike_3 0 rfl rfl)
theorem dX3_isLike_71 : decode cX3_isLike 71 = .ok (.getfield 25, 3) := dk_180 0 25 (dk_at dksX3_isLike_3 1 rfl rfl)
theorem dX3_isLike_74 : decode cX3_isLike 74 = .ok (.iload_n 2, 1) := dk_28 (dk_at dksX3_isLike_3 4 rfl rfl)
theorem dX3_isLike_75 : decode cX3_isLike 75 = .ok (.iaload, 1) := dk_46 (dk_at dksX3_isLike_3 5 rfl rfl)
theorem dX3_isLike_76 : decode cX3_isLike 76 = .ok (.if_icmp .ne 18, 3) := dk_160 0 18 (dk_at dksX3_isLike_3 6 rfl rfl)
theorem dX3_isLike_79 : decode cX3_isLike 79 = .ok (.aload_n 0, 1) := dk_42 (dk_at dksX3_isLike_3 9 rfl rfl)
theorem dX3_isLike_80 : decode cX3_isLike 80 = .ok (.getfield 28, 3) := dk_180 0 28 (dk_at dksX3_isLike_3 10 rfl rfl)
theorem dX3_isLike_83 : decode cX3_isLike 83 = .ok (.iload_n 2, 1) := dk_28 (dk_at dksX3_isLike_3 13 rfl rfl)
theorem dX3_isLike_84 : decode cX3_isLike 84 = .ok (.iaload, 1) := dk_46 (dk_at dksX3_isLike_3 14 rfl rfl)
theorem dX3_isLike_85 : decode cX3_isLike 85 = .ok (.aload_n 1, 1) := dk_43 (dk_at dksX3_isLike_3 15 rfl rfl)
theorem dX3_isLike_86 : decode cX3_isLike 86 = .ok (.getfield 28, 3) := dk_180 0 28 (dk_at dksX3_isLike_3 16 rfl rfl)
theorem dX3_isLike_89 : decode cX3_isLike 89 = .ok (.iload_n 2, 1) := dk_28 (dk_at dksX3_isLike_3 19 rfl rfl)
theorem dX3_isLike_90 : decode cX3_isLike 90 = .ok (.iaload, 1) := dk_46 (dk_at dksX3_isLike_3 20 rfl rfl)
theorem dX3_isLike_91 : decode cX3_isLike 91 = .ok (.if_icmp .eq 5, 3) := dk_159 0 5 (dk_at dksX3_isLike_3 21 rfl rfl)
theorem dX3_isLike_94 : decode cX3_isLike 94 = .ok (.iconst 0, 1) := dk_3 (dk_at dksX3_isLike_4 0 rfl rfl)
theorem dX3_isLike_95 : decode cX3_isLike 95 = .ok (.ireturn, 1) := dk_172 (dk_at dksX3_isLike_4 1 rfl rfl)
theorem dX3_isLike_96 : decode cX3_isLike 96 = .ok (.iconst 0, 1) := dk_3 (dk_at dksX3_isLike_4 2 rfl rfl)
theorem dX3_isLike_97 : decode cX3_isLike 97 = .ok (.istore_n 3, 1) := dk_62 (dk_at dksX3_isLike_4 3 rfl rfl)
theorem dX3_isLike_98 : decode cX3_isLike 98 = .ok (.iload_n 3, 1) := dk_29 (dk_at dksX3_isLike_4 4 rfl rfl)
theorem dX3_isLike_99 : decode cX3_isLike 99 = .ok (.iconst 4, 1) := dk_7 (dk_at dksX3_isLike_4 5 rfl rfl)
theorem dX3_isLike_100 : decode cX3_isLike 100 = .ok (.if_icmp .ge 34, 3) := dk_162 0 34 (dk_at dksX3_isLike_4 6 rfl rfl)
theorem dX3_isLike_103 : decode cX3_isLike 103 = .ok (.aload_n 0, 1) := dk_42 (dk_at dksX3_isLike_4 9 rfl rfl)
theorem dX3_isLike_104 : decode cX3_isLike 104 = .ok (.getfield 21, 3) := dk_180 0 21 (dk_at dksX3_isLike_4 10 rfl rfl)
theorem dX3_isLike_107 : decode cX3_isLike 107 = .ok (.iconst 4, 1) := dk_7 (dk_at dksX3_isLike_4 13 rfl rfl)
theorem dX3_isLike_108 : decode cX3_isLike 108 = .ok (.iload_n 2, 1) := dk_28 (dk_at dksX3_isLike_4 14 rfl rfl)
theorem dX3_isLike_109 : decode cX3_isLike 109 = .ok (.imul, 1) := dk_104 (dk_at dksX3_isLike_4 15 rfl rfl)
theorem dX3_isLike_110 : decode cX3_isLike 110 = .ok (.iload_n 3, 1) := dk_29 (dk_at dksX3_isLike_4 16 rfl rfl)
theorem dX3_isLike_111 : decode cX3_isLike 111 = .ok (.iadd, 1) := dk_96 (dk_at dksX3_isLike_4 17 rfl rfl)
theorem dX3_isLike_112 : decode cX3_isLike 112 = .ok (.iaload, 1) := dk_46 (dk_at dksX3_isLike_4 18 rfl rfl)
theorem dX3_isLike_113 : decode cX3_isLike 113 = .ok (.aload_n 1, 1) := dk_43 (dk_at dksX3_isLike_4 19 rfl rfl)
theorem dX3_isLike_114 : decode cX3_isLike 114 = .ok (.getfield 21, 3) := dk_180 0 21 (dk_at dksX3_isLike_4 20 rfl rfl)
theorem dX3_isLike_117 : decode cX3_isLike 117 = .ok (.iconst 4, 1) := dk_7 (dk_at dksX3_isLike_4 23 rfl rfl)
theorem dX3_isLike_118 : decode cX3_isLike 118 = .ok (.iload_n 2, 1) := dk_28 (dk_at dksX3_isLike_5 0 rfl rfl)
theorem dX3_isLike_119 : decode cX3_isLike 119 = .ok (.imul, 1) := dk_104 (dk_at dksX3_isLike_5 1 rfl rfl)
theorem dX3_isLike_120 : decode cX3_isLike 120 = .ok (.iload_n 3, 1) := dk_29 (dk_at dksX3_isLike_5 2 rfl rfl)
theorem dX3_isLike_121 : decode cX3_isLike 121 = .ok (.iadd, 1) := dk_96 (dk_at dksX3_isLike_5 3 rfl rfl)
theorem dX3_isLike_122 : decode cX3_isLike 122 = .ok (.iaload, 1) := dk_46 (dk_at dksX3_isLike_5 4 rfl rfl)
theorem dX3_isLike_123 : decode cX3_isLike 123 = .ok (.if_icmp .eq 5, 3) := dk_159 0 5 (dk_at dksX3_isLike_5 5 rfl rfl)
theorem dX3_isLike_126 : decode cX3_isLike 126 = .ok (.iconst 0, 1) := dk_3 (dk_at dksX3_isLike_5 8 rfl rfl)
theorem dX3_isLike_127 : decode cX3_isLike 127 = .ok (.ireturn, 1) := dk_172 (dk_at dksX3_isLike_5 9 rfl rfl)
theorem dX3_isLike_128 : decode cX3_isLike 128 = .ok (.iinc 3 1, 3) := dk_132 3 1 (dk_at dksX3_isLike_5 10 rfl rfl)
theorem dX3_isLike_131 : decode cX3_isLike 131 = .ok (.goto (-33), 3) := dk_167 255 223 (dk_at dksX3_isLike_5 13 rfl rfl)
theorem dX3_isLike_134 : decode cX3_isLike 134 = .ok (.iinc 2 1, 3) := dk_132 2 1 (dk_at dksX3_isLike_5 16 rfl rfl)
theorem dX3_isLike_137 : decode cX3_isLike 137 = .ok (.goto (-111), 3) := dk_167 255 145 (dk_at dksX3_isLike_5 19 rfl rfl)
theorem dX3_isLike_140 : decode cX3_isLike 140 = .ok (.iconst 0, 1) := dk_3 (dk_at dksX3_isLike_5 22 rfl rfl)
theorem dX3_isLike_141 : decode cX3_isLike 141 = .ok (.istore_n 2, 1) := dk_61 (dk_at dksX3_isLike_5 23 rfl rfl)
theorem dX3_isLike_142 : decode cX3_isLike 142 = .ok (.iload_n 2, 1) := dk_28 (dk_at dksX3_isLike_6 0 rfl rfl)
theorem dX3_isLike_143 : decode cX3_isLike 143 = .ok (.aload_n 0, 1) := dk_42 (dk_at dksX3_isLike_6 1 rfl rfl)
theorem dX3_isLike_144 : decode cX3_isLike 144 = .ok (.getfield 50, 3) := dk_180 0 50 (dk_at dksX3_isLike_6 2 rfl rfl)
theorem dX3_isLike_147 : decode cX3_isLike 147 = .ok (.if_icmp .ge 71, 3) := dk_162 0 71 (dk_at dksX3_isLike_6 5 rfl rfl)
theorem dX3_isLike_150 : decode cX3_isLike 150 = .ok (.aload_n 0, 1) := dk_42 (dk_at dksX3_isLike_6 8 rfl rfl)
theorem dX3_isLike_151 : decode cX3_isLike 151 = .ok (.getfield 31, 3) := dk_180 0 31 (dk_at dksX3_isLike_6 9 rfl rfl)
theorem dX3_isLike_154 : decode cX3_isLike 154 = .ok (.iload_n 2, 1) := dk_28 (dk_at dksX3_isLike_6 12 rfl rfl)
theorem dX3_isLike_155 : decode cX3_isLike 155 = .ok (.iaload, 1) := dk_46 (dk_at dksX3_isLike_6 13 rfl rfl)
theorem dX3_isLike_156 : decode cX3_isLike 156 = .ok (.aload_n 1, 1) := dk_43 (dk_at dksX3_isLike_6 14 rfl rfl)
theorem dX3_isLike_157 : decode cX3_isLike 157 = .ok (.getfield 31, 3) := dk_180 0 31 (dk_at dksX3_isLike_6 15 rfl rfl)
theorem dX3_isLike_160 : decode cX3_isLike 160 = .ok (.iload_n 2, 1) := dk_28 (dk_at dksX3_isLike_6 18 rfl rfl)
theorem dX3_isLike_161 : decode cX3_isLike 161 = .ok (.iaload, 1) := dk_46 (dk_at dksX3_isLike_6 19 rfl rfl)
theorem dX3_isLike_162 : decode cX3_isLike 162 = .ok (.if_icmp .ne 48, 3) := dk_160 0 48 (dk_at dksX3_isLike_6 20 rfl rfl)
theorem dX3_isLike_165 : decode cX3_isLike 165 = .ok (.aload_n 0, 1) := dk_42 (dk_at dksX3_isLike_6 23 rfl rfl)
theorem dX3_isLike_166 : decode cX3_isLike 166 = .ok (.getfield 34, 3) := dk_180 0 34 (dk_at dksX3_isLike_7 0 rfl rfl)
theorem dX3_isLike_169 : decode cX3_isLike 169 = .ok (.iload_n 2, 1) := dk_28 (dk_at dksX3_isLike_7 3 rfl rfl)
theorem dX3_isLike_170 : decode cX3_isLike 170 = .ok (.iaload, 1) := dk_46 (dk_at dksX3_isLike_7 4 rfl rfl)
theorem dX3_isLike_171 : decode cX3_isLike 171 = .ok (.aload_n 1, 1) := dk_43 (dk_at dksX3_isLike_7 5 rfl rfl)
theorem dX3_isLike_172 : decode cX3_isLike 172 = .ok (.getfield 34, 3) := dk_180 0 34 (dk_at dksX3_isLike_7 6 rfl rfl)
theorem dX3_isLike_175 : decode cX3_isLike 175 = .ok (.iload_n 2, 1) := dk_28 (dk_at dksX3_isLike_7 9 rfl rfl)
theorem dX3_isLike_176 : decode cX3_isLike 176 = .ok (.iaload, 1) := dk_46 (dk_at dksX3_isLike_7 10 rfl rfl)
theorem dX3_isLike_177 : decode cX3_isLike 177 = .ok (.if_icmp .ne 33, 3) := dk_160 0 33 (dk_at dksX3_isLike_7 11 rfl rfl)
theorem dX3_isLike_180 : decode cX3_isLike 180 = .ok (.aload_n 0, 1) := dk_42 (dk_at dksX3_isLike_7 14 rfl rfl)
theorem dX3_isLike_181 : decode cX3_isLike 181 = .ok (.getfield 37, 3) := dk_180 0 37 (dk_at dksX3_isLike_7 15 rfl rfl)
theorem dX3_isLike_184 : decode cX3_isLike 184 = .ok (.iload_n 2, 1) := dk_28 (dk_at dksX3_isLike_7 18 rfl rfl)
theorem dX3_isLike_185 : decode cX3_isLike 185 = .ok (.iaload, 1) := dk_46 (dk_at dksX3_isLike_7 19 rfl rfl)
theorem dX3_isLike_186 : decode cX3_isLike 186 = .ok (.aload_n 1, 1) := dk_43 (dk_at dksX3_isLike_7 20 rfl rfl)
theorem dX3_isLike_187 : decode cX3_isLike 187 = .ok (.getfield 37, 3) := dk_180 0 37 (dk_at dksX3_isLike_7 21 rfl rfl)
theorem dX3_isLike_190 : decode cX3_isLike 190 = .ok (.iload_n 2, 1) := dk_28 (dk_at dksX3_isLike_8 0 rfl rfl)
theorem dX3_isLike_191 : decode cX3_isLike 191 = .ok (.iaload, 1) := dk_46 (dk_at dksX3_isLike_8 1 rfl rfl)
theorem dX3_isLike_192 : decode cX3_isLike 192 = .ok (.if_icmp .ne 18, 3) := dk_160 0 18 (dk_at dksX3_isLike_8 2 rfl rfl)
theorem dX3_isLike_195 : decode cX3_isLike 195 = .ok (.aload_n 0, 1) := dk_42 (dk_at dksX3_isLike_8 5 rfl rfl)
theorem dX3_isLike_196 : decode cX3_isLike 196 = .ok (.getfield 40, 3) := dk_180 0 40 (dk_at dksX3_isLike_8 6 rfl rfl)
theorem dX3_isLike_199 : decode cX3_isLike 199 = .ok (.iload_n 2, 1) := dk_28 (dk_at dksX3_isLike_8 9 rfl rfl)
theorem dX3_isLike_200 : decode cX3_isLike 200 = .ok (.iaload, 1) := dk_46 (dk_at dksX3_isLike_8 10 rfl rfl)
theorem dX3_isLike_201 : decode cX3_isLike 201 = .ok (.aload_n 1, 1) := dk_43 (dk_at dksX3_isLike_8 11 rfl rfl)
theorem dX3_isLike_202 : decode cX3_isLike 202 = .ok (.getfield 40, 3) := dk_180 0 40 (dk_at dksX3_isLike_8 12 rfl rfl)
theorem dX3_isLike_205 : decode cX3_isLike 205 = .ok (.iload_n 2, 1) := dk_28 (dk_at dksX3_isLike_8 15 rfl rfl)
theorem dX3_isLike_206 : decode cX3_isLike 206 = .ok (.iaload, 1) := dk_46 (dk_at dksX3_isLike_8 16 rfl rfl)
theorem dX3_isLike_207 : decode cX3_isLike 207 = .ok (.if_icmp .eq 5, 3) := dk_159 0 5 (dk_at dksX3_isLike_8 17 rfl rfl)
theorem dX3_isLike_210 : decode cX3_isLike 210 = .ok (.iconst 0, 1) := dk_3 (dk_at dksX3_isLike_8 20 rfl rfl)
theorem dX3_isLike_211 : decode cX3_isLike 211 = .ok (.ireturn, 1) := dk_172 (dk_at dksX3_isLike_8 21 rfl rfl)
theorem dX3_isLike_212 : decode cX3_isLike 212 = .ok (.iinc 2 1, 3) := dk_132 2 1 (dk_at dksX3_isLike_9 0 rfl rfl)
theorem dX3_isLike_215 : decode cX3_isLike 215 = .ok (.goto (-73), 3) := dk_167 255 183 (dk_at dksX3_isLike_9 3 rfl rfl)
theorem dX3_isLike_218 : decode cX3_isLike 218 = .ok (.iconst 1, 1) := dk_4 (dk_at dksX3_isLike_9 6 rfl rfl)
theorem dX3_isLike_219 : decode cX3_isLike 219 = .ok (.ireturn, 1) := dk_172 (dk_at dksX3_isLike_9 7 rfl rfl)
abbrev cX3_kind : ByteArray := prog_7_method_14_code
def yX3_kind : MethodName := ⟨RX3, "kind", "()I"⟩
def dkwX3_kind_1 : List UInt8 := [51, 153, 0, 5, 4, 172, 132, 1, 1, 167, 255, 234, 5, 172]
abbrev dktX3_kind_1 : List UInt8 := dkwX3_kind_1 ++ []
def dkwX3_kind_0 : List UInt8 := [42, 182, 0, 70, 154, 0, 5, 3, 172, 3, 60, 27, 42, 180, 0, 46, 162, 0, 20, 42, 180, 0, 17, 27]
abbrev dktX3_kind_0 : List UInt8 := dkwX3_kind_0 ++ dktX3_kind_1
theorem dksX3_kind_0 : cX3_kind.data.toList.drop 0 = dktX3_kind_0 := by decide +kernel
theorem dksX3_kind_1 : cX3_kind.data.toList.drop 24 = dktX3_kind_1 := dk_seg dksX3_kind_0 24 rfl rfl
theorem dX3_kind_0 : decode cX3_kind 0 = .ok (.aload_n 0, 1) := dk_42 (dk_at dksX3_kind_0 0 rfl rfl)
theorem dX3_kind_1 : decode cX3_kind 1 = .ok (.invokevirtual 70, 3) := dk_182 0 70 (dk_at dksX3_kind_0 1 rfl rfl)
theorem dX3_kind_4 : decode cX3_kind 4 = .ok (.ifCond .ne 5, 3) := dk_154 0 5 (dk_at dksX3_kind_0 4 rfl rfl)
theorem dX3_kind_7 : decode cX3_kind 7 = .ok (.iconst 0, 1) := dk_3 (dk_at dksX3_kind_0 7 rfl rfl)
theorem dX3_kind_8 : decode cX3_kind 8 = .ok (.ireturn, 1) := dk_172 (dk_at dksX3_kind_0 8 rfl rfl)
theorem dX3_kind_9 : decode cX3_kind 9 = .ok (.iconst 0, 1) := dk_3 (dk_at dksX3_kind_0 9 rfl rfl)
theorem dX3_kind_10 : decode cX3_kind 10 = .ok (.istore_n 1, 1) := dk_60 (dk_at dksX3_kind_0 10 rfl rfl)
theorem dX3_kind_11 : decode cX3_kind 11 = .ok (.iload_n 1, 1) := dk_27 (dk_at dksX3_kind_0 11 rfl rfl)
theorem dX3_kind_12 : decode cX3_kind 12 = .ok (.aload_n 0, 1) := dk_42 (dk_at dksX3_kind_0 12 rfl rfl)
theorem dX3_kind_13 : decode cX3_kind 13 = .ok (.getfield 46, 3) := dk_180 0 46 (dk_at dksX3_kind_0 13 rfl rfl)
theorem dX3_kind_16 : decode cX3_kind 16 = .ok (.if_icmp .ge 20, 3) := dk_162 0 20 (dk_at dksX3_kind_0 16 rfl rfl)
theorem dX3_kind_19 : decode cX3_kind 19 = .ok (.aload_n 0, 1) := dk_42 (dk_at dksX3_kind_0 19 rfl rfl)
theorem dX3_kind_20 : decode cX3_kind 20 = .ok (.getfield 17, 3) := dk_180 0 17 (dk_at dksX3_kind_0 20 rfl rfl)
theorem dX3_kind_23 : decode cX3_kind 23 = .ok (.iload_n 1, 1) := dk_27 (dk_at dksX3_kind_0 23 rfl rfl)
theorem dX3_kind_24 : decode cX3_kind 24 = .ok (.baload, 1) := dk_51 (dk_at dksX3_kind_1 0 rfl rfl)
theorem dX3_kind_25 : decode cX3_kind 25 = .ok (.ifCond .eq 5, 3) := dk_153 0 5 (dk_at dksX3_kind_1 1 rfl rfl)
theorem dX3_kind_28 : decode cX3_kind 28 = .ok (.iconst 1, 1) := dk_4 (dk_at dksX3_kind_1 4 rfl rfl)
theorem dX3_kind_29 : decode cX3_kind 29 = .ok (.ireturn, 1) := dk_172 (dk_at dksX3_kind_1 5 rfl rfl)
theorem dX3_kind_30 : decode cX3_kind 30 = .ok (.iinc 1 1, 3) := dk_132 1 1 (dk_at dksX3_kind_1 6 rfl rfl)
theorem dX3_kind_33 : decode cX3_kind 33 = .ok (.goto (-22), 3) := dk_167 255 234 (dk_at dksX3_kind_1 9 rfl rfl)
theorem dX3_kind_36 : decode cX3_kind 36 = .ok (.iconst 2, 1) := dk_5 (dk_at dksX3_kind_1 12 rfl rfl)
theorem dX3_kind_37 : decode cX3_kind 37 = .ok (.ireturn, 1) := dk_172 (dk_at dksX3_kind_1 13 rfl rfl)
abbrev cX3_bits : ByteArray := prog_7_method_13_code
def yX3_bits : MethodName := ⟨RX3, "bits", "()I"⟩
def dkwX3_bits_1 : List UInt8 := [128, 60, 132, 2, 1, 167, 255, 231, 27, 172]
abbrev dktX3_bits_1 : List UInt8 := dkwX3_bits_1 ++ []
def dkwX3_bits_0 : List UInt8 := [3, 60, 3, 61, 28, 42, 180, 0, 46, 162, 0, 23, 42, 28, 182, 0, 66, 154, 0, 9, 27, 4, 28, 120]
abbrev dktX3_bits_0 : List UInt8 := dkwX3_bits_0 ++ dktX3_bits_1
theorem dksX3_bits_0 : cX3_bits.data.toList.drop 0 = dktX3_bits_0 := by decide +kernel
theorem dksX3_bits_1 : cX3_bits.data.toList.drop 24 = dktX3_bits_1 := dk_seg dksX3_bits_0 24 rfl rfl
theorem dX3_bits_0 : decode cX3_bits 0 = .ok (.iconst 0, 1) := dk_3 (dk_at dksX3_bits_0 0 rfl rfl)
theorem dX3_bits_1 : decode cX3_bits 1 = .ok (.istore_n 1, 1) := dk_60 (dk_at dksX3_bits_0 1 rfl rfl)
theorem dX3_bits_2 : decode cX3_bits 2 = .ok (.iconst 0, 1) := dk_3 (dk_at dksX3_bits_0 2 rfl rfl)
theorem dX3_bits_3 : decode cX3_bits 3 = .ok (.istore_n 2, 1) := dk_61 (dk_at dksX3_bits_0 3 rfl rfl)
theorem dX3_bits_4 : decode cX3_bits 4 = .ok (.iload_n 2, 1) := dk_28 (dk_at dksX3_bits_0 4 rfl rfl)
theorem dX3_bits_5 : decode cX3_bits 5 = .ok (.aload_n 0, 1) := dk_42 (dk_at dksX3_bits_0 5 rfl rfl)
theorem dX3_bits_6 : decode cX3_bits 6 = .ok (.getfield 46, 3) := dk_180 0 46 (dk_at dksX3_bits_0 6 rfl rfl)
theorem dX3_bits_9 : decode cX3_bits 9 = .ok (.if_icmp .ge 23, 3) := dk_162 0 23 (dk_at dksX3_bits_0 9 rfl rfl)
theorem dX3_bits_12 : decode cX3_bits 12 = .ok (.aload_n 0, 1) := dk_42 (dk_at dksX3_bits_0 12 rfl rfl)
theorem dX3_bits_13 : decode cX3_bits 13 = .ok (.iload_n 2, 1) := dk_28 (dk_at dksX3_bits_0 13 rfl rfl)
theorem dX3_bits_14 : decode cX3_bits 14 = .ok (.invokevirtual 66, 3) := dk_182 0 66 (dk_at dksX3_bits_0 14 rfl rfl)
theorem dX3_bits_17 : decode cX3_bits 17 = .ok (.ifCond .ne 9, 3) := dk_154 0 9 (dk_at dksX3_bits_0 17 rfl rfl)
theorem dX3_bits_20 : decode cX3_bits 20 = .ok (.iload_n 1, 1) := dk_27 (dk_at dksX3_bits_0 20 rfl rfl)
theorem dX3_bits_21 : decode cX3_bits 21 = .ok (.iconst 1, 1) := dk_4 (dk_at dksX3_bits_0 21 rfl rfl)
theorem dX3_bits_22 : decode cX3_bits 22 = .ok (.iload_n 2, 1) := dk_28 (dk_at dksX3_bits_0 22 rfl rfl)
theorem dX3_bits_23 : decode cX3_bits 23 = .ok (.ishl, 1) := dk_120 (dk_at dksX3_bits_0 23 rfl rfl)
theorem dX3_bits_24 : decode cX3_bits 24 = .ok (.ior, 1) := dk_128 (dk_at dksX3_bits_1 0 rfl rfl)
theorem dX3_bits_25 : decode cX3_bits 25 = .ok (.istore_n 1, 1) := dk_60 (dk_at dksX3_bits_1 1 rfl rfl)
theorem dX3_bits_26 : decode cX3_bits 26 = .ok (.iinc 2 1, 3) := dk_132 2 1 (dk_at dksX3_bits_1 2 rfl rfl)
theorem dX3_bits_29 : decode cX3_bits 29 = .ok (.goto (-25), 3) := dk_167 255 231 (dk_at dksX3_bits_1 5 rfl rfl)
theorem dX3_bits_32 : decode cX3_bits 32 = .ok (.iload_n 1, 1) := dk_27 (dk_at dksX3_bits_1 8 rfl rfl)
theorem dX3_bits_33 : decode cX3_bits 33 = .ok (.ireturn, 1) := dk_172 (dk_at dksX3_bits_1 9 rfl rfl)
theorem q134 : (Jvm.Cond.initialized "SendHall$Life") ∈ lw_all := lw_g (lw_at lw_m1 22 rfl) rfl
theorem q530 : (Jvm.Cond.instantiable "SendHall$Life" (13 : Nat)) ∈ lw_all := lw_g (lw_at lw_m2 178 rfl) rfl
theorem q532 : (Jvm.Cond.instanceMethod ({ cls := "SendHall$Life", name := "<init>", desc := "()V" } : Jvm.MethodName)) ∈ lw_all := lw_g (lw_at lw_m2 180 rfl) rfl
theorem q533 : (Jvm.Cond.code ({ cls := "SendHall$Life", name := "<init>", desc := "()V" } : Jvm.MethodName) prog_7_method_1_code (1 : Nat) (Option.none : Option Jvm.ClassFile.FieldType)) ∈ lw_all := lw_g (lw_at lw_m2 181 rfl) rfl
theorem q534 : (Jvm.Cond.methodLink "SendHall$Life" (3 : Nat) ({ cls := "java/lang/Object", name := "<init>", desc := "()V" } : Jvm.MethodName)) ∈ lw_all := lw_g (lw_at lw_m2 182 rfl) rfl
theorem q535 : (Jvm.Cond.classLink "SendHall$Life" (9 : Nat) "SendHall$Step") ∈ lw_all := lw_g (lw_at lw_m2 183 rfl) rfl
theorem q538 : (Jvm.Cond.fieldLink "SendHall$Life" (46 : Nat) "SendHall$Life" "n" "I") ∈ lw_all := lw_g (lw_at lw_m2 186 rfl) rfl
theorem q542 : (Jvm.Cond.fieldLink "SendHall$Life" (50 : Nat) "SendHall$Life" "words" "I") ∈ lw_all := lw_g (lw_at lw_m2 190 rfl) rfl
theorem q543 : (Jvm.Cond.fieldLink "SendHall$Life" (60 : Nat) "SendHall$Life" "hash" "I") ∈ lw_all := lw_g (lw_at lw_m2 191 rfl) rfl
theorem q544 : (Jvm.Cond.fieldLink "SendHall$Life" (11 : Nat) "SendHall$Life" "at" "[LSendHall$Step;") ∈ lw_all := lw_g (lw_at lw_m2 192 rfl) rfl
theorem q546 : (Jvm.Cond.fieldLink "SendHall$Life" (17 : Nat) "SendHall$Life" "stopped" "[Z") ∈ lw_all := lw_g (lw_at lw_m2 194 rfl) rfl
theorem q550 : (Jvm.Cond.fieldLink "SendHall$Life" (21 : Nat) "SendHall$Life" "var" "[I") ∈ lw_all := lw_g (lw_at lw_m2 198 rfl) rfl
theorem q554 : (Jvm.Cond.fieldLink "SendHall$Life" (25 : Nat) "SendHall$Life" "from" "[I") ∈ lw_all := lw_g (lw_at lw_m2 202 rfl) rfl
theorem q557 : (Jvm.Cond.fieldLink "SendHall$Life" (28 : Nat) "SendHall$Life" "told" "[I") ∈ lw_all := lw_g (lw_at lw_m2 205 rfl) rfl
theorem q560 : (Jvm.Cond.fieldLink "SendHall$Life" (31 : Nat) "SendHall$Life" "pair" "[I") ∈ lw_all := lw_g (lw_at lw_m2 208 rfl) rfl
theorem q561 : (Jvm.Cond.fieldLink "SendHall$Life" (34 : Nat) "SendHall$Life" "mark" "[I") ∈ lw_all := lw_g (lw_at lw_m2 209 rfl) rfl
theorem q562 : (Jvm.Cond.fieldLink "SendHall$Life" (37 : Nat) "SendHall$Life" "word" "[I") ∈ lw_all := lw_g (lw_at lw_m2 210 rfl) rfl
theorem q564 : (Jvm.Cond.fieldLink "SendHall$Life" (40 : Nat) "SendHall$Life" "length" "[I") ∈ lw_all := lw_g (lw_at lw_m2 212 rfl) rfl
theorem q566 : (Jvm.Cond.fieldLink "SendHall$Life" (43 : Nat) "SendHall$Life" "there" "[I") ∈ lw_all := lw_g (lw_at lw_m2 214 rfl) rfl
theorem q568 : (Jvm.Cond.lays "SendHall$Life" "SendHall$Life" "n" "I") ∈ lw_all := lw_g (lw_at lw_m2 216 rfl) rfl
theorem q569 : (Jvm.Cond.soleField "SendHall$Life" "n") ∈ lw_all := lw_g (lw_at lw_m2 217 rfl) rfl
theorem q570 : (Jvm.Cond.lays "SendHall$Life" "SendHall$Life" "words" "I") ∈ lw_all := lw_g (lw_at lw_m2 218 rfl) rfl
theorem q571 : (Jvm.Cond.soleField "SendHall$Life" "words") ∈ lw_all := lw_g (lw_at lw_m2 219 rfl) rfl
theorem q572 : (Jvm.Cond.lays "SendHall$Life" "SendHall$Life" "hash" "I") ∈ lw_all := lw_g (lw_at lw_m2 220 rfl) rfl
theorem q573 : (Jvm.Cond.soleField "SendHall$Life" "hash") ∈ lw_all := lw_g (lw_at lw_m2 221 rfl) rfl
theorem q574 : (Jvm.Cond.laysFinal "SendHall$Life" "SendHall$Life" "at" "[LSendHall$Step;") ∈ lw_all := lw_g (lw_at lw_m2 222 rfl) rfl
theorem q575 : (Jvm.Cond.soleField "SendHall$Life" "at") ∈ lw_all := lw_g (lw_at lw_m2 223 rfl) rfl
theorem q576 : (Jvm.Cond.laysFinal "SendHall$Life" "SendHall$Life" "stopped" "[Z") ∈ lw_all := lw_g (lw_at lw_m2 224 rfl) rfl
theorem q577 : (Jvm.Cond.soleField "SendHall$Life" "stopped") ∈ lw_all := lw_g (lw_at lw_m2 225 rfl) rfl
theorem q578 : (Jvm.Cond.laysFinal "SendHall$Life" "SendHall$Life" "var" "[I") ∈ lw_all := lw_g (lw_at lw_m2 226 rfl) rfl
theorem q579 : (Jvm.Cond.soleField "SendHall$Life" "var") ∈ lw_all := lw_g (lw_at lw_m2 227 rfl) rfl
theorem q580 : (Jvm.Cond.laysFinal "SendHall$Life" "SendHall$Life" "from" "[I") ∈ lw_all := lw_g (lw_at lw_m2 228 rfl) rfl
theorem q581 : (Jvm.Cond.soleField "SendHall$Life" "from") ∈ lw_all := lw_g (lw_at lw_m2 229 rfl) rfl
theorem q582 : (Jvm.Cond.laysFinal "SendHall$Life" "SendHall$Life" "told" "[I") ∈ lw_all := lw_g (lw_at lw_m2 230 rfl) rfl
theorem q583 : (Jvm.Cond.soleField "SendHall$Life" "told") ∈ lw_all := lw_g (lw_at lw_m2 231 rfl) rfl
theorem q584 : (Jvm.Cond.laysFinal "SendHall$Life" "SendHall$Life" "pair" "[I") ∈ lw_all := lw_g (lw_at lw_m2 232 rfl) rfl
theorem q585 : (Jvm.Cond.soleField "SendHall$Life" "pair") ∈ lw_all := lw_g (lw_at lw_m2 233 rfl) rfl
theorem q586 : (Jvm.Cond.laysFinal "SendHall$Life" "SendHall$Life" "mark" "[I") ∈ lw_all := lw_g (lw_at lw_m2 234 rfl) rfl
theorem q587 : (Jvm.Cond.soleField "SendHall$Life" "mark") ∈ lw_all := lw_g (lw_at lw_m2 235 rfl) rfl
theorem q588 : (Jvm.Cond.laysFinal "SendHall$Life" "SendHall$Life" "word" "[I") ∈ lw_all := lw_g (lw_at lw_m2 236 rfl) rfl
theorem q589 : (Jvm.Cond.soleField "SendHall$Life" "word") ∈ lw_all := lw_g (lw_at lw_m2 237 rfl) rfl
theorem q590 : (Jvm.Cond.laysFinal "SendHall$Life" "SendHall$Life" "length" "[I") ∈ lw_all := lw_g (lw_at lw_m2 238 rfl) rfl
theorem q591 : (Jvm.Cond.soleField "SendHall$Life" "length") ∈ lw_all := lw_g (lw_at lw_m2 239 rfl) rfl
theorem q592 : (Jvm.Cond.laysFinal "SendHall$Life" "SendHall$Life" "there" "[I") ∈ lw_all := lw_g (lw_at lw_m3 0 rfl) rfl
theorem q593 : (Jvm.Cond.soleField "SendHall$Life" "there") ∈ lw_all := lw_g (lw_at lw_m3 1 rfl) rfl
theorem q594 : (Jvm.Cond.superclass "SendHall$Life" "java/lang/Object") ∈ lw_all := lw_g (lw_at lw_m3 2 rfl) rfl
theorem q837 : (Jvm.Cond.instanceMethod ({ cls := "SendHall$Life", name := "hashes", desc := "()V" } : Jvm.MethodName)) ∈ lw_all := lw_g (lw_at lw_m4 5 rfl) rfl
theorem q838 : (Jvm.Cond.selects "SendHall$Life" ({ cls := "SendHall$Life", name := "hashes", desc := "()V" } : Jvm.MethodName) ({ cls := "SendHall$Life", name := "hashes", desc := "()V" } : Jvm.MethodName)) ∈ lw_all := lw_g (lw_at lw_m4 6 rfl) rfl
theorem q839 : (Jvm.Cond.code ({ cls := "SendHall$Life", name := "hashes", desc := "()V" } : Jvm.MethodName) prog_7_method_4_code (4 : Nat) (Option.none : Option Jvm.ClassFile.FieldType)) ∈ lw_all := lw_g (lw_at lw_m4 7 rfl) rfl
theorem q849 : (Jvm.Cond.instanceMethod ({ cls := "SendHall$Life", name := "hasEnded", desc := "(I)Z" } : Jvm.MethodName)) ∈ lw_all := lw_g (lw_at lw_m4 17 rfl) rfl
theorem q850 : (Jvm.Cond.selects "SendHall$Life" ({ cls := "SendHall$Life", name := "hasEnded", desc := "(I)Z" } : Jvm.MethodName) ({ cls := "SendHall$Life", name := "hasEnded", desc := "(I)Z" } : Jvm.MethodName)) ∈ lw_all := lw_g (lw_at lw_m4 18 rfl) rfl
theorem q851 : (Jvm.Cond.code ({ cls := "SendHall$Life", name := "hasEnded", desc := "(I)Z" } : Jvm.MethodName) prog_7_method_7_code (2 : Nat) (Option.some Jvm.ClassFile.FieldType.boolean)) ∈ lw_all := lw_g (lw_at lw_m4 19 rfl) rfl
theorem q859 : (Jvm.Cond.instanceMethod ({ cls := "SendHall$Life", name := "sent", desc := "(II)I" } : Jvm.MethodName)) ∈ lw_all := lw_g (lw_at lw_m4 27 rfl) rfl
theorem q860 : (Jvm.Cond.selects "SendHall$Life" ({ cls := "SendHall$Life", name := "sent", desc := "(II)I" } : Jvm.MethodName) ({ cls := "SendHall$Life", name := "sent", desc := "(II)I" } : Jvm.MethodName)) ∈ lw_all := lw_g (lw_at lw_m4 28 rfl) rfl
theorem q861 : (Jvm.Cond.code ({ cls := "SendHall$Life", name := "sent", desc := "(II)I" } : Jvm.MethodName) prog_7_method_11_code (5 : Nat) (Option.some Jvm.ClassFile.FieldType.int)) ∈ lw_all := lw_g (lw_at lw_m4 29 rfl) rfl
theorem q875 : (Jvm.Cond.instanceMethod ({ cls := "SendHall$Life", name := "isAt", desc := "(II)Z" } : Jvm.MethodName)) ∈ lw_all := lw_g (lw_at lw_m4 43 rfl) rfl
theorem q876 : (Jvm.Cond.selects "SendHall$Life" ({ cls := "SendHall$Life", name := "isAt", desc := "(II)Z" } : Jvm.MethodName) ({ cls := "SendHall$Life", name := "isAt", desc := "(II)Z" } : Jvm.MethodName)) ∈ lw_all := lw_g (lw_at lw_m4 44 rfl) rfl
theorem q877 : (Jvm.Cond.code ({ cls := "SendHall$Life", name := "isAt", desc := "(II)Z" } : Jvm.MethodName) prog_7_method_6_code (3 : Nat) (Option.some Jvm.ClassFile.FieldType.boolean)) ∈ lw_all := lw_g (lw_at lw_m4 45 rfl) rfl
theorem q887 : (Jvm.Cond.instanceMethod ({ cls := "SendHall$Life", name := "first", desc := "(III)I" } : Jvm.MethodName)) ∈ lw_all := lw_g (lw_at lw_m4 55 rfl) rfl
theorem q888 : (Jvm.Cond.selects "SendHall$Life" ({ cls := "SendHall$Life", name := "first", desc := "(III)I" } : Jvm.MethodName) ({ cls := "SendHall$Life", name := "first", desc := "(III)I" } : Jvm.MethodName)) ∈ lw_all := lw_g (lw_at lw_m4 56 rfl) rfl
theorem q889 : (Jvm.Cond.code ({ cls := "SendHall$Life", name := "first", desc := "(III)I" } : Jvm.MethodName) prog_7_method_9_code (5 : Nat) (Option.some Jvm.ClassFile.FieldType.int)) ∈ lw_all := lw_g (lw_at lw_m4 57 rfl) rfl
theorem q892 : (Jvm.Cond.instanceMethod ({ cls := "SendHall$Life", name := "begun", desc := "(I)I" } : Jvm.MethodName)) ∈ lw_all := lw_g (lw_at lw_m4 60 rfl) rfl
theorem q893 : (Jvm.Cond.selects "SendHall$Life" ({ cls := "SendHall$Life", name := "begun", desc := "(I)I" } : Jvm.MethodName) ({ cls := "SendHall$Life", name := "begun", desc := "(I)I" } : Jvm.MethodName)) ∈ lw_all := lw_g (lw_at lw_m4 61 rfl) rfl
theorem q894 : (Jvm.Cond.code ({ cls := "SendHall$Life", name := "begun", desc := "(I)I" } : Jvm.MethodName) prog_7_method_12_code (4 : Nat) (Option.some Jvm.ClassFile.FieldType.int)) ∈ lw_all := lw_g (lw_at lw_m4 62 rfl) rfl
theorem q904 : (Jvm.Cond.instanceMethod ({ cls := "SendHall$Life", name := "copy", desc := "(LSendHall$Life;)V" } : Jvm.MethodName)) ∈ lw_all := lw_g (lw_at lw_m4 72 rfl) rfl
theorem q905 : (Jvm.Cond.selects "SendHall$Life" ({ cls := "SendHall$Life", name := "copy", desc := "(LSendHall$Life;)V" } : Jvm.MethodName) ({ cls := "SendHall$Life", name := "copy", desc := "(LSendHall$Life;)V" } : Jvm.MethodName)) ∈ lw_all := lw_g (lw_at lw_m4 73 rfl) rfl
theorem q906 : (Jvm.Cond.code ({ cls := "SendHall$Life", name := "copy", desc := "(LSendHall$Life;)V" } : Jvm.MethodName) prog_7_method_2_code (4 : Nat) (Option.none : Option Jvm.ClassFile.FieldType)) ∈ lw_all := lw_g (lw_at lw_m4 74 rfl) rfl
theorem q907 : (Jvm.Cond.methodLink "SendHall$Life" (53 : Nat) ({ cls := "SendHall$Life", name := "put", desc := "(ILSendHall$Life;I)V" } : Jvm.MethodName)) ∈ lw_all := lw_g (lw_at lw_m4 75 rfl) rfl
theorem q908 : (Jvm.Cond.privateMethod ({ cls := "SendHall$Life", name := "put", desc := "(ILSendHall$Life;I)V" } : Jvm.MethodName)) ∈ lw_tbl := lw_at lw_m4 76 rfl
theorem q909 : (Jvm.Cond.instanceMethod ({ cls := "SendHall$Life", name := "put", desc := "(ILSendHall$Life;I)V" } : Jvm.MethodName)) ∈ lw_all := lw_g (lw_at lw_m4 77 rfl) rfl
theorem q910 : (Jvm.Cond.code ({ cls := "SendHall$Life", name := "put", desc := "(ILSendHall$Life;I)V" } : Jvm.MethodName) prog_7_method_3_code (4 : Nat) (Option.none : Option Jvm.ClassFile.FieldType)) ∈ lw_all := lw_g (lw_at lw_m4 78 rfl) rfl
theorem q929 : (Jvm.Cond.instanceMethod ({ cls := "SendHall$Life", name := "lie", desc := "(IIIIII)V" } : Jvm.MethodName)) ∈ lw_all := lw_g (lw_at lw_m4 97 rfl) rfl
theorem q930 : (Jvm.Cond.selects "SendHall$Life" ({ cls := "SendHall$Life", name := "lie", desc := "(IIIIII)V" } : Jvm.MethodName) ({ cls := "SendHall$Life", name := "lie", desc := "(IIIIII)V" } : Jvm.MethodName)) ∈ lw_all := lw_g (lw_at lw_m4 98 rfl) rfl
theorem q931 : (Jvm.Cond.code ({ cls := "SendHall$Life", name := "lie", desc := "(IIIIII)V" } : Jvm.MethodName) prog_7_method_8_code (9 : Nat) (Option.none : Option Jvm.ClassFile.FieldType)) ∈ lw_all := lw_g (lw_at lw_m4 99 rfl) rfl
theorem q946 : (Jvm.Cond.instanceMethod ({ cls := "SendHall$Life", name := "takeOut", desc := "(I)V" } : Jvm.MethodName)) ∈ lw_all := lw_g (lw_at lw_m4 114 rfl) rfl
theorem q947 : (Jvm.Cond.selects "SendHall$Life" ({ cls := "SendHall$Life", name := "takeOut", desc := "(I)V" } : Jvm.MethodName) ({ cls := "SendHall$Life", name := "takeOut", desc := "(I)V" } : Jvm.MethodName)) ∈ lw_all := lw_g (lw_at lw_m4 115 rfl) rfl
theorem q948 : (Jvm.Cond.code ({ cls := "SendHall$Life", name := "takeOut", desc := "(I)V" } : Jvm.MethodName) prog_7_method_10_code (3 : Nat) (Option.none : Option Jvm.ClassFile.FieldType)) ∈ lw_all := lw_g (lw_at lw_m4 116 rfl) rfl
theorem q955 : (Jvm.Cond.instanceMethod ({ cls := "SendHall$Life", name := "isLike", desc := "(LSendHall$Life;)Z" } : Jvm.MethodName)) ∈ lw_all := lw_g (lw_at lw_m4 123 rfl) rfl
theorem q956 : (Jvm.Cond.selects "SendHall$Life" ({ cls := "SendHall$Life", name := "isLike", desc := "(LSendHall$Life;)Z" } : Jvm.MethodName) ({ cls := "SendHall$Life", name := "isLike", desc := "(LSendHall$Life;)Z" } : Jvm.MethodName)) ∈ lw_all := lw_g (lw_at lw_m4 124 rfl) rfl
theorem q957 : (Jvm.Cond.code ({ cls := "SendHall$Life", name := "isLike", desc := "(LSendHall$Life;)Z" } : Jvm.MethodName) prog_7_method_5_code (4 : Nat) (Option.some Jvm.ClassFile.FieldType.boolean)) ∈ lw_all := lw_g (lw_at lw_m4 125 rfl) rfl
theorem q986 : (Jvm.Cond.instanceMethod ({ cls := "SendHall$Life", name := "kind", desc := "()I" } : Jvm.MethodName)) ∈ lw_all := lw_g (lw_at lw_m4 154 rfl) rfl
theorem q987 : (Jvm.Cond.selects "SendHall$Life" ({ cls := "SendHall$Life", name := "kind", desc := "()I" } : Jvm.MethodName) ({ cls := "SendHall$Life", name := "kind", desc := "()I" } : Jvm.MethodName)) ∈ lw_all := lw_g (lw_at lw_m4 155 rfl) rfl
theorem q988 : (Jvm.Cond.code ({ cls := "SendHall$Life", name := "kind", desc := "()I" } : Jvm.MethodName) prog_7_method_14_code (2 : Nat) (Option.some Jvm.ClassFile.FieldType.int)) ∈ lw_all := lw_g (lw_at lw_m4 156 rfl) rfl
theorem q989 : (Jvm.Cond.methodLink "SendHall$Life" (70 : Nat) ({ cls := "SendHall$Life", name := "bits", desc := "()I" } : Jvm.MethodName)) ∈ lw_all := lw_g (lw_at lw_m4 157 rfl) rfl
theorem q990 : (Jvm.Cond.instanceMethod ({ cls := "SendHall$Life", name := "bits", desc := "()I" } : Jvm.MethodName)) ∈ lw_all := lw_g (lw_at lw_m4 158 rfl) rfl
theorem q991 : (Jvm.Cond.selects "SendHall$Life" ({ cls := "SendHall$Life", name := "bits", desc := "()I" } : Jvm.MethodName) ({ cls := "SendHall$Life", name := "bits", desc := "()I" } : Jvm.MethodName)) ∈ lw_all := lw_g (lw_at lw_m4 159 rfl) rfl
theorem q992 : (Jvm.Cond.code ({ cls := "SendHall$Life", name := "bits", desc := "()I" } : Jvm.MethodName) prog_7_method_13_code (3 : Nat) (Option.some Jvm.ClassFile.FieldType.int)) ∈ lw_all := lw_g (lw_at lw_m4 160 rfl) rfl
theorem q993 : (Jvm.Cond.methodLink "SendHall$Life" (66 : Nat) ({ cls := "SendHall$Life", name := "hasEnded", desc := "(I)Z" } : Jvm.MethodName)) ∈ lw_all := lw_g (lw_at lw_m4 161 rfl) rfl
theorem q1036 : (Jvm.Cond.selects "SendHall$Life" ({ cls := "java/lang/Object", name := "getClass", desc := "()Ljava/lang/Class;" } : Jvm.MethodName) ({ cls := "java/lang/Object", name := "getClass", desc := "()Ljava/lang/Class;" } : Jvm.MethodName)) ∈ lw_all := lw_g (lw_at lw_m4 204 rfl) rfl
theorem q1421 : (Jvm.Cond.fieldLink "SendHall$Life" (63 : Nat) "SendHall$Step" "kind" "I") ∈ lw_all := lw_g (lw_at lw_m6 109 rfl) rfl
theorem q1429 : (Jvm.Cond.fieldLink "SendHall$Life" (57 : Nat) "SendHall$Step" "number" "I") ∈ lw_all := lw_g (lw_at lw_m6 117 rfl) rfl
theorem q2464 : (Jvm.Cond.castable "SendHall$Life" "java/lang/Object") ∈ lw_tbl := lw_at lw_m10 192 rfl
theorem in_X3 : ∀ w ∈ wsX30, w ∈ lw_all := lw_in wsX30 [568, 570, 572, 574, 576, 578, 580, 582, 584, 586, 588, 590, 592] (by decide +kernel) (by decide +kernel)
/-! SendHall$Reader -/
set_option maxRecDepth 100000
def RX5 : String := "SendHall$Reader"
def TX5 : u_T := fun k => match k with
  | 0 => ("SendHall$Reader", "text", "[B", true)
  | 1 => ("SendHall$Reader", "size", "I", true)
  | 2 => ("SendHall$Reader", "next", "I", false)
  | 3 => ("SendHall$Reader", "place", "I", false)
  | 4 => ("SendHall$Reader", "value", "I", false)
  | 5 => ("SendHall$Reader", "nests", "I", false)
  | 6 => ("SendHall$Reader", "deep", "I", false)
  | 7 => ("SendHall$Reader", "isLong", "Z", false)
  | 8 => ("SendHall$Reader", "sort", "LSendHall$Sort;", false)
  | 9 => ("SendHall$Reader", "word", "Ljava/lang/String;", false)
  | 10 => ("SendHall$Reader", "t", "LSendHall$Text;", true)
  | 11 => ("SendHall$Reader", "ifs", "Ljava/util/ArrayList;", true)
  | 12 => ("SendHall$Reader", "thens", "Ljava/util/ArrayList;", true)
  | _ => ("SendHall$Reader", "others", "Ljava/util/ArrayList;", true)
def tyX5 : Nat → FieldType := fun k => match k with
  | 0 => .array .byte
  | 1 => .int
  | 2 => .int
  | 3 => .int
  | 4 => .int
  | 5 => .int
  | 6 => .int
  | 7 => .boolean
  | 8 => .object "SendHall$Sort"
  | 9 => .object "java/lang/String"
  | 10 => .object "SendHall$Text"
  | 11 => .object "java/util/ArrayList"
  | 12 => .object "java/util/ArrayList"
  | _ => .object "java/util/ArrayList"
abbrev wsX50 : List Cond := u_ws RX5 TX5 14
set_option maxRecDepth 100000 in
theorem nmX5 : ∀ a, a < 14 → ∀ b, b < 14 → a ≠ b → (TX5 a).2.1 ≠ (TX5 b).2.1 := by decide +kernel
set_option maxRecDepth 100000 in
theorem tyX5_ok : ∀ k, k < 14 → parseFieldDescriptor (TX5 k).2.2.1 = some (tyX5 k) := by decide +kernel
abbrev cX5_init : ByteArray := prog_9_method_1_code
def yX5_init : MethodName := ⟨RX5, "<init>", "([BI)V"⟩
def dkwX5_init_3 : List UInt8 := [182, 0, 47, 177]
abbrev dktX5_init_3 : List UInt8 := dkwX5_init_3 ++ []
def dkwX5_init_2 : List UInt8 := [187, 0, 24, 89, 4, 183, 0, 26, 181, 0, 36, 42, 43, 181, 0, 39, 42, 28, 181, 0, 43, 42]
abbrev dktX5_init_2 : List UInt8 := dkwX5_init_2 ++ dktX5_init_3
def dkwX5_init_1 : List UInt8 := [187, 0, 24, 89, 4, 183, 0, 26, 181, 0, 29, 42, 187, 0, 24, 89, 4, 183, 0, 26, 181, 0, 33, 42]
abbrev dktX5_init_1 : List UInt8 := dkwX5_init_1 ++ dktX5_init_2
def dkwX5_init_0 : List UInt8 := [42, 183, 0, 3, 42, 18, 9, 181, 0, 11, 42, 187, 0, 17, 89, 183, 0, 19, 181, 0, 20, 42]
abbrev dktX5_init_0 : List UInt8 := dkwX5_init_0 ++ dktX5_init_1
theorem dksX5_init_0 : cX5_init.data.toList.drop 0 = dktX5_init_0 := by decide +kernel
theorem dksX5_init_1 : cX5_init.data.toList.drop 22 = dktX5_init_1 := dk_seg dksX5_init_0 22 rfl rfl
theorem dksX5_init_2 : cX5_init.data.toList.drop 46 = dktX5_init_2 := dk_seg dksX5_init_1 24 rfl rfl
theorem dksX5_init_3 : cX5_init.data.toList.drop 68 = dktX5_init_3 := dk_seg dksX5_init_2 22 rfl rfl
theorem dX5_init_0 : decode cX5_init 0 = .ok (.aload_n 0, 1) := dk_42 (dk_at dksX5_init_0 0 rfl rfl)
theorem dX5_init_1 : decode cX5_init 1 = .ok (.invokespecial 3, 3) := dk_183 0 3 (dk_at dksX5_init_0 1 rfl rfl)
theorem dX5_init_4 : decode cX5_init 4 = .ok (.aload_n 0, 1) := dk_42 (dk_at dksX5_init_0 4 rfl rfl)
theorem dX5_init_5 : decode cX5_init 5 = .ok (.ldc 9, 2) := dk_18 9 (dk_at dksX5_init_0 5 rfl rfl)
theorem dX5_init_7 : decode cX5_init 7 = .ok (.putfield 11, 3) := dk_181 0 11 (dk_at dksX5_init_0 7 rfl rfl)
theorem dX5_init_10 : decode cX5_init 10 = .ok (.aload_n 0, 1) := dk_42 (dk_at dksX5_init_0 10 rfl rfl)
theorem dX5_init_11 : decode cX5_init 11 = .ok (.new 17, 3) := dk_187 0 17 (dk_at dksX5_init_0 11 rfl rfl)
theorem dX5_init_14 : decode cX5_init 14 = .ok (.dup, 1) := dk_89 (dk_at dksX5_init_0 14 rfl rfl)
theorem dX5_init_15 : decode cX5_init 15 = .ok (.invokespecial 19, 3) := dk_183 0 19 (dk_at dksX5_init_0 15 rfl rfl)
theorem dX5_init_18 : decode cX5_init 18 = .ok (.putfield 20, 3) := dk_181 0 20 (dk_at dksX5_init_0 18 rfl rfl)
theorem dX5_init_21 : decode cX5_init 21 = .ok (.aload_n 0, 1) := dk_42 (dk_at dksX5_init_0 21 rfl rfl)
theorem dX5_init_22 : decode cX5_init 22 = .ok (.new 24, 3) := dk_187 0 24 (dk_at dksX5_init_1 0 rfl rfl)
theorem dX5_init_25 : decode cX5_init 25 = .ok (.dup, 1) := dk_89 (dk_at dksX5_init_1 3 rfl rfl)
theorem dX5_init_26 : decode cX5_init 26 = .ok (.iconst 1, 1) := dk_4 (dk_at dksX5_init_1 4 rfl rfl)
theorem dX5_init_27 : decode cX5_init 27 = .ok (.invokespecial 26, 3) := dk_183 0 26 (dk_at dksX5_init_1 5 rfl rfl)
theorem dX5_init_30 : decode cX5_init 30 = .ok (.putfield 29, 3) := dk_181 0 29 (dk_at dksX5_init_1 8 rfl rfl)
theorem dX5_init_33 : decode cX5_init 33 = .ok (.aload_n 0, 1) := dk_42 (dk_at dksX5_init_1 11 rfl rfl)
theorem dX5_init_34 : decode cX5_init 34 = .ok (.new 24, 3) := dk_187 0 24 (dk_at dksX5_init_1 12 rfl rfl)
theorem dX5_init_37 : decode cX5_init 37 = .ok (.dup, 1) := dk_89 (dk_at dksX5_init_1 15 rfl rfl)
theorem dX5_init_38 : decode cX5_init 38 = .ok (.iconst 1, 1) := dk_4 (dk_at dksX5_init_1 16 rfl rfl)
theorem dX5_init_39 : decode cX5_init 39 = .ok (.invokespecial 26, 3) := dk_183 0 26 (dk_at dksX5_init_1 17 rfl rfl)
theorem dX5_init_42 : decode cX5_init 42 = .ok (.putfield 33, 3) := dk_181 0 33 (dk_at dksX5_init_1 20 rfl rfl)
theorem dX5_init_45 : decode cX5_init 45 = .ok (.aload_n 0, 1) := dk_42 (dk_at dksX5_init_1 23 rfl rfl)
theorem dX5_init_46 : decode cX5_init 46 = .ok (.new 24, 3) := dk_187 0 24 (dk_at dksX5_init_2 0 rfl rfl)
theorem dX5_init_49 : decode cX5_init 49 = .ok (.dup, 1) := dk_89 (dk_at dksX5_init_2 3 rfl rfl)
theorem dX5_init_50 : decode cX5_init 50 = .ok (.iconst 1, 1) := dk_4 (dk_at dksX5_init_2 4 rfl rfl)
theorem dX5_init_51 : decode cX5_init 51 = .ok (.invokespecial 26, 3) := dk_183 0 26 (dk_at dksX5_init_2 5 rfl rfl)
theorem dX5_init_54 : decode cX5_init 54 = .ok (.putfield 36, 3) := dk_181 0 36 (dk_at dksX5_init_2 8 rfl rfl)
theorem dX5_init_57 : decode cX5_init 57 = .ok (.aload_n 0, 1) := dk_42 (dk_at dksX5_init_2 11 rfl rfl)
theorem dX5_init_58 : decode cX5_init 58 = .ok (.aload_n 1, 1) := dk_43 (dk_at dksX5_init_2 12 rfl rfl)
theorem dX5_init_59 : decode cX5_init 59 = .ok (.putfield 39, 3) := dk_181 0 39 (dk_at dksX5_init_2 13 rfl rfl)
theorem dX5_init_62 : decode cX5_init 62 = .ok (.aload_n 0, 1) := dk_42 (dk_at dksX5_init_2 16 rfl rfl)
theorem dX5_init_63 : decode cX5_init 63 = .ok (.iload_n 2, 1) := dk_28 (dk_at dksX5_init_2 17 rfl rfl)
theorem dX5_init_64 : decode cX5_init 64 = .ok (.putfield 43, 3) := dk_181 0 43 (dk_at dksX5_init_2 18 rfl rfl)
theorem dX5_init_67 : decode cX5_init 67 = .ok (.aload_n 0, 1) := dk_42 (dk_at dksX5_init_2 21 rfl rfl)
theorem dX5_init_68 : decode cX5_init 68 = .ok (.invokevirtual 47, 3) := dk_182 0 47 (dk_at dksX5_init_3 0 rfl rfl)
theorem dX5_init_71 : decode cX5_init 71 = .ok (.return_, 1) := dk_177 (dk_at dksX5_init_3 3 rfl rfl)
abbrev cX5_go : ByteArray := prog_9_method_5_code
def yX5_go : MethodName := ⟨RX5, "go", "()V"⟩
def dkwX5_go_14 : List UInt8 := [146, 184, 0, 117, 181, 0, 11, 42, 89, 180, 0, 50, 4, 96, 181, 0, 50, 177]
abbrev dktX5_go_14 : List UInt8 := dkwX5_go_14 ++ []
def dkwX5_go_13 : List UInt8 := [178, 0, 111, 167, 0, 6, 178, 0, 114, 181, 0, 70, 42, 180, 0, 70, 178, 0, 111, 166, 0, 12, 42, 27]
abbrev dktX5_go_13 : List UInt8 := dkwX5_go_13 ++ dktX5_go_14
def dkwX5_go_12 : List UInt8 := [3, 181, 0, 60, 42, 178, 0, 101, 181, 0, 70, 167, 0, 54, 42, 18, 104, 27, 182, 0, 106, 155, 0, 9]
abbrev dktX5_go_12 : List UInt8 := dkwX5_go_12 ++ dktX5_go_13
def dkwX5_go_11 : List UInt8 := [181, 0, 50, 167, 255, 196, 42, 42, 180, 0, 50, 42, 180, 0, 57, 100, 7, 164, 0, 7, 4, 167, 0, 4]
abbrev dktX5_go_11 : List UInt8 := dkwX5_go_11 ++ dktX5_go_12
def dkwX5_go_10 : List UInt8 := [42, 42, 180, 0, 50, 182, 0, 53, 96, 16, 48, 100, 181, 0, 98, 42, 89, 180, 0, 50, 4, 96]
abbrev dktX5_go_10 : List UInt8 := dkwX5_go_10 ++ dktX5_go_11
def dkwX5_go_9 : List UInt8 := [153, 0, 52, 42, 180, 0, 50, 42, 180, 0, 57, 100, 7, 162, 0, 26, 42, 16, 10, 42, 180, 0, 98, 104]
abbrev dktX5_go_9 : List UInt8 := dkwX5_go_9 ++ dktX5_go_10
def dkwX5_go_8 : List UInt8 := [184, 0, 95, 153, 0, 103, 42, 3, 181, 0, 98, 42, 42, 180, 0, 50, 182, 0, 53, 184, 0, 95]
abbrev dktX5_go_8 : List UInt8 := dkwX5_go_8 ++ dktX5_go_9
def dkwX5_go_7 : List UInt8 := [167, 255, 209, 42, 44, 182, 0, 88, 181, 0, 11, 42, 178, 0, 92, 181, 0, 70, 167, 0, 161, 27]
abbrev dktX5_go_7 : List UInt8 := dkwX5_go_7 ++ dktX5_go_8
def dkwX5_go_6 : List UInt8 := [42, 180, 0, 50, 182, 0, 53, 146, 182, 0, 84, 87, 42, 89, 180, 0, 50, 4, 96, 181, 0, 50]
abbrev dktX5_go_6 : List UInt8 := dkwX5_go_6 ++ dktX5_go_7
def dkwX5_go_5 : List UInt8 := [42, 180, 0, 50, 182, 0, 53, 184, 0, 73, 153, 0, 39, 44, 182, 0, 80, 16, 6, 162, 0, 17, 44, 42]
abbrev dktX5_go_5 : List UInt8 := dkwX5_go_5 ++ dktX5_go_6
def dkwX5_go_4 : List UInt8 := [181, 0, 70, 167, 0, 246, 27, 184, 0, 73, 153, 0, 81, 187, 0, 77, 89, 16, 6, 183, 0, 79, 77, 42]
abbrev dktX5_go_4 : List UInt8 := dkwX5_go_4 ++ dktX5_go_5
def dkwX5_go_3 : List UInt8 := [180, 0, 50, 182, 0, 53, 60, 42, 180, 0, 50, 42, 180, 0, 43, 161, 0, 13, 42, 178, 0, 64]
abbrev dktX5_go_3 : List UInt8 := dkwX5_go_3 ++ dktX5_go_4
def dkwX5_go_2 : List UInt8 := [167, 255, 209, 42, 42, 180, 0, 50, 181, 0, 57, 42, 18, 9, 181, 0, 11, 42, 3, 181, 0, 60, 42, 42]
abbrev dktX5_go_2 : List UInt8 := dkwX5_go_2 ++ dktX5_go_3
def dkwX5_go_1 : List UInt8 := [42, 42, 180, 0, 50, 182, 0, 53, 16, 10, 160, 0, 16, 42, 89, 180, 0, 50, 4, 96, 181, 0, 50]
abbrev dktX5_go_1 : List UInt8 := dkwX5_go_1 ++ dktX5_go_2
def dkwX5_go_0 : List UInt8 := [42, 180, 0, 50, 42, 180, 0, 43, 162, 0, 42, 42, 42, 180, 0, 50, 182, 0, 53, 16, 32, 159, 0, 16]
abbrev dktX5_go_0 : List UInt8 := dkwX5_go_0 ++ dktX5_go_1
theorem dksX5_go_0 : cX5_go.data.toList.drop 0 = dktX5_go_0 := by decide +kernel
theorem dksX5_go_1 : cX5_go.data.toList.drop 24 = dktX5_go_1 := dk_seg dksX5_go_0 24 rfl rfl
theorem dksX5_go_2 : cX5_go.data.toList.drop 47 = dktX5_go_2 := dk_seg dksX5_go_1 23 rfl rfl
theorem dksX5_go_3 : cX5_go.data.toList.drop 71 = dktX5_go_3 := dk_seg dksX5_go_2 24 rfl rfl
theorem dksX5_go_4 : cX5_go.data.toList.drop 93 = dktX5_go_4 := dk_seg dksX5_go_3 22 rfl rfl
theorem dksX5_go_5 : cX5_go.data.toList.drop 117 = dktX5_go_5 := dk_seg dksX5_go_4 24 rfl rfl
theorem dksX5_go_6 : cX5_go.data.toList.drop 141 = dktX5_go_6 := dk_seg dksX5_go_5 24 rfl rfl
theorem dksX5_go_7 : cX5_go.data.toList.drop 163 = dktX5_go_7 := dk_seg dksX5_go_6 22 rfl rfl
theorem dksX5_go_8 : cX5_go.data.toList.drop 185 = dktX5_go_8 := dk_seg dksX5_go_7 22 rfl rfl
theorem dksX5_go_9 : cX5_go.data.toList.drop 207 = dktX5_go_9 := dk_seg dksX5_go_8 22 rfl rfl
theorem dksX5_go_10 : cX5_go.data.toList.drop 231 = dktX5_go_10 := dk_seg dksX5_go_9 24 rfl rfl
theorem dksX5_go_11 : cX5_go.data.toList.drop 253 = dktX5_go_11 := dk_seg dksX5_go_10 22 rfl rfl
theorem dksX5_go_12 : cX5_go.data.toList.drop 277 = dktX5_go_12 := dk_seg dksX5_go_11 24 rfl rfl
theorem dksX5_go_13 : cX5_go.data.toList.drop 301 = dktX5_go_13 := dk_seg dksX5_go_12 24 rfl rfl
theorem dksX5_go_14 : cX5_go.data.toList.drop 325 = dktX5_go_14 := dk_seg dksX5_go_13 24 rfl rfl
theorem dX5_go_0 : decode cX5_go 0 = .ok (.aload_n 0, 1) := dk_42 (dk_at dksX5_go_0 0 rfl rfl)
theorem dX5_go_1 : decode cX5_go 1 = .ok (.getfield 50, 3) := dk_180 0 50 (dk_at dksX5_go_0 1 rfl rfl)
theorem dX5_go_4 : decode cX5_go 4 = .ok (.aload_n 0, 1) := dk_42 (dk_at dksX5_go_0 4 rfl rfl)
theorem dX5_go_5 : decode cX5_go 5 = .ok (.getfield 43, 3) := dk_180 0 43 (dk_at dksX5_go_0 5 rfl rfl)
theorem dX5_go_8 : decode cX5_go 8 = .ok (.if_icmp .ge 42, 3) := dk_162 0 42 (dk_at dksX5_go_0 8 rfl rfl)
theorem dX5_go_11 : decode cX5_go 11 = .ok (.aload_n 0, 1) := dk_42 (dk_at dksX5_go_0 11 rfl rfl)
theorem dX5_go_12 : decode cX5_go 12 = .ok (.aload_n 0, 1) := dk_42 (dk_at dksX5_go_0 12 rfl rfl)
theorem dX5_go_13 : decode cX5_go 13 = .ok (.getfield 50, 3) := dk_180 0 50 (dk_at dksX5_go_0 13 rfl rfl)
theorem dX5_go_16 : decode cX5_go 16 = .ok (.invokevirtual 53, 3) := dk_182 0 53 (dk_at dksX5_go_0 16 rfl rfl)
theorem dX5_go_19 : decode cX5_go 19 = .ok (.bipush 32, 2) := dk_16 32 (dk_at dksX5_go_0 19 rfl rfl)
theorem dX5_go_21 : decode cX5_go 21 = .ok (.if_icmp .eq 16, 3) := dk_159 0 16 (dk_at dksX5_go_0 21 rfl rfl)
theorem dX5_go_24 : decode cX5_go 24 = .ok (.aload_n 0, 1) := dk_42 (dk_at dksX5_go_1 0 rfl rfl)
theorem dX5_go_25 : decode cX5_go 25 = .ok (.aload_n 0, 1) := dk_42 (dk_at dksX5_go_1 1 rfl rfl)
theorem dX5_go_26 : decode cX5_go 26 = .ok (.getfield 50, 3) := dk_180 0 50 (dk_at dksX5_go_1 2 rfl rfl)
theorem dX5_go_29 : decode cX5_go 29 = .ok (.invokevirtual 53, 3) := dk_182 0 53 (dk_at dksX5_go_1 5 rfl rfl)
theorem dX5_go_32 : decode cX5_go 32 = .ok (.bipush 10, 2) := dk_16 10 (dk_at dksX5_go_1 8 rfl rfl)
theorem dX5_go_34 : decode cX5_go 34 = .ok (.if_icmp .ne 16, 3) := dk_160 0 16 (dk_at dksX5_go_1 10 rfl rfl)
theorem dX5_go_37 : decode cX5_go 37 = .ok (.aload_n 0, 1) := dk_42 (dk_at dksX5_go_1 13 rfl rfl)
theorem dX5_go_38 : decode cX5_go 38 = .ok (.dup, 1) := dk_89 (dk_at dksX5_go_1 14 rfl rfl)
theorem dX5_go_39 : decode cX5_go 39 = .ok (.getfield 50, 3) := dk_180 0 50 (dk_at dksX5_go_1 15 rfl rfl)
theorem dX5_go_42 : decode cX5_go 42 = .ok (.iconst 1, 1) := dk_4 (dk_at dksX5_go_1 18 rfl rfl)
theorem dX5_go_43 : decode cX5_go 43 = .ok (.iadd, 1) := dk_96 (dk_at dksX5_go_1 19 rfl rfl)
theorem dX5_go_44 : decode cX5_go 44 = .ok (.putfield 50, 3) := dk_181 0 50 (dk_at dksX5_go_1 20 rfl rfl)
theorem dX5_go_47 : decode cX5_go 47 = .ok (.goto (-47), 3) := dk_167 255 209 (dk_at dksX5_go_2 0 rfl rfl)
theorem dX5_go_50 : decode cX5_go 50 = .ok (.aload_n 0, 1) := dk_42 (dk_at dksX5_go_2 3 rfl rfl)
theorem dX5_go_51 : decode cX5_go 51 = .ok (.aload_n 0, 1) := dk_42 (dk_at dksX5_go_2 4 rfl rfl)
theorem dX5_go_52 : decode cX5_go 52 = .ok (.getfield 50, 3) := dk_180 0 50 (dk_at dksX5_go_2 5 rfl rfl)
theorem dX5_go_55 : decode cX5_go 55 = .ok (.putfield 57, 3) := dk_181 0 57 (dk_at dksX5_go_2 8 rfl rfl)
theorem dX5_go_58 : decode cX5_go 58 = .ok (.aload_n 0, 1) := dk_42 (dk_at dksX5_go_2 11 rfl rfl)
theorem dX5_go_59 : decode cX5_go 59 = .ok (.ldc 9, 2) := dk_18 9 (dk_at dksX5_go_2 12 rfl rfl)
theorem dX5_go_61 : decode cX5_go 61 = .ok (.putfield 11, 3) := dk_181 0 11 (dk_at dksX5_go_2 14 rfl rfl)
theorem dX5_go_64 : decode cX5_go 64 = .ok (.aload_n 0, 1) := dk_42 (dk_at dksX5_go_2 17 rfl rfl)
theorem dX5_go_65 : decode cX5_go 65 = .ok (.iconst 0, 1) := dk_3 (dk_at dksX5_go_2 18 rfl rfl)
theorem dX5_go_66 : decode cX5_go 66 = .ok (.putfield 60, 3) := dk_181 0 60 (dk_at dksX5_go_2 19 rfl rfl)
theorem dX5_go_69 : decode cX5_go 69 = .ok (.aload_n 0, 1) := dk_42 (dk_at dksX5_go_2 22 rfl rfl)
theorem dX5_go_70 : decode cX5_go 70 = .ok (.aload_n 0, 1) := dk_42 (dk_at dksX5_go_2 23 rfl rfl)
theorem dX5_go_71 : decode cX5_go 71 = .ok (.getfield 50, 3) := dk_180 0 50 (dk_at dksX5_go_3 0 rfl rfl)
theorem dX5_go_74 : decode cX5_go 74 = .ok (.invokevirtual 53, 3) := dk_182 0 53 (dk_at dksX5_go_3 3 rfl rfl)
theorem dX5_go_77 : decode cX5_go 77 = .ok (.istore_n 1, 1) := dk_60 (dk_at dksX5_go_3 6 rfl rfl)
theorem dX5_go_78 : decode cX5_go 78 = .ok (.aload_n 0, 1) := dk_42 (dk_at dksX5_go_3 7 rfl rfl)
theorem dX5_go_79 : decode cX5_go 79 = .ok (.getfield 50, 3) := dk_180 0 50 (dk_at dksX5_go_3 8 rfl rfl)
theorem dX5_go_82 : decode cX5_go 82 = .ok (.aload_n 0, 1) := dk_42 (dk_at dksX5_go_3 11 rfl rfl)
theorem dX5_go_83 : decode cX5_go 83 = .ok (.getfield 43, 3) := dk_180 0 43 (dk_at dksX5_go_3 12 rfl rfl)
theorem dX5_go_86 : decode cX5_go 86 = .ok (.if_icmp .lt 13, 3) := dk_161 0 13 (dk_at dksX5_go_3 15 rfl rfl)
theorem dX5_go_89 : decode cX5_go 89 = .ok (.aload_n 0, 1) := dk_42 (dk_at dksX5_go_3 18 rfl rfl)
theorem dX5_go_90 : decode cX5_go 90 = .ok (.getstatic 64, 3) := dk_178 0 64 (dk_at dksX5_go_3 19 rfl rfl)
theorem dX5_go_93 : decode cX5_go 93 = .ok (.putfield 70, 3) := dk_181 0 70 (dk_at dksX5_go_4 0 rfl rfl)
theorem dX5_go_96 : decode cX5_go 96 = .ok (.goto 246, 3) := dk_167 0 246 (dk_at dksX5_go_4 3 rfl rfl)
theorem dX5_go_99 : decode cX5_go 99 = .ok (.iload_n 1, 1) := dk_27 (dk_at dksX5_go_4 6 rfl rfl)
theorem dX5_go_100 : decode cX5_go 100 = .ok (.invokestatic 73, 3) := dk_184 0 73 (dk_at dksX5_go_4 7 rfl rfl)
theorem dX5_go_103 : decode cX5_go 103 = .ok (.ifCond .eq 81, 3) := dk_153 0 81 (dk_at dksX5_go_4 10 rfl rfl)
theorem dX5_go_106 : decode cX5_go 106 = .ok (.new 77, 3) := dk_187 0 77 (dk_at dksX5_go_4 13 rfl rfl)
theorem dX5_go_109 : decode cX5_go 109 = .ok (.dup, 1) := dk_89 (dk_at dksX5_go_4 16 rfl rfl)
theorem dX5_go_110 : decode cX5_go 110 = .ok (.bipush 6, 2) := dk_16 6 (dk_at dksX5_go_4 17 rfl rfl)
theorem dX5_go_112 : decode cX5_go 112 = .ok (.invokespecial 79, 3) := dk_183 0 79 (dk_at dksX5_go_4 19 rfl rfl)
theorem dX5_go_115 : decode cX5_go 115 = .ok (.astore_n 2, 1) := dk_77 (dk_at dksX5_go_4 22 rfl rfl)
theorem dX5_go_116 : decode cX5_go 116 = .ok (.aload_n 0, 1) := dk_42 (dk_at dksX5_go_4 23 rfl rfl)
theorem dX5_go_117 : decode cX5_go 117 = .ok (.aload_n 0, 1) := dk_42 (dk_at dksX5_go_5 0 rfl rfl)
theorem dX5_go_118 : decode cX5_go 118 = .ok (.getfield 50, 3) := dk_180 0 50 (dk_at dksX5_go_5 1 rfl rfl)
theorem dX5_go_121 : decode cX5_go 121 = .ok (.invokevirtual 53, 3) := dk_182 0 53 (dk_at dksX5_go_5 4 rfl rfl)
theorem dX5_go_124 : decode cX5_go 124 = .ok (.invokestatic 73, 3) := dk_184 0 73 (dk_at dksX5_go_5 7 rfl rfl)
theorem dX5_go_127 : decode cX5_go 127 = .ok (.ifCond .eq 39, 3) := dk_153 0 39 (dk_at dksX5_go_5 10 rfl rfl)
theorem dX5_go_130 : decode cX5_go 130 = .ok (.aload_n 2, 1) := dk_44 (dk_at dksX5_go_5 13 rfl rfl)
theorem dX5_go_131 : decode cX5_go 131 = .ok (.invokevirtual 80, 3) := dk_182 0 80 (dk_at dksX5_go_5 14 rfl rfl)
theorem dX5_go_134 : decode cX5_go 134 = .ok (.bipush 6, 2) := dk_16 6 (dk_at dksX5_go_5 17 rfl rfl)
theorem dX5_go_136 : decode cX5_go 136 = .ok (.if_icmp .ge 17, 3) := dk_162 0 17 (dk_at dksX5_go_5 19 rfl rfl)
theorem dX5_go_139 : decode cX5_go 139 = .ok (.aload_n 2, 1) := dk_44 (dk_at dksX5_go_5 22 rfl rfl)
theorem dX5_go_140 : decode cX5_go 140 = .ok (.aload_n 0, 1) := dk_42 (dk_at dksX5_go_5 23 rfl rfl)
theorem dX5_go_141 : decode cX5_go 141 = .ok (.aload_n 0, 1) := dk_42 (dk_at dksX5_go_6 0 rfl rfl)
theorem dX5_go_142 : decode cX5_go 142 = .ok (.getfield 50, 3) := dk_180 0 50 (dk_at dksX5_go_6 1 rfl rfl)
theorem dX5_go_145 : decode cX5_go 145 = .ok (.invokevirtual 53, 3) := dk_182 0 53 (dk_at dksX5_go_6 4 rfl rfl)
theorem dX5_go_148 : decode cX5_go 148 = .ok (.i2c, 1) := dk_146 (dk_at dksX5_go_6 7 rfl rfl)
theorem dX5_go_149 : decode cX5_go 149 = .ok (.invokevirtual 84, 3) := dk_182 0 84 (dk_at dksX5_go_6 8 rfl rfl)
theorem dX5_go_152 : decode cX5_go 152 = .ok (.pop, 1) := dk_87 (dk_at dksX5_go_6 11 rfl rfl)
theorem dX5_go_153 : decode cX5_go 153 = .ok (.aload_n 0, 1) := dk_42 (dk_at dksX5_go_6 12 rfl rfl)
theorem dX5_go_154 : decode cX5_go 154 = .ok (.dup, 1) := dk_89 (dk_at dksX5_go_6 13 rfl rfl)
theorem dX5_go_155 : decode cX5_go 155 = .ok (.getfield 50, 3) := dk_180 0 50 (dk_at dksX5_go_6 14 rfl rfl)
theorem dX5_go_158 : decode cX5_go 158 = .ok (.iconst 1, 1) := dk_4 (dk_at dksX5_go_6 17 rfl rfl)
theorem dX5_go_159 : decode cX5_go 159 = .ok (.iadd, 1) := dk_96 (dk_at dksX5_go_6 18 rfl rfl)
theorem dX5_go_160 : decode cX5_go 160 = .ok (.putfield 50, 3) := dk_181 0 50 (dk_at dksX5_go_6 19 rfl rfl)
theorem dX5_go_163 : decode cX5_go 163 = .ok (.goto (-47), 3) := dk_167 255 209 (dk_at dksX5_go_7 0 rfl rfl)
theorem dX5_go_166 : decode cX5_go 166 = .ok (.aload_n 0, 1) := dk_42 (dk_at dksX5_go_7 3 rfl rfl)
theorem dX5_go_167 : decode cX5_go 167 = .ok (.aload_n 2, 1) := dk_44 (dk_at dksX5_go_7 4 rfl rfl)
theorem dX5_go_168 : decode cX5_go 168 = .ok (.invokevirtual 88, 3) := dk_182 0 88 (dk_at dksX5_go_7 5 rfl rfl)
theorem dX5_go_171 : decode cX5_go 171 = .ok (.putfield 11, 3) := dk_181 0 11 (dk_at dksX5_go_7 8 rfl rfl)
theorem dX5_go_174 : decode cX5_go 174 = .ok (.aload_n 0, 1) := dk_42 (dk_at dksX5_go_7 11 rfl rfl)
theorem dX5_go_175 : decode cX5_go 175 = .ok (.getstatic 92, 3) := dk_178 0 92 (dk_at dksX5_go_7 12 rfl rfl)
theorem dX5_go_178 : decode cX5_go 178 = .ok (.putfield 70, 3) := dk_181 0 70 (dk_at dksX5_go_7 15 rfl rfl)
theorem dX5_go_181 : decode cX5_go 181 = .ok (.goto 161, 3) := dk_167 0 161 (dk_at dksX5_go_7 18 rfl rfl)
theorem dX5_go_184 : decode cX5_go 184 = .ok (.iload_n 1, 1) := dk_27 (dk_at dksX5_go_7 21 rfl rfl)
theorem dX5_go_185 : decode cX5_go 185 = .ok (.invokestatic 95, 3) := dk_184 0 95 (dk_at dksX5_go_8 0 rfl rfl)
theorem dX5_go_188 : decode cX5_go 188 = .ok (.ifCond .eq 103, 3) := dk_153 0 103 (dk_at dksX5_go_8 3 rfl rfl)
theorem dX5_go_191 : decode cX5_go 191 = .ok (.aload_n 0, 1) := dk_42 (dk_at dksX5_go_8 6 rfl rfl)
theorem dX5_go_192 : decode cX5_go 192 = .ok (.iconst 0, 1) := dk_3 (dk_at dksX5_go_8 7 rfl rfl)
theorem dX5_go_193 : decode cX5_go 193 = .ok (.putfield 98, 3) := dk_181 0 98 (dk_at dksX5_go_8 8 rfl rfl)
theorem dX5_go_196 : decode cX5_go 196 = .ok (.aload_n 0, 1) := dk_42 (dk_at dksX5_go_8 11 rfl rfl)
theorem dX5_go_197 : decode cX5_go 197 = .ok (.aload_n 0, 1) := dk_42 (dk_at dksX5_go_8 12 rfl rfl)
theorem dX5_go_198 : decode cX5_go 198 = .ok (.getfield 50, 3) := dk_180 0 50 (dk_at dksX5_go_8 13 rfl rfl)
theorem dX5_go_201 : decode cX5_go 201 = .ok (.invokevirtual 53, 3) := dk_182 0 53 (dk_at dksX5_go_8 16 rfl rfl)
theorem dX5_go_204 : decode cX5_go 204 = .ok (.invokestatic 95, 3) := dk_184 0 95 (dk_at dksX5_go_8 19 rfl rfl)
theorem dX5_go_207 : decode cX5_go 207 = .ok (.ifCond .eq 52, 3) := dk_153 0 52 (dk_at dksX5_go_9 0 rfl rfl)
theorem dX5_go_210 : decode cX5_go 210 = .ok (.aload_n 0, 1) := dk_42 (dk_at dksX5_go_9 3 rfl rfl)
theorem dX5_go_211 : decode cX5_go 211 = .ok (.getfield 50, 3) := dk_180 0 50 (dk_at dksX5_go_9 4 rfl rfl)
theorem dX5_go_214 : decode cX5_go 214 = .ok (.aload_n 0, 1) := dk_42 (dk_at dksX5_go_9 7 rfl rfl)
theorem dX5_go_215 : decode cX5_go 215 = .ok (.getfield 57, 3) := dk_180 0 57 (dk_at dksX5_go_9 8 rfl rfl)
theorem dX5_go_218 : decode cX5_go 218 = .ok (.isub, 1) := dk_100 (dk_at dksX5_go_9 11 rfl rfl)
theorem dX5_go_219 : decode cX5_go 219 = .ok (.iconst 4, 1) := dk_7 (dk_at dksX5_go_9 12 rfl rfl)
theorem dX5_go_220 : decode cX5_go 220 = .ok (.if_icmp .ge 26, 3) := dk_162 0 26 (dk_at dksX5_go_9 13 rfl rfl)
theorem dX5_go_223 : decode cX5_go 223 = .ok (.aload_n 0, 1) := dk_42 (dk_at dksX5_go_9 16 rfl rfl)
theorem dX5_go_224 : decode cX5_go 224 = .ok (.bipush 10, 2) := dk_16 10 (dk_at dksX5_go_9 17 rfl rfl)
theorem dX5_go_226 : decode cX5_go 226 = .ok (.aload_n 0, 1) := dk_42 (dk_at dksX5_go_9 19 rfl rfl)
theorem dX5_go_227 : decode cX5_go 227 = .ok (.getfield 98, 3) := dk_180 0 98 (dk_at dksX5_go_9 20 rfl rfl)
theorem dX5_go_230 : decode cX5_go 230 = .ok (.imul, 1) := dk_104 (dk_at dksX5_go_9 23 rfl rfl)
theorem dX5_go_231 : decode cX5_go 231 = .ok (.aload_n 0, 1) := dk_42 (dk_at dksX5_go_10 0 rfl rfl)
theorem dX5_go_232 : decode cX5_go 232 = .ok (.aload_n 0, 1) := dk_42 (dk_at dksX5_go_10 1 rfl rfl)
theorem dX5_go_233 : decode cX5_go 233 = .ok (.getfield 50, 3) := dk_180 0 50 (dk_at dksX5_go_10 2 rfl rfl)
theorem dX5_go_236 : decode cX5_go 236 = .ok (.invokevirtual 53, 3) := dk_182 0 53 (dk_at dksX5_go_10 5 rfl rfl)
theorem dX5_go_239 : decode cX5_go 239 = .ok (.iadd, 1) := dk_96 (dk_at dksX5_go_10 8 rfl rfl)
theorem dX5_go_240 : decode cX5_go 240 = .ok (.bipush 48, 2) := dk_16 48 (dk_at dksX5_go_10 9 rfl rfl)
theorem dX5_go_242 : decode cX5_go 242 = .ok (.isub, 1) := dk_100 (dk_at dksX5_go_10 11 rfl rfl)
theorem dX5_go_243 : decode cX5_go 243 = .ok (.putfield 98, 3) := dk_181 0 98 (dk_at dksX5_go_10 12 rfl rfl)
theorem dX5_go_246 : decode cX5_go 246 = .ok (.aload_n 0, 1) := dk_42 (dk_at dksX5_go_10 15 rfl rfl)
theorem dX5_go_247 : decode cX5_go 247 = .ok (.dup, 1) := dk_89 (dk_at dksX5_go_10 16 rfl rfl)
theorem dX5_go_248 : decode cX5_go 248 = .ok (.getfield 50, 3) := dk_180 0 50 (dk_at dksX5_go_10 17 rfl rfl)
theorem dX5_go_251 : decode cX5_go 251 = .ok (.iconst 1, 1) := dk_4 (dk_at dksX5_go_10 20 rfl rfl)
theorem dX5_go_252 : decode cX5_go 252 = .ok (.iadd, 1) := dk_96 (dk_at dksX5_go_10 21 rfl rfl)
theorem dX5_go_253 : decode cX5_go 253 = .ok (.putfield 50, 3) := dk_181 0 50 (dk_at dksX5_go_11 0 rfl rfl)
theorem dX5_go_256 : decode cX5_go 256 = .ok (.goto (-60), 3) := dk_167 255 196 (dk_at dksX5_go_11 3 rfl rfl)
theorem dX5_go_259 : decode cX5_go 259 = .ok (.aload_n 0, 1) := dk_42 (dk_at dksX5_go_11 6 rfl rfl)
theorem dX5_go_260 : decode cX5_go 260 = .ok (.aload_n 0, 1) := dk_42 (dk_at dksX5_go_11 7 rfl rfl)
theorem dX5_go_261 : decode cX5_go 261 = .ok (.getfield 50, 3) := dk_180 0 50 (dk_at dksX5_go_11 8 rfl rfl)
theorem dX5_go_264 : decode cX5_go 264 = .ok (.aload_n 0, 1) := dk_42 (dk_at dksX5_go_11 11 rfl rfl)
theorem dX5_go_265 : decode cX5_go 265 = .ok (.getfield 57, 3) := dk_180 0 57 (dk_at dksX5_go_11 12 rfl rfl)
theorem dX5_go_268 : decode cX5_go 268 = .ok (.isub, 1) := dk_100 (dk_at dksX5_go_11 15 rfl rfl)
theorem dX5_go_269 : decode cX5_go 269 = .ok (.iconst 4, 1) := dk_7 (dk_at dksX5_go_11 16 rfl rfl)
theorem dX5_go_270 : decode cX5_go 270 = .ok (.if_icmp .le 7, 3) := dk_164 0 7 (dk_at dksX5_go_11 17 rfl rfl)
theorem dX5_go_273 : decode cX5_go 273 = .ok (.iconst 1, 1) := dk_4 (dk_at dksX5_go_11 20 rfl rfl)
theorem dX5_go_274 : decode cX5_go 274 = .ok (.goto 4, 3) := dk_167 0 4 (dk_at dksX5_go_11 21 rfl rfl)
theorem dX5_go_277 : decode cX5_go 277 = .ok (.iconst 0, 1) := dk_3 (dk_at dksX5_go_12 0 rfl rfl)
theorem dX5_go_278 : decode cX5_go 278 = .ok (.putfield 60, 3) := dk_181 0 60 (dk_at dksX5_go_12 1 rfl rfl)
theorem dX5_go_281 : decode cX5_go 281 = .ok (.aload_n 0, 1) := dk_42 (dk_at dksX5_go_12 4 rfl rfl)
theorem dX5_go_282 : decode cX5_go 282 = .ok (.getstatic 101, 3) := dk_178 0 101 (dk_at dksX5_go_12 5 rfl rfl)
theorem dX5_go_285 : decode cX5_go 285 = .ok (.putfield 70, 3) := dk_181 0 70 (dk_at dksX5_go_12 8 rfl rfl)
theorem dX5_go_288 : decode cX5_go 288 = .ok (.goto 54, 3) := dk_167 0 54 (dk_at dksX5_go_12 11 rfl rfl)
theorem dX5_go_291 : decode cX5_go 291 = .ok (.aload_n 0, 1) := dk_42 (dk_at dksX5_go_12 14 rfl rfl)
theorem dX5_go_292 : decode cX5_go 292 = .ok (.ldc 104, 2) := dk_18 104 (dk_at dksX5_go_12 15 rfl rfl)
theorem dX5_go_294 : decode cX5_go 294 = .ok (.iload_n 1, 1) := dk_27 (dk_at dksX5_go_12 17 rfl rfl)
theorem dX5_go_295 : decode cX5_go 295 = .ok (.invokevirtual 106, 3) := dk_182 0 106 (dk_at dksX5_go_12 18 rfl rfl)
theorem dX5_go_298 : decode cX5_go 298 = .ok (.ifCond .lt 9, 3) := dk_155 0 9 (dk_at dksX5_go_12 21 rfl rfl)
theorem dX5_go_301 : decode cX5_go 301 = .ok (.getstatic 111, 3) := dk_178 0 111 (dk_at dksX5_go_13 0 rfl rfl)
theorem dX5_go_304 : decode cX5_go 304 = .ok (.goto 6, 3) := dk_167 0 6 (dk_at dksX5_go_13 3 rfl rfl)
theorem dX5_go_307 : decode cX5_go 307 = .ok (.getstatic 114, 3) := dk_178 0 114 (dk_at dksX5_go_13 6 rfl rfl)
theorem dX5_go_310 : decode cX5_go 310 = .ok (.putfield 70, 3) := dk_181 0 70 (dk_at dksX5_go_13 9 rfl rfl)
theorem dX5_go_313 : decode cX5_go 313 = .ok (.aload_n 0, 1) := dk_42 (dk_at dksX5_go_13 12 rfl rfl)
theorem dX5_go_314 : decode cX5_go 314 = .ok (.getfield 70, 3) := dk_180 0 70 (dk_at dksX5_go_13 13 rfl rfl)
theorem dX5_go_317 : decode cX5_go 317 = .ok (.getstatic 111, 3) := dk_178 0 111 (dk_at dksX5_go_13 16 rfl rfl)
theorem dX5_go_320 : decode cX5_go 320 = .ok (.if_acmp .ne 12, 3) := dk_166 0 12 (dk_at dksX5_go_13 19 rfl rfl)
theorem dX5_go_323 : decode cX5_go 323 = .ok (.aload_n 0, 1) := dk_42 (dk_at dksX5_go_13 22 rfl rfl)
theorem dX5_go_324 : decode cX5_go 324 = .ok (.iload_n 1, 1) := dk_27 (dk_at dksX5_go_13 23 rfl rfl)
theorem dX5_go_325 : decode cX5_go 325 = .ok (.i2c, 1) := dk_146 (dk_at dksX5_go_14 0 rfl rfl)
theorem dX5_go_326 : decode cX5_go 326 = .ok (.invokestatic 117, 3) := dk_184 0 117 (dk_at dksX5_go_14 1 rfl rfl)
theorem dX5_go_329 : decode cX5_go 329 = .ok (.putfield 11, 3) := dk_181 0 11 (dk_at dksX5_go_14 4 rfl rfl)
theorem dX5_go_332 : decode cX5_go 332 = .ok (.aload_n 0, 1) := dk_42 (dk_at dksX5_go_14 7 rfl rfl)
theorem dX5_go_333 : decode cX5_go 333 = .ok (.dup, 1) := dk_89 (dk_at dksX5_go_14 8 rfl rfl)
theorem dX5_go_334 : decode cX5_go 334 = .ok (.getfield 50, 3) := dk_180 0 50 (dk_at dksX5_go_14 9 rfl rfl)
theorem dX5_go_337 : decode cX5_go 337 = .ok (.iconst 1, 1) := dk_4 (dk_at dksX5_go_14 12 rfl rfl)
theorem dX5_go_338 : decode cX5_go 338 = .ok (.iadd, 1) := dk_96 (dk_at dksX5_go_14 13 rfl rfl)
theorem dX5_go_339 : decode cX5_go 339 = .ok (.putfield 50, 3) := dk_181 0 50 (dk_at dksX5_go_14 14 rfl rfl)
theorem dX5_go_342 : decode cX5_go 342 = .ok (.return_, 1) := dk_177 (dk_at dksX5_go_14 17 rfl rfl)
abbrev cX5_byteAt : ByteArray := prog_9_method_2_code
def yX5_byteAt : MethodName := ⟨RX5, "byteAt", "(I)I"⟩
def dkwX5_byteAt_0 : List UInt8 := [27, 42, 180, 0, 43, 162, 0, 16, 42, 180, 0, 39, 27, 51, 17, 0, 255, 126, 167, 0, 4, 3, 172]
abbrev dktX5_byteAt_0 : List UInt8 := dkwX5_byteAt_0 ++ []
theorem dksX5_byteAt_0 : cX5_byteAt.data.toList.drop 0 = dktX5_byteAt_0 := by decide +kernel
theorem dX5_byteAt_0 : decode cX5_byteAt 0 = .ok (.iload_n 1, 1) := dk_27 (dk_at dksX5_byteAt_0 0 rfl rfl)
theorem dX5_byteAt_1 : decode cX5_byteAt 1 = .ok (.aload_n 0, 1) := dk_42 (dk_at dksX5_byteAt_0 1 rfl rfl)
theorem dX5_byteAt_2 : decode cX5_byteAt 2 = .ok (.getfield 43, 3) := dk_180 0 43 (dk_at dksX5_byteAt_0 2 rfl rfl)
theorem dX5_byteAt_5 : decode cX5_byteAt 5 = .ok (.if_icmp .ge 16, 3) := dk_162 0 16 (dk_at dksX5_byteAt_0 5 rfl rfl)
theorem dX5_byteAt_8 : decode cX5_byteAt 8 = .ok (.aload_n 0, 1) := dk_42 (dk_at dksX5_byteAt_0 8 rfl rfl)
theorem dX5_byteAt_9 : decode cX5_byteAt 9 = .ok (.getfield 39, 3) := dk_180 0 39 (dk_at dksX5_byteAt_0 9 rfl rfl)
theorem dX5_byteAt_12 : decode cX5_byteAt 12 = .ok (.iload_n 1, 1) := dk_27 (dk_at dksX5_byteAt_0 12 rfl rfl)
theorem dX5_byteAt_13 : decode cX5_byteAt 13 = .ok (.baload, 1) := dk_51 (dk_at dksX5_byteAt_0 13 rfl rfl)
theorem dX5_byteAt_14 : decode cX5_byteAt 14 = .ok (.sipush 255, 3) := dk_17 0 255 (dk_at dksX5_byteAt_0 14 rfl rfl)
theorem dX5_byteAt_17 : decode cX5_byteAt 17 = .ok (.iand, 1) := dk_126 (dk_at dksX5_byteAt_0 17 rfl rfl)
theorem dX5_byteAt_18 : decode cX5_byteAt 18 = .ok (.goto 4, 3) := dk_167 0 4 (dk_at dksX5_byteAt_0 18 rfl rfl)
theorem dX5_byteAt_21 : decode cX5_byteAt 21 = .ok (.iconst 0, 1) := dk_3 (dk_at dksX5_byteAt_0 21 rfl rfl)
theorem dX5_byteAt_22 : decode cX5_byteAt 22 = .ok (.ireturn, 1) := dk_172 (dk_at dksX5_byteAt_0 22 rfl rfl)
abbrev cX5_isLetter : ByteArray := prog_9_method_3_code
def yX5_isLetter : MethodName := ⟨RX5, "isLetter", "(I)Z"⟩
def dkwX5_isLetter_0 : List UInt8 := [26, 16, 97, 161, 0, 13, 26, 16, 122, 163, 0, 7, 4, 167, 0, 4, 3, 172]
abbrev dktX5_isLetter_0 : List UInt8 := dkwX5_isLetter_0 ++ []
theorem dksX5_isLetter_0 : cX5_isLetter.data.toList.drop 0 = dktX5_isLetter_0 := by decide +kernel
theorem dX5_isLetter_0 : decode cX5_isLetter 0 = .ok (.iload_n 0, 1) := dk_26 (dk_at dksX5_isLetter_0 0 rfl rfl)
theorem dX5_isLetter_1 : decode cX5_isLetter 1 = .ok (.bipush 97, 2) := dk_16 97 (dk_at dksX5_isLetter_0 1 rfl rfl)
theorem dX5_isLetter_3 : decode cX5_isLetter 3 = .ok (.if_icmp .lt 13, 3) := dk_161 0 13 (dk_at dksX5_isLetter_0 3 rfl rfl)
theorem dX5_isLetter_6 : decode cX5_isLetter 6 = .ok (.iload_n 0, 1) := dk_26 (dk_at dksX5_isLetter_0 6 rfl rfl)
theorem dX5_isLetter_7 : decode cX5_isLetter 7 = .ok (.bipush 122, 2) := dk_16 122 (dk_at dksX5_isLetter_0 7 rfl rfl)
theorem dX5_isLetter_9 : decode cX5_isLetter 9 = .ok (.if_icmp .gt 7, 3) := dk_163 0 7 (dk_at dksX5_isLetter_0 9 rfl rfl)
theorem dX5_isLetter_12 : decode cX5_isLetter 12 = .ok (.iconst 1, 1) := dk_4 (dk_at dksX5_isLetter_0 12 rfl rfl)
theorem dX5_isLetter_13 : decode cX5_isLetter 13 = .ok (.goto 4, 3) := dk_167 0 4 (dk_at dksX5_isLetter_0 13 rfl rfl)
theorem dX5_isLetter_16 : decode cX5_isLetter 16 = .ok (.iconst 0, 1) := dk_3 (dk_at dksX5_isLetter_0 16 rfl rfl)
theorem dX5_isLetter_17 : decode cX5_isLetter 17 = .ok (.ireturn, 1) := dk_172 (dk_at dksX5_isLetter_0 17 rfl rfl)
abbrev cX5_isDigit : ByteArray := prog_9_method_4_code
def yX5_isDigit : MethodName := ⟨RX5, "isDigit", "(I)Z"⟩
def dkwX5_isDigit_0 : List UInt8 := [26, 16, 48, 161, 0, 13, 26, 16, 57, 163, 0, 7, 4, 167, 0, 4, 3, 172]
abbrev dktX5_isDigit_0 : List UInt8 := dkwX5_isDigit_0 ++ []
theorem dksX5_isDigit_0 : cX5_isDigit.data.toList.drop 0 = dktX5_isDigit_0 := by decide +kernel
theorem dX5_isDigit_0 : decode cX5_isDigit 0 = .ok (.iload_n 0, 1) := dk_26 (dk_at dksX5_isDigit_0 0 rfl rfl)
theorem dX5_isDigit_1 : decode cX5_isDigit 1 = .ok (.bipush 48, 2) := dk_16 48 (dk_at dksX5_isDigit_0 1 rfl rfl)
theorem dX5_isDigit_3 : decode cX5_isDigit 3 = .ok (.if_icmp .lt 13, 3) := dk_161 0 13 (dk_at dksX5_isDigit_0 3 rfl rfl)
theorem dX5_isDigit_6 : decode cX5_isDigit 6 = .ok (.iload_n 0, 1) := dk_26 (dk_at dksX5_isDigit_0 6 rfl rfl)
theorem dX5_isDigit_7 : decode cX5_isDigit 7 = .ok (.bipush 57, 2) := dk_16 57 (dk_at dksX5_isDigit_0 7 rfl rfl)
theorem dX5_isDigit_9 : decode cX5_isDigit 9 = .ok (.if_icmp .gt 7, 3) := dk_163 0 7 (dk_at dksX5_isDigit_0 9 rfl rfl)
theorem dX5_isDigit_12 : decode cX5_isDigit 12 = .ok (.iconst 1, 1) := dk_4 (dk_at dksX5_isDigit_0 12 rfl rfl)
theorem dX5_isDigit_13 : decode cX5_isDigit 13 = .ok (.goto 4, 3) := dk_167 0 4 (dk_at dksX5_isDigit_0 13 rfl rfl)
theorem dX5_isDigit_16 : decode cX5_isDigit 16 = .ok (.iconst 0, 1) := dk_3 (dk_at dksX5_isDigit_0 16 rfl rfl)
theorem dX5_isDigit_17 : decode cX5_isDigit 17 = .ok (.ireturn, 1) := dk_172 (dk_at dksX5_isDigit_0 17 rfl rfl)
abbrev cX5_read : ByteArray := prog_9_method_12_code
def yX5_read : MethodName := ⟨RX5, "read", "()LSendHall$Text;"⟩
def dkwX5_read_1 : List UInt8 := [182, 0, 134, 42, 180, 0, 20, 43, 1, 184, 0, 172, 181, 0, 176, 42, 182, 0, 180, 42, 180, 0, 20, 176]
abbrev dktX5_read_1 : List UInt8 := dkwX5_read_1 ++ []
def dkwX5_read_0 : List UInt8 := [42, 182, 0, 168, 76, 42, 42, 180, 0, 70, 178, 0, 64, 166, 0, 7, 4, 167, 0, 4, 3, 4]
abbrev dktX5_read_0 : List UInt8 := dkwX5_read_0 ++ dktX5_read_1
theorem dksX5_read_0 : cX5_read.data.toList.drop 0 = dktX5_read_0 := by decide +kernel
theorem dksX5_read_1 : cX5_read.data.toList.drop 22 = dktX5_read_1 := dk_seg dksX5_read_0 22 rfl rfl
theorem dX5_read_0 : decode cX5_read 0 = .ok (.aload_n 0, 1) := dk_42 (dk_at dksX5_read_0 0 rfl rfl)
theorem dX5_read_1 : decode cX5_read 1 = .ok (.invokevirtual 168, 3) := dk_182 0 168 (dk_at dksX5_read_0 1 rfl rfl)
theorem dX5_read_4 : decode cX5_read 4 = .ok (.astore_n 1, 1) := dk_76 (dk_at dksX5_read_0 4 rfl rfl)
theorem dX5_read_5 : decode cX5_read 5 = .ok (.aload_n 0, 1) := dk_42 (dk_at dksX5_read_0 5 rfl rfl)
theorem dX5_read_6 : decode cX5_read 6 = .ok (.aload_n 0, 1) := dk_42 (dk_at dksX5_read_0 6 rfl rfl)
theorem dX5_read_7 : decode cX5_read 7 = .ok (.getfield 70, 3) := dk_180 0 70 (dk_at dksX5_read_0 7 rfl rfl)
theorem dX5_read_10 : decode cX5_read 10 = .ok (.getstatic 64, 3) := dk_178 0 64 (dk_at dksX5_read_0 10 rfl rfl)
theorem dX5_read_13 : decode cX5_read 13 = .ok (.if_acmp .ne 7, 3) := dk_166 0 7 (dk_at dksX5_read_0 13 rfl rfl)
theorem dX5_read_16 : decode cX5_read 16 = .ok (.iconst 1, 1) := dk_4 (dk_at dksX5_read_0 16 rfl rfl)
theorem dX5_read_17 : decode cX5_read 17 = .ok (.goto 4, 3) := dk_167 0 4 (dk_at dksX5_read_0 17 rfl rfl)
theorem dX5_read_20 : decode cX5_read 20 = .ok (.iconst 0, 1) := dk_3 (dk_at dksX5_read_0 20 rfl rfl)
theorem dX5_read_21 : decode cX5_read 21 = .ok (.iconst 1, 1) := dk_4 (dk_at dksX5_read_0 21 rfl rfl)
theorem dX5_read_22 : decode cX5_read 22 = .ok (.invokevirtual 134, 3) := dk_182 0 134 (dk_at dksX5_read_1 0 rfl rfl)
theorem dX5_read_25 : decode cX5_read 25 = .ok (.aload_n 0, 1) := dk_42 (dk_at dksX5_read_1 3 rfl rfl)
theorem dX5_read_26 : decode cX5_read 26 = .ok (.getfield 20, 3) := dk_180 0 20 (dk_at dksX5_read_1 4 rfl rfl)
theorem dX5_read_29 : decode cX5_read 29 = .ok (.aload_n 1, 1) := dk_43 (dk_at dksX5_read_1 7 rfl rfl)
theorem dX5_read_30 : decode cX5_read 30 = .ok (.aconst_null, 1) := dk_1 (dk_at dksX5_read_1 8 rfl rfl)
theorem dX5_read_31 : decode cX5_read 31 = .ok (.invokestatic 172, 3) := dk_184 0 172 (dk_at dksX5_read_1 9 rfl rfl)
theorem dX5_read_34 : decode cX5_read 34 = .ok (.putfield 176, 3) := dk_181 0 176 (dk_at dksX5_read_1 12 rfl rfl)
theorem dX5_read_37 : decode cX5_read 37 = .ok (.aload_n 0, 1) := dk_42 (dk_at dksX5_read_1 15 rfl rfl)
theorem dX5_read_38 : decode cX5_read 38 = .ok (.invokevirtual 180, 3) := dk_182 0 180 (dk_at dksX5_read_1 16 rfl rfl)
theorem dX5_read_41 : decode cX5_read 41 = .ok (.aload_n 0, 1) := dk_42 (dk_at dksX5_read_1 19 rfl rfl)
theorem dX5_read_42 : decode cX5_read 42 = .ok (.getfield 20, 3) := dk_180 0 20 (dk_at dksX5_read_1 20 rfl rfl)
theorem dX5_read_45 : decode cX5_read 45 = .ok (.areturn, 1) := dk_176 (dk_at dksX5_read_1 23 rfl rfl)
abbrev cX5_steps : ByteArray := prog_9_method_14_code
def yX5_steps : MethodName := ⟨RX5, "steps", "()Ljava/util/ArrayList;"⟩
def dkwX5_steps_4 : List UInt8 := [182, 0, 183, 182, 0, 206, 182, 0, 210, 87, 42, 18, 213, 182, 0, 215, 167, 255, 158, 43, 176]
abbrev dktX5_steps_4 : List UInt8 := dkwX5_steps_4 ++ []
def dkwX5_steps_3 : List UInt8 := [167, 0, 4, 3, 5, 182, 0, 134, 42, 182, 0, 47, 43, 42, 28, 42, 180, 0, 20, 180, 0, 201]
abbrev dktX5_steps_3 : List UInt8 := dkwX5_steps_3 ++ dktX5_steps_4
def dkwX5_steps_2 : List UInt8 := [182, 0, 183, 16, 40, 162, 0, 21, 28, 16, 10, 160, 0, 11, 42, 180, 0, 203, 7, 162, 0, 7, 4]
abbrev dktX5_steps_2 : List UInt8 := dkwX5_steps_2 ++ dktX5_steps_3
def dkwX5_steps_1 : List UInt8 := [184, 0, 197, 2, 159, 0, 83, 42, 180, 0, 11, 184, 0, 197, 61, 42, 42, 180, 0, 20, 180, 0, 201]
abbrev dktX5_steps_1 : List UInt8 := dkwX5_steps_1 ++ dktX5_steps_2
def dkwX5_steps_0 : List UInt8 := [187, 0, 24, 89, 5, 183, 0, 26, 76, 42, 180, 0, 70, 178, 0, 92, 166, 0, 94, 42, 180, 0, 11]
abbrev dktX5_steps_0 : List UInt8 := dkwX5_steps_0 ++ dktX5_steps_1
theorem dksX5_steps_0 : cX5_steps.data.toList.drop 0 = dktX5_steps_0 := by decide +kernel
theorem dksX5_steps_1 : cX5_steps.data.toList.drop 23 = dktX5_steps_1 := dk_seg dksX5_steps_0 23 rfl rfl
theorem dksX5_steps_2 : cX5_steps.data.toList.drop 46 = dktX5_steps_2 := dk_seg dksX5_steps_1 23 rfl rfl
theorem dksX5_steps_3 : cX5_steps.data.toList.drop 69 = dktX5_steps_3 := dk_seg dksX5_steps_2 23 rfl rfl
theorem dksX5_steps_4 : cX5_steps.data.toList.drop 91 = dktX5_steps_4 := dk_seg dksX5_steps_3 22 rfl rfl
theorem dX5_steps_0 : decode cX5_steps 0 = .ok (.new 24, 3) := dk_187 0 24 (dk_at dksX5_steps_0 0 rfl rfl)
theorem dX5_steps_3 : decode cX5_steps 3 = .ok (.dup, 1) := dk_89 (dk_at dksX5_steps_0 3 rfl rfl)
theorem dX5_steps_4 : decode cX5_steps 4 = .ok (.iconst 2, 1) := dk_5 (dk_at dksX5_steps_0 4 rfl rfl)
theorem dX5_steps_5 : decode cX5_steps 5 = .ok (.invokespecial 26, 3) := dk_183 0 26 (dk_at dksX5_steps_0 5 rfl rfl)
theorem dX5_steps_8 : decode cX5_steps 8 = .ok (.astore_n 1, 1) := dk_76 (dk_at dksX5_steps_0 8 rfl rfl)
theorem dX5_steps_9 : decode cX5_steps 9 = .ok (.aload_n 0, 1) := dk_42 (dk_at dksX5_steps_0 9 rfl rfl)
theorem dX5_steps_10 : decode cX5_steps 10 = .ok (.getfield 70, 3) := dk_180 0 70 (dk_at dksX5_steps_0 10 rfl rfl)
theorem dX5_steps_13 : decode cX5_steps 13 = .ok (.getstatic 92, 3) := dk_178 0 92 (dk_at dksX5_steps_0 13 rfl rfl)
theorem dX5_steps_16 : decode cX5_steps 16 = .ok (.if_acmp .ne 94, 3) := dk_166 0 94 (dk_at dksX5_steps_0 16 rfl rfl)
theorem dX5_steps_19 : decode cX5_steps 19 = .ok (.aload_n 0, 1) := dk_42 (dk_at dksX5_steps_0 19 rfl rfl)
theorem dX5_steps_20 : decode cX5_steps 20 = .ok (.getfield 11, 3) := dk_180 0 11 (dk_at dksX5_steps_0 20 rfl rfl)
theorem dX5_steps_23 : decode cX5_steps 23 = .ok (.invokestatic 197, 3) := dk_184 0 197 (dk_at dksX5_steps_1 0 rfl rfl)
theorem dX5_steps_26 : decode cX5_steps 26 = .ok (.iconst (-1), 1) := dk_2 (dk_at dksX5_steps_1 3 rfl rfl)
theorem dX5_steps_27 : decode cX5_steps 27 = .ok (.if_icmp .eq 83, 3) := dk_159 0 83 (dk_at dksX5_steps_1 4 rfl rfl)
theorem dX5_steps_30 : decode cX5_steps 30 = .ok (.aload_n 0, 1) := dk_42 (dk_at dksX5_steps_1 7 rfl rfl)
theorem dX5_steps_31 : decode cX5_steps 31 = .ok (.getfield 11, 3) := dk_180 0 11 (dk_at dksX5_steps_1 8 rfl rfl)
theorem dX5_steps_34 : decode cX5_steps 34 = .ok (.invokestatic 197, 3) := dk_184 0 197 (dk_at dksX5_steps_1 11 rfl rfl)
theorem dX5_steps_37 : decode cX5_steps 37 = .ok (.istore_n 2, 1) := dk_61 (dk_at dksX5_steps_1 14 rfl rfl)
theorem dX5_steps_38 : decode cX5_steps 38 = .ok (.aload_n 0, 1) := dk_42 (dk_at dksX5_steps_1 15 rfl rfl)
theorem dX5_steps_39 : decode cX5_steps 39 = .ok (.aload_n 0, 1) := dk_42 (dk_at dksX5_steps_1 16 rfl rfl)
theorem dX5_steps_40 : decode cX5_steps 40 = .ok (.getfield 20, 3) := dk_180 0 20 (dk_at dksX5_steps_1 17 rfl rfl)
theorem dX5_steps_43 : decode cX5_steps 43 = .ok (.getfield 201, 3) := dk_180 0 201 (dk_at dksX5_steps_1 20 rfl rfl)
theorem dX5_steps_46 : decode cX5_steps 46 = .ok (.invokevirtual 183, 3) := dk_182 0 183 (dk_at dksX5_steps_2 0 rfl rfl)
theorem dX5_steps_49 : decode cX5_steps 49 = .ok (.bipush 40, 2) := dk_16 40 (dk_at dksX5_steps_2 3 rfl rfl)
theorem dX5_steps_51 : decode cX5_steps 51 = .ok (.if_icmp .ge 21, 3) := dk_162 0 21 (dk_at dksX5_steps_2 5 rfl rfl)
theorem dX5_steps_54 : decode cX5_steps 54 = .ok (.iload_n 2, 1) := dk_28 (dk_at dksX5_steps_2 8 rfl rfl)
theorem dX5_steps_55 : decode cX5_steps 55 = .ok (.bipush 10, 2) := dk_16 10 (dk_at dksX5_steps_2 9 rfl rfl)
theorem dX5_steps_57 : decode cX5_steps 57 = .ok (.if_icmp .ne 11, 3) := dk_160 0 11 (dk_at dksX5_steps_2 11 rfl rfl)
theorem dX5_steps_60 : decode cX5_steps 60 = .ok (.aload_n 0, 1) := dk_42 (dk_at dksX5_steps_2 14 rfl rfl)
theorem dX5_steps_61 : decode cX5_steps 61 = .ok (.getfield 203, 3) := dk_180 0 203 (dk_at dksX5_steps_2 15 rfl rfl)
theorem dX5_steps_64 : decode cX5_steps 64 = .ok (.iconst 4, 1) := dk_7 (dk_at dksX5_steps_2 18 rfl rfl)
theorem dX5_steps_65 : decode cX5_steps 65 = .ok (.if_icmp .ge 7, 3) := dk_162 0 7 (dk_at dksX5_steps_2 19 rfl rfl)
theorem dX5_steps_68 : decode cX5_steps 68 = .ok (.iconst 1, 1) := dk_4 (dk_at dksX5_steps_2 22 rfl rfl)
theorem dX5_steps_69 : decode cX5_steps 69 = .ok (.goto 4, 3) := dk_167 0 4 (dk_at dksX5_steps_3 0 rfl rfl)
theorem dX5_steps_72 : decode cX5_steps 72 = .ok (.iconst 0, 1) := dk_3 (dk_at dksX5_steps_3 3 rfl rfl)
theorem dX5_steps_73 : decode cX5_steps 73 = .ok (.iconst 2, 1) := dk_5 (dk_at dksX5_steps_3 4 rfl rfl)
theorem dX5_steps_74 : decode cX5_steps 74 = .ok (.invokevirtual 134, 3) := dk_182 0 134 (dk_at dksX5_steps_3 5 rfl rfl)
theorem dX5_steps_77 : decode cX5_steps 77 = .ok (.aload_n 0, 1) := dk_42 (dk_at dksX5_steps_3 8 rfl rfl)
theorem dX5_steps_78 : decode cX5_steps 78 = .ok (.invokevirtual 47, 3) := dk_182 0 47 (dk_at dksX5_steps_3 9 rfl rfl)
theorem dX5_steps_81 : decode cX5_steps 81 = .ok (.aload_n 1, 1) := dk_43 (dk_at dksX5_steps_3 12 rfl rfl)
theorem dX5_steps_82 : decode cX5_steps 82 = .ok (.aload_n 0, 1) := dk_42 (dk_at dksX5_steps_3 13 rfl rfl)
theorem dX5_steps_83 : decode cX5_steps 83 = .ok (.iload_n 2, 1) := dk_28 (dk_at dksX5_steps_3 14 rfl rfl)
theorem dX5_steps_84 : decode cX5_steps 84 = .ok (.aload_n 0, 1) := dk_42 (dk_at dksX5_steps_3 15 rfl rfl)
theorem dX5_steps_85 : decode cX5_steps 85 = .ok (.getfield 20, 3) := dk_180 0 20 (dk_at dksX5_steps_3 16 rfl rfl)
theorem dX5_steps_88 : decode cX5_steps 88 = .ok (.getfield 201, 3) := dk_180 0 201 (dk_at dksX5_steps_3 19 rfl rfl)
theorem dX5_steps_91 : decode cX5_steps 91 = .ok (.invokevirtual 183, 3) := dk_182 0 183 (dk_at dksX5_steps_4 0 rfl rfl)
theorem dX5_steps_94 : decode cX5_steps 94 = .ok (.invokevirtual 206, 3) := dk_182 0 206 (dk_at dksX5_steps_4 3 rfl rfl)
theorem dX5_steps_97 : decode cX5_steps 97 = .ok (.invokevirtual 210, 3) := dk_182 0 210 (dk_at dksX5_steps_4 6 rfl rfl)
theorem dX5_steps_100 : decode cX5_steps 100 = .ok (.pop, 1) := dk_87 (dk_at dksX5_steps_4 9 rfl rfl)
theorem dX5_steps_101 : decode cX5_steps 101 = .ok (.aload_n 0, 1) := dk_42 (dk_at dksX5_steps_4 10 rfl rfl)
theorem dX5_steps_102 : decode cX5_steps 102 = .ok (.ldc 213, 2) := dk_18 213 (dk_at dksX5_steps_4 11 rfl rfl)
theorem dX5_steps_104 : decode cX5_steps 104 = .ok (.invokevirtual 215, 3) := dk_182 0 215 (dk_at dksX5_steps_4 13 rfl rfl)
theorem dX5_steps_107 : decode cX5_steps 107 = .ok (.goto (-98), 3) := dk_167 255 158 (dk_at dksX5_steps_4 16 rfl rfl)
theorem dX5_steps_110 : decode cX5_steps 110 = .ok (.aload_n 1, 1) := dk_43 (dk_at dksX5_steps_4 19 rfl rfl)
theorem dX5_steps_111 : decode cX5_steps 111 = .ok (.areturn, 1) := dk_176 (dk_at dksX5_steps_4 20 rfl rfl)
abbrev cX5_kindOf : ByteArray := prog_9_method_11_code
def yX5_kindOf : MethodName := ⟨RX5, "kindOf", "(Ljava/lang/String;)I"⟩
def dkwX5_kindOf_11 : List UInt8 := [16, 10, 172, 2, 172]
abbrev dktX5_kindOf_11 : List UInt8 := dkwX5_kindOf_11 ++ []
def dkwX5_kindOf_10 : List UInt8 := [3, 172, 4, 172, 5, 172, 6, 172, 7, 172, 8, 172, 16, 6, 172, 16, 7, 172, 16, 8, 172, 16, 9, 172]
abbrev dktX5_kindOf_10 : List UInt8 := dkwX5_kindOf_10 ++ dktX5_kindOf_11
def dkwX5_kindOf_9 : List UInt8 := [170, 0, 0, 0, 0, 0, 86, 0, 0, 0, 0, 0, 0, 0, 10, 0, 0, 0, 59, 0, 0, 0, 61, 0, 0, 0, 63, 0, 0, 0, 65, 0, 0, 0, 67, 0, 0, 0, 69, 0, 0, 0, 71, 0, 0, 0, 74, 0, 0, 0, 77, 0, 0, 0, 80, 0, 0, 0, 83]
abbrev dktX5_kindOf_9 : List UInt8 := dkwX5_kindOf_9 ++ dktX5_kindOf_10
def dkwX5_kindOf_8 : List UInt8 := [167, 0, 15, 43, 18, 166, 182, 0, 121, 153, 0, 6, 16, 10, 61, 28]
abbrev dktX5_kindOf_8 : List UInt8 := dkwX5_kindOf_8 ++ dktX5_kindOf_9
def dkwX5_kindOf_7 : List UInt8 := [182, 0, 121, 153, 0, 36, 16, 8, 61, 167, 0, 30, 43, 18, 164, 182, 0, 121, 153, 0, 21, 16, 9, 61]
abbrev dktX5_kindOf_7 : List UInt8 := dkwX5_kindOf_7 ++ dktX5_kindOf_8
def dkwX5_kindOf_6 : List UInt8 := [61, 167, 0, 60, 43, 18, 160, 182, 0, 121, 153, 0, 51, 16, 7, 61, 167, 0, 45, 43, 18, 162]
abbrev dktX5_kindOf_6 : List UInt8 := dkwX5_kindOf_6 ++ dktX5_kindOf_7
def dkwX5_kindOf_5 : List UInt8 := [18, 156, 182, 0, 121, 153, 0, 80, 8, 61, 167, 0, 75, 43, 18, 158, 182, 0, 121, 153, 0, 66, 16, 6]
abbrev dktX5_kindOf_5 : List UInt8 := dkwX5_kindOf_5 ++ dktX5_kindOf_6
def dkwX5_kindOf_4 : List UInt8 := [153, 0, 108, 6, 61, 167, 0, 103, 43, 18, 154, 182, 0, 121, 153, 0, 94, 7, 61, 167, 0, 89, 43]
abbrev dktX5_kindOf_4 : List UInt8 := dkwX5_kindOf_4 ++ dktX5_kindOf_5
def dkwX5_kindOf_3 : List UInt8 := [61, 167, 0, 131, 43, 18, 150, 182, 0, 121, 153, 0, 122, 5, 61, 167, 0, 117, 43, 18, 152, 182, 0, 121]
abbrev dktX5_kindOf_3 : List UInt8 := dkwX5_kindOf_3 ++ dktX5_kindOf_4
def dkwX5_kindOf_2 : List UInt8 := [43, 18, 146, 182, 0, 121, 153, 0, 150, 3, 61, 167, 0, 145, 43, 18, 148, 182, 0, 121, 153, 0, 136, 4]
abbrev dktX5_kindOf_2 : List UInt8 := dkwX5_kindOf_2 ++ dktX5_kindOf_3
def dkwX5_kindOf_1 : List UInt8 := [171, 0, 0, 0, 0, 0, 1, 0, 0, 0, 0, 11, 0, 0, 13, 29, 0, 0, 0, 244, 0, 1, 121, 161, 0, 0, 0, 184, 0, 1, 121, 236, 0, 0, 0, 156, 0, 1, 188, 98, 0, 0, 0, 214, 0, 1, 190, 75, 0, 0, 0, 199, 0, 47, 35, 130, 0, 0, 0, 170, 0, 51, 20, 71, 0, 0, 0, 114, 0, 53, 207, 136, 0, 0, 0, 100, 0, 54, 67, 177, 0, 0, 0, 229, 0, 55, 145, 117, 0, 0, 0, 142, 5, 148, 120, 169, 0, 0, 0, 128]
abbrev dktX5_kindOf_1 : List UInt8 := dkwX5_kindOf_1 ++ dktX5_kindOf_2
def dkwX5_kindOf_0 : List UInt8 := [42, 76, 2, 61, 43, 182, 0, 143]
abbrev dktX5_kindOf_0 : List UInt8 := dkwX5_kindOf_0 ++ dktX5_kindOf_1
theorem dksX5_kindOf_0 : cX5_kindOf.data.toList.drop 0 = dktX5_kindOf_0 := by decide +kernel
theorem dksX5_kindOf_1 : cX5_kindOf.data.toList.drop 8 = dktX5_kindOf_1 := dk_seg dksX5_kindOf_0 8 rfl rfl
theorem dksX5_kindOf_2 : cX5_kindOf.data.toList.drop 108 = dktX5_kindOf_2 := dk_seg dksX5_kindOf_1 100 rfl rfl
theorem dksX5_kindOf_3 : cX5_kindOf.data.toList.drop 132 = dktX5_kindOf_3 := dk_seg dksX5_kindOf_2 24 rfl rfl
theorem dksX5_kindOf_4 : cX5_kindOf.data.toList.drop 156 = dktX5_kindOf_4 := dk_seg dksX5_kindOf_3 24 rfl rfl
theorem dksX5_kindOf_5 : cX5_kindOf.data.toList.drop 179 = dktX5_kindOf_5 := dk_seg dksX5_kindOf_4 23 rfl rfl
theorem dksX5_kindOf_6 : cX5_kindOf.data.toList.drop 203 = dktX5_kindOf_6 := dk_seg dksX5_kindOf_5 24 rfl rfl
theorem dksX5_kindOf_7 : cX5_kindOf.data.toList.drop 225 = dktX5_kindOf_7 := dk_seg dksX5_kindOf_6 22 rfl rfl
theorem dksX5_kindOf_8 : cX5_kindOf.data.toList.drop 249 = dktX5_kindOf_8 := dk_seg dksX5_kindOf_7 24 rfl rfl
theorem dksX5_kindOf_9 : cX5_kindOf.data.toList.drop 265 = dktX5_kindOf_9 := dk_seg dksX5_kindOf_8 16 rfl rfl
theorem dksX5_kindOf_10 : cX5_kindOf.data.toList.drop 324 = dktX5_kindOf_10 := dk_seg dksX5_kindOf_9 59 rfl rfl
theorem dksX5_kindOf_11 : cX5_kindOf.data.toList.drop 348 = dktX5_kindOf_11 := dk_seg dksX5_kindOf_10 24 rfl rfl
theorem dX5_kindOf_0 : decode cX5_kindOf 0 = .ok (.aload_n 0, 1) := dk_42 (dk_at dksX5_kindOf_0 0 rfl rfl)
theorem dX5_kindOf_1 : decode cX5_kindOf 1 = .ok (.astore_n 1, 1) := dk_76 (dk_at dksX5_kindOf_0 1 rfl rfl)
theorem dX5_kindOf_2 : decode cX5_kindOf 2 = .ok (.iconst (-1), 1) := dk_2 (dk_at dksX5_kindOf_0 2 rfl rfl)
theorem dX5_kindOf_3 : decode cX5_kindOf 3 = .ok (.istore_n 2, 1) := dk_61 (dk_at dksX5_kindOf_0 3 rfl rfl)
theorem dX5_kindOf_4 : decode cX5_kindOf 4 = .ok (.aload_n 1, 1) := dk_43 (dk_at dksX5_kindOf_0 4 rfl rfl)
theorem dX5_kindOf_5 : decode cX5_kindOf 5 = .ok (.invokevirtual 143, 3) := dk_182 0 143 (dk_at dksX5_kindOf_0 5 rfl rfl)
theorem dX5_kindOf_8 : decode cX5_kindOf 8 = .ok (.lookupswitch 256 #[(3357, 244), (96673, 184), (96748, 156), (113762, 214), (114251, 199), (3089282, 170), (3347527, 114), (3526536, 100), (3556273, 229), (3641717, 142), (93616297, 128)], 100) := by decide +kernel
theorem dX5_kindOf_108 : decode cX5_kindOf 108 = .ok (.aload_n 1, 1) := dk_43 (dk_at dksX5_kindOf_2 0 rfl rfl)
theorem dX5_kindOf_109 : decode cX5_kindOf 109 = .ok (.ldc 146, 2) := dk_18 146 (dk_at dksX5_kindOf_2 1 rfl rfl)
theorem dX5_kindOf_111 : decode cX5_kindOf 111 = .ok (.invokevirtual 121, 3) := dk_182 0 121 (dk_at dksX5_kindOf_2 3 rfl rfl)
theorem dX5_kindOf_114 : decode cX5_kindOf 114 = .ok (.ifCond .eq 150, 3) := dk_153 0 150 (dk_at dksX5_kindOf_2 6 rfl rfl)
theorem dX5_kindOf_117 : decode cX5_kindOf 117 = .ok (.iconst 0, 1) := dk_3 (dk_at dksX5_kindOf_2 9 rfl rfl)
theorem dX5_kindOf_118 : decode cX5_kindOf 118 = .ok (.istore_n 2, 1) := dk_61 (dk_at dksX5_kindOf_2 10 rfl rfl)
theorem dX5_kindOf_119 : decode cX5_kindOf 119 = .ok (.goto 145, 3) := dk_167 0 145 (dk_at dksX5_kindOf_2 11 rfl rfl)
theorem dX5_kindOf_122 : decode cX5_kindOf 122 = .ok (.aload_n 1, 1) := dk_43 (dk_at dksX5_kindOf_2 14 rfl rfl)
theorem dX5_kindOf_123 : decode cX5_kindOf 123 = .ok (.ldc 148, 2) := dk_18 148 (dk_at dksX5_kindOf_2 15 rfl rfl)
theorem dX5_kindOf_125 : decode cX5_kindOf 125 = .ok (.invokevirtual 121, 3) := dk_182 0 121 (dk_at dksX5_kindOf_2 17 rfl rfl)
theorem dX5_kindOf_128 : decode cX5_kindOf 128 = .ok (.ifCond .eq 136, 3) := dk_153 0 136 (dk_at dksX5_kindOf_2 20 rfl rfl)
theorem dX5_kindOf_131 : decode cX5_kindOf 131 = .ok (.iconst 1, 1) := dk_4 (dk_at dksX5_kindOf_2 23 rfl rfl)
theorem dX5_kindOf_132 : decode cX5_kindOf 132 = .ok (.istore_n 2, 1) := dk_61 (dk_at dksX5_kindOf_3 0 rfl rfl)
theorem dX5_kindOf_133 : decode cX5_kindOf 133 = .ok (.goto 131, 3) := dk_167 0 131 (dk_at dksX5_kindOf_3 1 rfl rfl)
theorem dX5_kindOf_136 : decode cX5_kindOf 136 = .ok (.aload_n 1, 1) := dk_43 (dk_at dksX5_kindOf_3 4 rfl rfl)
theorem dX5_kindOf_137 : decode cX5_kindOf 137 = .ok (.ldc 150, 2) := dk_18 150 (dk_at dksX5_kindOf_3 5 rfl rfl)
theorem dX5_kindOf_139 : decode cX5_kindOf 139 = .ok (.invokevirtual 121, 3) := dk_182 0 121 (dk_at dksX5_kindOf_3 7 rfl rfl)
theorem dX5_kindOf_142 : decode cX5_kindOf 142 = .ok (.ifCond .eq 122, 3) := dk_153 0 122 (dk_at dksX5_kindOf_3 10 rfl rfl)
theorem dX5_kindOf_145 : decode cX5_kindOf 145 = .ok (.iconst 2, 1) := dk_5 (dk_at dksX5_kindOf_3 13 rfl rfl)
theorem dX5_kindOf_146 : decode cX5_kindOf 146 = .ok (.istore_n 2, 1) := dk_61 (dk_at dksX5_kindOf_3 14 rfl rfl)
theorem dX5_kindOf_147 : decode cX5_kindOf 147 = .ok (.goto 117, 3) := dk_167 0 117 (dk_at dksX5_kindOf_3 15 rfl rfl)
theorem dX5_kindOf_150 : decode cX5_kindOf 150 = .ok (.aload_n 1, 1) := dk_43 (dk_at dksX5_kindOf_3 18 rfl rfl)
theorem dX5_kindOf_151 : decode cX5_kindOf 151 = .ok (.ldc 152, 2) := dk_18 152 (dk_at dksX5_kindOf_3 19 rfl rfl)
theorem dX5_kindOf_153 : decode cX5_kindOf 153 = .ok (.invokevirtual 121, 3) := dk_182 0 121 (dk_at dksX5_kindOf_3 21 rfl rfl)
theorem dX5_kindOf_156 : decode cX5_kindOf 156 = .ok (.ifCond .eq 108, 3) := dk_153 0 108 (dk_at dksX5_kindOf_4 0 rfl rfl)
theorem dX5_kindOf_159 : decode cX5_kindOf 159 = .ok (.iconst 3, 1) := dk_6 (dk_at dksX5_kindOf_4 3 rfl rfl)
theorem dX5_kindOf_160 : decode cX5_kindOf 160 = .ok (.istore_n 2, 1) := dk_61 (dk_at dksX5_kindOf_4 4 rfl rfl)
theorem dX5_kindOf_161 : decode cX5_kindOf 161 = .ok (.goto 103, 3) := dk_167 0 103 (dk_at dksX5_kindOf_4 5 rfl rfl)
theorem dX5_kindOf_164 : decode cX5_kindOf 164 = .ok (.aload_n 1, 1) := dk_43 (dk_at dksX5_kindOf_4 8 rfl rfl)
theorem dX5_kindOf_165 : decode cX5_kindOf 165 = .ok (.ldc 154, 2) := dk_18 154 (dk_at dksX5_kindOf_4 9 rfl rfl)
theorem dX5_kindOf_167 : decode cX5_kindOf 167 = .ok (.invokevirtual 121, 3) := dk_182 0 121 (dk_at dksX5_kindOf_4 11 rfl rfl)
theorem dX5_kindOf_170 : decode cX5_kindOf 170 = .ok (.ifCond .eq 94, 3) := dk_153 0 94 (dk_at dksX5_kindOf_4 14 rfl rfl)
theorem dX5_kindOf_173 : decode cX5_kindOf 173 = .ok (.iconst 4, 1) := dk_7 (dk_at dksX5_kindOf_4 17 rfl rfl)
theorem dX5_kindOf_174 : decode cX5_kindOf 174 = .ok (.istore_n 2, 1) := dk_61 (dk_at dksX5_kindOf_4 18 rfl rfl)
theorem dX5_kindOf_175 : decode cX5_kindOf 175 = .ok (.goto 89, 3) := dk_167 0 89 (dk_at dksX5_kindOf_4 19 rfl rfl)
theorem dX5_kindOf_178 : decode cX5_kindOf 178 = .ok (.aload_n 1, 1) := dk_43 (dk_at dksX5_kindOf_4 22 rfl rfl)
theorem dX5_kindOf_179 : decode cX5_kindOf 179 = .ok (.ldc 156, 2) := dk_18 156 (dk_at dksX5_kindOf_5 0 rfl rfl)
theorem dX5_kindOf_181 : decode cX5_kindOf 181 = .ok (.invokevirtual 121, 3) := dk_182 0 121 (dk_at dksX5_kindOf_5 2 rfl rfl)
theorem dX5_kindOf_184 : decode cX5_kindOf 184 = .ok (.ifCond .eq 80, 3) := dk_153 0 80 (dk_at dksX5_kindOf_5 5 rfl rfl)
theorem dX5_kindOf_187 : decode cX5_kindOf 187 = .ok (.iconst 5, 1) := dk_8 (dk_at dksX5_kindOf_5 8 rfl rfl)
theorem dX5_kindOf_188 : decode cX5_kindOf 188 = .ok (.istore_n 2, 1) := dk_61 (dk_at dksX5_kindOf_5 9 rfl rfl)
theorem dX5_kindOf_189 : decode cX5_kindOf 189 = .ok (.goto 75, 3) := dk_167 0 75 (dk_at dksX5_kindOf_5 10 rfl rfl)
theorem dX5_kindOf_192 : decode cX5_kindOf 192 = .ok (.aload_n 1, 1) := dk_43 (dk_at dksX5_kindOf_5 13 rfl rfl)
theorem dX5_kindOf_193 : decode cX5_kindOf 193 = .ok (.ldc 158, 2) := dk_18 158 (dk_at dksX5_kindOf_5 14 rfl rfl)
theorem dX5_kindOf_195 : decode cX5_kindOf 195 = .ok (.invokevirtual 121, 3) := dk_182 0 121 (dk_at dksX5_kindOf_5 16 rfl rfl)
theorem dX5_kindOf_198 : decode cX5_kindOf 198 = .ok (.ifCond .eq 66, 3) := dk_153 0 66 (dk_at dksX5_kindOf_5 19 rfl rfl)
theorem dX5_kindOf_201 : decode cX5_kindOf 201 = .ok (.bipush 6, 2) := dk_16 6 (dk_at dksX5_kindOf_5 22 rfl rfl)
theorem dX5_kindOf_203 : decode cX5_kindOf 203 = .ok (.istore_n 2, 1) := dk_61 (dk_at dksX5_kindOf_6 0 rfl rfl)
theorem dX5_kindOf_204 : decode cX5_kindOf 204 = .ok (.goto 60, 3) := dk_167 0 60 (dk_at dksX5_kindOf_6 1 rfl rfl)
theorem dX5_kindOf_207 : decode cX5_kindOf 207 = .ok (.aload_n 1, 1) := dk_43 (dk_at dksX5_kindOf_6 4 rfl rfl)
theorem dX5_kindOf_208 : decode cX5_kindOf 208 = .ok (.ldc 160, 2) := dk_18 160 (dk_at dksX5_kindOf_6 5 rfl rfl)
theorem dX5_kindOf_210 : decode cX5_kindOf 210 = .ok (.invokevirtual 121, 3) := dk_182 0 121 (dk_at dksX5_kindOf_6 7 rfl rfl)
theorem dX5_kindOf_213 : decode cX5_kindOf 213 = .ok (.ifCond .eq 51, 3) := dk_153 0 51 (dk_at dksX5_kindOf_6 10 rfl rfl)
theorem dX5_kindOf_216 : decode cX5_kindOf 216 = .ok (.bipush 7, 2) := dk_16 7 (dk_at dksX5_kindOf_6 13 rfl rfl)
theorem dX5_kindOf_218 : decode cX5_kindOf 218 = .ok (.istore_n 2, 1) := dk_61 (dk_at dksX5_kindOf_6 15 rfl rfl)
theorem dX5_kindOf_219 : decode cX5_kindOf 219 = .ok (.goto 45, 3) := dk_167 0 45 (dk_at dksX5_kindOf_6 16 rfl rfl)
theorem dX5_kindOf_222 : decode cX5_kindOf 222 = .ok (.aload_n 1, 1) := dk_43 (dk_at dksX5_kindOf_6 19 rfl rfl)
theorem dX5_kindOf_223 : decode cX5_kindOf 223 = .ok (.ldc 162, 2) := dk_18 162 (dk_at dksX5_kindOf_6 20 rfl rfl)
theorem dX5_kindOf_225 : decode cX5_kindOf 225 = .ok (.invokevirtual 121, 3) := dk_182 0 121 (dk_at dksX5_kindOf_7 0 rfl rfl)
theorem dX5_kindOf_228 : decode cX5_kindOf 228 = .ok (.ifCond .eq 36, 3) := dk_153 0 36 (dk_at dksX5_kindOf_7 3 rfl rfl)
theorem dX5_kindOf_231 : decode cX5_kindOf 231 = .ok (.bipush 8, 2) := dk_16 8 (dk_at dksX5_kindOf_7 6 rfl rfl)
theorem dX5_kindOf_233 : decode cX5_kindOf 233 = .ok (.istore_n 2, 1) := dk_61 (dk_at dksX5_kindOf_7 8 rfl rfl)
theorem dX5_kindOf_234 : decode cX5_kindOf 234 = .ok (.goto 30, 3) := dk_167 0 30 (dk_at dksX5_kindOf_7 9 rfl rfl)
theorem dX5_kindOf_237 : decode cX5_kindOf 237 = .ok (.aload_n 1, 1) := dk_43 (dk_at dksX5_kindOf_7 12 rfl rfl)
theorem dX5_kindOf_238 : decode cX5_kindOf 238 = .ok (.ldc 164, 2) := dk_18 164 (dk_at dksX5_kindOf_7 13 rfl rfl)
theorem dX5_kindOf_240 : decode cX5_kindOf 240 = .ok (.invokevirtual 121, 3) := dk_182 0 121 (dk_at dksX5_kindOf_7 15 rfl rfl)
theorem dX5_kindOf_243 : decode cX5_kindOf 243 = .ok (.ifCond .eq 21, 3) := dk_153 0 21 (dk_at dksX5_kindOf_7 18 rfl rfl)
theorem dX5_kindOf_246 : decode cX5_kindOf 246 = .ok (.bipush 9, 2) := dk_16 9 (dk_at dksX5_kindOf_7 21 rfl rfl)
theorem dX5_kindOf_248 : decode cX5_kindOf 248 = .ok (.istore_n 2, 1) := dk_61 (dk_at dksX5_kindOf_7 23 rfl rfl)
theorem dX5_kindOf_249 : decode cX5_kindOf 249 = .ok (.goto 15, 3) := dk_167 0 15 (dk_at dksX5_kindOf_8 0 rfl rfl)
theorem dX5_kindOf_252 : decode cX5_kindOf 252 = .ok (.aload_n 1, 1) := dk_43 (dk_at dksX5_kindOf_8 3 rfl rfl)
theorem dX5_kindOf_253 : decode cX5_kindOf 253 = .ok (.ldc 166, 2) := dk_18 166 (dk_at dksX5_kindOf_8 4 rfl rfl)
theorem dX5_kindOf_255 : decode cX5_kindOf 255 = .ok (.invokevirtual 121, 3) := dk_182 0 121 (dk_at dksX5_kindOf_8 6 rfl rfl)
theorem dX5_kindOf_258 : decode cX5_kindOf 258 = .ok (.ifCond .eq 6, 3) := dk_153 0 6 (dk_at dksX5_kindOf_8 9 rfl rfl)
theorem dX5_kindOf_261 : decode cX5_kindOf 261 = .ok (.bipush 10, 2) := dk_16 10 (dk_at dksX5_kindOf_8 12 rfl rfl)
theorem dX5_kindOf_263 : decode cX5_kindOf 263 = .ok (.istore_n 2, 1) := dk_61 (dk_at dksX5_kindOf_8 14 rfl rfl)
theorem dX5_kindOf_264 : decode cX5_kindOf 264 = .ok (.iload_n 2, 1) := dk_28 (dk_at dksX5_kindOf_8 15 rfl rfl)
theorem dX5_kindOf_265 : decode cX5_kindOf 265 = .ok (.tableswitch 86 0 10 #[59, 61, 63, 65, 67, 69, 71, 74, 77, 80, 83], 59) := by decide +kernel
theorem dX5_kindOf_324 : decode cX5_kindOf 324 = .ok (.iconst 0, 1) := dk_3 (dk_at dksX5_kindOf_10 0 rfl rfl)
theorem dX5_kindOf_325 : decode cX5_kindOf 325 = .ok (.ireturn, 1) := dk_172 (dk_at dksX5_kindOf_10 1 rfl rfl)
theorem dX5_kindOf_326 : decode cX5_kindOf 326 = .ok (.iconst 1, 1) := dk_4 (dk_at dksX5_kindOf_10 2 rfl rfl)
theorem dX5_kindOf_327 : decode cX5_kindOf 327 = .ok (.ireturn, 1) := dk_172 (dk_at dksX5_kindOf_10 3 rfl rfl)
theorem dX5_kindOf_328 : decode cX5_kindOf 328 = .ok (.iconst 2, 1) := dk_5 (dk_at dksX5_kindOf_10 4 rfl rfl)
theorem dX5_kindOf_329 : decode cX5_kindOf 329 = .ok (.ireturn, 1) := dk_172 (dk_at dksX5_kindOf_10 5 rfl rfl)
theorem dX5_kindOf_330 : decode cX5_kindOf 330 = .ok (.iconst 3, 1) := dk_6 (dk_at dksX5_kindOf_10 6 rfl rfl)
theorem dX5_kindOf_331 : decode cX5_kindOf 331 = .ok (.ireturn, 1) := dk_172 (dk_at dksX5_kindOf_10 7 rfl rfl)
theorem dX5_kindOf_332 : decode cX5_kindOf 332 = .ok (.iconst 4, 1) := dk_7 (dk_at dksX5_kindOf_10 8 rfl rfl)
theorem dX5_kindOf_333 : decode cX5_kindOf 333 = .ok (.ireturn, 1) := dk_172 (dk_at dksX5_kindOf_10 9 rfl rfl)
theorem dX5_kindOf_334 : decode cX5_kindOf 334 = .ok (.iconst 5, 1) := dk_8 (dk_at dksX5_kindOf_10 10 rfl rfl)
theorem dX5_kindOf_335 : decode cX5_kindOf 335 = .ok (.ireturn, 1) := dk_172 (dk_at dksX5_kindOf_10 11 rfl rfl)
theorem dX5_kindOf_336 : decode cX5_kindOf 336 = .ok (.bipush 6, 2) := dk_16 6 (dk_at dksX5_kindOf_10 12 rfl rfl)
theorem dX5_kindOf_338 : decode cX5_kindOf 338 = .ok (.ireturn, 1) := dk_172 (dk_at dksX5_kindOf_10 14 rfl rfl)
theorem dX5_kindOf_339 : decode cX5_kindOf 339 = .ok (.bipush 7, 2) := dk_16 7 (dk_at dksX5_kindOf_10 15 rfl rfl)
theorem dX5_kindOf_341 : decode cX5_kindOf 341 = .ok (.ireturn, 1) := dk_172 (dk_at dksX5_kindOf_10 17 rfl rfl)
theorem dX5_kindOf_342 : decode cX5_kindOf 342 = .ok (.bipush 8, 2) := dk_16 8 (dk_at dksX5_kindOf_10 18 rfl rfl)
theorem dX5_kindOf_344 : decode cX5_kindOf 344 = .ok (.ireturn, 1) := dk_172 (dk_at dksX5_kindOf_10 20 rfl rfl)
theorem dX5_kindOf_345 : decode cX5_kindOf 345 = .ok (.bipush 9, 2) := dk_16 9 (dk_at dksX5_kindOf_10 21 rfl rfl)
theorem dX5_kindOf_347 : decode cX5_kindOf 347 = .ok (.ireturn, 1) := dk_172 (dk_at dksX5_kindOf_10 23 rfl rfl)
theorem dX5_kindOf_348 : decode cX5_kindOf 348 = .ok (.bipush 10, 2) := dk_16 10 (dk_at dksX5_kindOf_11 0 rfl rfl)
theorem dX5_kindOf_350 : decode cX5_kindOf 350 = .ok (.ireturn, 1) := dk_172 (dk_at dksX5_kindOf_11 2 rfl rfl)
theorem dX5_kindOf_351 : decode cX5_kindOf 351 = .ok (.iconst (-1), 1) := dk_2 (dk_at dksX5_kindOf_11 3 rfl rfl)
theorem dX5_kindOf_352 : decode cX5_kindOf 352 = .ok (.ireturn, 1) := dk_172 (dk_at dksX5_kindOf_11 4 rfl rfl)
abbrev cX5_check : ByteArray := prog_9_method_7_code
def yX5_check : MethodName := ⟨RX5, "check", "(ZI)V"⟩
def dkwX5_check_0 : List UInt8 := [27, 154, 0, 16, 187, 0, 125, 89, 28, 42, 180, 0, 57, 183, 0, 127, 191, 177]
abbrev dktX5_check_0 : List UInt8 := dkwX5_check_0 ++ []
theorem dksX5_check_0 : cX5_check.data.toList.drop 0 = dktX5_check_0 := by decide +kernel
theorem dX5_check_0 : decode cX5_check 0 = .ok (.iload_n 1, 1) := dk_27 (dk_at dksX5_check_0 0 rfl rfl)
theorem dX5_check_1 : decode cX5_check 1 = .ok (.ifCond .ne 16, 3) := dk_154 0 16 (dk_at dksX5_check_0 1 rfl rfl)
theorem dX5_check_4 : decode cX5_check 4 = .ok (.new 125, 3) := dk_187 0 125 (dk_at dksX5_check_0 4 rfl rfl)
theorem dX5_check_7 : decode cX5_check 7 = .ok (.dup, 1) := dk_89 (dk_at dksX5_check_0 7 rfl rfl)
theorem dX5_check_8 : decode cX5_check 8 = .ok (.iload_n 2, 1) := dk_28 (dk_at dksX5_check_0 8 rfl rfl)
theorem dX5_check_9 : decode cX5_check 9 = .ok (.aload_n 0, 1) := dk_42 (dk_at dksX5_check_0 9 rfl rfl)
theorem dX5_check_10 : decode cX5_check 10 = .ok (.getfield 57, 3) := dk_180 0 57 (dk_at dksX5_check_0 10 rfl rfl)
theorem dX5_check_13 : decode cX5_check 13 = .ok (.invokespecial 127, 3) := dk_183 0 127 (dk_at dksX5_check_0 13 rfl rfl)
theorem dX5_check_16 : decode cX5_check 16 = .ok (.athrow, 1) := dk_191 (dk_at dksX5_check_0 16 rfl rfl)
theorem dX5_check_17 : decode cX5_check 17 = .ok (.return_, 1) := dk_177 (dk_at dksX5_check_0 17 rfl rfl)
abbrev cX5_step : ByteArray := prog_9_method_15_code
def yX5_step : MethodName := ⟨RX5, "step", "(II)LSendHall$Step;"⟩
def dkwX5_step_7 : List UInt8 := [180, 0, 20, 180, 0, 201, 28, 45, 182, 1, 3, 87, 45, 176]
abbrev dktX5_step_7 : List UInt8 := dkwX5_step_7 ++ []
def dkwX5_step_6 : List UInt8 := [167, 0, 23, 42, 28, 182, 0, 248, 176, 42, 187, 0, 252, 89, 27, 28, 183, 0, 254, 182, 0, 255, 78, 42]
abbrev dktX5_step_6 : List UInt8 := dkwX5_step_6 ++ dktX5_step_7
def dkwX5_step_5 : List UInt8 := [180, 0, 20, 180, 0, 201, 1, 182, 0, 210, 87, 187, 0, 243, 89, 28, 42, 182, 0, 236, 183, 0, 245, 78]
abbrev dktX5_step_5 : List UInt8 := dkwX5_step_5 ++ dktX5_step_6
def dkwX5_step_4 : List UInt8 := [182, 0, 231, 54, 4, 187, 0, 234, 89, 28, 21, 4, 42, 182, 0, 236, 183, 0, 240, 78, 167, 0, 51, 42]
abbrev dktX5_step_4 : List UInt8 := dkwX5_step_4 ++ dktX5_step_5
def dkwX5_step_3 : List UInt8 := [183, 0, 227, 182, 0, 228, 78, 167, 0, 87, 42, 180, 0, 20, 180, 0, 201, 1, 182, 0, 210, 87, 42]
abbrev dktX5_step_3 : List UInt8 := dkwX5_step_3 ++ dktX5_step_4
def dkwX5_step_2 : List UInt8 := [42, 187, 0, 219, 89, 27, 28, 183, 0, 221, 182, 0, 222, 78, 167, 0, 104, 42, 187, 0, 225, 89, 27, 28]
abbrev dktX5_step_2 : List UInt8 := dkwX5_step_2 ++ dktX5_step_3
def dkwX5_step_1 : List UInt8 := [170, 0, 0, 0, 0, 0, 163, 0, 0, 0, 0, 0, 0, 0, 10, 0, 0, 0, 59, 0, 0, 0, 59, 0, 0, 0, 59, 0, 0, 0, 76, 0, 0, 0, 76, 0, 0, 0, 163, 0, 0, 0, 163, 0, 0, 0, 163, 0, 0, 0, 93, 0, 0, 0, 129, 0, 0, 0, 157]
abbrev dktX5_step_1 : List UInt8 := dkwX5_step_1 ++ dktX5_step_2
def dkwX5_step_0 : List UInt8 := [27]
abbrev dktX5_step_0 : List UInt8 := dkwX5_step_0 ++ dktX5_step_1
theorem dksX5_step_0 : cX5_step.data.toList.drop 0 = dktX5_step_0 := by decide +kernel
theorem dksX5_step_1 : cX5_step.data.toList.drop 1 = dktX5_step_1 := dk_seg dksX5_step_0 1 rfl rfl
theorem dksX5_step_2 : cX5_step.data.toList.drop 60 = dktX5_step_2 := dk_seg dksX5_step_1 59 rfl rfl
theorem dksX5_step_3 : cX5_step.data.toList.drop 84 = dktX5_step_3 := dk_seg dksX5_step_2 24 rfl rfl
theorem dksX5_step_4 : cX5_step.data.toList.drop 107 = dktX5_step_4 := dk_seg dksX5_step_3 23 rfl rfl
theorem dksX5_step_5 : cX5_step.data.toList.drop 131 = dktX5_step_5 := dk_seg dksX5_step_4 24 rfl rfl
theorem dksX5_step_6 : cX5_step.data.toList.drop 155 = dktX5_step_6 := dk_seg dksX5_step_5 24 rfl rfl
theorem dksX5_step_7 : cX5_step.data.toList.drop 179 = dktX5_step_7 := dk_seg dksX5_step_6 24 rfl rfl
theorem dX5_step_0 : decode cX5_step 0 = .ok (.iload_n 1, 1) := dk_27 (dk_at dksX5_step_0 0 rfl rfl)
theorem dX5_step_1 : decode cX5_step 1 = .ok (.tableswitch 163 0 10 #[59, 59, 59, 76, 76, 163, 163, 163, 93, 129, 157], 59) := by decide +kernel
theorem dX5_step_60 : decode cX5_step 60 = .ok (.aload_n 0, 1) := dk_42 (dk_at dksX5_step_2 0 rfl rfl)
theorem dX5_step_61 : decode cX5_step 61 = .ok (.new 219, 3) := dk_187 0 219 (dk_at dksX5_step_2 1 rfl rfl)
theorem dX5_step_64 : decode cX5_step 64 = .ok (.dup, 1) := dk_89 (dk_at dksX5_step_2 4 rfl rfl)
theorem dX5_step_65 : decode cX5_step 65 = .ok (.iload_n 1, 1) := dk_27 (dk_at dksX5_step_2 5 rfl rfl)
theorem dX5_step_66 : decode cX5_step 66 = .ok (.iload_n 2, 1) := dk_28 (dk_at dksX5_step_2 6 rfl rfl)
theorem dX5_step_67 : decode cX5_step 67 = .ok (.invokespecial 221, 3) := dk_183 0 221 (dk_at dksX5_step_2 7 rfl rfl)
theorem dX5_step_70 : decode cX5_step 70 = .ok (.invokevirtual 222, 3) := dk_182 0 222 (dk_at dksX5_step_2 10 rfl rfl)
theorem dX5_step_73 : decode cX5_step 73 = .ok (.astore_n 3, 1) := dk_78 (dk_at dksX5_step_2 13 rfl rfl)
theorem dX5_step_74 : decode cX5_step 74 = .ok (.goto 104, 3) := dk_167 0 104 (dk_at dksX5_step_2 14 rfl rfl)
theorem dX5_step_77 : decode cX5_step 77 = .ok (.aload_n 0, 1) := dk_42 (dk_at dksX5_step_2 17 rfl rfl)
theorem dX5_step_78 : decode cX5_step 78 = .ok (.new 225, 3) := dk_187 0 225 (dk_at dksX5_step_2 18 rfl rfl)
theorem dX5_step_81 : decode cX5_step 81 = .ok (.dup, 1) := dk_89 (dk_at dksX5_step_2 21 rfl rfl)
theorem dX5_step_82 : decode cX5_step 82 = .ok (.iload_n 1, 1) := dk_27 (dk_at dksX5_step_2 22 rfl rfl)
theorem dX5_step_83 : decode cX5_step 83 = .ok (.iload_n 2, 1) := dk_28 (dk_at dksX5_step_2 23 rfl rfl)
theorem dX5_step_84 : decode cX5_step 84 = .ok (.invokespecial 227, 3) := dk_183 0 227 (dk_at dksX5_step_3 0 rfl rfl)
theorem dX5_step_87 : decode cX5_step 87 = .ok (.invokevirtual 228, 3) := dk_182 0 228 (dk_at dksX5_step_3 3 rfl rfl)
theorem dX5_step_90 : decode cX5_step 90 = .ok (.astore_n 3, 1) := dk_78 (dk_at dksX5_step_3 6 rfl rfl)
theorem dX5_step_91 : decode cX5_step 91 = .ok (.goto 87, 3) := dk_167 0 87 (dk_at dksX5_step_3 7 rfl rfl)
theorem dX5_step_94 : decode cX5_step 94 = .ok (.aload_n 0, 1) := dk_42 (dk_at dksX5_step_3 10 rfl rfl)
theorem dX5_step_95 : decode cX5_step 95 = .ok (.getfield 20, 3) := dk_180 0 20 (dk_at dksX5_step_3 11 rfl rfl)
theorem dX5_step_98 : decode cX5_step 98 = .ok (.getfield 201, 3) := dk_180 0 201 (dk_at dksX5_step_3 14 rfl rfl)
theorem dX5_step_101 : decode cX5_step 101 = .ok (.aconst_null, 1) := dk_1 (dk_at dksX5_step_3 17 rfl rfl)
theorem dX5_step_102 : decode cX5_step 102 = .ok (.invokevirtual 210, 3) := dk_182 0 210 (dk_at dksX5_step_3 18 rfl rfl)
theorem dX5_step_105 : decode cX5_step 105 = .ok (.pop, 1) := dk_87 (dk_at dksX5_step_3 21 rfl rfl)
theorem dX5_step_106 : decode cX5_step 106 = .ok (.aload_n 0, 1) := dk_42 (dk_at dksX5_step_3 22 rfl rfl)
theorem dX5_step_107 : decode cX5_step 107 = .ok (.invokevirtual 231, 3) := dk_182 0 231 (dk_at dksX5_step_4 0 rfl rfl)
theorem dX5_step_110 : decode cX5_step 110 = .ok (.istore 4, 2) := dk_54 4 (dk_at dksX5_step_4 3 rfl rfl)
theorem dX5_step_112 : decode cX5_step 112 = .ok (.new 234, 3) := dk_187 0 234 (dk_at dksX5_step_4 5 rfl rfl)
theorem dX5_step_115 : decode cX5_step 115 = .ok (.dup, 1) := dk_89 (dk_at dksX5_step_4 8 rfl rfl)
theorem dX5_step_116 : decode cX5_step 116 = .ok (.iload_n 2, 1) := dk_28 (dk_at dksX5_step_4 9 rfl rfl)
theorem dX5_step_117 : decode cX5_step 117 = .ok (.iload 4, 2) := dk_21 4 (dk_at dksX5_step_4 10 rfl rfl)
theorem dX5_step_119 : decode cX5_step 119 = .ok (.aload_n 0, 1) := dk_42 (dk_at dksX5_step_4 12 rfl rfl)
theorem dX5_step_120 : decode cX5_step 120 = .ok (.invokevirtual 236, 3) := dk_182 0 236 (dk_at dksX5_step_4 13 rfl rfl)
theorem dX5_step_123 : decode cX5_step 123 = .ok (.invokespecial 240, 3) := dk_183 0 240 (dk_at dksX5_step_4 16 rfl rfl)
theorem dX5_step_126 : decode cX5_step 126 = .ok (.astore_n 3, 1) := dk_78 (dk_at dksX5_step_4 19 rfl rfl)
theorem dX5_step_127 : decode cX5_step 127 = .ok (.goto 51, 3) := dk_167 0 51 (dk_at dksX5_step_4 20 rfl rfl)
theorem dX5_step_130 : decode cX5_step 130 = .ok (.aload_n 0, 1) := dk_42 (dk_at dksX5_step_4 23 rfl rfl)
theorem dX5_step_131 : decode cX5_step 131 = .ok (.getfield 20, 3) := dk_180 0 20 (dk_at dksX5_step_5 0 rfl rfl)
theorem dX5_step_134 : decode cX5_step 134 = .ok (.getfield 201, 3) := dk_180 0 201 (dk_at dksX5_step_5 3 rfl rfl)
theorem dX5_step_137 : decode cX5_step 137 = .ok (.aconst_null, 1) := dk_1 (dk_at dksX5_step_5 6 rfl rfl)
theorem dX5_step_138 : decode cX5_step 138 = .ok (.invokevirtual 210, 3) := dk_182 0 210 (dk_at dksX5_step_5 7 rfl rfl)
theorem dX5_step_141 : decode cX5_step 141 = .ok (.pop, 1) := dk_87 (dk_at dksX5_step_5 10 rfl rfl)
theorem dX5_step_142 : decode cX5_step 142 = .ok (.new 243, 3) := dk_187 0 243 (dk_at dksX5_step_5 11 rfl rfl)
theorem dX5_step_145 : decode cX5_step 145 = .ok (.dup, 1) := dk_89 (dk_at dksX5_step_5 14 rfl rfl)
theorem dX5_step_146 : decode cX5_step 146 = .ok (.iload_n 2, 1) := dk_28 (dk_at dksX5_step_5 15 rfl rfl)
theorem dX5_step_147 : decode cX5_step 147 = .ok (.aload_n 0, 1) := dk_42 (dk_at dksX5_step_5 16 rfl rfl)
theorem dX5_step_148 : decode cX5_step 148 = .ok (.invokevirtual 236, 3) := dk_182 0 236 (dk_at dksX5_step_5 17 rfl rfl)
theorem dX5_step_151 : decode cX5_step 151 = .ok (.invokespecial 245, 3) := dk_183 0 245 (dk_at dksX5_step_5 20 rfl rfl)
theorem dX5_step_154 : decode cX5_step 154 = .ok (.astore_n 3, 1) := dk_78 (dk_at dksX5_step_5 23 rfl rfl)
theorem dX5_step_155 : decode cX5_step 155 = .ok (.goto 23, 3) := dk_167 0 23 (dk_at dksX5_step_6 0 rfl rfl)
theorem dX5_step_158 : decode cX5_step 158 = .ok (.aload_n 0, 1) := dk_42 (dk_at dksX5_step_6 3 rfl rfl)
theorem dX5_step_159 : decode cX5_step 159 = .ok (.iload_n 2, 1) := dk_28 (dk_at dksX5_step_6 4 rfl rfl)
theorem dX5_step_160 : decode cX5_step 160 = .ok (.invokevirtual 248, 3) := dk_182 0 248 (dk_at dksX5_step_6 5 rfl rfl)
theorem dX5_step_163 : decode cX5_step 163 = .ok (.areturn, 1) := dk_176 (dk_at dksX5_step_6 8 rfl rfl)
theorem dX5_step_164 : decode cX5_step 164 = .ok (.aload_n 0, 1) := dk_42 (dk_at dksX5_step_6 9 rfl rfl)
theorem dX5_step_165 : decode cX5_step 165 = .ok (.new 252, 3) := dk_187 0 252 (dk_at dksX5_step_6 10 rfl rfl)
theorem dX5_step_168 : decode cX5_step 168 = .ok (.dup, 1) := dk_89 (dk_at dksX5_step_6 13 rfl rfl)
theorem dX5_step_169 : decode cX5_step 169 = .ok (.iload_n 1, 1) := dk_27 (dk_at dksX5_step_6 14 rfl rfl)
theorem dX5_step_170 : decode cX5_step 170 = .ok (.iload_n 2, 1) := dk_28 (dk_at dksX5_step_6 15 rfl rfl)
theorem dX5_step_171 : decode cX5_step 171 = .ok (.invokespecial 254, 3) := dk_183 0 254 (dk_at dksX5_step_6 16 rfl rfl)
theorem dX5_step_174 : decode cX5_step 174 = .ok (.invokevirtual 255, 3) := dk_182 0 255 (dk_at dksX5_step_6 19 rfl rfl)
theorem dX5_step_177 : decode cX5_step 177 = .ok (.astore_n 3, 1) := dk_78 (dk_at dksX5_step_6 22 rfl rfl)
theorem dX5_step_178 : decode cX5_step 178 = .ok (.aload_n 0, 1) := dk_42 (dk_at dksX5_step_6 23 rfl rfl)
theorem dX5_step_179 : decode cX5_step 179 = .ok (.getfield 20, 3) := dk_180 0 20 (dk_at dksX5_step_7 0 rfl rfl)
theorem dX5_step_182 : decode cX5_step 182 = .ok (.getfield 201, 3) := dk_180 0 201 (dk_at dksX5_step_7 3 rfl rfl)
theorem dX5_step_185 : decode cX5_step 185 = .ok (.iload_n 2, 1) := dk_28 (dk_at dksX5_step_7 6 rfl rfl)
theorem dX5_step_186 : decode cX5_step 186 = .ok (.aload_n 3, 1) := dk_45 (dk_at dksX5_step_7 7 rfl rfl)
theorem dX5_step_187 : decode cX5_step 187 = .ok (.invokevirtual 259, 3) := dk_182 1 3 (dk_at dksX5_step_7 8 rfl rfl)
theorem dX5_step_190 : decode cX5_step 190 = .ok (.pop, 1) := dk_87 (dk_at dksX5_step_7 11 rfl rfl)
theorem dX5_step_191 : decode cX5_step 191 = .ok (.aload_n 3, 1) := dk_45 (dk_at dksX5_step_7 12 rfl rfl)
theorem dX5_step_192 : decode cX5_step 192 = .ok (.areturn, 1) := dk_176 (dk_at dksX5_step_7 13 rfl rfl)
abbrev cX5_send : ByteArray := prog_9_method_16_code
def yX5_send : MethodName := ⟨RX5, "send", "(LSendHall$Send;)LSendHall$Step;"⟩
def dkwX5_send_3 : List UInt8 := [182, 1, 21, 181, 1, 25, 43, 176]
abbrev dktX5_send_3 : List UInt8 := dkwX5_send_3 ++ []
def dkwX5_send_2 : List UInt8 := [181, 1, 17, 42, 19, 1, 19, 182, 0, 130, 153, 0, 18, 42, 182, 0, 47, 43, 42, 4, 16, 99]
abbrev dktX5_send_2 : List UInt8 := dkwX5_send_2 ++ dktX5_send_3
def dkwX5_send_1 : List UInt8 := [182, 0, 215, 43, 42, 182, 1, 6, 181, 1, 14, 42, 19, 1, 16, 182, 0, 215, 43, 42, 182, 1, 6]
abbrev dktX5_send_1 : List UInt8 := dkwX5_send_1 ++ dktX5_send_2
def dkwX5_send_0 : List UInt8 := [42, 180, 0, 20, 180, 0, 201, 43, 182, 0, 210, 87, 43, 42, 182, 1, 6, 181, 1, 8, 42, 19, 1, 12]
abbrev dktX5_send_0 : List UInt8 := dkwX5_send_0 ++ dktX5_send_1
theorem dksX5_send_0 : cX5_send.data.toList.drop 0 = dktX5_send_0 := by decide +kernel
theorem dksX5_send_1 : cX5_send.data.toList.drop 24 = dktX5_send_1 := dk_seg dksX5_send_0 24 rfl rfl
theorem dksX5_send_2 : cX5_send.data.toList.drop 47 = dktX5_send_2 := dk_seg dksX5_send_1 23 rfl rfl
theorem dksX5_send_3 : cX5_send.data.toList.drop 69 = dktX5_send_3 := dk_seg dksX5_send_2 22 rfl rfl
theorem dX5_send_0 : decode cX5_send 0 = .ok (.aload_n 0, 1) := dk_42 (dk_at dksX5_send_0 0 rfl rfl)
theorem dX5_send_1 : decode cX5_send 1 = .ok (.getfield 20, 3) := dk_180 0 20 (dk_at dksX5_send_0 1 rfl rfl)
theorem dX5_send_4 : decode cX5_send 4 = .ok (.getfield 201, 3) := dk_180 0 201 (dk_at dksX5_send_0 4 rfl rfl)
theorem dX5_send_7 : decode cX5_send 7 = .ok (.aload_n 1, 1) := dk_43 (dk_at dksX5_send_0 7 rfl rfl)
theorem dX5_send_8 : decode cX5_send 8 = .ok (.invokevirtual 210, 3) := dk_182 0 210 (dk_at dksX5_send_0 8 rfl rfl)
theorem dX5_send_11 : decode cX5_send 11 = .ok (.pop, 1) := dk_87 (dk_at dksX5_send_0 11 rfl rfl)
theorem dX5_send_12 : decode cX5_send 12 = .ok (.aload_n 1, 1) := dk_43 (dk_at dksX5_send_0 12 rfl rfl)
theorem dX5_send_13 : decode cX5_send 13 = .ok (.aload_n 0, 1) := dk_42 (dk_at dksX5_send_0 13 rfl rfl)
theorem dX5_send_14 : decode cX5_send 14 = .ok (.invokevirtual 262, 3) := dk_182 1 6 (dk_at dksX5_send_0 14 rfl rfl)
theorem dX5_send_17 : decode cX5_send 17 = .ok (.putfield 264, 3) := dk_181 1 8 (dk_at dksX5_send_0 17 rfl rfl)
theorem dX5_send_20 : decode cX5_send 20 = .ok (.aload_n 0, 1) := dk_42 (dk_at dksX5_send_0 20 rfl rfl)
theorem dX5_send_21 : decode cX5_send 21 = .ok (.ldc_w 268, 3) := dk_19 1 12 (dk_at dksX5_send_0 21 rfl rfl)
theorem dX5_send_24 : decode cX5_send 24 = .ok (.invokevirtual 215, 3) := dk_182 0 215 (dk_at dksX5_send_1 0 rfl rfl)
theorem dX5_send_27 : decode cX5_send 27 = .ok (.aload_n 1, 1) := dk_43 (dk_at dksX5_send_1 3 rfl rfl)
theorem dX5_send_28 : decode cX5_send 28 = .ok (.aload_n 0, 1) := dk_42 (dk_at dksX5_send_1 4 rfl rfl)
theorem dX5_send_29 : decode cX5_send 29 = .ok (.invokevirtual 262, 3) := dk_182 1 6 (dk_at dksX5_send_1 5 rfl rfl)
theorem dX5_send_32 : decode cX5_send 32 = .ok (.putfield 270, 3) := dk_181 1 14 (dk_at dksX5_send_1 8 rfl rfl)
theorem dX5_send_35 : decode cX5_send 35 = .ok (.aload_n 0, 1) := dk_42 (dk_at dksX5_send_1 11 rfl rfl)
theorem dX5_send_36 : decode cX5_send 36 = .ok (.ldc_w 272, 3) := dk_19 1 16 (dk_at dksX5_send_1 12 rfl rfl)
theorem dX5_send_39 : decode cX5_send 39 = .ok (.invokevirtual 215, 3) := dk_182 0 215 (dk_at dksX5_send_1 15 rfl rfl)
theorem dX5_send_42 : decode cX5_send 42 = .ok (.aload_n 1, 1) := dk_43 (dk_at dksX5_send_1 18 rfl rfl)
theorem dX5_send_43 : decode cX5_send 43 = .ok (.aload_n 0, 1) := dk_42 (dk_at dksX5_send_1 19 rfl rfl)
theorem dX5_send_44 : decode cX5_send 44 = .ok (.invokevirtual 262, 3) := dk_182 1 6 (dk_at dksX5_send_1 20 rfl rfl)
theorem dX5_send_47 : decode cX5_send 47 = .ok (.putfield 273, 3) := dk_181 1 17 (dk_at dksX5_send_2 0 rfl rfl)
theorem dX5_send_50 : decode cX5_send 50 = .ok (.aload_n 0, 1) := dk_42 (dk_at dksX5_send_2 3 rfl rfl)
theorem dX5_send_51 : decode cX5_send 51 = .ok (.ldc_w 275, 3) := dk_19 1 19 (dk_at dksX5_send_2 4 rfl rfl)
theorem dX5_send_54 : decode cX5_send 54 = .ok (.invokevirtual 130, 3) := dk_182 0 130 (dk_at dksX5_send_2 7 rfl rfl)
theorem dX5_send_57 : decode cX5_send 57 = .ok (.ifCond .eq 18, 3) := dk_153 0 18 (dk_at dksX5_send_2 10 rfl rfl)
theorem dX5_send_60 : decode cX5_send 60 = .ok (.aload_n 0, 1) := dk_42 (dk_at dksX5_send_2 13 rfl rfl)
theorem dX5_send_61 : decode cX5_send 61 = .ok (.invokevirtual 47, 3) := dk_182 0 47 (dk_at dksX5_send_2 14 rfl rfl)
theorem dX5_send_64 : decode cX5_send 64 = .ok (.aload_n 1, 1) := dk_43 (dk_at dksX5_send_2 17 rfl rfl)
theorem dX5_send_65 : decode cX5_send 65 = .ok (.aload_n 0, 1) := dk_42 (dk_at dksX5_send_2 18 rfl rfl)
theorem dX5_send_66 : decode cX5_send 66 = .ok (.iconst 1, 1) := dk_4 (dk_at dksX5_send_2 19 rfl rfl)
theorem dX5_send_67 : decode cX5_send 67 = .ok (.bipush 99, 2) := dk_16 99 (dk_at dksX5_send_2 20 rfl rfl)
theorem dX5_send_69 : decode cX5_send 69 = .ok (.invokevirtual 277, 3) := dk_182 1 21 (dk_at dksX5_send_3 0 rfl rfl)
theorem dX5_send_72 : decode cX5_send 72 = .ok (.putfield 281, 3) := dk_181 1 25 (dk_at dksX5_send_3 3 rfl rfl)
theorem dX5_send_75 : decode cX5_send 75 = .ok (.aload_n 1, 1) := dk_43 (dk_at dksX5_send_3 6 rfl rfl)
theorem dX5_send_76 : decode cX5_send 76 = .ok (.areturn, 1) := dk_176 (dk_at dksX5_send_3 7 rfl rfl)
abbrev cX5_sum : ByteArray := prog_9_method_22_code
def yX5_sum : MethodName := ⟨RX5, "sum", "()LSendHall$Expr;"⟩
def dkwX5_sum_3 : List UInt8 := [167, 0, 4, 44, 176]
abbrev dktX5_sum_3 : List UInt8 := dkwX5_sum_3 ++ []
def dkwX5_sum_2 : List UInt8 := [62, 42, 182, 0, 47, 44, 29, 42, 182, 1, 77, 182, 1, 74, 167, 255, 201, 44, 199, 0, 7, 43]
abbrev dktX5_sum_2 : List UInt8 := dkwX5_sum_2 ++ dktX5_sum_3
def dkwX5_sum_1 : List UInt8 := [153, 0, 41, 44, 199, 0, 12, 187, 1, 69, 89, 43, 183, 1, 71, 77, 42, 180, 0, 11, 3, 182, 0, 139]
abbrev dktX5_sum_1 : List UInt8 := dkwX5_sum_1 ++ dktX5_sum_2
def dkwX5_sum_0 : List UInt8 := [42, 182, 1, 77, 76, 1, 77, 42, 19, 1, 80, 182, 0, 130, 154, 0, 13, 42, 19, 1, 82, 182, 0, 130]
abbrev dktX5_sum_0 : List UInt8 := dkwX5_sum_0 ++ dktX5_sum_1
theorem dksX5_sum_0 : cX5_sum.data.toList.drop 0 = dktX5_sum_0 := by decide +kernel
theorem dksX5_sum_1 : cX5_sum.data.toList.drop 24 = dktX5_sum_1 := dk_seg dksX5_sum_0 24 rfl rfl
theorem dksX5_sum_2 : cX5_sum.data.toList.drop 48 = dktX5_sum_2 := dk_seg dksX5_sum_1 24 rfl rfl
theorem dksX5_sum_3 : cX5_sum.data.toList.drop 70 = dktX5_sum_3 := dk_seg dksX5_sum_2 22 rfl rfl
theorem dX5_sum_0 : decode cX5_sum 0 = .ok (.aload_n 0, 1) := dk_42 (dk_at dksX5_sum_0 0 rfl rfl)
theorem dX5_sum_1 : decode cX5_sum 1 = .ok (.invokevirtual 333, 3) := dk_182 1 77 (dk_at dksX5_sum_0 1 rfl rfl)
theorem dX5_sum_4 : decode cX5_sum 4 = .ok (.astore_n 1, 1) := dk_76 (dk_at dksX5_sum_0 4 rfl rfl)
theorem dX5_sum_5 : decode cX5_sum 5 = .ok (.aconst_null, 1) := dk_1 (dk_at dksX5_sum_0 5 rfl rfl)
theorem dX5_sum_6 : decode cX5_sum 6 = .ok (.astore_n 2, 1) := dk_77 (dk_at dksX5_sum_0 6 rfl rfl)
theorem dX5_sum_7 : decode cX5_sum 7 = .ok (.aload_n 0, 1) := dk_42 (dk_at dksX5_sum_0 7 rfl rfl)
theorem dX5_sum_8 : decode cX5_sum 8 = .ok (.ldc_w 336, 3) := dk_19 1 80 (dk_at dksX5_sum_0 8 rfl rfl)
theorem dX5_sum_11 : decode cX5_sum 11 = .ok (.invokevirtual 130, 3) := dk_182 0 130 (dk_at dksX5_sum_0 11 rfl rfl)
theorem dX5_sum_14 : decode cX5_sum 14 = .ok (.ifCond .ne 13, 3) := dk_154 0 13 (dk_at dksX5_sum_0 14 rfl rfl)
theorem dX5_sum_17 : decode cX5_sum 17 = .ok (.aload_n 0, 1) := dk_42 (dk_at dksX5_sum_0 17 rfl rfl)
theorem dX5_sum_18 : decode cX5_sum 18 = .ok (.ldc_w 338, 3) := dk_19 1 82 (dk_at dksX5_sum_0 18 rfl rfl)
theorem dX5_sum_21 : decode cX5_sum 21 = .ok (.invokevirtual 130, 3) := dk_182 0 130 (dk_at dksX5_sum_0 21 rfl rfl)
theorem dX5_sum_24 : decode cX5_sum 24 = .ok (.ifCond .eq 41, 3) := dk_153 0 41 (dk_at dksX5_sum_1 0 rfl rfl)
theorem dX5_sum_27 : decode cX5_sum 27 = .ok (.aload_n 2, 1) := dk_44 (dk_at dksX5_sum_1 3 rfl rfl)
theorem dX5_sum_28 : decode cX5_sum 28 = .ok (.ifnonnull 12, 3) := dk_199 0 12 (dk_at dksX5_sum_1 4 rfl rfl)
theorem dX5_sum_31 : decode cX5_sum 31 = .ok (.new 325, 3) := dk_187 1 69 (dk_at dksX5_sum_1 7 rfl rfl)
theorem dX5_sum_34 : decode cX5_sum 34 = .ok (.dup, 1) := dk_89 (dk_at dksX5_sum_1 10 rfl rfl)
theorem dX5_sum_35 : decode cX5_sum 35 = .ok (.aload_n 1, 1) := dk_43 (dk_at dksX5_sum_1 11 rfl rfl)
theorem dX5_sum_36 : decode cX5_sum 36 = .ok (.invokespecial 327, 3) := dk_183 1 71 (dk_at dksX5_sum_1 12 rfl rfl)
theorem dX5_sum_39 : decode cX5_sum 39 = .ok (.astore_n 2, 1) := dk_77 (dk_at dksX5_sum_1 15 rfl rfl)
theorem dX5_sum_40 : decode cX5_sum 40 = .ok (.aload_n 0, 1) := dk_42 (dk_at dksX5_sum_1 16 rfl rfl)
theorem dX5_sum_41 : decode cX5_sum 41 = .ok (.getfield 11, 3) := dk_180 0 11 (dk_at dksX5_sum_1 17 rfl rfl)
theorem dX5_sum_44 : decode cX5_sum 44 = .ok (.iconst 0, 1) := dk_3 (dk_at dksX5_sum_1 20 rfl rfl)
theorem dX5_sum_45 : decode cX5_sum 45 = .ok (.invokevirtual 139, 3) := dk_182 0 139 (dk_at dksX5_sum_1 21 rfl rfl)
theorem dX5_sum_48 : decode cX5_sum 48 = .ok (.istore_n 3, 1) := dk_62 (dk_at dksX5_sum_2 0 rfl rfl)
theorem dX5_sum_49 : decode cX5_sum 49 = .ok (.aload_n 0, 1) := dk_42 (dk_at dksX5_sum_2 1 rfl rfl)
theorem dX5_sum_50 : decode cX5_sum 50 = .ok (.invokevirtual 47, 3) := dk_182 0 47 (dk_at dksX5_sum_2 2 rfl rfl)
theorem dX5_sum_53 : decode cX5_sum 53 = .ok (.aload_n 2, 1) := dk_44 (dk_at dksX5_sum_2 5 rfl rfl)
theorem dX5_sum_54 : decode cX5_sum 54 = .ok (.iload_n 3, 1) := dk_29 (dk_at dksX5_sum_2 6 rfl rfl)
theorem dX5_sum_55 : decode cX5_sum 55 = .ok (.aload_n 0, 1) := dk_42 (dk_at dksX5_sum_2 7 rfl rfl)
theorem dX5_sum_56 : decode cX5_sum 56 = .ok (.invokevirtual 333, 3) := dk_182 1 77 (dk_at dksX5_sum_2 8 rfl rfl)
theorem dX5_sum_59 : decode cX5_sum 59 = .ok (.invokevirtual 330, 3) := dk_182 1 74 (dk_at dksX5_sum_2 11 rfl rfl)
theorem dX5_sum_62 : decode cX5_sum 62 = .ok (.goto (-55), 3) := dk_167 255 201 (dk_at dksX5_sum_2 14 rfl rfl)
theorem dX5_sum_65 : decode cX5_sum 65 = .ok (.aload_n 2, 1) := dk_44 (dk_at dksX5_sum_2 17 rfl rfl)
theorem dX5_sum_66 : decode cX5_sum 66 = .ok (.ifnonnull 7, 3) := dk_199 0 7 (dk_at dksX5_sum_2 18 rfl rfl)
theorem dX5_sum_69 : decode cX5_sum 69 = .ok (.aload_n 1, 1) := dk_43 (dk_at dksX5_sum_2 21 rfl rfl)
theorem dX5_sum_70 : decode cX5_sum 70 = .ok (.goto 4, 3) := dk_167 0 4 (dk_at dksX5_sum_3 0 rfl rfl)
theorem dX5_sum_73 : decode cX5_sum 73 = .ok (.aload_n 2, 1) := dk_44 (dk_at dksX5_sum_3 3 rfl rfl)
theorem dX5_sum_74 : decode cX5_sum 74 = .ok (.areturn, 1) := dk_176 (dk_at dksX5_sum_3 4 rfl rfl)
abbrev cX5_product : ByteArray := prog_9_method_23_code
def yX5_product : MethodName := ⟨RX5, "product", "()LSendHall$Expr;"⟩
def dkwX5_product_3 : List UInt8 := [167, 0, 4, 44, 176]
abbrev dktX5_product_3 : List UInt8 := dkwX5_product_3 ++ []
def dkwX5_product_2 : List UInt8 := [62, 42, 182, 0, 47, 44, 29, 42, 182, 1, 84, 182, 1, 74, 167, 255, 201, 44, 199, 0, 7, 43]
abbrev dktX5_product_2 : List UInt8 := dkwX5_product_2 ++ dktX5_product_3
def dkwX5_product_1 : List UInt8 := [153, 0, 41, 44, 199, 0, 12, 187, 1, 69, 89, 43, 183, 1, 71, 77, 42, 180, 0, 11, 3, 182, 0, 139]
abbrev dktX5_product_1 : List UInt8 := dkwX5_product_1 ++ dktX5_product_2
def dkwX5_product_0 : List UInt8 := [42, 182, 1, 84, 76, 1, 77, 42, 19, 1, 87, 182, 0, 130, 154, 0, 13, 42, 19, 1, 89, 182, 0, 130]
abbrev dktX5_product_0 : List UInt8 := dkwX5_product_0 ++ dktX5_product_1
theorem dksX5_product_0 : cX5_product.data.toList.drop 0 = dktX5_product_0 := by decide +kernel
theorem dksX5_product_1 : cX5_product.data.toList.drop 24 = dktX5_product_1 := dk_seg dksX5_product_0 24 rfl rfl
theorem dksX5_product_2 : cX5_product.data.toList.drop 48 = dktX5_product_2 := dk_seg dksX5_product_1 24 rfl rfl
theorem dksX5_product_3 : cX5_product.data.toList.drop 70 = dktX5_product_3 := dk_seg dksX5_product_2 22 rfl rfl
theorem dX5_product_0 : decode cX5_product 0 = .ok (.aload_n 0, 1) := dk_42 (dk_at dksX5_product_0 0 rfl rfl)
theorem dX5_product_1 : decode cX5_product 1 = .ok (.invokevirtual 340, 3) := dk_182 1 84 (dk_at dksX5_product_0 1 rfl rfl)
theorem dX5_product_4 : decode cX5_product 4 = .ok (.astore_n 1, 1) := dk_76 (dk_at dksX5_product_0 4 rfl rfl)
theorem dX5_product_5 : decode cX5_product 5 = .ok (.aconst_null, 1) := dk_1 (dk_at dksX5_product_0 5 rfl rfl)
theorem dX5_product_6 : decode cX5_product 6 = .ok (.astore_n 2, 1) := dk_77 (dk_at dksX5_product_0 6 rfl rfl)
theorem dX5_product_7 : decode cX5_product 7 = .ok (.aload_n 0, 1) := dk_42 (dk_at dksX5_product_0 7 rfl rfl)
theorem dX5_product_8 : decode cX5_product 8 = .ok (.ldc_w 343, 3) := dk_19 1 87 (dk_at dksX5_product_0 8 rfl rfl)
theorem dX5_product_11 : decode cX5_product 11 = .ok (.invokevirtual 130, 3) := dk_182 0 130 (dk_at dksX5_product_0 11 rfl rfl)
theorem dX5_product_14 : decode cX5_product 14 = .ok (.ifCond .ne 13, 3) := dk_154 0 13 (dk_at dksX5_product_0 14 rfl rfl)
theorem dX5_product_17 : decode cX5_product 17 = .ok (.aload_n 0, 1) := dk_42 (dk_at dksX5_product_0 17 rfl rfl)
theorem dX5_product_18 : decode cX5_product 18 = .ok (.ldc_w 345, 3) := dk_19 1 89 (dk_at dksX5_product_0 18 rfl rfl)
theorem dX5_product_21 : decode cX5_product 21 = .ok (.invokevirtual 130, 3) := dk_182 0 130 (dk_at dksX5_product_0 21 rfl rfl)
theorem dX5_product_24 : decode cX5_product 24 = .ok (.ifCond .eq 41, 3) := dk_153 0 41 (dk_at dksX5_product_1 0 rfl rfl)
theorem dX5_product_27 : decode cX5_product 27 = .ok (.aload_n 2, 1) := dk_44 (dk_at dksX5_product_1 3 rfl rfl)
theorem dX5_product_28 : decode cX5_product 28 = .ok (.ifnonnull 12, 3) := dk_199 0 12 (dk_at dksX5_product_1 4 rfl rfl)
theorem dX5_product_31 : decode cX5_product 31 = .ok (.new 325, 3) := dk_187 1 69 (dk_at dksX5_product_1 7 rfl rfl)
theorem dX5_product_34 : decode cX5_product 34 = .ok (.dup, 1) := dk_89 (dk_at dksX5_product_1 10 rfl rfl)
theorem dX5_product_35 : decode cX5_product 35 = .ok (.aload_n 1, 1) := dk_43 (dk_at dksX5_product_1 11 rfl rfl)
theorem dX5_product_36 : decode cX5_product 36 = .ok (.invokespecial 327, 3) := dk_183 1 71 (dk_at dksX5_product_1 12 rfl rfl)
theorem dX5_product_39 : decode cX5_product 39 = .ok (.astore_n 2, 1) := dk_77 (dk_at dksX5_product_1 15 rfl rfl)
theorem dX5_product_40 : decode cX5_product 40 = .ok (.aload_n 0, 1) := dk_42 (dk_at dksX5_product_1 16 rfl rfl)
theorem dX5_product_41 : decode cX5_product 41 = .ok (.getfield 11, 3) := dk_180 0 11 (dk_at dksX5_product_1 17 rfl rfl)
theorem dX5_product_44 : decode cX5_product 44 = .ok (.iconst 0, 1) := dk_3 (dk_at dksX5_product_1 20 rfl rfl)
theorem dX5_product_45 : decode cX5_product 45 = .ok (.invokevirtual 139, 3) := dk_182 0 139 (dk_at dksX5_product_1 21 rfl rfl)
theorem dX5_product_48 : decode cX5_product 48 = .ok (.istore_n 3, 1) := dk_62 (dk_at dksX5_product_2 0 rfl rfl)
theorem dX5_product_49 : decode cX5_product 49 = .ok (.aload_n 0, 1) := dk_42 (dk_at dksX5_product_2 1 rfl rfl)
theorem dX5_product_50 : decode cX5_product 50 = .ok (.invokevirtual 47, 3) := dk_182 0 47 (dk_at dksX5_product_2 2 rfl rfl)
theorem dX5_product_53 : decode cX5_product 53 = .ok (.aload_n 2, 1) := dk_44 (dk_at dksX5_product_2 5 rfl rfl)
theorem dX5_product_54 : decode cX5_product 54 = .ok (.iload_n 3, 1) := dk_29 (dk_at dksX5_product_2 6 rfl rfl)
theorem dX5_product_55 : decode cX5_product 55 = .ok (.aload_n 0, 1) := dk_42 (dk_at dksX5_product_2 7 rfl rfl)
theorem dX5_product_56 : decode cX5_product 56 = .ok (.invokevirtual 340, 3) := dk_182 1 84 (dk_at dksX5_product_2 8 rfl rfl)
theorem dX5_product_59 : decode cX5_product 59 = .ok (.invokevirtual 330, 3) := dk_182 1 74 (dk_at dksX5_product_2 11 rfl rfl)
theorem dX5_product_62 : decode cX5_product 62 = .ok (.goto (-55), 3) := dk_167 255 201 (dk_at dksX5_product_2 14 rfl rfl)
theorem dX5_product_65 : decode cX5_product 65 = .ok (.aload_n 2, 1) := dk_44 (dk_at dksX5_product_2 17 rfl rfl)
theorem dX5_product_66 : decode cX5_product 66 = .ok (.ifnonnull 7, 3) := dk_199 0 7 (dk_at dksX5_product_2 18 rfl rfl)
theorem dX5_product_69 : decode cX5_product 69 = .ok (.aload_n 1, 1) := dk_43 (dk_at dksX5_product_2 21 rfl rfl)
theorem dX5_product_70 : decode cX5_product 70 = .ok (.goto 4, 3) := dk_167 0 4 (dk_at dksX5_product_3 0 rfl rfl)
theorem dX5_product_73 : decode cX5_product 73 = .ok (.aload_n 2, 1) := dk_44 (dk_at dksX5_product_3 3 rfl rfl)
theorem dX5_product_74 : decode cX5_product 74 = .ok (.areturn, 1) := dk_176 (dk_at dksX5_product_3 4 rfl rfl)
abbrev cX5_part : ByteArray := prog_9_method_24_code
def yX5_part : MethodName := ⟨RX5, "part", "()LSendHall$Expr;"⟩
def dkwX5_part_7 : List UInt8 := [167, 0, 4, 3, 6, 182, 0, 134, 42, 182, 0, 47, 187, 1, 103, 89, 27, 183, 1, 105, 176]
abbrev dktX5_part_7 : List UInt8 := dkwX5_part_7 ++ []
def dkwX5_part_6 : List UInt8 := [167, 0, 4, 3, 4, 182, 0, 134, 42, 180, 0, 11, 184, 1, 101, 60, 42, 27, 2, 159, 0, 7, 4]
abbrev dktX5_part_6 : List UInt8 := dkwX5_part_6 ++ dktX5_part_7
def dkwX5_part_5 : List UInt8 := [181, 1, 91, 42, 19, 1, 99, 182, 0, 215, 43, 176, 42, 42, 180, 0, 70, 178, 0, 92, 166, 0, 7, 4]
abbrev dktX5_part_5 : List UInt8 := dkwX5_part_5 ++ dktX5_part_6
def dkwX5_part_4 : List UInt8 := [42, 89, 180, 1, 91, 4, 96, 181, 1, 91, 42, 182, 0, 236, 76, 42, 89, 180, 1, 91, 4, 100]
abbrev dktX5_part_4 : List UInt8 := dkwX5_part_4 ++ dktX5_part_5
def dkwX5_part_3 : List UInt8 := [17, 39, 15, 182, 1, 21, 183, 1, 98, 176, 42, 19, 1, 94, 182, 0, 130, 153, 0, 41, 42, 182, 0, 47]
abbrev dktX5_part_3 : List UInt8 := dkwX5_part_3 ++ dktX5_part_4
def dkwX5_part_2 : List UInt8 := [42, 180, 0, 57, 183, 0, 127, 191, 42, 180, 0, 70, 178, 0, 101, 166, 0, 19, 187, 1, 96, 89, 42, 3]
abbrev dktX5_part_2 : List UInt8 := dkwX5_part_2 ++ dktX5_part_3
def dkwX5_part_1 : List UInt8 := [180, 0, 70, 178, 0, 92, 165, 0, 13, 42, 19, 1, 94, 182, 0, 130, 153, 0, 7, 5, 167, 0, 4, 4]
abbrev dktX5_part_1 : List UInt8 := dkwX5_part_1 ++ dktX5_part_2
def dkwX5_part_0 : List UInt8 := [42, 180, 1, 91, 16, 6, 164, 0, 50, 187, 0, 125, 89, 42, 180, 0, 70, 178, 0, 101, 165, 0, 23, 42]
abbrev dktX5_part_0 : List UInt8 := dkwX5_part_0 ++ dktX5_part_1
theorem dksX5_part_0 : cX5_part.data.toList.drop 0 = dktX5_part_0 := by decide +kernel
theorem dksX5_part_1 : cX5_part.data.toList.drop 24 = dktX5_part_1 := dk_seg dksX5_part_0 24 rfl rfl
theorem dksX5_part_2 : cX5_part.data.toList.drop 48 = dktX5_part_2 := dk_seg dksX5_part_1 24 rfl rfl
theorem dksX5_part_3 : cX5_part.data.toList.drop 72 = dktX5_part_3 := dk_seg dksX5_part_2 24 rfl rfl
theorem dksX5_part_4 : cX5_part.data.toList.drop 96 = dktX5_part_4 := dk_seg dksX5_part_3 24 rfl rfl
theorem dksX5_part_5 : cX5_part.data.toList.drop 118 = dktX5_part_5 := dk_seg dksX5_part_4 22 rfl rfl
theorem dksX5_part_6 : cX5_part.data.toList.drop 142 = dktX5_part_6 := dk_seg dksX5_part_5 24 rfl rfl
theorem dksX5_part_7 : cX5_part.data.toList.drop 165 = dktX5_part_7 := dk_seg dksX5_part_6 23 rfl rfl
theorem dX5_part_0 : decode cX5_part 0 = .ok (.aload_n 0, 1) := dk_42 (dk_at dksX5_part_0 0 rfl rfl)
theorem dX5_part_1 : decode cX5_part 1 = .ok (.getfield 347, 3) := dk_180 1 91 (dk_at dksX5_part_0 1 rfl rfl)
theorem dX5_part_4 : decode cX5_part 4 = .ok (.bipush 6, 2) := dk_16 6 (dk_at dksX5_part_0 4 rfl rfl)
theorem dX5_part_6 : decode cX5_part 6 = .ok (.if_icmp .le 50, 3) := dk_164 0 50 (dk_at dksX5_part_0 6 rfl rfl)
theorem dX5_part_9 : decode cX5_part 9 = .ok (.new 125, 3) := dk_187 0 125 (dk_at dksX5_part_0 9 rfl rfl)
theorem dX5_part_12 : decode cX5_part 12 = .ok (.dup, 1) := dk_89 (dk_at dksX5_part_0 12 rfl rfl)
theorem dX5_part_13 : decode cX5_part 13 = .ok (.aload_n 0, 1) := dk_42 (dk_at dksX5_part_0 13 rfl rfl)
theorem dX5_part_14 : decode cX5_part 14 = .ok (.getfield 70, 3) := dk_180 0 70 (dk_at dksX5_part_0 14 rfl rfl)
theorem dX5_part_17 : decode cX5_part 17 = .ok (.getstatic 101, 3) := dk_178 0 101 (dk_at dksX5_part_0 17 rfl rfl)
theorem dX5_part_20 : decode cX5_part 20 = .ok (.if_acmp .eq 23, 3) := dk_165 0 23 (dk_at dksX5_part_0 20 rfl rfl)
theorem dX5_part_23 : decode cX5_part 23 = .ok (.aload_n 0, 1) := dk_42 (dk_at dksX5_part_0 23 rfl rfl)
theorem dX5_part_24 : decode cX5_part 24 = .ok (.getfield 70, 3) := dk_180 0 70 (dk_at dksX5_part_1 0 rfl rfl)
theorem dX5_part_27 : decode cX5_part 27 = .ok (.getstatic 92, 3) := dk_178 0 92 (dk_at dksX5_part_1 3 rfl rfl)
theorem dX5_part_30 : decode cX5_part 30 = .ok (.if_acmp .eq 13, 3) := dk_165 0 13 (dk_at dksX5_part_1 6 rfl rfl)
theorem dX5_part_33 : decode cX5_part 33 = .ok (.aload_n 0, 1) := dk_42 (dk_at dksX5_part_1 9 rfl rfl)
theorem dX5_part_34 : decode cX5_part 34 = .ok (.ldc_w 350, 3) := dk_19 1 94 (dk_at dksX5_part_1 10 rfl rfl)
theorem dX5_part_37 : decode cX5_part 37 = .ok (.invokevirtual 130, 3) := dk_182 0 130 (dk_at dksX5_part_1 13 rfl rfl)
theorem dX5_part_40 : decode cX5_part 40 = .ok (.ifCond .eq 7, 3) := dk_153 0 7 (dk_at dksX5_part_1 16 rfl rfl)
theorem dX5_part_43 : decode cX5_part 43 = .ok (.iconst 2, 1) := dk_5 (dk_at dksX5_part_1 19 rfl rfl)
theorem dX5_part_44 : decode cX5_part 44 = .ok (.goto 4, 3) := dk_167 0 4 (dk_at dksX5_part_1 20 rfl rfl)
theorem dX5_part_47 : decode cX5_part 47 = .ok (.iconst 1, 1) := dk_4 (dk_at dksX5_part_1 23 rfl rfl)
theorem dX5_part_48 : decode cX5_part 48 = .ok (.aload_n 0, 1) := dk_42 (dk_at dksX5_part_2 0 rfl rfl)
theorem dX5_part_49 : decode cX5_part 49 = .ok (.getfield 57, 3) := dk_180 0 57 (dk_at dksX5_part_2 1 rfl rfl)
theorem dX5_part_52 : decode cX5_part 52 = .ok (.invokespecial 127, 3) := dk_183 0 127 (dk_at dksX5_part_2 4 rfl rfl)
theorem dX5_part_55 : decode cX5_part 55 = .ok (.athrow, 1) := dk_191 (dk_at dksX5_part_2 7 rfl rfl)
theorem dX5_part_56 : decode cX5_part 56 = .ok (.aload_n 0, 1) := dk_42 (dk_at dksX5_part_2 8 rfl rfl)
theorem dX5_part_57 : decode cX5_part 57 = .ok (.getfield 70, 3) := dk_180 0 70 (dk_at dksX5_part_2 9 rfl rfl)
theorem dX5_part_60 : decode cX5_part 60 = .ok (.getstatic 101, 3) := dk_178 0 101 (dk_at dksX5_part_2 12 rfl rfl)
theorem dX5_part_63 : decode cX5_part 63 = .ok (.if_acmp .ne 19, 3) := dk_166 0 19 (dk_at dksX5_part_2 15 rfl rfl)
theorem dX5_part_66 : decode cX5_part 66 = .ok (.new 352, 3) := dk_187 1 96 (dk_at dksX5_part_2 18 rfl rfl)
theorem dX5_part_69 : decode cX5_part 69 = .ok (.dup, 1) := dk_89 (dk_at dksX5_part_2 21 rfl rfl)
theorem dX5_part_70 : decode cX5_part 70 = .ok (.aload_n 0, 1) := dk_42 (dk_at dksX5_part_2 22 rfl rfl)
theorem dX5_part_71 : decode cX5_part 71 = .ok (.iconst 0, 1) := dk_3 (dk_at dksX5_part_2 23 rfl rfl)
theorem dX5_part_72 : decode cX5_part 72 = .ok (.sipush 9999, 3) := dk_17 39 15 (dk_at dksX5_part_3 0 rfl rfl)
theorem dX5_part_75 : decode cX5_part 75 = .ok (.invokevirtual 277, 3) := dk_182 1 21 (dk_at dksX5_part_3 3 rfl rfl)
theorem dX5_part_78 : decode cX5_part 78 = .ok (.invokespecial 354, 3) := dk_183 1 98 (dk_at dksX5_part_3 6 rfl rfl)
theorem dX5_part_81 : decode cX5_part 81 = .ok (.areturn, 1) := dk_176 (dk_at dksX5_part_3 9 rfl rfl)
theorem dX5_part_82 : decode cX5_part 82 = .ok (.aload_n 0, 1) := dk_42 (dk_at dksX5_part_3 10 rfl rfl)
theorem dX5_part_83 : decode cX5_part 83 = .ok (.ldc_w 350, 3) := dk_19 1 94 (dk_at dksX5_part_3 11 rfl rfl)
theorem dX5_part_86 : decode cX5_part 86 = .ok (.invokevirtual 130, 3) := dk_182 0 130 (dk_at dksX5_part_3 14 rfl rfl)
theorem dX5_part_89 : decode cX5_part 89 = .ok (.ifCond .eq 41, 3) := dk_153 0 41 (dk_at dksX5_part_3 17 rfl rfl)
theorem dX5_part_92 : decode cX5_part 92 = .ok (.aload_n 0, 1) := dk_42 (dk_at dksX5_part_3 20 rfl rfl)
theorem dX5_part_93 : decode cX5_part 93 = .ok (.invokevirtual 47, 3) := dk_182 0 47 (dk_at dksX5_part_3 21 rfl rfl)
theorem dX5_part_96 : decode cX5_part 96 = .ok (.aload_n 0, 1) := dk_42 (dk_at dksX5_part_4 0 rfl rfl)
theorem dX5_part_97 : decode cX5_part 97 = .ok (.dup, 1) := dk_89 (dk_at dksX5_part_4 1 rfl rfl)
theorem dX5_part_98 : decode cX5_part 98 = .ok (.getfield 347, 3) := dk_180 1 91 (dk_at dksX5_part_4 2 rfl rfl)
theorem dX5_part_101 : decode cX5_part 101 = .ok (.iconst 1, 1) := dk_4 (dk_at dksX5_part_4 5 rfl rfl)
theorem dX5_part_102 : decode cX5_part 102 = .ok (.iadd, 1) := dk_96 (dk_at dksX5_part_4 6 rfl rfl)
theorem dX5_part_103 : decode cX5_part 103 = .ok (.putfield 347, 3) := dk_181 1 91 (dk_at dksX5_part_4 7 rfl rfl)
theorem dX5_part_106 : decode cX5_part 106 = .ok (.aload_n 0, 1) := dk_42 (dk_at dksX5_part_4 10 rfl rfl)
theorem dX5_part_107 : decode cX5_part 107 = .ok (.invokevirtual 236, 3) := dk_182 0 236 (dk_at dksX5_part_4 11 rfl rfl)
theorem dX5_part_110 : decode cX5_part 110 = .ok (.astore_n 1, 1) := dk_76 (dk_at dksX5_part_4 14 rfl rfl)
theorem dX5_part_111 : decode cX5_part 111 = .ok (.aload_n 0, 1) := dk_42 (dk_at dksX5_part_4 15 rfl rfl)
theorem dX5_part_112 : decode cX5_part 112 = .ok (.dup, 1) := dk_89 (dk_at dksX5_part_4 16 rfl rfl)
theorem dX5_part_113 : decode cX5_part 113 = .ok (.getfield 347, 3) := dk_180 1 91 (dk_at dksX5_part_4 17 rfl rfl)
theorem dX5_part_116 : decode cX5_part 116 = .ok (.iconst 1, 1) := dk_4 (dk_at dksX5_part_4 20 rfl rfl)
theorem dX5_part_117 : decode cX5_part 117 = .ok (.isub, 1) := dk_100 (dk_at dksX5_part_4 21 rfl rfl)
theorem dX5_part_118 : decode cX5_part 118 = .ok (.putfield 347, 3) := dk_181 1 91 (dk_at dksX5_part_5 0 rfl rfl)
theorem dX5_part_121 : decode cX5_part 121 = .ok (.aload_n 0, 1) := dk_42 (dk_at dksX5_part_5 3 rfl rfl)
theorem dX5_part_122 : decode cX5_part 122 = .ok (.ldc_w 355, 3) := dk_19 1 99 (dk_at dksX5_part_5 4 rfl rfl)
theorem dX5_part_125 : decode cX5_part 125 = .ok (.invokevirtual 215, 3) := dk_182 0 215 (dk_at dksX5_part_5 7 rfl rfl)
theorem dX5_part_128 : decode cX5_part 128 = .ok (.aload_n 1, 1) := dk_43 (dk_at dksX5_part_5 10 rfl rfl)
theorem dX5_part_129 : decode cX5_part 129 = .ok (.areturn, 1) := dk_176 (dk_at dksX5_part_5 11 rfl rfl)
theorem dX5_part_130 : decode cX5_part 130 = .ok (.aload_n 0, 1) := dk_42 (dk_at dksX5_part_5 12 rfl rfl)
theorem dX5_part_131 : decode cX5_part 131 = .ok (.aload_n 0, 1) := dk_42 (dk_at dksX5_part_5 13 rfl rfl)
theorem dX5_part_132 : decode cX5_part 132 = .ok (.getfield 70, 3) := dk_180 0 70 (dk_at dksX5_part_5 14 rfl rfl)
theorem dX5_part_135 : decode cX5_part 135 = .ok (.getstatic 92, 3) := dk_178 0 92 (dk_at dksX5_part_5 17 rfl rfl)
theorem dX5_part_138 : decode cX5_part 138 = .ok (.if_acmp .ne 7, 3) := dk_166 0 7 (dk_at dksX5_part_5 20 rfl rfl)
theorem dX5_part_141 : decode cX5_part 141 = .ok (.iconst 1, 1) := dk_4 (dk_at dksX5_part_5 23 rfl rfl)
theorem dX5_part_142 : decode cX5_part 142 = .ok (.goto 4, 3) := dk_167 0 4 (dk_at dksX5_part_6 0 rfl rfl)
theorem dX5_part_145 : decode cX5_part 145 = .ok (.iconst 0, 1) := dk_3 (dk_at dksX5_part_6 3 rfl rfl)
theorem dX5_part_146 : decode cX5_part 146 = .ok (.iconst 1, 1) := dk_4 (dk_at dksX5_part_6 4 rfl rfl)
theorem dX5_part_147 : decode cX5_part 147 = .ok (.invokevirtual 134, 3) := dk_182 0 134 (dk_at dksX5_part_6 5 rfl rfl)
theorem dX5_part_150 : decode cX5_part 150 = .ok (.aload_n 0, 1) := dk_42 (dk_at dksX5_part_6 8 rfl rfl)
theorem dX5_part_151 : decode cX5_part 151 = .ok (.getfield 11, 3) := dk_180 0 11 (dk_at dksX5_part_6 9 rfl rfl)
theorem dX5_part_154 : decode cX5_part 154 = .ok (.invokestatic 357, 3) := dk_184 1 101 (dk_at dksX5_part_6 12 rfl rfl)
theorem dX5_part_157 : decode cX5_part 157 = .ok (.istore_n 1, 1) := dk_60 (dk_at dksX5_part_6 15 rfl rfl)
theorem dX5_part_158 : decode cX5_part 158 = .ok (.aload_n 0, 1) := dk_42 (dk_at dksX5_part_6 16 rfl rfl)
theorem dX5_part_159 : decode cX5_part 159 = .ok (.iload_n 1, 1) := dk_27 (dk_at dksX5_part_6 17 rfl rfl)
theorem dX5_part_160 : decode cX5_part 160 = .ok (.iconst (-1), 1) := dk_2 (dk_at dksX5_part_6 18 rfl rfl)
theorem dX5_part_161 : decode cX5_part 161 = .ok (.if_icmp .eq 7, 3) := dk_159 0 7 (dk_at dksX5_part_6 19 rfl rfl)
theorem dX5_part_164 : decode cX5_part 164 = .ok (.iconst 1, 1) := dk_4 (dk_at dksX5_part_6 22 rfl rfl)
theorem dX5_part_165 : decode cX5_part 165 = .ok (.goto 4, 3) := dk_167 0 4 (dk_at dksX5_part_7 0 rfl rfl)
theorem dX5_part_168 : decode cX5_part 168 = .ok (.iconst 0, 1) := dk_3 (dk_at dksX5_part_7 3 rfl rfl)
theorem dX5_part_169 : decode cX5_part 169 = .ok (.iconst 3, 1) := dk_6 (dk_at dksX5_part_7 4 rfl rfl)
theorem dX5_part_170 : decode cX5_part 170 = .ok (.invokevirtual 134, 3) := dk_182 0 134 (dk_at dksX5_part_7 5 rfl rfl)
theorem dX5_part_173 : decode cX5_part 173 = .ok (.aload_n 0, 1) := dk_42 (dk_at dksX5_part_7 8 rfl rfl)
theorem dX5_part_174 : decode cX5_part 174 = .ok (.invokevirtual 47, 3) := dk_182 0 47 (dk_at dksX5_part_7 9 rfl rfl)
theorem dX5_part_177 : decode cX5_part 177 = .ok (.new 359, 3) := dk_187 1 103 (dk_at dksX5_part_7 12 rfl rfl)
theorem dX5_part_180 : decode cX5_part 180 = .ok (.dup, 1) := dk_89 (dk_at dksX5_part_7 15 rfl rfl)
theorem dX5_part_181 : decode cX5_part 181 = .ok (.iload_n 1, 1) := dk_27 (dk_at dksX5_part_7 16 rfl rfl)
theorem dX5_part_182 : decode cX5_part 182 = .ok (.invokespecial 361, 3) := dk_183 1 105 (dk_at dksX5_part_7 17 rfl rfl)
theorem dX5_part_185 : decode cX5_part 185 = .ok (.areturn, 1) := dk_176 (dk_at dksX5_part_7 20 rfl rfl)
abbrev cX5_is : ByteArray := prog_9_method_6_code
def yX5_is : MethodName := ⟨RX5, "is", "(Ljava/lang/String;)Z"⟩
def dkwX5_is_1 : List UInt8 := [43, 182, 0, 121, 153, 0, 7, 4, 167, 0, 4, 3, 172]
abbrev dktX5_is_1 : List UInt8 := dkwX5_is_1 ++ []
def dkwX5_is_0 : List UInt8 := [42, 180, 0, 70, 178, 0, 92, 165, 0, 13, 42, 180, 0, 70, 178, 0, 111, 166, 0, 18, 42, 180, 0, 11]
abbrev dktX5_is_0 : List UInt8 := dkwX5_is_0 ++ dktX5_is_1
theorem dksX5_is_0 : cX5_is.data.toList.drop 0 = dktX5_is_0 := by decide +kernel
theorem dksX5_is_1 : cX5_is.data.toList.drop 24 = dktX5_is_1 := dk_seg dksX5_is_0 24 rfl rfl
theorem dX5_is_0 : decode cX5_is 0 = .ok (.aload_n 0, 1) := dk_42 (dk_at dksX5_is_0 0 rfl rfl)
theorem dX5_is_1 : decode cX5_is 1 = .ok (.getfield 70, 3) := dk_180 0 70 (dk_at dksX5_is_0 1 rfl rfl)
theorem dX5_is_4 : decode cX5_is 4 = .ok (.getstatic 92, 3) := dk_178 0 92 (dk_at dksX5_is_0 4 rfl rfl)
theorem dX5_is_7 : decode cX5_is 7 = .ok (.if_acmp .eq 13, 3) := dk_165 0 13 (dk_at dksX5_is_0 7 rfl rfl)
theorem dX5_is_10 : decode cX5_is 10 = .ok (.aload_n 0, 1) := dk_42 (dk_at dksX5_is_0 10 rfl rfl)
theorem dX5_is_11 : decode cX5_is 11 = .ok (.getfield 70, 3) := dk_180 0 70 (dk_at dksX5_is_0 11 rfl rfl)
theorem dX5_is_14 : decode cX5_is 14 = .ok (.getstatic 111, 3) := dk_178 0 111 (dk_at dksX5_is_0 14 rfl rfl)
theorem dX5_is_17 : decode cX5_is 17 = .ok (.if_acmp .ne 18, 3) := dk_166 0 18 (dk_at dksX5_is_0 17 rfl rfl)
theorem dX5_is_20 : decode cX5_is 20 = .ok (.aload_n 0, 1) := dk_42 (dk_at dksX5_is_0 20 rfl rfl)
theorem dX5_is_21 : decode cX5_is 21 = .ok (.getfield 11, 3) := dk_180 0 11 (dk_at dksX5_is_0 21 rfl rfl)
theorem dX5_is_24 : decode cX5_is 24 = .ok (.aload_n 1, 1) := dk_43 (dk_at dksX5_is_1 0 rfl rfl)
theorem dX5_is_25 : decode cX5_is 25 = .ok (.invokevirtual 121, 3) := dk_182 0 121 (dk_at dksX5_is_1 1 rfl rfl)
theorem dX5_is_28 : decode cX5_is 28 = .ok (.ifCond .eq 7, 3) := dk_153 0 7 (dk_at dksX5_is_1 4 rfl rfl)
theorem dX5_is_31 : decode cX5_is 31 = .ok (.iconst 1, 1) := dk_4 (dk_at dksX5_is_1 7 rfl rfl)
theorem dX5_is_32 : decode cX5_is 32 = .ok (.goto 4, 3) := dk_167 0 4 (dk_at dksX5_is_1 8 rfl rfl)
theorem dX5_is_35 : decode cX5_is 35 = .ok (.iconst 0, 1) := dk_3 (dk_at dksX5_is_1 11 rfl rfl)
theorem dX5_is_36 : decode cX5_is 36 = .ok (.ireturn, 1) := dk_172 (dk_at dksX5_is_1 12 rfl rfl)
abbrev cX5_number : ByteArray := prog_9_method_9_code
def yX5_number : MethodName := ⟨RX5, "number", "(II)I"⟩
def dkwX5_number_2 : List UInt8 := [167, 0, 4, 3, 5, 182, 0, 134, 42, 180, 0, 98, 62, 42, 182, 0, 47, 29, 172]
abbrev dktX5_number_2 : List UInt8 := dkwX5_number_2 ++ []
def dkwX5_number_1 : List UInt8 := [180, 0, 60, 154, 0, 23, 42, 180, 0, 98, 27, 161, 0, 15, 42, 180, 0, 98, 28, 163, 0, 7, 4]
abbrev dktX5_number_1 : List UInt8 := dkwX5_number_1 ++ dktX5_number_2
def dkwX5_number_0 : List UInt8 := [42, 42, 180, 0, 70, 178, 0, 101, 166, 0, 7, 4, 167, 0, 4, 3, 4, 182, 0, 134, 42, 42]
abbrev dktX5_number_0 : List UInt8 := dkwX5_number_0 ++ dktX5_number_1
theorem dksX5_number_0 : cX5_number.data.toList.drop 0 = dktX5_number_0 := by decide +kernel
theorem dksX5_number_1 : cX5_number.data.toList.drop 22 = dktX5_number_1 := dk_seg dksX5_number_0 22 rfl rfl
theorem dksX5_number_2 : cX5_number.data.toList.drop 45 = dktX5_number_2 := dk_seg dksX5_number_1 23 rfl rfl
theorem dX5_number_0 : decode cX5_number 0 = .ok (.aload_n 0, 1) := dk_42 (dk_at dksX5_number_0 0 rfl rfl)
theorem dX5_number_1 : decode cX5_number 1 = .ok (.aload_n 0, 1) := dk_42 (dk_at dksX5_number_0 1 rfl rfl)
theorem dX5_number_2 : decode cX5_number 2 = .ok (.getfield 70, 3) := dk_180 0 70 (dk_at dksX5_number_0 2 rfl rfl)
theorem dX5_number_5 : decode cX5_number 5 = .ok (.getstatic 101, 3) := dk_178 0 101 (dk_at dksX5_number_0 5 rfl rfl)
theorem dX5_number_8 : decode cX5_number 8 = .ok (.if_acmp .ne 7, 3) := dk_166 0 7 (dk_at dksX5_number_0 8 rfl rfl)
theorem dX5_number_11 : decode cX5_number 11 = .ok (.iconst 1, 1) := dk_4 (dk_at dksX5_number_0 11 rfl rfl)
theorem dX5_number_12 : decode cX5_number 12 = .ok (.goto 4, 3) := dk_167 0 4 (dk_at dksX5_number_0 12 rfl rfl)
theorem dX5_number_15 : decode cX5_number 15 = .ok (.iconst 0, 1) := dk_3 (dk_at dksX5_number_0 15 rfl rfl)
theorem dX5_number_16 : decode cX5_number 16 = .ok (.iconst 1, 1) := dk_4 (dk_at dksX5_number_0 16 rfl rfl)
theorem dX5_number_17 : decode cX5_number 17 = .ok (.invokevirtual 134, 3) := dk_182 0 134 (dk_at dksX5_number_0 17 rfl rfl)
theorem dX5_number_20 : decode cX5_number 20 = .ok (.aload_n 0, 1) := dk_42 (dk_at dksX5_number_0 20 rfl rfl)
theorem dX5_number_21 : decode cX5_number 21 = .ok (.aload_n 0, 1) := dk_42 (dk_at dksX5_number_0 21 rfl rfl)
theorem dX5_number_22 : decode cX5_number 22 = .ok (.getfield 60, 3) := dk_180 0 60 (dk_at dksX5_number_1 0 rfl rfl)
theorem dX5_number_25 : decode cX5_number 25 = .ok (.ifCond .ne 23, 3) := dk_154 0 23 (dk_at dksX5_number_1 3 rfl rfl)
theorem dX5_number_28 : decode cX5_number 28 = .ok (.aload_n 0, 1) := dk_42 (dk_at dksX5_number_1 6 rfl rfl)
theorem dX5_number_29 : decode cX5_number 29 = .ok (.getfield 98, 3) := dk_180 0 98 (dk_at dksX5_number_1 7 rfl rfl)
theorem dX5_number_32 : decode cX5_number 32 = .ok (.iload_n 1, 1) := dk_27 (dk_at dksX5_number_1 10 rfl rfl)
theorem dX5_number_33 : decode cX5_number 33 = .ok (.if_icmp .lt 15, 3) := dk_161 0 15 (dk_at dksX5_number_1 11 rfl rfl)
theorem dX5_number_36 : decode cX5_number 36 = .ok (.aload_n 0, 1) := dk_42 (dk_at dksX5_number_1 14 rfl rfl)
theorem dX5_number_37 : decode cX5_number 37 = .ok (.getfield 98, 3) := dk_180 0 98 (dk_at dksX5_number_1 15 rfl rfl)
theorem dX5_number_40 : decode cX5_number 40 = .ok (.iload_n 2, 1) := dk_28 (dk_at dksX5_number_1 18 rfl rfl)
theorem dX5_number_41 : decode cX5_number 41 = .ok (.if_icmp .gt 7, 3) := dk_163 0 7 (dk_at dksX5_number_1 19 rfl rfl)
theorem dX5_number_44 : decode cX5_number 44 = .ok (.iconst 1, 1) := dk_4 (dk_at dksX5_number_1 22 rfl rfl)
theorem dX5_number_45 : decode cX5_number 45 = .ok (.goto 4, 3) := dk_167 0 4 (dk_at dksX5_number_2 0 rfl rfl)
theorem dX5_number_48 : decode cX5_number 48 = .ok (.iconst 0, 1) := dk_3 (dk_at dksX5_number_2 3 rfl rfl)
theorem dX5_number_49 : decode cX5_number 49 = .ok (.iconst 2, 1) := dk_5 (dk_at dksX5_number_2 4 rfl rfl)
theorem dX5_number_50 : decode cX5_number 50 = .ok (.invokevirtual 134, 3) := dk_182 0 134 (dk_at dksX5_number_2 5 rfl rfl)
theorem dX5_number_53 : decode cX5_number 53 = .ok (.aload_n 0, 1) := dk_42 (dk_at dksX5_number_2 8 rfl rfl)
theorem dX5_number_54 : decode cX5_number 54 = .ok (.getfield 98, 3) := dk_180 0 98 (dk_at dksX5_number_2 9 rfl rfl)
theorem dX5_number_57 : decode cX5_number 57 = .ok (.istore_n 3, 1) := dk_62 (dk_at dksX5_number_2 12 rfl rfl)
theorem dX5_number_58 : decode cX5_number 58 = .ok (.aload_n 0, 1) := dk_42 (dk_at dksX5_number_2 13 rfl rfl)
theorem dX5_number_59 : decode cX5_number 59 = .ok (.invokevirtual 47, 3) := dk_182 0 47 (dk_at dksX5_number_2 14 rfl rfl)
theorem dX5_number_62 : decode cX5_number 62 = .ok (.iload_n 3, 1) := dk_29 (dk_at dksX5_number_2 17 rfl rfl)
theorem dX5_number_63 : decode cX5_number 63 = .ok (.ireturn, 1) := dk_172 (dk_at dksX5_number_2 18 rfl rfl)
abbrev cX5_expr : ByteArray := prog_9_method_21_code
def yX5_expr : MethodName := ⟨RX5, "expr", "()LSendHall$Expr;"⟩
def dkwX5_expr_2 : List UInt8 := [182, 0, 47, 44, 29, 42, 182, 1, 6, 182, 1, 74, 44, 176]
abbrev dktX5_expr_2 : List UInt8 := dkwX5_expr_2 ++ []
def dkwX5_expr_1 : List UInt8 := [154, 0, 5, 43, 176, 187, 1, 69, 89, 43, 183, 1, 71, 77, 42, 180, 0, 11, 3, 182, 0, 139, 62, 42]
abbrev dktX5_expr_1 : List UInt8 := dkwX5_expr_1 ++ dktX5_expr_2
def dkwX5_expr_0 : List UInt8 := [42, 182, 1, 6, 76, 42, 19, 1, 65, 182, 0, 130, 154, 0, 15, 42, 19, 1, 67, 182, 0, 130]
abbrev dktX5_expr_0 : List UInt8 := dkwX5_expr_0 ++ dktX5_expr_1
theorem dksX5_expr_0 : cX5_expr.data.toList.drop 0 = dktX5_expr_0 := by decide +kernel
theorem dksX5_expr_1 : cX5_expr.data.toList.drop 22 = dktX5_expr_1 := dk_seg dksX5_expr_0 22 rfl rfl
theorem dksX5_expr_2 : cX5_expr.data.toList.drop 46 = dktX5_expr_2 := dk_seg dksX5_expr_1 24 rfl rfl
theorem dX5_expr_0 : decode cX5_expr 0 = .ok (.aload_n 0, 1) := dk_42 (dk_at dksX5_expr_0 0 rfl rfl)
theorem dX5_expr_1 : decode cX5_expr 1 = .ok (.invokevirtual 262, 3) := dk_182 1 6 (dk_at dksX5_expr_0 1 rfl rfl)
theorem dX5_expr_4 : decode cX5_expr 4 = .ok (.astore_n 1, 1) := dk_76 (dk_at dksX5_expr_0 4 rfl rfl)
theorem dX5_expr_5 : decode cX5_expr 5 = .ok (.aload_n 0, 1) := dk_42 (dk_at dksX5_expr_0 5 rfl rfl)
theorem dX5_expr_6 : decode cX5_expr 6 = .ok (.ldc_w 321, 3) := dk_19 1 65 (dk_at dksX5_expr_0 6 rfl rfl)
theorem dX5_expr_9 : decode cX5_expr 9 = .ok (.invokevirtual 130, 3) := dk_182 0 130 (dk_at dksX5_expr_0 9 rfl rfl)
theorem dX5_expr_12 : decode cX5_expr 12 = .ok (.ifCond .ne 15, 3) := dk_154 0 15 (dk_at dksX5_expr_0 12 rfl rfl)
theorem dX5_expr_15 : decode cX5_expr 15 = .ok (.aload_n 0, 1) := dk_42 (dk_at dksX5_expr_0 15 rfl rfl)
theorem dX5_expr_16 : decode cX5_expr 16 = .ok (.ldc_w 323, 3) := dk_19 1 67 (dk_at dksX5_expr_0 16 rfl rfl)
theorem dX5_expr_19 : decode cX5_expr 19 = .ok (.invokevirtual 130, 3) := dk_182 0 130 (dk_at dksX5_expr_0 19 rfl rfl)
theorem dX5_expr_22 : decode cX5_expr 22 = .ok (.ifCond .ne 5, 3) := dk_154 0 5 (dk_at dksX5_expr_1 0 rfl rfl)
theorem dX5_expr_25 : decode cX5_expr 25 = .ok (.aload_n 1, 1) := dk_43 (dk_at dksX5_expr_1 3 rfl rfl)
theorem dX5_expr_26 : decode cX5_expr 26 = .ok (.areturn, 1) := dk_176 (dk_at dksX5_expr_1 4 rfl rfl)
theorem dX5_expr_27 : decode cX5_expr 27 = .ok (.new 325, 3) := dk_187 1 69 (dk_at dksX5_expr_1 5 rfl rfl)
theorem dX5_expr_30 : decode cX5_expr 30 = .ok (.dup, 1) := dk_89 (dk_at dksX5_expr_1 8 rfl rfl)
theorem dX5_expr_31 : decode cX5_expr 31 = .ok (.aload_n 1, 1) := dk_43 (dk_at dksX5_expr_1 9 rfl rfl)
theorem dX5_expr_32 : decode cX5_expr 32 = .ok (.invokespecial 327, 3) := dk_183 1 71 (dk_at dksX5_expr_1 10 rfl rfl)
theorem dX5_expr_35 : decode cX5_expr 35 = .ok (.astore_n 2, 1) := dk_77 (dk_at dksX5_expr_1 13 rfl rfl)
theorem dX5_expr_36 : decode cX5_expr 36 = .ok (.aload_n 0, 1) := dk_42 (dk_at dksX5_expr_1 14 rfl rfl)
theorem dX5_expr_37 : decode cX5_expr 37 = .ok (.getfield 11, 3) := dk_180 0 11 (dk_at dksX5_expr_1 15 rfl rfl)
theorem dX5_expr_40 : decode cX5_expr 40 = .ok (.iconst 0, 1) := dk_3 (dk_at dksX5_expr_1 18 rfl rfl)
theorem dX5_expr_41 : decode cX5_expr 41 = .ok (.invokevirtual 139, 3) := dk_182 0 139 (dk_at dksX5_expr_1 19 rfl rfl)
theorem dX5_expr_44 : decode cX5_expr 44 = .ok (.istore_n 3, 1) := dk_62 (dk_at dksX5_expr_1 22 rfl rfl)
theorem dX5_expr_45 : decode cX5_expr 45 = .ok (.aload_n 0, 1) := dk_42 (dk_at dksX5_expr_1 23 rfl rfl)
theorem dX5_expr_46 : decode cX5_expr 46 = .ok (.invokevirtual 47, 3) := dk_182 0 47 (dk_at dksX5_expr_2 0 rfl rfl)
theorem dX5_expr_49 : decode cX5_expr 49 = .ok (.aload_n 2, 1) := dk_44 (dk_at dksX5_expr_2 3 rfl rfl)
theorem dX5_expr_50 : decode cX5_expr 50 = .ok (.iload_n 3, 1) := dk_29 (dk_at dksX5_expr_2 4 rfl rfl)
theorem dX5_expr_51 : decode cX5_expr 51 = .ok (.aload_n 0, 1) := dk_42 (dk_at dksX5_expr_2 5 rfl rfl)
theorem dX5_expr_52 : decode cX5_expr 52 = .ok (.invokevirtual 262, 3) := dk_182 1 6 (dk_at dksX5_expr_2 6 rfl rfl)
theorem dX5_expr_55 : decode cX5_expr 55 = .ok (.invokevirtual 330, 3) := dk_182 1 74 (dk_at dksX5_expr_2 9 rfl rfl)
theorem dX5_expr_58 : decode cX5_expr 58 = .ok (.aload_n 2, 1) := dk_44 (dk_at dksX5_expr_2 12 rfl rfl)
theorem dX5_expr_59 : decode cX5_expr 59 = .ok (.areturn, 1) := dk_176 (dk_at dksX5_expr_2 13 rfl rfl)
abbrev cX5_need : ByteArray := prog_9_method_8_code
def yX5_need : MethodName := ⟨RX5, "need", "(Ljava/lang/String;)V"⟩
def dkwX5_need_0 : List UInt8 := [42, 42, 43, 182, 0, 130, 4, 182, 0, 134, 42, 182, 0, 47, 177]
abbrev dktX5_need_0 : List UInt8 := dkwX5_need_0 ++ []
theorem dksX5_need_0 : cX5_need.data.toList.drop 0 = dktX5_need_0 := by decide +kernel
theorem dX5_need_0 : decode cX5_need 0 = .ok (.aload_n 0, 1) := dk_42 (dk_at dksX5_need_0 0 rfl rfl)
theorem dX5_need_1 : decode cX5_need 1 = .ok (.aload_n 0, 1) := dk_42 (dk_at dksX5_need_0 1 rfl rfl)
theorem dX5_need_2 : decode cX5_need 2 = .ok (.aload_n 1, 1) := dk_43 (dk_at dksX5_need_0 2 rfl rfl)
theorem dX5_need_3 : decode cX5_need 3 = .ok (.invokevirtual 130, 3) := dk_182 0 130 (dk_at dksX5_need_0 3 rfl rfl)
theorem dX5_need_6 : decode cX5_need 6 = .ok (.iconst 1, 1) := dk_4 (dk_at dksX5_need_0 6 rfl rfl)
theorem dX5_need_7 : decode cX5_need 7 = .ok (.invokevirtual 134, 3) := dk_182 0 134 (dk_at dksX5_need_0 7 rfl rfl)
theorem dX5_need_10 : decode cX5_need 10 = .ok (.aload_n 0, 1) := dk_42 (dk_at dksX5_need_0 10 rfl rfl)
theorem dX5_need_11 : decode cX5_need 11 = .ok (.invokevirtual 47, 3) := dk_182 0 47 (dk_at dksX5_need_0 11 rfl rfl)
theorem dX5_need_14 : decode cX5_need 14 = .ok (.return_, 1) := dk_177 (dk_at dksX5_need_0 14 rfl rfl)
abbrev cX5_valueOf : ByteArray := prog_9_method_25_code
def yX5_valueOf : MethodName := ⟨RX5, "valueOf", "(Ljava/lang/String;)I"⟩
def dkwX5_valueOf_8 : List UInt8 := [3, 172, 4, 172, 5, 172, 6, 172, 7, 172, 8, 172, 16, 6, 172, 2, 172]
abbrev dktX5_valueOf_8 : List UInt8 := dkwX5_valueOf_8 ++ []
def dkwX5_valueOf_7 : List UInt8 := [170, 0, 0, 0, 0, 0, 0, 59, 0, 0, 0, 0, 0, 0, 0, 6, 0, 0, 0, 44, 0, 0, 0, 46, 0, 0, 0, 48, 0, 0, 0, 50, 0, 0, 0, 52, 0, 0, 0, 54, 0, 0, 0, 56]
abbrev dktX5_valueOf_7 : List UInt8 := dkwX5_valueOf_7 ++ dktX5_valueOf_8
def dkwX5_valueOf_6 : List UInt8 := [182, 0, 121, 153, 0, 6, 16, 6, 61, 28]
abbrev dktX5_valueOf_6 : List UInt8 := dkwX5_valueOf_6 ++ dktX5_valueOf_7
def dkwX5_valueOf_5 : List UInt8 := [7, 61, 167, 0, 31, 43, 19, 1, 116, 182, 0, 121, 153, 0, 21, 8, 61, 167, 0, 16, 43, 19, 1, 118]
abbrev dktX5_valueOf_5 : List UInt8 := dkwX5_valueOf_5 ++ dktX5_valueOf_6
def dkwX5_valueOf_4 : List UInt8 := [19, 1, 112, 182, 0, 121, 153, 0, 51, 6, 61, 167, 0, 46, 43, 19, 1, 114, 182, 0, 121, 153, 0, 36]
abbrev dktX5_valueOf_4 : List UInt8 := dkwX5_valueOf_4 ++ dktX5_valueOf_5
def dkwX5_valueOf_3 : List UInt8 := [153, 0, 81, 4, 61, 167, 0, 76, 43, 19, 1, 110, 182, 0, 121, 153, 0, 66, 5, 61, 167, 0, 61, 43]
abbrev dktX5_valueOf_3 : List UInt8 := dkwX5_valueOf_3 ++ dktX5_valueOf_4
def dkwX5_valueOf_2 : List UInt8 := [43, 19, 1, 106, 182, 0, 121, 153, 0, 96, 3, 61, 167, 0, 91, 43, 19, 1, 108, 182, 0, 121]
abbrev dktX5_valueOf_2 : List UInt8 := dkwX5_valueOf_2 ++ dktX5_valueOf_3
def dkwX5_valueOf_1 : List UInt8 := [171, 0, 0, 0, 0, 0, 0, 171, 0, 0, 0, 7, 0, 0, 0, 97, 0, 0, 0, 68, 0, 0, 0, 98, 0, 0, 0, 83, 0, 0, 0, 99, 0, 0, 0, 98, 0, 0, 0, 100, 0, 0, 0, 113, 0, 0, 0, 110, 0, 0, 0, 143, 0, 0, 13, 152, 0, 0, 0, 128, 0, 48, 23, 170, 0, 0, 0, 158]
abbrev dktX5_valueOf_1 : List UInt8 := dkwX5_valueOf_1 ++ dktX5_valueOf_2
def dkwX5_valueOf_0 : List UInt8 := [42, 76, 2, 61, 43, 182, 0, 143]
abbrev dktX5_valueOf_0 : List UInt8 := dkwX5_valueOf_0 ++ dktX5_valueOf_1
theorem dksX5_valueOf_0 : cX5_valueOf.data.toList.drop 0 = dktX5_valueOf_0 := by decide +kernel
theorem dksX5_valueOf_1 : cX5_valueOf.data.toList.drop 8 = dktX5_valueOf_1 := dk_seg dksX5_valueOf_0 8 rfl rfl
theorem dksX5_valueOf_2 : cX5_valueOf.data.toList.drop 76 = dktX5_valueOf_2 := dk_seg dksX5_valueOf_1 68 rfl rfl
theorem dksX5_valueOf_3 : cX5_valueOf.data.toList.drop 98 = dktX5_valueOf_3 := dk_seg dksX5_valueOf_2 22 rfl rfl
theorem dksX5_valueOf_4 : cX5_valueOf.data.toList.drop 122 = dktX5_valueOf_4 := dk_seg dksX5_valueOf_3 24 rfl rfl
theorem dksX5_valueOf_5 : cX5_valueOf.data.toList.drop 146 = dktX5_valueOf_5 := dk_seg dksX5_valueOf_4 24 rfl rfl
theorem dksX5_valueOf_6 : cX5_valueOf.data.toList.drop 170 = dktX5_valueOf_6 := dk_seg dksX5_valueOf_5 24 rfl rfl
theorem dksX5_valueOf_7 : cX5_valueOf.data.toList.drop 180 = dktX5_valueOf_7 := dk_seg dksX5_valueOf_6 10 rfl rfl
theorem dksX5_valueOf_8 : cX5_valueOf.data.toList.drop 224 = dktX5_valueOf_8 := dk_seg dksX5_valueOf_7 44 rfl rfl
theorem dX5_valueOf_0 : decode cX5_valueOf 0 = .ok (.aload_n 0, 1) := dk_42 (dk_at dksX5_valueOf_0 0 rfl rfl)
theorem dX5_valueOf_1 : decode cX5_valueOf 1 = .ok (.astore_n 1, 1) := dk_76 (dk_at dksX5_valueOf_0 1 rfl rfl)
theorem dX5_valueOf_2 : decode cX5_valueOf 2 = .ok (.iconst (-1), 1) := dk_2 (dk_at dksX5_valueOf_0 2 rfl rfl)
theorem dX5_valueOf_3 : decode cX5_valueOf 3 = .ok (.istore_n 2, 1) := dk_61 (dk_at dksX5_valueOf_0 3 rfl rfl)
theorem dX5_valueOf_4 : decode cX5_valueOf 4 = .ok (.aload_n 1, 1) := dk_43 (dk_at dksX5_valueOf_0 4 rfl rfl)
theorem dX5_valueOf_5 : decode cX5_valueOf 5 = .ok (.invokevirtual 143, 3) := dk_182 0 143 (dk_at dksX5_valueOf_0 5 rfl rfl)
theorem dX5_valueOf_8 : decode cX5_valueOf 8 = .ok (.lookupswitch 171 #[(97, 68), (98, 83), (99, 98), (100, 113), (110, 143), (3480, 128), (3151786, 158)], 68) := by decide +kernel
theorem dX5_valueOf_76 : decode cX5_valueOf 76 = .ok (.aload_n 1, 1) := dk_43 (dk_at dksX5_valueOf_2 0 rfl rfl)
theorem dX5_valueOf_77 : decode cX5_valueOf 77 = .ok (.ldc_w 362, 3) := dk_19 1 106 (dk_at dksX5_valueOf_2 1 rfl rfl)
theorem dX5_valueOf_80 : decode cX5_valueOf 80 = .ok (.invokevirtual 121, 3) := dk_182 0 121 (dk_at dksX5_valueOf_2 4 rfl rfl)
theorem dX5_valueOf_83 : decode cX5_valueOf 83 = .ok (.ifCond .eq 96, 3) := dk_153 0 96 (dk_at dksX5_valueOf_2 7 rfl rfl)
theorem dX5_valueOf_86 : decode cX5_valueOf 86 = .ok (.iconst 0, 1) := dk_3 (dk_at dksX5_valueOf_2 10 rfl rfl)
theorem dX5_valueOf_87 : decode cX5_valueOf 87 = .ok (.istore_n 2, 1) := dk_61 (dk_at dksX5_valueOf_2 11 rfl rfl)
theorem dX5_valueOf_88 : decode cX5_valueOf 88 = .ok (.goto 91, 3) := dk_167 0 91 (dk_at dksX5_valueOf_2 12 rfl rfl)
theorem dX5_valueOf_91 : decode cX5_valueOf 91 = .ok (.aload_n 1, 1) := dk_43 (dk_at dksX5_valueOf_2 15 rfl rfl)
theorem dX5_valueOf_92 : decode cX5_valueOf 92 = .ok (.ldc_w 364, 3) := dk_19 1 108 (dk_at dksX5_valueOf_2 16 rfl rfl)
theorem dX5_valueOf_95 : decode cX5_valueOf 95 = .ok (.invokevirtual 121, 3) := dk_182 0 121 (dk_at dksX5_valueOf_2 19 rfl rfl)
theorem dX5_valueOf_98 : decode cX5_valueOf 98 = .ok (.ifCond .eq 81, 3) := dk_153 0 81 (dk_at dksX5_valueOf_3 0 rfl rfl)
theorem dX5_valueOf_101 : decode cX5_valueOf 101 = .ok (.iconst 1, 1) := dk_4 (dk_at dksX5_valueOf_3 3 rfl rfl)
theorem dX5_valueOf_102 : decode cX5_valueOf 102 = .ok (.istore_n 2, 1) := dk_61 (dk_at dksX5_valueOf_3 4 rfl rfl)
theorem dX5_valueOf_103 : decode cX5_valueOf 103 = .ok (.goto 76, 3) := dk_167 0 76 (dk_at dksX5_valueOf_3 5 rfl rfl)
theorem dX5_valueOf_106 : decode cX5_valueOf 106 = .ok (.aload_n 1, 1) := dk_43 (dk_at dksX5_valueOf_3 8 rfl rfl)
theorem dX5_valueOf_107 : decode cX5_valueOf 107 = .ok (.ldc_w 366, 3) := dk_19 1 110 (dk_at dksX5_valueOf_3 9 rfl rfl)
theorem dX5_valueOf_110 : decode cX5_valueOf 110 = .ok (.invokevirtual 121, 3) := dk_182 0 121 (dk_at dksX5_valueOf_3 12 rfl rfl)
theorem dX5_valueOf_113 : decode cX5_valueOf 113 = .ok (.ifCond .eq 66, 3) := dk_153 0 66 (dk_at dksX5_valueOf_3 15 rfl rfl)
theorem dX5_valueOf_116 : decode cX5_valueOf 116 = .ok (.iconst 2, 1) := dk_5 (dk_at dksX5_valueOf_3 18 rfl rfl)
theorem dX5_valueOf_117 : decode cX5_valueOf 117 = .ok (.istore_n 2, 1) := dk_61 (dk_at dksX5_valueOf_3 19 rfl rfl)
theorem dX5_valueOf_118 : decode cX5_valueOf 118 = .ok (.goto 61, 3) := dk_167 0 61 (dk_at dksX5_valueOf_3 20 rfl rfl)
theorem dX5_valueOf_121 : decode cX5_valueOf 121 = .ok (.aload_n 1, 1) := dk_43 (dk_at dksX5_valueOf_3 23 rfl rfl)
theorem dX5_valueOf_122 : decode cX5_valueOf 122 = .ok (.ldc_w 368, 3) := dk_19 1 112 (dk_at dksX5_valueOf_4 0 rfl rfl)
theorem dX5_valueOf_125 : decode cX5_valueOf 125 = .ok (.invokevirtual 121, 3) := dk_182 0 121 (dk_at dksX5_valueOf_4 3 rfl rfl)
theorem dX5_valueOf_128 : decode cX5_valueOf 128 = .ok (.ifCond .eq 51, 3) := dk_153 0 51 (dk_at dksX5_valueOf_4 6 rfl rfl)
theorem dX5_valueOf_131 : decode cX5_valueOf 131 = .ok (.iconst 3, 1) := dk_6 (dk_at dksX5_valueOf_4 9 rfl rfl)
theorem dX5_valueOf_132 : decode cX5_valueOf 132 = .ok (.istore_n 2, 1) := dk_61 (dk_at dksX5_valueOf_4 10 rfl rfl)
theorem dX5_valueOf_133 : decode cX5_valueOf 133 = .ok (.goto 46, 3) := dk_167 0 46 (dk_at dksX5_valueOf_4 11 rfl rfl)
theorem dX5_valueOf_136 : decode cX5_valueOf 136 = .ok (.aload_n 1, 1) := dk_43 (dk_at dksX5_valueOf_4 14 rfl rfl)
theorem dX5_valueOf_137 : decode cX5_valueOf 137 = .ok (.ldc_w 370, 3) := dk_19 1 114 (dk_at dksX5_valueOf_4 15 rfl rfl)
theorem dX5_valueOf_140 : decode cX5_valueOf 140 = .ok (.invokevirtual 121, 3) := dk_182 0 121 (dk_at dksX5_valueOf_4 18 rfl rfl)
theorem dX5_valueOf_143 : decode cX5_valueOf 143 = .ok (.ifCond .eq 36, 3) := dk_153 0 36 (dk_at dksX5_valueOf_4 21 rfl rfl)
theorem dX5_valueOf_146 : decode cX5_valueOf 146 = .ok (.iconst 4, 1) := dk_7 (dk_at dksX5_valueOf_5 0 rfl rfl)
theorem dX5_valueOf_147 : decode cX5_valueOf 147 = .ok (.istore_n 2, 1) := dk_61 (dk_at dksX5_valueOf_5 1 rfl rfl)
theorem dX5_valueOf_148 : decode cX5_valueOf 148 = .ok (.goto 31, 3) := dk_167 0 31 (dk_at dksX5_valueOf_5 2 rfl rfl)
theorem dX5_valueOf_151 : decode cX5_valueOf 151 = .ok (.aload_n 1, 1) := dk_43 (dk_at dksX5_valueOf_5 5 rfl rfl)
theorem dX5_valueOf_152 : decode cX5_valueOf 152 = .ok (.ldc_w 372, 3) := dk_19 1 116 (dk_at dksX5_valueOf_5 6 rfl rfl)
theorem dX5_valueOf_155 : decode cX5_valueOf 155 = .ok (.invokevirtual 121, 3) := dk_182 0 121 (dk_at dksX5_valueOf_5 9 rfl rfl)
theorem dX5_valueOf_158 : decode cX5_valueOf 158 = .ok (.ifCond .eq 21, 3) := dk_153 0 21 (dk_at dksX5_valueOf_5 12 rfl rfl)
theorem dX5_valueOf_161 : decode cX5_valueOf 161 = .ok (.iconst 5, 1) := dk_8 (dk_at dksX5_valueOf_5 15 rfl rfl)
theorem dX5_valueOf_162 : decode cX5_valueOf 162 = .ok (.istore_n 2, 1) := dk_61 (dk_at dksX5_valueOf_5 16 rfl rfl)
theorem dX5_valueOf_163 : decode cX5_valueOf 163 = .ok (.goto 16, 3) := dk_167 0 16 (dk_at dksX5_valueOf_5 17 rfl rfl)
theorem dX5_valueOf_166 : decode cX5_valueOf 166 = .ok (.aload_n 1, 1) := dk_43 (dk_at dksX5_valueOf_5 20 rfl rfl)
theorem dX5_valueOf_167 : decode cX5_valueOf 167 = .ok (.ldc_w 374, 3) := dk_19 1 118 (dk_at dksX5_valueOf_5 21 rfl rfl)
theorem dX5_valueOf_170 : decode cX5_valueOf 170 = .ok (.invokevirtual 121, 3) := dk_182 0 121 (dk_at dksX5_valueOf_6 0 rfl rfl)
theorem dX5_valueOf_173 : decode cX5_valueOf 173 = .ok (.ifCond .eq 6, 3) := dk_153 0 6 (dk_at dksX5_valueOf_6 3 rfl rfl)
theorem dX5_valueOf_176 : decode cX5_valueOf 176 = .ok (.bipush 6, 2) := dk_16 6 (dk_at dksX5_valueOf_6 6 rfl rfl)
theorem dX5_valueOf_178 : decode cX5_valueOf 178 = .ok (.istore_n 2, 1) := dk_61 (dk_at dksX5_valueOf_6 8 rfl rfl)
theorem dX5_valueOf_179 : decode cX5_valueOf 179 = .ok (.iload_n 2, 1) := dk_28 (dk_at dksX5_valueOf_6 9 rfl rfl)
theorem dX5_valueOf_180 : decode cX5_valueOf 180 = .ok (.tableswitch 59 0 6 #[44, 46, 48, 50, 52, 54, 56], 44) := by decide +kernel
theorem dX5_valueOf_224 : decode cX5_valueOf 224 = .ok (.iconst 0, 1) := dk_3 (dk_at dksX5_valueOf_8 0 rfl rfl)
theorem dX5_valueOf_225 : decode cX5_valueOf 225 = .ok (.ireturn, 1) := dk_172 (dk_at dksX5_valueOf_8 1 rfl rfl)
theorem dX5_valueOf_226 : decode cX5_valueOf 226 = .ok (.iconst 1, 1) := dk_4 (dk_at dksX5_valueOf_8 2 rfl rfl)
theorem dX5_valueOf_227 : decode cX5_valueOf 227 = .ok (.ireturn, 1) := dk_172 (dk_at dksX5_valueOf_8 3 rfl rfl)
theorem dX5_valueOf_228 : decode cX5_valueOf 228 = .ok (.iconst 2, 1) := dk_5 (dk_at dksX5_valueOf_8 4 rfl rfl)
theorem dX5_valueOf_229 : decode cX5_valueOf 229 = .ok (.ireturn, 1) := dk_172 (dk_at dksX5_valueOf_8 5 rfl rfl)
theorem dX5_valueOf_230 : decode cX5_valueOf 230 = .ok (.iconst 3, 1) := dk_6 (dk_at dksX5_valueOf_8 6 rfl rfl)
theorem dX5_valueOf_231 : decode cX5_valueOf 231 = .ok (.ireturn, 1) := dk_172 (dk_at dksX5_valueOf_8 7 rfl rfl)
theorem dX5_valueOf_232 : decode cX5_valueOf 232 = .ok (.iconst 4, 1) := dk_7 (dk_at dksX5_valueOf_8 8 rfl rfl)
theorem dX5_valueOf_233 : decode cX5_valueOf 233 = .ok (.ireturn, 1) := dk_172 (dk_at dksX5_valueOf_8 9 rfl rfl)
theorem dX5_valueOf_234 : decode cX5_valueOf 234 = .ok (.iconst 5, 1) := dk_8 (dk_at dksX5_valueOf_8 10 rfl rfl)
theorem dX5_valueOf_235 : decode cX5_valueOf 235 = .ok (.ireturn, 1) := dk_172 (dk_at dksX5_valueOf_8 11 rfl rfl)
theorem dX5_valueOf_236 : decode cX5_valueOf 236 = .ok (.bipush 6, 2) := dk_16 6 (dk_at dksX5_valueOf_8 12 rfl rfl)
theorem dX5_valueOf_238 : decode cX5_valueOf 238 = .ok (.ireturn, 1) := dk_172 (dk_at dksX5_valueOf_8 14 rfl rfl)
theorem dX5_valueOf_239 : decode cX5_valueOf 239 = .ok (.iconst (-1), 1) := dk_2 (dk_at dksX5_valueOf_8 15 rfl rfl)
theorem dX5_valueOf_240 : decode cX5_valueOf 240 = .ok (.ireturn, 1) := dk_172 (dk_at dksX5_valueOf_8 16 rfl rfl)
abbrev cX5_wait : ByteArray := prog_9_method_17_code
def yX5_wait : MethodName := ⟨RX5, "wait", "(LSendHall$Wait;)LSendHall$Step;"⟩
def dkwX5_wait_4 : List UInt8 := [16, 99, 182, 1, 21, 181, 1, 43, 43, 176]
abbrev dktX5_wait_4 : List UInt8 := dkwX5_wait_4 ++ []
def dkwX5_wait_3 : List UInt8 := [182, 0, 231, 181, 1, 39, 42, 19, 1, 41, 182, 0, 130, 153, 0, 18, 42, 182, 0, 47, 43, 42, 4]
abbrev dktX5_wait_3 : List UInt8 := dkwX5_wait_3 ++ dktX5_wait_4
def dkwX5_wait_2 : List UInt8 := [19, 1, 12, 182, 0, 215, 43, 42, 182, 1, 6, 181, 1, 36, 42, 19, 1, 37, 182, 0, 215, 43, 42]
abbrev dktX5_wait_2 : List UInt8 := dkwX5_wait_2 ++ dktX5_wait_3
def dkwX5_wait_1 : List UInt8 := [182, 1, 6, 181, 1, 30, 167, 0, 16, 42, 180, 0, 20, 89, 180, 1, 33, 4, 96, 181, 1, 33, 42]
abbrev dktX5_wait_1 : List UInt8 := dkwX5_wait_1 ++ dktX5_wait_2
def dkwX5_wait_0 : List UInt8 := [42, 180, 0, 20, 180, 0, 201, 43, 182, 0, 210, 87, 43, 180, 1, 27, 6, 160, 0, 14, 43, 42]
abbrev dktX5_wait_0 : List UInt8 := dkwX5_wait_0 ++ dktX5_wait_1
theorem dksX5_wait_0 : cX5_wait.data.toList.drop 0 = dktX5_wait_0 := by decide +kernel
theorem dksX5_wait_1 : cX5_wait.data.toList.drop 22 = dktX5_wait_1 := dk_seg dksX5_wait_0 22 rfl rfl
theorem dksX5_wait_2 : cX5_wait.data.toList.drop 45 = dktX5_wait_2 := dk_seg dksX5_wait_1 23 rfl rfl
theorem dksX5_wait_3 : cX5_wait.data.toList.drop 68 = dktX5_wait_3 := dk_seg dksX5_wait_2 23 rfl rfl
theorem dksX5_wait_4 : cX5_wait.data.toList.drop 91 = dktX5_wait_4 := dk_seg dksX5_wait_3 23 rfl rfl
theorem dX5_wait_0 : decode cX5_wait 0 = .ok (.aload_n 0, 1) := dk_42 (dk_at dksX5_wait_0 0 rfl rfl)
theorem dX5_wait_1 : decode cX5_wait 1 = .ok (.getfield 20, 3) := dk_180 0 20 (dk_at dksX5_wait_0 1 rfl rfl)
theorem dX5_wait_4 : decode cX5_wait 4 = .ok (.getfield 201, 3) := dk_180 0 201 (dk_at dksX5_wait_0 4 rfl rfl)
theorem dX5_wait_7 : decode cX5_wait 7 = .ok (.aload_n 1, 1) := dk_43 (dk_at dksX5_wait_0 7 rfl rfl)
theorem dX5_wait_8 : decode cX5_wait 8 = .ok (.invokevirtual 210, 3) := dk_182 0 210 (dk_at dksX5_wait_0 8 rfl rfl)
theorem dX5_wait_11 : decode cX5_wait 11 = .ok (.pop, 1) := dk_87 (dk_at dksX5_wait_0 11 rfl rfl)
theorem dX5_wait_12 : decode cX5_wait 12 = .ok (.aload_n 1, 1) := dk_43 (dk_at dksX5_wait_0 12 rfl rfl)
theorem dX5_wait_13 : decode cX5_wait 13 = .ok (.getfield 283, 3) := dk_180 1 27 (dk_at dksX5_wait_0 13 rfl rfl)
theorem dX5_wait_16 : decode cX5_wait 16 = .ok (.iconst 3, 1) := dk_6 (dk_at dksX5_wait_0 16 rfl rfl)
theorem dX5_wait_17 : decode cX5_wait 17 = .ok (.if_icmp .ne 14, 3) := dk_160 0 14 (dk_at dksX5_wait_0 17 rfl rfl)
theorem dX5_wait_20 : decode cX5_wait 20 = .ok (.aload_n 1, 1) := dk_43 (dk_at dksX5_wait_0 20 rfl rfl)
theorem dX5_wait_21 : decode cX5_wait 21 = .ok (.aload_n 0, 1) := dk_42 (dk_at dksX5_wait_0 21 rfl rfl)
theorem dX5_wait_22 : decode cX5_wait 22 = .ok (.invokevirtual 262, 3) := dk_182 1 6 (dk_at dksX5_wait_1 0 rfl rfl)
theorem dX5_wait_25 : decode cX5_wait 25 = .ok (.putfield 286, 3) := dk_181 1 30 (dk_at dksX5_wait_1 3 rfl rfl)
theorem dX5_wait_28 : decode cX5_wait 28 = .ok (.goto 16, 3) := dk_167 0 16 (dk_at dksX5_wait_1 6 rfl rfl)
theorem dX5_wait_31 : decode cX5_wait 31 = .ok (.aload_n 0, 1) := dk_42 (dk_at dksX5_wait_1 9 rfl rfl)
theorem dX5_wait_32 : decode cX5_wait 32 = .ok (.getfield 20, 3) := dk_180 0 20 (dk_at dksX5_wait_1 10 rfl rfl)
theorem dX5_wait_35 : decode cX5_wait 35 = .ok (.dup, 1) := dk_89 (dk_at dksX5_wait_1 13 rfl rfl)
theorem dX5_wait_36 : decode cX5_wait 36 = .ok (.getfield 289, 3) := dk_180 1 33 (dk_at dksX5_wait_1 14 rfl rfl)
theorem dX5_wait_39 : decode cX5_wait 39 = .ok (.iconst 1, 1) := dk_4 (dk_at dksX5_wait_1 17 rfl rfl)
theorem dX5_wait_40 : decode cX5_wait 40 = .ok (.iadd, 1) := dk_96 (dk_at dksX5_wait_1 18 rfl rfl)
theorem dX5_wait_41 : decode cX5_wait 41 = .ok (.putfield 289, 3) := dk_181 1 33 (dk_at dksX5_wait_1 19 rfl rfl)
theorem dX5_wait_44 : decode cX5_wait 44 = .ok (.aload_n 0, 1) := dk_42 (dk_at dksX5_wait_1 22 rfl rfl)
theorem dX5_wait_45 : decode cX5_wait 45 = .ok (.ldc_w 268, 3) := dk_19 1 12 (dk_at dksX5_wait_2 0 rfl rfl)
theorem dX5_wait_48 : decode cX5_wait 48 = .ok (.invokevirtual 215, 3) := dk_182 0 215 (dk_at dksX5_wait_2 3 rfl rfl)
theorem dX5_wait_51 : decode cX5_wait 51 = .ok (.aload_n 1, 1) := dk_43 (dk_at dksX5_wait_2 6 rfl rfl)
theorem dX5_wait_52 : decode cX5_wait 52 = .ok (.aload_n 0, 1) := dk_42 (dk_at dksX5_wait_2 7 rfl rfl)
theorem dX5_wait_53 : decode cX5_wait 53 = .ok (.invokevirtual 262, 3) := dk_182 1 6 (dk_at dksX5_wait_2 8 rfl rfl)
theorem dX5_wait_56 : decode cX5_wait 56 = .ok (.putfield 292, 3) := dk_181 1 36 (dk_at dksX5_wait_2 11 rfl rfl)
theorem dX5_wait_59 : decode cX5_wait 59 = .ok (.aload_n 0, 1) := dk_42 (dk_at dksX5_wait_2 14 rfl rfl)
theorem dX5_wait_60 : decode cX5_wait 60 = .ok (.ldc_w 293, 3) := dk_19 1 37 (dk_at dksX5_wait_2 15 rfl rfl)
theorem dX5_wait_63 : decode cX5_wait 63 = .ok (.invokevirtual 215, 3) := dk_182 0 215 (dk_at dksX5_wait_2 18 rfl rfl)
theorem dX5_wait_66 : decode cX5_wait 66 = .ok (.aload_n 1, 1) := dk_43 (dk_at dksX5_wait_2 21 rfl rfl)
theorem dX5_wait_67 : decode cX5_wait 67 = .ok (.aload_n 0, 1) := dk_42 (dk_at dksX5_wait_2 22 rfl rfl)
theorem dX5_wait_68 : decode cX5_wait 68 = .ok (.invokevirtual 231, 3) := dk_182 0 231 (dk_at dksX5_wait_3 0 rfl rfl)
theorem dX5_wait_71 : decode cX5_wait 71 = .ok (.putfield 295, 3) := dk_181 1 39 (dk_at dksX5_wait_3 3 rfl rfl)
theorem dX5_wait_74 : decode cX5_wait 74 = .ok (.aload_n 0, 1) := dk_42 (dk_at dksX5_wait_3 6 rfl rfl)
theorem dX5_wait_75 : decode cX5_wait 75 = .ok (.ldc_w 297, 3) := dk_19 1 41 (dk_at dksX5_wait_3 7 rfl rfl)
theorem dX5_wait_78 : decode cX5_wait 78 = .ok (.invokevirtual 130, 3) := dk_182 0 130 (dk_at dksX5_wait_3 10 rfl rfl)
theorem dX5_wait_81 : decode cX5_wait 81 = .ok (.ifCond .eq 18, 3) := dk_153 0 18 (dk_at dksX5_wait_3 13 rfl rfl)
theorem dX5_wait_84 : decode cX5_wait 84 = .ok (.aload_n 0, 1) := dk_42 (dk_at dksX5_wait_3 16 rfl rfl)
theorem dX5_wait_85 : decode cX5_wait 85 = .ok (.invokevirtual 47, 3) := dk_182 0 47 (dk_at dksX5_wait_3 17 rfl rfl)
theorem dX5_wait_88 : decode cX5_wait 88 = .ok (.aload_n 1, 1) := dk_43 (dk_at dksX5_wait_3 20 rfl rfl)
theorem dX5_wait_89 : decode cX5_wait 89 = .ok (.aload_n 0, 1) := dk_42 (dk_at dksX5_wait_3 21 rfl rfl)
theorem dX5_wait_90 : decode cX5_wait 90 = .ok (.iconst 1, 1) := dk_4 (dk_at dksX5_wait_3 22 rfl rfl)
theorem dX5_wait_91 : decode cX5_wait 91 = .ok (.bipush 99, 2) := dk_16 99 (dk_at dksX5_wait_4 0 rfl rfl)
theorem dX5_wait_93 : decode cX5_wait 93 = .ok (.invokevirtual 277, 3) := dk_182 1 21 (dk_at dksX5_wait_4 2 rfl rfl)
theorem dX5_wait_96 : decode cX5_wait 96 = .ok (.putfield 299, 3) := dk_181 1 43 (dk_at dksX5_wait_4 5 rfl rfl)
theorem dX5_wait_99 : decode cX5_wait 99 = .ok (.aload_n 1, 1) := dk_43 (dk_at dksX5_wait_4 8 rfl rfl)
theorem dX5_wait_100 : decode cX5_wait 100 = .ok (.areturn, 1) := dk_176 (dk_at dksX5_wait_4 9 rfl rfl)
abbrev cX5_var : ByteArray := prog_9_method_10_code
def yX5_var : MethodName := ⟨RX5, "var", "()I"⟩
def dkwX5_var_2 : List UInt8 := [27, 7, 162, 0, 7, 4, 167, 0, 4, 3, 6, 182, 0, 134, 42, 182, 0, 47, 27, 172]
abbrev dktX5_var_2 : List UInt8 := dkwX5_var_2 ++ []
def dkwX5_var_1 : List UInt8 := [182, 0, 138, 4, 160, 0, 17, 42, 180, 0, 11, 3, 182, 0, 139, 16, 97, 100, 167, 0, 4, 7, 60, 42]
abbrev dktX5_var_1 : List UInt8 := dkwX5_var_1 ++ dktX5_var_2
def dkwX5_var_0 : List UInt8 := [42, 42, 180, 0, 70, 178, 0, 92, 166, 0, 7, 4, 167, 0, 4, 3, 4, 182, 0, 134, 42, 180, 0, 11]
abbrev dktX5_var_0 : List UInt8 := dkwX5_var_0 ++ dktX5_var_1
theorem dksX5_var_0 : cX5_var.data.toList.drop 0 = dktX5_var_0 := by decide +kernel
theorem dksX5_var_1 : cX5_var.data.toList.drop 24 = dktX5_var_1 := dk_seg dksX5_var_0 24 rfl rfl
theorem dksX5_var_2 : cX5_var.data.toList.drop 48 = dktX5_var_2 := dk_seg dksX5_var_1 24 rfl rfl
theorem dX5_var_0 : decode cX5_var 0 = .ok (.aload_n 0, 1) := dk_42 (dk_at dksX5_var_0 0 rfl rfl)
theorem dX5_var_1 : decode cX5_var 1 = .ok (.aload_n 0, 1) := dk_42 (dk_at dksX5_var_0 1 rfl rfl)
theorem dX5_var_2 : decode cX5_var 2 = .ok (.getfield 70, 3) := dk_180 0 70 (dk_at dksX5_var_0 2 rfl rfl)
theorem dX5_var_5 : decode cX5_var 5 = .ok (.getstatic 92, 3) := dk_178 0 92 (dk_at dksX5_var_0 5 rfl rfl)
theorem dX5_var_8 : decode cX5_var 8 = .ok (.if_acmp .ne 7, 3) := dk_166 0 7 (dk_at dksX5_var_0 8 rfl rfl)
theorem dX5_var_11 : decode cX5_var 11 = .ok (.iconst 1, 1) := dk_4 (dk_at dksX5_var_0 11 rfl rfl)
theorem dX5_var_12 : decode cX5_var 12 = .ok (.goto 4, 3) := dk_167 0 4 (dk_at dksX5_var_0 12 rfl rfl)
theorem dX5_var_15 : decode cX5_var 15 = .ok (.iconst 0, 1) := dk_3 (dk_at dksX5_var_0 15 rfl rfl)
theorem dX5_var_16 : decode cX5_var 16 = .ok (.iconst 1, 1) := dk_4 (dk_at dksX5_var_0 16 rfl rfl)
theorem dX5_var_17 : decode cX5_var 17 = .ok (.invokevirtual 134, 3) := dk_182 0 134 (dk_at dksX5_var_0 17 rfl rfl)
theorem dX5_var_20 : decode cX5_var 20 = .ok (.aload_n 0, 1) := dk_42 (dk_at dksX5_var_0 20 rfl rfl)
theorem dX5_var_21 : decode cX5_var 21 = .ok (.getfield 11, 3) := dk_180 0 11 (dk_at dksX5_var_0 21 rfl rfl)
theorem dX5_var_24 : decode cX5_var 24 = .ok (.invokevirtual 138, 3) := dk_182 0 138 (dk_at dksX5_var_1 0 rfl rfl)
theorem dX5_var_27 : decode cX5_var 27 = .ok (.iconst 1, 1) := dk_4 (dk_at dksX5_var_1 3 rfl rfl)
theorem dX5_var_28 : decode cX5_var 28 = .ok (.if_icmp .ne 17, 3) := dk_160 0 17 (dk_at dksX5_var_1 4 rfl rfl)
theorem dX5_var_31 : decode cX5_var 31 = .ok (.aload_n 0, 1) := dk_42 (dk_at dksX5_var_1 7 rfl rfl)
theorem dX5_var_32 : decode cX5_var 32 = .ok (.getfield 11, 3) := dk_180 0 11 (dk_at dksX5_var_1 8 rfl rfl)
theorem dX5_var_35 : decode cX5_var 35 = .ok (.iconst 0, 1) := dk_3 (dk_at dksX5_var_1 11 rfl rfl)
theorem dX5_var_36 : decode cX5_var 36 = .ok (.invokevirtual 139, 3) := dk_182 0 139 (dk_at dksX5_var_1 12 rfl rfl)
theorem dX5_var_39 : decode cX5_var 39 = .ok (.bipush 97, 2) := dk_16 97 (dk_at dksX5_var_1 15 rfl rfl)
theorem dX5_var_41 : decode cX5_var 41 = .ok (.isub, 1) := dk_100 (dk_at dksX5_var_1 17 rfl rfl)
theorem dX5_var_42 : decode cX5_var 42 = .ok (.goto 4, 3) := dk_167 0 4 (dk_at dksX5_var_1 18 rfl rfl)
theorem dX5_var_45 : decode cX5_var 45 = .ok (.iconst 4, 1) := dk_7 (dk_at dksX5_var_1 21 rfl rfl)
theorem dX5_var_46 : decode cX5_var 46 = .ok (.istore_n 1, 1) := dk_60 (dk_at dksX5_var_1 22 rfl rfl)
theorem dX5_var_47 : decode cX5_var 47 = .ok (.aload_n 0, 1) := dk_42 (dk_at dksX5_var_1 23 rfl rfl)
theorem dX5_var_48 : decode cX5_var 48 = .ok (.iload_n 1, 1) := dk_27 (dk_at dksX5_var_2 0 rfl rfl)
theorem dX5_var_49 : decode cX5_var 49 = .ok (.iconst 4, 1) := dk_7 (dk_at dksX5_var_2 1 rfl rfl)
theorem dX5_var_50 : decode cX5_var 50 = .ok (.if_icmp .ge 7, 3) := dk_162 0 7 (dk_at dksX5_var_2 2 rfl rfl)
theorem dX5_var_53 : decode cX5_var 53 = .ok (.iconst 1, 1) := dk_4 (dk_at dksX5_var_2 5 rfl rfl)
theorem dX5_var_54 : decode cX5_var 54 = .ok (.goto 4, 3) := dk_167 0 4 (dk_at dksX5_var_2 6 rfl rfl)
theorem dX5_var_57 : decode cX5_var 57 = .ok (.iconst 0, 1) := dk_3 (dk_at dksX5_var_2 9 rfl rfl)
theorem dX5_var_58 : decode cX5_var 58 = .ok (.iconst 3, 1) := dk_6 (dk_at dksX5_var_2 10 rfl rfl)
theorem dX5_var_59 : decode cX5_var 59 = .ok (.invokevirtual 134, 3) := dk_182 0 134 (dk_at dksX5_var_2 11 rfl rfl)
theorem dX5_var_62 : decode cX5_var 62 = .ok (.aload_n 0, 1) := dk_42 (dk_at dksX5_var_2 14 rfl rfl)
theorem dX5_var_63 : decode cX5_var 63 = .ok (.invokevirtual 47, 3) := dk_182 0 47 (dk_at dksX5_var_2 15 rfl rfl)
theorem dX5_var_66 : decode cX5_var 66 = .ok (.iload_n 1, 1) := dk_27 (dk_at dksX5_var_2 18 rfl rfl)
theorem dX5_var_67 : decode cX5_var 67 = .ok (.ireturn, 1) := dk_172 (dk_at dksX5_var_2 19 rfl rfl)
abbrev cX5_choice : ByteArray := prog_9_method_19_code
def yX5_choice : MethodName := ⟨RX5, "choice", "(I)LSendHall$Step;"⟩
def dkwX5_choice_5 : List UInt8 := [180, 0, 33, 45, 182, 0, 210, 87, 42, 180, 0, 36, 25, 4, 182, 0, 210, 87, 44, 176]
abbrev dktX5_choice_5 : List UInt8 := dkwX5_choice_5 ++ []
def dkwX5_choice_4 : List UInt8 := [4, 100, 181, 0, 203, 42, 19, 1, 57, 182, 0, 215, 42, 180, 0, 29, 44, 182, 0, 210, 87, 42]
abbrev dktX5_choice_4 : List UInt8 := dkwX5_choice_4 ++ dktX5_choice_5
def dkwX5_choice_3 : List UInt8 := [19, 1, 55, 182, 0, 130, 153, 0, 13, 42, 182, 0, 47, 42, 182, 0, 168, 58, 4, 42, 89, 180, 0, 203]
abbrev dktX5_choice_3 : List UInt8 := dkwX5_choice_3 ++ dktX5_choice_4
def dkwX5_choice_2 : List UInt8 := [180, 0, 203, 4, 96, 181, 0, 203, 42, 182, 0, 168, 78, 187, 0, 24, 89, 4, 183, 0, 26, 58, 4, 42]
abbrev dktX5_choice_2 : List UInt8 := dkwX5_choice_2 ++ dktX5_choice_3
def dkwX5_choice_1 : List UInt8 := [77, 42, 180, 0, 20, 180, 0, 201, 27, 44, 182, 1, 3, 87, 42, 19, 1, 53, 182, 0, 215, 42, 89]
abbrev dktX5_choice_1 : List UInt8 := dkwX5_choice_1 ++ dktX5_choice_2
def dkwX5_choice_0 : List UInt8 := [42, 180, 0, 20, 180, 0, 201, 1, 182, 0, 210, 87, 187, 1, 50, 89, 27, 42, 182, 0, 236, 183, 1, 52]
abbrev dktX5_choice_0 : List UInt8 := dkwX5_choice_0 ++ dktX5_choice_1
theorem dksX5_choice_0 : cX5_choice.data.toList.drop 0 = dktX5_choice_0 := by decide +kernel
theorem dksX5_choice_1 : cX5_choice.data.toList.drop 24 = dktX5_choice_1 := dk_seg dksX5_choice_0 24 rfl rfl
theorem dksX5_choice_2 : cX5_choice.data.toList.drop 47 = dktX5_choice_2 := dk_seg dksX5_choice_1 23 rfl rfl
theorem dksX5_choice_3 : cX5_choice.data.toList.drop 71 = dktX5_choice_3 := dk_seg dksX5_choice_2 24 rfl rfl
theorem dksX5_choice_4 : cX5_choice.data.toList.drop 95 = dktX5_choice_4 := dk_seg dksX5_choice_3 24 rfl rfl
theorem dksX5_choice_5 : cX5_choice.data.toList.drop 117 = dktX5_choice_5 := dk_seg dksX5_choice_4 22 rfl rfl
theorem dX5_choice_0 : decode cX5_choice 0 = .ok (.aload_n 0, 1) := dk_42 (dk_at dksX5_choice_0 0 rfl rfl)
theorem dX5_choice_1 : decode cX5_choice 1 = .ok (.getfield 20, 3) := dk_180 0 20 (dk_at dksX5_choice_0 1 rfl rfl)
theorem dX5_choice_4 : decode cX5_choice 4 = .ok (.getfield 201, 3) := dk_180 0 201 (dk_at dksX5_choice_0 4 rfl rfl)
theorem dX5_choice_7 : decode cX5_choice 7 = .ok (.aconst_null, 1) := dk_1 (dk_at dksX5_choice_0 7 rfl rfl)
theorem dX5_choice_8 : decode cX5_choice 8 = .ok (.invokevirtual 210, 3) := dk_182 0 210 (dk_at dksX5_choice_0 8 rfl rfl)
theorem dX5_choice_11 : decode cX5_choice 11 = .ok (.pop, 1) := dk_87 (dk_at dksX5_choice_0 11 rfl rfl)
theorem dX5_choice_12 : decode cX5_choice 12 = .ok (.new 306, 3) := dk_187 1 50 (dk_at dksX5_choice_0 12 rfl rfl)
theorem dX5_choice_15 : decode cX5_choice 15 = .ok (.dup, 1) := dk_89 (dk_at dksX5_choice_0 15 rfl rfl)
theorem dX5_choice_16 : decode cX5_choice 16 = .ok (.iload_n 1, 1) := dk_27 (dk_at dksX5_choice_0 16 rfl rfl)
theorem dX5_choice_17 : decode cX5_choice 17 = .ok (.aload_n 0, 1) := dk_42 (dk_at dksX5_choice_0 17 rfl rfl)
theorem dX5_choice_18 : decode cX5_choice 18 = .ok (.invokevirtual 236, 3) := dk_182 0 236 (dk_at dksX5_choice_0 18 rfl rfl)
theorem dX5_choice_21 : decode cX5_choice 21 = .ok (.invokespecial 308, 3) := dk_183 1 52 (dk_at dksX5_choice_0 21 rfl rfl)
theorem dX5_choice_24 : decode cX5_choice 24 = .ok (.astore_n 2, 1) := dk_77 (dk_at dksX5_choice_1 0 rfl rfl)
theorem dX5_choice_25 : decode cX5_choice 25 = .ok (.aload_n 0, 1) := dk_42 (dk_at dksX5_choice_1 1 rfl rfl)
theorem dX5_choice_26 : decode cX5_choice 26 = .ok (.getfield 20, 3) := dk_180 0 20 (dk_at dksX5_choice_1 2 rfl rfl)
theorem dX5_choice_29 : decode cX5_choice 29 = .ok (.getfield 201, 3) := dk_180 0 201 (dk_at dksX5_choice_1 5 rfl rfl)
theorem dX5_choice_32 : decode cX5_choice 32 = .ok (.iload_n 1, 1) := dk_27 (dk_at dksX5_choice_1 8 rfl rfl)
theorem dX5_choice_33 : decode cX5_choice 33 = .ok (.aload_n 2, 1) := dk_44 (dk_at dksX5_choice_1 9 rfl rfl)
theorem dX5_choice_34 : decode cX5_choice 34 = .ok (.invokevirtual 259, 3) := dk_182 1 3 (dk_at dksX5_choice_1 10 rfl rfl)
theorem dX5_choice_37 : decode cX5_choice 37 = .ok (.pop, 1) := dk_87 (dk_at dksX5_choice_1 13 rfl rfl)
theorem dX5_choice_38 : decode cX5_choice 38 = .ok (.aload_n 0, 1) := dk_42 (dk_at dksX5_choice_1 14 rfl rfl)
theorem dX5_choice_39 : decode cX5_choice 39 = .ok (.ldc_w 309, 3) := dk_19 1 53 (dk_at dksX5_choice_1 15 rfl rfl)
theorem dX5_choice_42 : decode cX5_choice 42 = .ok (.invokevirtual 215, 3) := dk_182 0 215 (dk_at dksX5_choice_1 18 rfl rfl)
theorem dX5_choice_45 : decode cX5_choice 45 = .ok (.aload_n 0, 1) := dk_42 (dk_at dksX5_choice_1 21 rfl rfl)
theorem dX5_choice_46 : decode cX5_choice 46 = .ok (.dup, 1) := dk_89 (dk_at dksX5_choice_1 22 rfl rfl)
theorem dX5_choice_47 : decode cX5_choice 47 = .ok (.getfield 203, 3) := dk_180 0 203 (dk_at dksX5_choice_2 0 rfl rfl)
theorem dX5_choice_50 : decode cX5_choice 50 = .ok (.iconst 1, 1) := dk_4 (dk_at dksX5_choice_2 3 rfl rfl)
theorem dX5_choice_51 : decode cX5_choice 51 = .ok (.iadd, 1) := dk_96 (dk_at dksX5_choice_2 4 rfl rfl)
theorem dX5_choice_52 : decode cX5_choice 52 = .ok (.putfield 203, 3) := dk_181 0 203 (dk_at dksX5_choice_2 5 rfl rfl)
theorem dX5_choice_55 : decode cX5_choice 55 = .ok (.aload_n 0, 1) := dk_42 (dk_at dksX5_choice_2 8 rfl rfl)
theorem dX5_choice_56 : decode cX5_choice 56 = .ok (.invokevirtual 168, 3) := dk_182 0 168 (dk_at dksX5_choice_2 9 rfl rfl)
theorem dX5_choice_59 : decode cX5_choice 59 = .ok (.astore_n 3, 1) := dk_78 (dk_at dksX5_choice_2 12 rfl rfl)
theorem dX5_choice_60 : decode cX5_choice 60 = .ok (.new 24, 3) := dk_187 0 24 (dk_at dksX5_choice_2 13 rfl rfl)
theorem dX5_choice_63 : decode cX5_choice 63 = .ok (.dup, 1) := dk_89 (dk_at dksX5_choice_2 16 rfl rfl)
theorem dX5_choice_64 : decode cX5_choice 64 = .ok (.iconst 1, 1) := dk_4 (dk_at dksX5_choice_2 17 rfl rfl)
theorem dX5_choice_65 : decode cX5_choice 65 = .ok (.invokespecial 26, 3) := dk_183 0 26 (dk_at dksX5_choice_2 18 rfl rfl)
theorem dX5_choice_68 : decode cX5_choice 68 = .ok (.astore 4, 2) := dk_58 4 (dk_at dksX5_choice_2 21 rfl rfl)
theorem dX5_choice_70 : decode cX5_choice 70 = .ok (.aload_n 0, 1) := dk_42 (dk_at dksX5_choice_2 23 rfl rfl)
theorem dX5_choice_71 : decode cX5_choice 71 = .ok (.ldc_w 311, 3) := dk_19 1 55 (dk_at dksX5_choice_3 0 rfl rfl)
theorem dX5_choice_74 : decode cX5_choice 74 = .ok (.invokevirtual 130, 3) := dk_182 0 130 (dk_at dksX5_choice_3 3 rfl rfl)
theorem dX5_choice_77 : decode cX5_choice 77 = .ok (.ifCond .eq 13, 3) := dk_153 0 13 (dk_at dksX5_choice_3 6 rfl rfl)
theorem dX5_choice_80 : decode cX5_choice 80 = .ok (.aload_n 0, 1) := dk_42 (dk_at dksX5_choice_3 9 rfl rfl)
theorem dX5_choice_81 : decode cX5_choice 81 = .ok (.invokevirtual 47, 3) := dk_182 0 47 (dk_at dksX5_choice_3 10 rfl rfl)
theorem dX5_choice_84 : decode cX5_choice 84 = .ok (.aload_n 0, 1) := dk_42 (dk_at dksX5_choice_3 13 rfl rfl)
theorem dX5_choice_85 : decode cX5_choice 85 = .ok (.invokevirtual 168, 3) := dk_182 0 168 (dk_at dksX5_choice_3 14 rfl rfl)
theorem dX5_choice_88 : decode cX5_choice 88 = .ok (.astore 4, 2) := dk_58 4 (dk_at dksX5_choice_3 17 rfl rfl)
theorem dX5_choice_90 : decode cX5_choice 90 = .ok (.aload_n 0, 1) := dk_42 (dk_at dksX5_choice_3 19 rfl rfl)
theorem dX5_choice_91 : decode cX5_choice 91 = .ok (.dup, 1) := dk_89 (dk_at dksX5_choice_3 20 rfl rfl)
theorem dX5_choice_92 : decode cX5_choice 92 = .ok (.getfield 203, 3) := dk_180 0 203 (dk_at dksX5_choice_3 21 rfl rfl)
theorem dX5_choice_95 : decode cX5_choice 95 = .ok (.iconst 1, 1) := dk_4 (dk_at dksX5_choice_4 0 rfl rfl)
theorem dX5_choice_96 : decode cX5_choice 96 = .ok (.isub, 1) := dk_100 (dk_at dksX5_choice_4 1 rfl rfl)
theorem dX5_choice_97 : decode cX5_choice 97 = .ok (.putfield 203, 3) := dk_181 0 203 (dk_at dksX5_choice_4 2 rfl rfl)
theorem dX5_choice_100 : decode cX5_choice 100 = .ok (.aload_n 0, 1) := dk_42 (dk_at dksX5_choice_4 5 rfl rfl)
theorem dX5_choice_101 : decode cX5_choice 101 = .ok (.ldc_w 313, 3) := dk_19 1 57 (dk_at dksX5_choice_4 6 rfl rfl)
theorem dX5_choice_104 : decode cX5_choice 104 = .ok (.invokevirtual 215, 3) := dk_182 0 215 (dk_at dksX5_choice_4 9 rfl rfl)
theorem dX5_choice_107 : decode cX5_choice 107 = .ok (.aload_n 0, 1) := dk_42 (dk_at dksX5_choice_4 12 rfl rfl)
theorem dX5_choice_108 : decode cX5_choice 108 = .ok (.getfield 29, 3) := dk_180 0 29 (dk_at dksX5_choice_4 13 rfl rfl)
theorem dX5_choice_111 : decode cX5_choice 111 = .ok (.aload_n 2, 1) := dk_44 (dk_at dksX5_choice_4 16 rfl rfl)
theorem dX5_choice_112 : decode cX5_choice 112 = .ok (.invokevirtual 210, 3) := dk_182 0 210 (dk_at dksX5_choice_4 17 rfl rfl)
theorem dX5_choice_115 : decode cX5_choice 115 = .ok (.pop, 1) := dk_87 (dk_at dksX5_choice_4 20 rfl rfl)
theorem dX5_choice_116 : decode cX5_choice 116 = .ok (.aload_n 0, 1) := dk_42 (dk_at dksX5_choice_4 21 rfl rfl)
theorem dX5_choice_117 : decode cX5_choice 117 = .ok (.getfield 33, 3) := dk_180 0 33 (dk_at dksX5_choice_5 0 rfl rfl)
theorem dX5_choice_120 : decode cX5_choice 120 = .ok (.aload_n 3, 1) := dk_45 (dk_at dksX5_choice_5 3 rfl rfl)
theorem dX5_choice_121 : decode cX5_choice 121 = .ok (.invokevirtual 210, 3) := dk_182 0 210 (dk_at dksX5_choice_5 4 rfl rfl)
theorem dX5_choice_124 : decode cX5_choice 124 = .ok (.pop, 1) := dk_87 (dk_at dksX5_choice_5 7 rfl rfl)
theorem dX5_choice_125 : decode cX5_choice 125 = .ok (.aload_n 0, 1) := dk_42 (dk_at dksX5_choice_5 8 rfl rfl)
theorem dX5_choice_126 : decode cX5_choice 126 = .ok (.getfield 36, 3) := dk_180 0 36 (dk_at dksX5_choice_5 9 rfl rfl)
theorem dX5_choice_129 : decode cX5_choice 129 = .ok (.aload 4, 2) := dk_25 4 (dk_at dksX5_choice_5 12 rfl rfl)
theorem dX5_choice_131 : decode cX5_choice 131 = .ok (.invokevirtual 210, 3) := dk_182 0 210 (dk_at dksX5_choice_5 14 rfl rfl)
theorem dX5_choice_134 : decode cX5_choice 134 = .ok (.pop, 1) := dk_87 (dk_at dksX5_choice_5 17 rfl rfl)
theorem dX5_choice_135 : decode cX5_choice 135 = .ok (.aload_n 2, 1) := dk_44 (dk_at dksX5_choice_5 18 rfl rfl)
theorem dX5_choice_136 : decode cX5_choice 136 = .ok (.areturn, 1) := dk_176 (dk_at dksX5_choice_5 19 rfl rfl)
abbrev cX5_plain : ByteArray := prog_9_method_18_code
def yX5_plain : MethodName := ⟨RX5, "plain", "(LSendHall$Plain;)LSendHall$Step;"⟩
def dkwX5_plain_1 : List UInt8 := [42, 182, 1, 6, 181, 1, 46, 42, 19, 1, 37, 182, 0, 215, 43, 42, 182, 0, 231, 181, 1, 49, 43, 176]
abbrev dktX5_plain_1 : List UInt8 := dkwX5_plain_1 ++ []
def dkwX5_plain_0 : List UInt8 := [42, 180, 0, 20, 180, 0, 201, 43, 182, 0, 210, 87, 43, 180, 1, 45, 16, 7, 159, 0, 5, 43, 176, 43]
abbrev dktX5_plain_0 : List UInt8 := dkwX5_plain_0 ++ dktX5_plain_1
theorem dksX5_plain_0 : cX5_plain.data.toList.drop 0 = dktX5_plain_0 := by decide +kernel
theorem dksX5_plain_1 : cX5_plain.data.toList.drop 24 = dktX5_plain_1 := dk_seg dksX5_plain_0 24 rfl rfl
theorem dX5_plain_0 : decode cX5_plain 0 = .ok (.aload_n 0, 1) := dk_42 (dk_at dksX5_plain_0 0 rfl rfl)
theorem dX5_plain_1 : decode cX5_plain 1 = .ok (.getfield 20, 3) := dk_180 0 20 (dk_at dksX5_plain_0 1 rfl rfl)
theorem dX5_plain_4 : decode cX5_plain 4 = .ok (.getfield 201, 3) := dk_180 0 201 (dk_at dksX5_plain_0 4 rfl rfl)
theorem dX5_plain_7 : decode cX5_plain 7 = .ok (.aload_n 1, 1) := dk_43 (dk_at dksX5_plain_0 7 rfl rfl)
theorem dX5_plain_8 : decode cX5_plain 8 = .ok (.invokevirtual 210, 3) := dk_182 0 210 (dk_at dksX5_plain_0 8 rfl rfl)
theorem dX5_plain_11 : decode cX5_plain 11 = .ok (.pop, 1) := dk_87 (dk_at dksX5_plain_0 11 rfl rfl)
theorem dX5_plain_12 : decode cX5_plain 12 = .ok (.aload_n 1, 1) := dk_43 (dk_at dksX5_plain_0 12 rfl rfl)
theorem dX5_plain_13 : decode cX5_plain 13 = .ok (.getfield 301, 3) := dk_180 1 45 (dk_at dksX5_plain_0 13 rfl rfl)
theorem dX5_plain_16 : decode cX5_plain 16 = .ok (.bipush 7, 2) := dk_16 7 (dk_at dksX5_plain_0 16 rfl rfl)
theorem dX5_plain_18 : decode cX5_plain 18 = .ok (.if_icmp .eq 5, 3) := dk_159 0 5 (dk_at dksX5_plain_0 18 rfl rfl)
theorem dX5_plain_21 : decode cX5_plain 21 = .ok (.aload_n 1, 1) := dk_43 (dk_at dksX5_plain_0 21 rfl rfl)
theorem dX5_plain_22 : decode cX5_plain 22 = .ok (.areturn, 1) := dk_176 (dk_at dksX5_plain_0 22 rfl rfl)
theorem dX5_plain_23 : decode cX5_plain 23 = .ok (.aload_n 1, 1) := dk_43 (dk_at dksX5_plain_0 23 rfl rfl)
theorem dX5_plain_24 : decode cX5_plain 24 = .ok (.aload_n 0, 1) := dk_42 (dk_at dksX5_plain_1 0 rfl rfl)
theorem dX5_plain_25 : decode cX5_plain 25 = .ok (.invokevirtual 262, 3) := dk_182 1 6 (dk_at dksX5_plain_1 1 rfl rfl)
theorem dX5_plain_28 : decode cX5_plain 28 = .ok (.putfield 302, 3) := dk_181 1 46 (dk_at dksX5_plain_1 4 rfl rfl)
theorem dX5_plain_31 : decode cX5_plain 31 = .ok (.aload_n 0, 1) := dk_42 (dk_at dksX5_plain_1 7 rfl rfl)
theorem dX5_plain_32 : decode cX5_plain 32 = .ok (.ldc_w 293, 3) := dk_19 1 37 (dk_at dksX5_plain_1 8 rfl rfl)
theorem dX5_plain_35 : decode cX5_plain 35 = .ok (.invokevirtual 215, 3) := dk_182 0 215 (dk_at dksX5_plain_1 11 rfl rfl)
theorem dX5_plain_38 : decode cX5_plain 38 = .ok (.aload_n 1, 1) := dk_43 (dk_at dksX5_plain_1 14 rfl rfl)
theorem dX5_plain_39 : decode cX5_plain 39 = .ok (.aload_n 0, 1) := dk_42 (dk_at dksX5_plain_1 15 rfl rfl)
theorem dX5_plain_40 : decode cX5_plain 40 = .ok (.invokevirtual 231, 3) := dk_182 0 231 (dk_at dksX5_plain_1 16 rfl rfl)
theorem dX5_plain_43 : decode cX5_plain 43 = .ok (.putfield 305, 3) := dk_181 1 49 (dk_at dksX5_plain_1 19 rfl rfl)
theorem dX5_plain_46 : decode cX5_plain 46 = .ok (.aload_n 1, 1) := dk_43 (dk_at dksX5_plain_1 22 rfl rfl)
theorem dX5_plain_47 : decode cX5_plain 47 = .ok (.areturn, 1) := dk_176 (dk_at dksX5_plain_1 23 rfl rfl)
abbrev cX5_links : ByteArray := prog_9_method_13_code
def yX5_links : MethodName := ⟨RX5, "links", "(Ljava/util/ArrayList;LSendHall$Step;)LSendHall$Step;"⟩
def dkwX5_links_3 : List UInt8 := [192, 0, 189, 176]
abbrev dktX5_links_3 : List UInt8 := dkwX5_links_3 ++ []
def dkwX5_links_2 : List UInt8 := [132, 2, 1, 167, 255, 210, 42, 182, 0, 193, 153, 0, 7, 43, 167, 0, 11, 42, 3, 182, 0, 185]
abbrev dktX5_links_2 : List UInt8 := dkwX5_links_2 ++ dktX5_links_3
def dkwX5_links_1 : List UInt8 := [182, 0, 183, 162, 0, 16, 42, 28, 4, 96, 182, 0, 185, 192, 0, 189, 167, 0, 4, 43, 181, 0, 191]
abbrev dktX5_links_1 : List UInt8 := dkwX5_links_1 ++ dktX5_links_2
def dkwX5_links_0 : List UInt8 := [3, 61, 28, 42, 182, 0, 183, 162, 0, 44, 42, 28, 182, 0, 185, 192, 0, 189, 28, 4, 96, 42]
abbrev dktX5_links_0 : List UInt8 := dkwX5_links_0 ++ dktX5_links_1
theorem dksX5_links_0 : cX5_links.data.toList.drop 0 = dktX5_links_0 := by decide +kernel
theorem dksX5_links_1 : cX5_links.data.toList.drop 22 = dktX5_links_1 := dk_seg dksX5_links_0 22 rfl rfl
theorem dksX5_links_2 : cX5_links.data.toList.drop 45 = dktX5_links_2 := dk_seg dksX5_links_1 23 rfl rfl
theorem dksX5_links_3 : cX5_links.data.toList.drop 67 = dktX5_links_3 := dk_seg dksX5_links_2 22 rfl rfl
theorem dX5_links_0 : decode cX5_links 0 = .ok (.iconst 0, 1) := dk_3 (dk_at dksX5_links_0 0 rfl rfl)
theorem dX5_links_1 : decode cX5_links 1 = .ok (.istore_n 2, 1) := dk_61 (dk_at dksX5_links_0 1 rfl rfl)
theorem dX5_links_2 : decode cX5_links 2 = .ok (.iload_n 2, 1) := dk_28 (dk_at dksX5_links_0 2 rfl rfl)
theorem dX5_links_3 : decode cX5_links 3 = .ok (.aload_n 0, 1) := dk_42 (dk_at dksX5_links_0 3 rfl rfl)
theorem dX5_links_4 : decode cX5_links 4 = .ok (.invokevirtual 183, 3) := dk_182 0 183 (dk_at dksX5_links_0 4 rfl rfl)
theorem dX5_links_7 : decode cX5_links 7 = .ok (.if_icmp .ge 44, 3) := dk_162 0 44 (dk_at dksX5_links_0 7 rfl rfl)
theorem dX5_links_10 : decode cX5_links 10 = .ok (.aload_n 0, 1) := dk_42 (dk_at dksX5_links_0 10 rfl rfl)
theorem dX5_links_11 : decode cX5_links 11 = .ok (.iload_n 2, 1) := dk_28 (dk_at dksX5_links_0 11 rfl rfl)
theorem dX5_links_12 : decode cX5_links 12 = .ok (.invokevirtual 185, 3) := dk_182 0 185 (dk_at dksX5_links_0 12 rfl rfl)
theorem dX5_links_15 : decode cX5_links 15 = .ok (.checkcast 189, 3) := dk_192 0 189 (dk_at dksX5_links_0 15 rfl rfl)
theorem dX5_links_18 : decode cX5_links 18 = .ok (.iload_n 2, 1) := dk_28 (dk_at dksX5_links_0 18 rfl rfl)
theorem dX5_links_19 : decode cX5_links 19 = .ok (.iconst 1, 1) := dk_4 (dk_at dksX5_links_0 19 rfl rfl)
theorem dX5_links_20 : decode cX5_links 20 = .ok (.iadd, 1) := dk_96 (dk_at dksX5_links_0 20 rfl rfl)
theorem dX5_links_21 : decode cX5_links 21 = .ok (.aload_n 0, 1) := dk_42 (dk_at dksX5_links_0 21 rfl rfl)
theorem dX5_links_22 : decode cX5_links 22 = .ok (.invokevirtual 183, 3) := dk_182 0 183 (dk_at dksX5_links_1 0 rfl rfl)
theorem dX5_links_25 : decode cX5_links 25 = .ok (.if_icmp .ge 16, 3) := dk_162 0 16 (dk_at dksX5_links_1 3 rfl rfl)
theorem dX5_links_28 : decode cX5_links 28 = .ok (.aload_n 0, 1) := dk_42 (dk_at dksX5_links_1 6 rfl rfl)
theorem dX5_links_29 : decode cX5_links 29 = .ok (.iload_n 2, 1) := dk_28 (dk_at dksX5_links_1 7 rfl rfl)
theorem dX5_links_30 : decode cX5_links 30 = .ok (.iconst 1, 1) := dk_4 (dk_at dksX5_links_1 8 rfl rfl)
theorem dX5_links_31 : decode cX5_links 31 = .ok (.iadd, 1) := dk_96 (dk_at dksX5_links_1 9 rfl rfl)
theorem dX5_links_32 : decode cX5_links 32 = .ok (.invokevirtual 185, 3) := dk_182 0 185 (dk_at dksX5_links_1 10 rfl rfl)
theorem dX5_links_35 : decode cX5_links 35 = .ok (.checkcast 189, 3) := dk_192 0 189 (dk_at dksX5_links_1 13 rfl rfl)
theorem dX5_links_38 : decode cX5_links 38 = .ok (.goto 4, 3) := dk_167 0 4 (dk_at dksX5_links_1 16 rfl rfl)
theorem dX5_links_41 : decode cX5_links 41 = .ok (.aload_n 1, 1) := dk_43 (dk_at dksX5_links_1 19 rfl rfl)
theorem dX5_links_42 : decode cX5_links 42 = .ok (.putfield 191, 3) := dk_181 0 191 (dk_at dksX5_links_1 20 rfl rfl)
theorem dX5_links_45 : decode cX5_links 45 = .ok (.iinc 2 1, 3) := dk_132 2 1 (dk_at dksX5_links_2 0 rfl rfl)
theorem dX5_links_48 : decode cX5_links 48 = .ok (.goto (-46), 3) := dk_167 255 210 (dk_at dksX5_links_2 3 rfl rfl)
theorem dX5_links_51 : decode cX5_links 51 = .ok (.aload_n 0, 1) := dk_42 (dk_at dksX5_links_2 6 rfl rfl)
theorem dX5_links_52 : decode cX5_links 52 = .ok (.invokevirtual 193, 3) := dk_182 0 193 (dk_at dksX5_links_2 7 rfl rfl)
theorem dX5_links_55 : decode cX5_links 55 = .ok (.ifCond .eq 7, 3) := dk_153 0 7 (dk_at dksX5_links_2 10 rfl rfl)
theorem dX5_links_58 : decode cX5_links 58 = .ok (.aload_n 1, 1) := dk_43 (dk_at dksX5_links_2 13 rfl rfl)
theorem dX5_links_59 : decode cX5_links 59 = .ok (.goto 11, 3) := dk_167 0 11 (dk_at dksX5_links_2 14 rfl rfl)
theorem dX5_links_62 : decode cX5_links 62 = .ok (.aload_n 0, 1) := dk_42 (dk_at dksX5_links_2 17 rfl rfl)
theorem dX5_links_63 : decode cX5_links 63 = .ok (.iconst 0, 1) := dk_3 (dk_at dksX5_links_2 18 rfl rfl)
theorem dX5_links_64 : decode cX5_links 64 = .ok (.invokevirtual 185, 3) := dk_182 0 185 (dk_at dksX5_links_2 19 rfl rfl)
theorem dX5_links_67 : decode cX5_links 67 = .ok (.checkcast 189, 3) := dk_192 0 189 (dk_at dksX5_links_3 0 rfl rfl)
theorem dX5_links_70 : decode cX5_links 70 = .ok (.areturn, 1) := dk_176 (dk_at dksX5_links_3 3 rfl rfl)
abbrev cX5_joins : ByteArray := prog_9_method_20_code
def yX5_joins : MethodName := ⟨RX5, "joins", "()V"⟩
def dkwX5_joins_3 : List UInt8 := [181, 1, 62, 132, 1, 255, 167, 255, 193, 177]
abbrev dktX5_joins_3 : List UInt8 := dkwX5_joins_3 ++ []
def dkwX5_joins_2 : List UInt8 := [181, 1, 60, 44, 42, 180, 0, 36, 27, 182, 0, 185, 192, 0, 24, 44, 180, 1, 59, 184, 0, 172]
abbrev dktX5_joins_2 : List UInt8 := dkwX5_joins_2 ++ dktX5_joins_3
def dkwX5_joins_1 : List UInt8 := [192, 1, 50, 77, 44, 42, 180, 0, 33, 27, 182, 0, 185, 192, 0, 24, 44, 180, 1, 59, 184, 0, 172]
abbrev dktX5_joins_1 : List UInt8 := dkwX5_joins_1 ++ dktX5_joins_2
def dkwX5_joins_0 : List UInt8 := [42, 180, 0, 29, 182, 0, 183, 4, 100, 60, 27, 155, 0, 65, 42, 180, 0, 29, 27, 182, 0, 185]
abbrev dktX5_joins_0 : List UInt8 := dkwX5_joins_0 ++ dktX5_joins_1
theorem dksX5_joins_0 : cX5_joins.data.toList.drop 0 = dktX5_joins_0 := by decide +kernel
theorem dksX5_joins_1 : cX5_joins.data.toList.drop 22 = dktX5_joins_1 := dk_seg dksX5_joins_0 22 rfl rfl
theorem dksX5_joins_2 : cX5_joins.data.toList.drop 45 = dktX5_joins_2 := dk_seg dksX5_joins_1 23 rfl rfl
theorem dksX5_joins_3 : cX5_joins.data.toList.drop 67 = dktX5_joins_3 := dk_seg dksX5_joins_2 22 rfl rfl
theorem dX5_joins_0 : decode cX5_joins 0 = .ok (.aload_n 0, 1) := dk_42 (dk_at dksX5_joins_0 0 rfl rfl)
theorem dX5_joins_1 : decode cX5_joins 1 = .ok (.getfield 29, 3) := dk_180 0 29 (dk_at dksX5_joins_0 1 rfl rfl)
theorem dX5_joins_4 : decode cX5_joins 4 = .ok (.invokevirtual 183, 3) := dk_182 0 183 (dk_at dksX5_joins_0 4 rfl rfl)
theorem dX5_joins_7 : decode cX5_joins 7 = .ok (.iconst 1, 1) := dk_4 (dk_at dksX5_joins_0 7 rfl rfl)
theorem dX5_joins_8 : decode cX5_joins 8 = .ok (.isub, 1) := dk_100 (dk_at dksX5_joins_0 8 rfl rfl)
theorem dX5_joins_9 : decode cX5_joins 9 = .ok (.istore_n 1, 1) := dk_60 (dk_at dksX5_joins_0 9 rfl rfl)
theorem dX5_joins_10 : decode cX5_joins 10 = .ok (.iload_n 1, 1) := dk_27 (dk_at dksX5_joins_0 10 rfl rfl)
theorem dX5_joins_11 : decode cX5_joins 11 = .ok (.ifCond .lt 65, 3) := dk_155 0 65 (dk_at dksX5_joins_0 11 rfl rfl)
theorem dX5_joins_14 : decode cX5_joins 14 = .ok (.aload_n 0, 1) := dk_42 (dk_at dksX5_joins_0 14 rfl rfl)
theorem dX5_joins_15 : decode cX5_joins 15 = .ok (.getfield 29, 3) := dk_180 0 29 (dk_at dksX5_joins_0 15 rfl rfl)
theorem dX5_joins_18 : decode cX5_joins 18 = .ok (.iload_n 1, 1) := dk_27 (dk_at dksX5_joins_0 18 rfl rfl)
theorem dX5_joins_19 : decode cX5_joins 19 = .ok (.invokevirtual 185, 3) := dk_182 0 185 (dk_at dksX5_joins_0 19 rfl rfl)
theorem dX5_joins_22 : decode cX5_joins 22 = .ok (.checkcast 306, 3) := dk_192 1 50 (dk_at dksX5_joins_1 0 rfl rfl)
theorem dX5_joins_25 : decode cX5_joins 25 = .ok (.astore_n 2, 1) := dk_77 (dk_at dksX5_joins_1 3 rfl rfl)
theorem dX5_joins_26 : decode cX5_joins 26 = .ok (.aload_n 2, 1) := dk_44 (dk_at dksX5_joins_1 4 rfl rfl)
theorem dX5_joins_27 : decode cX5_joins 27 = .ok (.aload_n 0, 1) := dk_42 (dk_at dksX5_joins_1 5 rfl rfl)
theorem dX5_joins_28 : decode cX5_joins 28 = .ok (.getfield 33, 3) := dk_180 0 33 (dk_at dksX5_joins_1 6 rfl rfl)
theorem dX5_joins_31 : decode cX5_joins 31 = .ok (.iload_n 1, 1) := dk_27 (dk_at dksX5_joins_1 9 rfl rfl)
theorem dX5_joins_32 : decode cX5_joins 32 = .ok (.invokevirtual 185, 3) := dk_182 0 185 (dk_at dksX5_joins_1 10 rfl rfl)
theorem dX5_joins_35 : decode cX5_joins 35 = .ok (.checkcast 24, 3) := dk_192 0 24 (dk_at dksX5_joins_1 13 rfl rfl)
theorem dX5_joins_38 : decode cX5_joins 38 = .ok (.aload_n 2, 1) := dk_44 (dk_at dksX5_joins_1 16 rfl rfl)
theorem dX5_joins_39 : decode cX5_joins 39 = .ok (.getfield 315, 3) := dk_180 1 59 (dk_at dksX5_joins_1 17 rfl rfl)
theorem dX5_joins_42 : decode cX5_joins 42 = .ok (.invokestatic 172, 3) := dk_184 0 172 (dk_at dksX5_joins_1 20 rfl rfl)
theorem dX5_joins_45 : decode cX5_joins 45 = .ok (.putfield 316, 3) := dk_181 1 60 (dk_at dksX5_joins_2 0 rfl rfl)
theorem dX5_joins_48 : decode cX5_joins 48 = .ok (.aload_n 2, 1) := dk_44 (dk_at dksX5_joins_2 3 rfl rfl)
theorem dX5_joins_49 : decode cX5_joins 49 = .ok (.aload_n 0, 1) := dk_42 (dk_at dksX5_joins_2 4 rfl rfl)
theorem dX5_joins_50 : decode cX5_joins 50 = .ok (.getfield 36, 3) := dk_180 0 36 (dk_at dksX5_joins_2 5 rfl rfl)
theorem dX5_joins_53 : decode cX5_joins 53 = .ok (.iload_n 1, 1) := dk_27 (dk_at dksX5_joins_2 8 rfl rfl)
theorem dX5_joins_54 : decode cX5_joins 54 = .ok (.invokevirtual 185, 3) := dk_182 0 185 (dk_at dksX5_joins_2 9 rfl rfl)
theorem dX5_joins_57 : decode cX5_joins 57 = .ok (.checkcast 24, 3) := dk_192 0 24 (dk_at dksX5_joins_2 12 rfl rfl)
theorem dX5_joins_60 : decode cX5_joins 60 = .ok (.aload_n 2, 1) := dk_44 (dk_at dksX5_joins_2 15 rfl rfl)
theorem dX5_joins_61 : decode cX5_joins 61 = .ok (.getfield 315, 3) := dk_180 1 59 (dk_at dksX5_joins_2 16 rfl rfl)
theorem dX5_joins_64 : decode cX5_joins 64 = .ok (.invokestatic 172, 3) := dk_184 0 172 (dk_at dksX5_joins_2 19 rfl rfl)
theorem dX5_joins_67 : decode cX5_joins 67 = .ok (.putfield 318, 3) := dk_181 1 62 (dk_at dksX5_joins_3 0 rfl rfl)
theorem dX5_joins_70 : decode cX5_joins 70 = .ok (.iinc 1 (-1), 3) := dk_132 1 255 (dk_at dksX5_joins_3 3 rfl rfl)
theorem dX5_joins_73 : decode cX5_joins 73 = .ok (.goto (-63), 3) := dk_167 255 193 (dk_at dksX5_joins_3 6 rfl rfl)
theorem dX5_joins_76 : decode cX5_joins 76 = .ok (.return_, 1) := dk_177 (dk_at dksX5_joins_3 9 rfl rfl)
theorem q136 : (Jvm.Cond.initialized "SendHall$Reader") ∈ lw_all := lw_g (lw_at lw_m1 24 rfl) rfl
theorem q513 : (Jvm.Cond.fieldLinkNest "SendHall$Reader" (201 : Nat) "SendHall$Text" "steps" "Ljava/util/ArrayList;" "SendHall") ∈ lw_tbl := lw_at lw_m2 161 rfl
theorem q516 : (Jvm.Cond.fieldLinkNest "SendHall$Reader" (176 : Nat) "SendHall$Text" "first" "LSendHall$Step;" "SendHall") ∈ lw_tbl := lw_at lw_m2 164 rfl
theorem q517 : (Jvm.Cond.fieldLinkNest "SendHall$Reader" (289 : Nat) "SendHall$Text" "anys" "I" "SendHall") ∈ lw_tbl := lw_at lw_m2 165 rfl
theorem q1038 : (Jvm.Cond.selects "SendHall$Reader" ({ cls := "java/lang/Object", name := "getClass", desc := "()Ljava/lang/Class;" } : Jvm.MethodName) ({ cls := "java/lang/Object", name := "getClass", desc := "()Ljava/lang/Class;" } : Jvm.MethodName)) ∈ lw_all := lw_g (lw_at lw_m4 206 rfl) rfl
theorem q1108 : (Jvm.Cond.instantiable "SendHall$Reader" (14 : Nat)) ∈ lw_all := lw_g (lw_at lw_m5 36 rfl) rfl
theorem q1110 : (Jvm.Cond.instanceMethod ({ cls := "SendHall$Reader", name := "<init>", desc := "([BI)V" } : Jvm.MethodName)) ∈ lw_all := lw_g (lw_at lw_m5 38 rfl) rfl
theorem q1111 : (Jvm.Cond.code ({ cls := "SendHall$Reader", name := "<init>", desc := "([BI)V" } : Jvm.MethodName) prog_9_method_1_code (3 : Nat) (Option.none : Option Jvm.ClassFile.FieldType)) ∈ lw_all := lw_g (lw_at lw_m5 39 rfl) rfl
theorem q1112 : (Jvm.Cond.methodLink "SendHall$Reader" (3 : Nat) ({ cls := "java/lang/Object", name := "<init>", desc := "()V" } : Jvm.MethodName)) ∈ lw_all := lw_g (lw_at lw_m5 40 rfl) rfl
theorem q1113 : (Jvm.Cond.stringRef "SendHall$Reader" (9 : Nat) "") ∈ lw_tbl := lw_at lw_m5 41 rfl
theorem q1114 : (Jvm.Cond.classLink "SendHall$Reader" (17 : Nat) "SendHall$Text") ∈ lw_all := lw_g (lw_at lw_m5 42 rfl) rfl
theorem q1115 : (Jvm.Cond.methodLinkNest "SendHall$Reader" (19 : Nat) ({ cls := "SendHall$Text", name := "<init>", desc := "()V" } : Jvm.MethodName) "SendHall") ∈ lw_tbl := lw_at lw_m5 43 rfl
theorem q1116 : (Jvm.Cond.classLink "SendHall$Reader" (24 : Nat) "java/util/ArrayList") ∈ lw_all := lw_g (lw_at lw_m5 44 rfl) rfl
theorem q1117 : (Jvm.Cond.methodLink "SendHall$Reader" (26 : Nat) ({ cls := "java/util/ArrayList", name := "<init>", desc := "(I)V" } : Jvm.MethodName)) ∈ lw_all := lw_g (lw_at lw_m5 45 rfl) rfl
theorem q1118 : (Jvm.Cond.methodLink "SendHall$Reader" (47 : Nat) ({ cls := "SendHall$Reader", name := "go", desc := "()V" } : Jvm.MethodName)) ∈ lw_all := lw_g (lw_at lw_m5 46 rfl) rfl
theorem q1119 : (Jvm.Cond.privateMethod ({ cls := "SendHall$Reader", name := "go", desc := "()V" } : Jvm.MethodName)) ∈ lw_tbl := lw_at lw_m5 47 rfl
theorem q1120 : (Jvm.Cond.instanceMethod ({ cls := "SendHall$Reader", name := "go", desc := "()V" } : Jvm.MethodName)) ∈ lw_all := lw_g (lw_at lw_m5 48 rfl) rfl
theorem q1121 : (Jvm.Cond.code ({ cls := "SendHall$Reader", name := "go", desc := "()V" } : Jvm.MethodName) prog_9_method_5_code (3 : Nat) (Option.none : Option Jvm.ClassFile.FieldType)) ∈ lw_all := lw_g (lw_at lw_m5 49 rfl) rfl
theorem q1122 : (Jvm.Cond.methodLink "SendHall$Reader" (53 : Nat) ({ cls := "SendHall$Reader", name := "byteAt", desc := "(I)I" } : Jvm.MethodName)) ∈ lw_all := lw_g (lw_at lw_m5 50 rfl) rfl
theorem q1123 : (Jvm.Cond.privateMethod ({ cls := "SendHall$Reader", name := "byteAt", desc := "(I)I" } : Jvm.MethodName)) ∈ lw_tbl := lw_at lw_m5 51 rfl
theorem q1124 : (Jvm.Cond.instanceMethod ({ cls := "SendHall$Reader", name := "byteAt", desc := "(I)I" } : Jvm.MethodName)) ∈ lw_all := lw_g (lw_at lw_m5 52 rfl) rfl
theorem q1125 : (Jvm.Cond.code ({ cls := "SendHall$Reader", name := "byteAt", desc := "(I)I" } : Jvm.MethodName) prog_9_method_2_code (2 : Nat) (Option.some Jvm.ClassFile.FieldType.int)) ∈ lw_all := lw_g (lw_at lw_m5 53 rfl) rfl
theorem q1126 : (Jvm.Cond.fieldLink "SendHall$Reader" (64 : Nat) "SendHall$Sort" "END" "LSendHall$Sort;") ∈ lw_all := lw_g (lw_at lw_m5 54 rfl) rfl
theorem q1128 : (Jvm.Cond.methodLink "SendHall$Reader" (73 : Nat) ({ cls := "SendHall$Reader", name := "isLetter", desc := "(I)Z" } : Jvm.MethodName)) ∈ lw_all := lw_g (lw_at lw_m5 56 rfl) rfl
theorem q1129 : (Jvm.Cond.static ({ cls := "SendHall$Reader", name := "isLetter", desc := "(I)Z" } : Jvm.MethodName)) ∈ lw_all := lw_g (lw_at lw_m5 57 rfl) rfl
theorem q1130 : (Jvm.Cond.code ({ cls := "SendHall$Reader", name := "isLetter", desc := "(I)Z" } : Jvm.MethodName) prog_9_method_3_code (1 : Nat) (Option.some Jvm.ClassFile.FieldType.boolean)) ∈ lw_all := lw_g (lw_at lw_m5 58 rfl) rfl
theorem q1131 : (Jvm.Cond.classLink "SendHall$Reader" (77 : Nat) "java/lang/StringBuilder") ∈ lw_all := lw_g (lw_at lw_m5 59 rfl) rfl
theorem q1132 : (Jvm.Cond.methodLink "SendHall$Reader" (79 : Nat) ({ cls := "java/lang/StringBuilder", name := "<init>", desc := "(I)V" } : Jvm.MethodName)) ∈ lw_all := lw_g (lw_at lw_m5 60 rfl) rfl
theorem q1135 : (Jvm.Cond.methodLink "SendHall$Reader" (80 : Nat) ({ cls := "java/lang/StringBuilder", name := "length", desc := "()I" } : Jvm.MethodName)) ∈ lw_all := lw_g (lw_at lw_m5 63 rfl) rfl
theorem q1136 : (Jvm.Cond.methodLink "SendHall$Reader" (84 : Nat) ({ cls := "java/lang/StringBuilder", name := "append", desc := "(C)Ljava/lang/StringBuilder;" } : Jvm.MethodName)) ∈ lw_all := lw_g (lw_at lw_m5 64 rfl) rfl
theorem q1156 : (Jvm.Cond.methodLink "SendHall$Reader" (88 : Nat) ({ cls := "java/lang/StringBuilder", name := "toString", desc := "()Ljava/lang/String;" } : Jvm.MethodName)) ∈ lw_all := lw_g (lw_at lw_m5 84 rfl) rfl
theorem q1157 : (Jvm.Cond.fieldLink "SendHall$Reader" (92 : Nat) "SendHall$Sort" "WORD" "LSendHall$Sort;") ∈ lw_all := lw_g (lw_at lw_m5 85 rfl) rfl
theorem q1159 : (Jvm.Cond.methodLink "SendHall$Reader" (95 : Nat) ({ cls := "SendHall$Reader", name := "isDigit", desc := "(I)Z" } : Jvm.MethodName)) ∈ lw_all := lw_g (lw_at lw_m5 87 rfl) rfl
theorem q1160 : (Jvm.Cond.static ({ cls := "SendHall$Reader", name := "isDigit", desc := "(I)Z" } : Jvm.MethodName)) ∈ lw_all := lw_g (lw_at lw_m5 88 rfl) rfl
theorem q1161 : (Jvm.Cond.code ({ cls := "SendHall$Reader", name := "isDigit", desc := "(I)Z" } : Jvm.MethodName) prog_9_method_4_code (1 : Nat) (Option.some Jvm.ClassFile.FieldType.boolean)) ∈ lw_all := lw_g (lw_at lw_m5 89 rfl) rfl
theorem q1162 : (Jvm.Cond.fieldLink "SendHall$Reader" (101 : Nat) "SendHall$Sort" "NUMBER" "LSendHall$Sort;") ∈ lw_all := lw_g (lw_at lw_m5 90 rfl) rfl
theorem q1164 : (Jvm.Cond.stringRef "SendHall$Reader" (104 : Nat) ";()+-*/<=") ∈ lw_tbl := lw_at lw_m5 92 rfl
theorem q1165 : (Jvm.Cond.methodLink "SendHall$Reader" (106 : Nat) ({ cls := "java/lang/String", name := "indexOf", desc := "(I)I" } : Jvm.MethodName)) ∈ lw_all := lw_g (lw_at lw_m5 93 rfl) rfl
theorem q1215 : (Jvm.Cond.fieldLink "SendHall$Reader" (111 : Nat) "SendHall$Sort" "SIGN" "LSendHall$Sort;") ∈ lw_all := lw_g (lw_at lw_m5 143 rfl) rfl
theorem q1217 : (Jvm.Cond.fieldLink "SendHall$Reader" (114 : Nat) "SendHall$Sort" "BAD" "LSendHall$Sort;") ∈ lw_all := lw_g (lw_at lw_m5 145 rfl) rfl
theorem q1219 : (Jvm.Cond.methodLink "SendHall$Reader" (117 : Nat) ({ cls := "java/lang/String", name := "valueOf", desc := "(C)Ljava/lang/String;" } : Jvm.MethodName)) ∈ lw_all := lw_g (lw_at lw_m5 147 rfl) rfl
theorem q1233 : (Jvm.Cond.fieldLink "SendHall$Reader" (39 : Nat) "SendHall$Reader" "text" "[B") ∈ lw_all := lw_g (lw_at lw_m5 161 rfl) rfl
theorem q1234 : (Jvm.Cond.fieldLink "SendHall$Reader" (43 : Nat) "SendHall$Reader" "size" "I") ∈ lw_all := lw_g (lw_at lw_m5 162 rfl) rfl
theorem q1235 : (Jvm.Cond.fieldLink "SendHall$Reader" (50 : Nat) "SendHall$Reader" "next" "I") ∈ lw_all := lw_g (lw_at lw_m5 163 rfl) rfl
theorem q1236 : (Jvm.Cond.fieldLink "SendHall$Reader" (57 : Nat) "SendHall$Reader" "place" "I") ∈ lw_all := lw_g (lw_at lw_m5 164 rfl) rfl
theorem q1237 : (Jvm.Cond.fieldLink "SendHall$Reader" (98 : Nat) "SendHall$Reader" "value" "I") ∈ lw_all := lw_g (lw_at lw_m5 165 rfl) rfl
theorem q1238 : (Jvm.Cond.fieldLink "SendHall$Reader" (203 : Nat) "SendHall$Reader" "nests" "I") ∈ lw_all := lw_g (lw_at lw_m5 166 rfl) rfl
theorem q1239 : (Jvm.Cond.fieldLink "SendHall$Reader" (347 : Nat) "SendHall$Reader" "deep" "I") ∈ lw_all := lw_g (lw_at lw_m5 167 rfl) rfl
theorem q1240 : (Jvm.Cond.fieldLink "SendHall$Reader" (60 : Nat) "SendHall$Reader" "isLong" "Z") ∈ lw_all := lw_g (lw_at lw_m5 168 rfl) rfl
theorem q1241 : (Jvm.Cond.fieldLink "SendHall$Reader" (70 : Nat) "SendHall$Reader" "sort" "LSendHall$Sort;") ∈ lw_all := lw_g (lw_at lw_m5 169 rfl) rfl
theorem q1242 : (Jvm.Cond.fieldLink "SendHall$Reader" (11 : Nat) "SendHall$Reader" "word" "Ljava/lang/String;") ∈ lw_all := lw_g (lw_at lw_m5 170 rfl) rfl
theorem q1243 : (Jvm.Cond.fieldLink "SendHall$Reader" (20 : Nat) "SendHall$Reader" "t" "LSendHall$Text;") ∈ lw_all := lw_g (lw_at lw_m5 171 rfl) rfl
theorem q1244 : (Jvm.Cond.fieldLink "SendHall$Reader" (29 : Nat) "SendHall$Reader" "ifs" "Ljava/util/ArrayList;") ∈ lw_all := lw_g (lw_at lw_m5 172 rfl) rfl
theorem q1245 : (Jvm.Cond.fieldLink "SendHall$Reader" (33 : Nat) "SendHall$Reader" "thens" "Ljava/util/ArrayList;") ∈ lw_all := lw_g (lw_at lw_m5 173 rfl) rfl
theorem q1246 : (Jvm.Cond.fieldLink "SendHall$Reader" (36 : Nat) "SendHall$Reader" "others" "Ljava/util/ArrayList;") ∈ lw_all := lw_g (lw_at lw_m5 174 rfl) rfl
theorem q1247 : (Jvm.Cond.laysFinal "SendHall$Reader" "SendHall$Reader" "text" "[B") ∈ lw_all := lw_g (lw_at lw_m5 175 rfl) rfl
theorem q1248 : (Jvm.Cond.soleField "SendHall$Reader" "text") ∈ lw_all := lw_g (lw_at lw_m5 176 rfl) rfl
theorem q1249 : (Jvm.Cond.laysFinal "SendHall$Reader" "SendHall$Reader" "size" "I") ∈ lw_all := lw_g (lw_at lw_m5 177 rfl) rfl
theorem q1250 : (Jvm.Cond.soleField "SendHall$Reader" "size") ∈ lw_all := lw_g (lw_at lw_m5 178 rfl) rfl
theorem q1251 : (Jvm.Cond.lays "SendHall$Reader" "SendHall$Reader" "next" "I") ∈ lw_all := lw_g (lw_at lw_m5 179 rfl) rfl
theorem q1252 : (Jvm.Cond.soleField "SendHall$Reader" "next") ∈ lw_all := lw_g (lw_at lw_m5 180 rfl) rfl
theorem q1253 : (Jvm.Cond.lays "SendHall$Reader" "SendHall$Reader" "place" "I") ∈ lw_all := lw_g (lw_at lw_m5 181 rfl) rfl
theorem q1254 : (Jvm.Cond.soleField "SendHall$Reader" "place") ∈ lw_all := lw_g (lw_at lw_m5 182 rfl) rfl
theorem q1255 : (Jvm.Cond.lays "SendHall$Reader" "SendHall$Reader" "value" "I") ∈ lw_all := lw_g (lw_at lw_m5 183 rfl) rfl
theorem q1256 : (Jvm.Cond.soleField "SendHall$Reader" "value") ∈ lw_all := lw_g (lw_at lw_m5 184 rfl) rfl
theorem q1257 : (Jvm.Cond.lays "SendHall$Reader" "SendHall$Reader" "nests" "I") ∈ lw_all := lw_g (lw_at lw_m5 185 rfl) rfl
theorem q1258 : (Jvm.Cond.soleField "SendHall$Reader" "nests") ∈ lw_all := lw_g (lw_at lw_m5 186 rfl) rfl
theorem q1259 : (Jvm.Cond.lays "SendHall$Reader" "SendHall$Reader" "deep" "I") ∈ lw_all := lw_g (lw_at lw_m5 187 rfl) rfl
theorem q1260 : (Jvm.Cond.soleField "SendHall$Reader" "deep") ∈ lw_all := lw_g (lw_at lw_m5 188 rfl) rfl
theorem q1261 : (Jvm.Cond.lays "SendHall$Reader" "SendHall$Reader" "isLong" "Z") ∈ lw_all := lw_g (lw_at lw_m5 189 rfl) rfl
theorem q1262 : (Jvm.Cond.soleField "SendHall$Reader" "isLong") ∈ lw_all := lw_g (lw_at lw_m5 190 rfl) rfl
theorem q1263 : (Jvm.Cond.lays "SendHall$Reader" "SendHall$Reader" "sort" "LSendHall$Sort;") ∈ lw_all := lw_g (lw_at lw_m5 191 rfl) rfl
theorem q1264 : (Jvm.Cond.soleField "SendHall$Reader" "sort") ∈ lw_all := lw_g (lw_at lw_m5 192 rfl) rfl
theorem q1265 : (Jvm.Cond.lays "SendHall$Reader" "SendHall$Reader" "word" "Ljava/lang/String;") ∈ lw_all := lw_g (lw_at lw_m5 193 rfl) rfl
theorem q1266 : (Jvm.Cond.soleField "SendHall$Reader" "word") ∈ lw_all := lw_g (lw_at lw_m5 194 rfl) rfl
theorem q1267 : (Jvm.Cond.laysFinal "SendHall$Reader" "SendHall$Reader" "t" "LSendHall$Text;") ∈ lw_all := lw_g (lw_at lw_m5 195 rfl) rfl
theorem q1268 : (Jvm.Cond.soleField "SendHall$Reader" "t") ∈ lw_all := lw_g (lw_at lw_m5 196 rfl) rfl
theorem q1269 : (Jvm.Cond.laysFinal "SendHall$Reader" "SendHall$Reader" "ifs" "Ljava/util/ArrayList;") ∈ lw_all := lw_g (lw_at lw_m5 197 rfl) rfl
theorem q1270 : (Jvm.Cond.soleField "SendHall$Reader" "ifs") ∈ lw_all := lw_g (lw_at lw_m5 198 rfl) rfl
theorem q1271 : (Jvm.Cond.laysFinal "SendHall$Reader" "SendHall$Reader" "thens" "Ljava/util/ArrayList;") ∈ lw_all := lw_g (lw_at lw_m5 199 rfl) rfl
theorem q1272 : (Jvm.Cond.soleField "SendHall$Reader" "thens") ∈ lw_all := lw_g (lw_at lw_m5 200 rfl) rfl
theorem q1273 : (Jvm.Cond.laysFinal "SendHall$Reader" "SendHall$Reader" "others" "Ljava/util/ArrayList;") ∈ lw_all := lw_g (lw_at lw_m5 201 rfl) rfl
theorem q1274 : (Jvm.Cond.soleField "SendHall$Reader" "others") ∈ lw_all := lw_g (lw_at lw_m5 202 rfl) rfl
theorem q1275 : (Jvm.Cond.superclass "SendHall$Reader" "java/lang/Object") ∈ lw_all := lw_g (lw_at lw_m5 203 rfl) rfl
theorem q1277 : (Jvm.Cond.instanceMethod ({ cls := "SendHall$Reader", name := "read", desc := "()LSendHall$Text;" } : Jvm.MethodName)) ∈ lw_all := lw_g (lw_at lw_m5 205 rfl) rfl
theorem q1278 : (Jvm.Cond.selects "SendHall$Reader" ({ cls := "SendHall$Reader", name := "read", desc := "()LSendHall$Text;" } : Jvm.MethodName) ({ cls := "SendHall$Reader", name := "read", desc := "()LSendHall$Text;" } : Jvm.MethodName)) ∈ lw_all := lw_g (lw_at lw_m5 206 rfl) rfl
theorem q1279 : (Jvm.Cond.code ({ cls := "SendHall$Reader", name := "read", desc := "()LSendHall$Text;" } : Jvm.MethodName) prog_9_method_12_code (2 : Nat) (Option.some (Jvm.ClassFile.FieldType.object "SendHall$Text"))) ∈ lw_all := lw_g (lw_at lw_m5 207 rfl) rfl
theorem q1280 : (Jvm.Cond.methodLink "SendHall$Reader" (168 : Nat) ({ cls := "SendHall$Reader", name := "steps", desc := "()Ljava/util/ArrayList;" } : Jvm.MethodName)) ∈ lw_all := lw_g (lw_at lw_m5 208 rfl) rfl
theorem q1281 : (Jvm.Cond.privateMethod ({ cls := "SendHall$Reader", name := "steps", desc := "()Ljava/util/ArrayList;" } : Jvm.MethodName)) ∈ lw_tbl := lw_at lw_m5 209 rfl
theorem q1282 : (Jvm.Cond.instanceMethod ({ cls := "SendHall$Reader", name := "steps", desc := "()Ljava/util/ArrayList;" } : Jvm.MethodName)) ∈ lw_all := lw_g (lw_at lw_m5 210 rfl) rfl
theorem q1283 : (Jvm.Cond.code ({ cls := "SendHall$Reader", name := "steps", desc := "()Ljava/util/ArrayList;" } : Jvm.MethodName) prog_9_method_14_code (3 : Nat) (Option.some (Jvm.ClassFile.FieldType.object "java/util/ArrayList"))) ∈ lw_all := lw_g (lw_at lw_m5 211 rfl) rfl
theorem q1284 : (Jvm.Cond.methodLink "SendHall$Reader" (197 : Nat) ({ cls := "SendHall$Reader", name := "kindOf", desc := "(Ljava/lang/String;)I" } : Jvm.MethodName)) ∈ lw_all := lw_g (lw_at lw_m5 212 rfl) rfl
theorem q1285 : (Jvm.Cond.static ({ cls := "SendHall$Reader", name := "kindOf", desc := "(Ljava/lang/String;)I" } : Jvm.MethodName)) ∈ lw_all := lw_g (lw_at lw_m5 213 rfl) rfl
theorem q1286 : (Jvm.Cond.code ({ cls := "SendHall$Reader", name := "kindOf", desc := "(Ljava/lang/String;)I" } : Jvm.MethodName) prog_9_method_11_code (3 : Nat) (Option.some Jvm.ClassFile.FieldType.int)) ∈ lw_all := lw_g (lw_at lw_m5 214 rfl) rfl
theorem q1287 : (Jvm.Cond.methodLink "SendHall$Reader" (143 : Nat) ({ cls := "java/lang/String", name := "hashCode", desc := "()I" } : Jvm.MethodName)) ∈ lw_all := lw_g (lw_at lw_m5 215 rfl) rfl
theorem q1344 : (Jvm.Cond.stringRef "SendHall$Reader" (146 : Nat) "send") ∈ lw_tbl := lw_at lw_m6 32 rfl
theorem q1345 : (Jvm.Cond.methodLink "SendHall$Reader" (121 : Nat) ({ cls := "java/lang/String", name := "equals", desc := "(Ljava/lang/Object;)Z" } : Jvm.MethodName)) ∈ lw_all := lw_g (lw_at lw_m6 33 rfl) rfl
theorem q1352 : (Jvm.Cond.stringRef "SendHall$Reader" (148 : Nat) "meet") ∈ lw_tbl := lw_at lw_m6 40 rfl
theorem q1353 : (Jvm.Cond.stringRef "SendHall$Reader" (150 : Nat) "begin") ∈ lw_tbl := lw_at lw_m6 41 rfl
theorem q1354 : (Jvm.Cond.stringRef "SendHall$Reader" (152 : Nat) "wait") ∈ lw_tbl := lw_at lw_m6 42 rfl
theorem q1355 : (Jvm.Cond.stringRef "SendHall$Reader" (154 : Nat) "any") ∈ lw_tbl := lw_at lw_m6 43 rfl
theorem q1356 : (Jvm.Cond.stringRef "SendHall$Reader" (156 : Nat) "done") ∈ lw_tbl := lw_at lw_m6 44 rfl
theorem q1357 : (Jvm.Cond.stringRef "SendHall$Reader" (158 : Nat) "all") ∈ lw_tbl := lw_at lw_m6 45 rfl
theorem q1358 : (Jvm.Cond.stringRef "SendHall$Reader" (160 : Nat) "sum") ∈ lw_tbl := lw_at lw_m6 46 rfl
theorem q1359 : (Jvm.Cond.stringRef "SendHall$Reader" (162 : Nat) "set") ∈ lw_tbl := lw_at lw_m6 47 rfl
theorem q1360 : (Jvm.Cond.stringRef "SendHall$Reader" (164 : Nat) "tell") ∈ lw_tbl := lw_at lw_m6 48 rfl
theorem q1361 : (Jvm.Cond.stringRef "SendHall$Reader" (166 : Nat) "if") ∈ lw_tbl := lw_at lw_m6 49 rfl
theorem q1362 : (Jvm.Cond.methodLink "SendHall$Reader" (183 : Nat) ({ cls := "java/util/ArrayList", name := "size", desc := "()I" } : Jvm.MethodName)) ∈ lw_all := lw_g (lw_at lw_m6 50 rfl) rfl
theorem q1363 : (Jvm.Cond.methodLink "SendHall$Reader" (134 : Nat) ({ cls := "SendHall$Reader", name := "check", desc := "(ZI)V" } : Jvm.MethodName)) ∈ lw_all := lw_g (lw_at lw_m6 51 rfl) rfl
theorem q1364 : (Jvm.Cond.privateMethod ({ cls := "SendHall$Reader", name := "check", desc := "(ZI)V" } : Jvm.MethodName)) ∈ lw_tbl := lw_at lw_m6 52 rfl
theorem q1365 : (Jvm.Cond.instanceMethod ({ cls := "SendHall$Reader", name := "check", desc := "(ZI)V" } : Jvm.MethodName)) ∈ lw_all := lw_g (lw_at lw_m6 53 rfl) rfl
theorem q1366 : (Jvm.Cond.code ({ cls := "SendHall$Reader", name := "check", desc := "(ZI)V" } : Jvm.MethodName) prog_9_method_7_code (3 : Nat) (Option.none : Option Jvm.ClassFile.FieldType)) ∈ lw_all := lw_g (lw_at lw_m6 54 rfl) rfl
theorem q1367 : (Jvm.Cond.classLink "SendHall$Reader" (125 : Nat) "SendHall$Fault") ∈ lw_all := lw_g (lw_at lw_m6 55 rfl) rfl
theorem q1376 : (Jvm.Cond.methodLink "SendHall$Reader" (127 : Nat) ({ cls := "SendHall$Fault", name := "<init>", desc := "(II)V" } : Jvm.MethodName)) ∈ lw_all := lw_g (lw_at lw_m6 64 rfl) rfl
theorem q1390 : (Jvm.Cond.methodLink "SendHall$Reader" (206 : Nat) ({ cls := "SendHall$Reader", name := "step", desc := "(II)LSendHall$Step;" } : Jvm.MethodName)) ∈ lw_all := lw_g (lw_at lw_m6 78 rfl) rfl
theorem q1391 : (Jvm.Cond.privateMethod ({ cls := "SendHall$Reader", name := "step", desc := "(II)LSendHall$Step;" } : Jvm.MethodName)) ∈ lw_tbl := lw_at lw_m6 79 rfl
theorem q1392 : (Jvm.Cond.instanceMethod ({ cls := "SendHall$Reader", name := "step", desc := "(II)LSendHall$Step;" } : Jvm.MethodName)) ∈ lw_all := lw_g (lw_at lw_m6 80 rfl) rfl
theorem q1393 : (Jvm.Cond.code ({ cls := "SendHall$Reader", name := "step", desc := "(II)LSendHall$Step;" } : Jvm.MethodName) prog_9_method_15_code (5 : Nat) (Option.some (Jvm.ClassFile.FieldType.object "SendHall$Step"))) ∈ lw_all := lw_g (lw_at lw_m6 81 rfl) rfl
theorem q1394 : (Jvm.Cond.classLink "SendHall$Reader" (219 : Nat) "SendHall$Send") ∈ lw_all := lw_g (lw_at lw_m6 82 rfl) rfl
theorem q1396 : (Jvm.Cond.methodLink "SendHall$Reader" (221 : Nat) ({ cls := "SendHall$Send", name := "<init>", desc := "(II)V" } : Jvm.MethodName)) ∈ lw_all := lw_g (lw_at lw_m6 84 rfl) rfl
theorem q1407 : (Jvm.Cond.fieldLinkNest "SendHall$Reader" (264 : Nat) "SendHall$Send" "to" "LSendHall$Expr;" "SendHall") ∈ lw_tbl := lw_at lw_m6 95 rfl
theorem q1409 : (Jvm.Cond.fieldLinkNest "SendHall$Reader" (273 : Nat) "SendHall$Send" "word" "LSendHall$Expr;" "SendHall") ∈ lw_tbl := lw_at lw_m6 97 rfl
theorem q1412 : (Jvm.Cond.fieldLinkNest "SendHall$Reader" (281 : Nat) "SendHall$Send" "length" "I" "SendHall") ∈ lw_tbl := lw_at lw_m6 100 rfl
theorem q1414 : (Jvm.Cond.fieldLink "SendHall$Reader" (270 : Nat) "SendHall$Send" "mark" "LSendHall$Expr;") ∈ lw_all := lw_g (lw_at lw_m6 102 rfl) rfl
theorem q1416 : (Jvm.Cond.fieldLink "SendHall$Reader" (292 : Nat) "SendHall$Wait" "mark" "LSendHall$Expr;") ∈ lw_all := lw_g (lw_at lw_m6 104 rfl) rfl
theorem q1423 : (Jvm.Cond.fieldLink "SendHall$Reader" (283 : Nat) "SendHall$Wait" "kind" "I") ∈ lw_all := lw_g (lw_at lw_m6 111 rfl) rfl
theorem q1425 : (Jvm.Cond.fieldLink "SendHall$Reader" (301 : Nat) "SendHall$Plain" "kind" "I") ∈ lw_all := lw_g (lw_at lw_m6 113 rfl) rfl
theorem q1441 : (Jvm.Cond.fieldLink "SendHall$Reader" (191 : Nat) "SendHall$Step" "next" "LSendHall$Step;") ∈ lw_all := lw_g (lw_at lw_m6 129 rfl) rfl
theorem q1442 : (Jvm.Cond.fieldLink "SendHall$Reader" (315 : Nat) "SendHall$If" "next" "LSendHall$Step;") ∈ lw_all := lw_g (lw_at lw_m6 130 rfl) rfl
theorem q1458 : (Jvm.Cond.methodLink "SendHall$Reader" (222 : Nat) ({ cls := "SendHall$Reader", name := "send", desc := "(LSendHall$Send;)LSendHall$Step;" } : Jvm.MethodName)) ∈ lw_all := lw_g (lw_at lw_m6 146 rfl) rfl
theorem q1459 : (Jvm.Cond.privateMethod ({ cls := "SendHall$Reader", name := "send", desc := "(LSendHall$Send;)LSendHall$Step;" } : Jvm.MethodName)) ∈ lw_tbl := lw_at lw_m6 147 rfl
theorem q1460 : (Jvm.Cond.instanceMethod ({ cls := "SendHall$Reader", name := "send", desc := "(LSendHall$Send;)LSendHall$Step;" } : Jvm.MethodName)) ∈ lw_all := lw_g (lw_at lw_m6 148 rfl) rfl
theorem q1461 : (Jvm.Cond.code ({ cls := "SendHall$Reader", name := "send", desc := "(LSendHall$Send;)LSendHall$Step;" } : Jvm.MethodName) prog_9_method_16_code (2 : Nat) (Option.some (Jvm.ClassFile.FieldType.object "SendHall$Step"))) ∈ lw_all := lw_g (lw_at lw_m6 149 rfl) rfl
theorem q1462 : (Jvm.Cond.methodLink "SendHall$Reader" (210 : Nat) ({ cls := "java/util/ArrayList", name := "add", desc := "(Ljava/lang/Object;)Z" } : Jvm.MethodName)) ∈ lw_all := lw_g (lw_at lw_m6 150 rfl) rfl
theorem q1470 : (Jvm.Cond.methodLink "SendHall$Reader" (262 : Nat) ({ cls := "SendHall$Reader", name := "sum", desc := "()LSendHall$Expr;" } : Jvm.MethodName)) ∈ lw_all := lw_g (lw_at lw_m6 158 rfl) rfl
theorem q1471 : (Jvm.Cond.privateMethod ({ cls := "SendHall$Reader", name := "sum", desc := "()LSendHall$Expr;" } : Jvm.MethodName)) ∈ lw_tbl := lw_at lw_m6 159 rfl
theorem q1472 : (Jvm.Cond.instanceMethod ({ cls := "SendHall$Reader", name := "sum", desc := "()LSendHall$Expr;" } : Jvm.MethodName)) ∈ lw_all := lw_g (lw_at lw_m6 160 rfl) rfl
theorem q1473 : (Jvm.Cond.code ({ cls := "SendHall$Reader", name := "sum", desc := "()LSendHall$Expr;" } : Jvm.MethodName) prog_9_method_22_code (4 : Nat) (Option.some (Jvm.ClassFile.FieldType.object "SendHall$Expr"))) ∈ lw_all := lw_g (lw_at lw_m6 161 rfl) rfl
theorem q1474 : (Jvm.Cond.methodLink "SendHall$Reader" (333 : Nat) ({ cls := "SendHall$Reader", name := "product", desc := "()LSendHall$Expr;" } : Jvm.MethodName)) ∈ lw_all := lw_g (lw_at lw_m6 162 rfl) rfl
theorem q1475 : (Jvm.Cond.privateMethod ({ cls := "SendHall$Reader", name := "product", desc := "()LSendHall$Expr;" } : Jvm.MethodName)) ∈ lw_tbl := lw_at lw_m6 163 rfl
theorem q1476 : (Jvm.Cond.instanceMethod ({ cls := "SendHall$Reader", name := "product", desc := "()LSendHall$Expr;" } : Jvm.MethodName)) ∈ lw_all := lw_g (lw_at lw_m6 164 rfl) rfl
theorem q1477 : (Jvm.Cond.code ({ cls := "SendHall$Reader", name := "product", desc := "()LSendHall$Expr;" } : Jvm.MethodName) prog_9_method_23_code (4 : Nat) (Option.some (Jvm.ClassFile.FieldType.object "SendHall$Expr"))) ∈ lw_all := lw_g (lw_at lw_m6 165 rfl) rfl
theorem q1478 : (Jvm.Cond.methodLink "SendHall$Reader" (340 : Nat) ({ cls := "SendHall$Reader", name := "part", desc := "()LSendHall$Expr;" } : Jvm.MethodName)) ∈ lw_all := lw_g (lw_at lw_m6 166 rfl) rfl
theorem q1479 : (Jvm.Cond.privateMethod ({ cls := "SendHall$Reader", name := "part", desc := "()LSendHall$Expr;" } : Jvm.MethodName)) ∈ lw_tbl := lw_at lw_m6 167 rfl
theorem q1480 : (Jvm.Cond.instanceMethod ({ cls := "SendHall$Reader", name := "part", desc := "()LSendHall$Expr;" } : Jvm.MethodName)) ∈ lw_all := lw_g (lw_at lw_m6 168 rfl) rfl
theorem q1481 : (Jvm.Cond.code ({ cls := "SendHall$Reader", name := "part", desc := "()LSendHall$Expr;" } : Jvm.MethodName) prog_9_method_24_code (2 : Nat) (Option.some (Jvm.ClassFile.FieldType.object "SendHall$Expr"))) ∈ lw_all := lw_g (lw_at lw_m6 169 rfl) rfl
theorem q1482 : (Jvm.Cond.stringRef "SendHall$Reader" (350 : Nat) "(") ∈ lw_tbl := lw_at lw_m6 170 rfl
theorem q1483 : (Jvm.Cond.methodLink "SendHall$Reader" (130 : Nat) ({ cls := "SendHall$Reader", name := "is", desc := "(Ljava/lang/String;)Z" } : Jvm.MethodName)) ∈ lw_all := lw_g (lw_at lw_m6 171 rfl) rfl
theorem q1484 : (Jvm.Cond.privateMethod ({ cls := "SendHall$Reader", name := "is", desc := "(Ljava/lang/String;)Z" } : Jvm.MethodName)) ∈ lw_tbl := lw_at lw_m6 172 rfl
theorem q1485 : (Jvm.Cond.instanceMethod ({ cls := "SendHall$Reader", name := "is", desc := "(Ljava/lang/String;)Z" } : Jvm.MethodName)) ∈ lw_all := lw_g (lw_at lw_m6 173 rfl) rfl
theorem q1486 : (Jvm.Cond.code ({ cls := "SendHall$Reader", name := "is", desc := "(Ljava/lang/String;)Z" } : Jvm.MethodName) prog_9_method_6_code (2 : Nat) (Option.some Jvm.ClassFile.FieldType.boolean)) ∈ lw_all := lw_g (lw_at lw_m6 174 rfl) rfl
theorem q1487 : (Jvm.Cond.classLink "SendHall$Reader" (352 : Nat) "SendHall$Constant") ∈ lw_all := lw_g (lw_at lw_m6 175 rfl) rfl
theorem q1489 : (Jvm.Cond.methodLink "SendHall$Reader" (277 : Nat) ({ cls := "SendHall$Reader", name := "number", desc := "(II)I" } : Jvm.MethodName)) ∈ lw_all := lw_g (lw_at lw_m6 177 rfl) rfl
theorem q1490 : (Jvm.Cond.privateMethod ({ cls := "SendHall$Reader", name := "number", desc := "(II)I" } : Jvm.MethodName)) ∈ lw_tbl := lw_at lw_m6 178 rfl
theorem q1491 : (Jvm.Cond.instanceMethod ({ cls := "SendHall$Reader", name := "number", desc := "(II)I" } : Jvm.MethodName)) ∈ lw_all := lw_g (lw_at lw_m6 179 rfl) rfl
theorem q1492 : (Jvm.Cond.code ({ cls := "SendHall$Reader", name := "number", desc := "(II)I" } : Jvm.MethodName) prog_9_method_9_code (4 : Nat) (Option.some Jvm.ClassFile.FieldType.int)) ∈ lw_all := lw_g (lw_at lw_m6 180 rfl) rfl
theorem q1493 : (Jvm.Cond.methodLink "SendHall$Reader" (354 : Nat) ({ cls := "SendHall$Constant", name := "<init>", desc := "(I)V" } : Jvm.MethodName)) ∈ lw_all := lw_g (lw_at lw_m6 181 rfl) rfl
theorem q1501 : (Jvm.Cond.methodLink "SendHall$Reader" (236 : Nat) ({ cls := "SendHall$Reader", name := "expr", desc := "()LSendHall$Expr;" } : Jvm.MethodName)) ∈ lw_all := lw_g (lw_at lw_m6 189 rfl) rfl
theorem q1502 : (Jvm.Cond.privateMethod ({ cls := "SendHall$Reader", name := "expr", desc := "()LSendHall$Expr;" } : Jvm.MethodName)) ∈ lw_tbl := lw_at lw_m6 190 rfl
theorem q1503 : (Jvm.Cond.instanceMethod ({ cls := "SendHall$Reader", name := "expr", desc := "()LSendHall$Expr;" } : Jvm.MethodName)) ∈ lw_all := lw_g (lw_at lw_m6 191 rfl) rfl
theorem q1504 : (Jvm.Cond.code ({ cls := "SendHall$Reader", name := "expr", desc := "()LSendHall$Expr;" } : Jvm.MethodName) prog_9_method_21_code (4 : Nat) (Option.some (Jvm.ClassFile.FieldType.object "SendHall$Expr"))) ∈ lw_all := lw_g (lw_at lw_m6 192 rfl) rfl
theorem q1505 : (Jvm.Cond.stringRef "SendHall$Reader" (321 : Nat) "<") ∈ lw_tbl := lw_at lw_m6 193 rfl
theorem q1506 : (Jvm.Cond.stringRef "SendHall$Reader" (323 : Nat) "=") ∈ lw_tbl := lw_at lw_m6 194 rfl
theorem q1507 : (Jvm.Cond.classLink "SendHall$Reader" (325 : Nat) "SendHall$Row") ∈ lw_all := lw_g (lw_at lw_m6 195 rfl) rfl
theorem q1509 : (Jvm.Cond.methodLink "SendHall$Reader" (327 : Nat) ({ cls := "SendHall$Row", name := "<init>", desc := "(LSendHall$Expr;)V" } : Jvm.MethodName)) ∈ lw_all := lw_g (lw_at lw_m6 197 rfl) rfl
theorem q1523 : (Jvm.Cond.methodLink "SendHall$Reader" (139 : Nat) ({ cls := "java/lang/String", name := "charAt", desc := "(I)C" } : Jvm.MethodName)) ∈ lw_all := lw_g (lw_at lw_m6 211 rfl) rfl
theorem q1534 : (Jvm.Cond.methodLink "SendHall$Reader" (330 : Nat) ({ cls := "SendHall$Row", name := "add", desc := "(CLSendHall$Expr;)V" } : Jvm.MethodName)) ∈ lw_all := lw_g (lw_at lw_m6 222 rfl) rfl
theorem q1553 : (Jvm.Cond.stringRef "SendHall$Reader" (355 : Nat) ")") ∈ lw_tbl := lw_at lw_m7 1 rfl
theorem q1554 : (Jvm.Cond.methodLink "SendHall$Reader" (215 : Nat) ({ cls := "SendHall$Reader", name := "need", desc := "(Ljava/lang/String;)V" } : Jvm.MethodName)) ∈ lw_all := lw_g (lw_at lw_m7 2 rfl) rfl
theorem q1555 : (Jvm.Cond.privateMethod ({ cls := "SendHall$Reader", name := "need", desc := "(Ljava/lang/String;)V" } : Jvm.MethodName)) ∈ lw_tbl := lw_at lw_m7 3 rfl
theorem q1556 : (Jvm.Cond.instanceMethod ({ cls := "SendHall$Reader", name := "need", desc := "(Ljava/lang/String;)V" } : Jvm.MethodName)) ∈ lw_all := lw_g (lw_at lw_m7 4 rfl) rfl
theorem q1557 : (Jvm.Cond.code ({ cls := "SendHall$Reader", name := "need", desc := "(Ljava/lang/String;)V" } : Jvm.MethodName) prog_9_method_8_code (2 : Nat) (Option.none : Option Jvm.ClassFile.FieldType)) ∈ lw_all := lw_g (lw_at lw_m7 5 rfl) rfl
theorem q1558 : (Jvm.Cond.methodLink "SendHall$Reader" (357 : Nat) ({ cls := "SendHall$Reader", name := "valueOf", desc := "(Ljava/lang/String;)I" } : Jvm.MethodName)) ∈ lw_all := lw_g (lw_at lw_m7 6 rfl) rfl
theorem q1559 : (Jvm.Cond.static ({ cls := "SendHall$Reader", name := "valueOf", desc := "(Ljava/lang/String;)I" } : Jvm.MethodName)) ∈ lw_all := lw_g (lw_at lw_m7 7 rfl) rfl
theorem q1560 : (Jvm.Cond.code ({ cls := "SendHall$Reader", name := "valueOf", desc := "(Ljava/lang/String;)I" } : Jvm.MethodName) prog_9_method_25_code (3 : Nat) (Option.some Jvm.ClassFile.FieldType.int)) ∈ lw_all := lw_g (lw_at lw_m7 8 rfl) rfl
theorem q1561 : (Jvm.Cond.stringRef "SendHall$Reader" (362 : Nat) "a") ∈ lw_tbl := lw_at lw_m7 9 rfl
theorem q1562 : (Jvm.Cond.stringRef "SendHall$Reader" (364 : Nat) "b") ∈ lw_tbl := lw_at lw_m7 10 rfl
theorem q1563 : (Jvm.Cond.stringRef "SendHall$Reader" (366 : Nat) "c") ∈ lw_tbl := lw_at lw_m7 11 rfl
theorem q1564 : (Jvm.Cond.stringRef "SendHall$Reader" (368 : Nat) "d") ∈ lw_tbl := lw_at lw_m7 12 rfl
theorem q1565 : (Jvm.Cond.stringRef "SendHall$Reader" (370 : Nat) "me") ∈ lw_tbl := lw_at lw_m7 13 rfl
theorem q1566 : (Jvm.Cond.stringRef "SendHall$Reader" (372 : Nat) "n") ∈ lw_tbl := lw_at lw_m7 14 rfl
theorem q1567 : (Jvm.Cond.stringRef "SendHall$Reader" (374 : Nat) "from") ∈ lw_tbl := lw_at lw_m7 15 rfl
theorem q1568 : (Jvm.Cond.classLink "SendHall$Reader" (359 : Nat) "SendHall$Value") ∈ lw_all := lw_g (lw_at lw_m7 16 rfl) rfl
theorem q1570 : (Jvm.Cond.methodLink "SendHall$Reader" (361 : Nat) ({ cls := "SendHall$Value", name := "<init>", desc := "(I)V" } : Jvm.MethodName)) ∈ lw_all := lw_g (lw_at lw_m7 18 rfl) rfl
theorem q1578 : (Jvm.Cond.stringRef "SendHall$Reader" (343 : Nat) "*") ∈ lw_tbl := lw_at lw_m7 26 rfl
theorem q1579 : (Jvm.Cond.stringRef "SendHall$Reader" (345 : Nat) "/") ∈ lw_tbl := lw_at lw_m7 27 rfl
theorem q1580 : (Jvm.Cond.stringRef "SendHall$Reader" (336 : Nat) "+") ∈ lw_tbl := lw_at lw_m7 28 rfl
theorem q1581 : (Jvm.Cond.stringRef "SendHall$Reader" (338 : Nat) "-") ∈ lw_tbl := lw_at lw_m7 29 rfl
theorem q1582 : (Jvm.Cond.stringRef "SendHall$Reader" (268 : Nat) "mark") ∈ lw_tbl := lw_at lw_m7 30 rfl
theorem q1583 : (Jvm.Cond.stringRef "SendHall$Reader" (272 : Nat) "word") ∈ lw_tbl := lw_at lw_m7 31 rfl
theorem q1584 : (Jvm.Cond.stringRef "SendHall$Reader" (275 : Nat) "long") ∈ lw_tbl := lw_at lw_m7 32 rfl
theorem q1585 : (Jvm.Cond.classLink "SendHall$Reader" (225 : Nat) "SendHall$Wait") ∈ lw_all := lw_g (lw_at lw_m7 33 rfl) rfl
theorem q1587 : (Jvm.Cond.methodLink "SendHall$Reader" (227 : Nat) ({ cls := "SendHall$Wait", name := "<init>", desc := "(II)V" } : Jvm.MethodName)) ∈ lw_all := lw_g (lw_at lw_m7 35 rfl) rfl
theorem q1592 : (Jvm.Cond.fieldLinkNest "SendHall$Reader" (286 : Nat) "SendHall$Wait" "of" "LSendHall$Expr;" "SendHall") ∈ lw_tbl := lw_at lw_m7 40 rfl
theorem q1594 : (Jvm.Cond.fieldLinkNest "SendHall$Reader" (295 : Nat) "SendHall$Wait" "var" "I" "SendHall") ∈ lw_tbl := lw_at lw_m7 42 rfl
theorem q1597 : (Jvm.Cond.fieldLinkNest "SendHall$Reader" (299 : Nat) "SendHall$Wait" "most" "I" "SendHall") ∈ lw_tbl := lw_at lw_m7 45 rfl
theorem q1608 : (Jvm.Cond.methodLink "SendHall$Reader" (228 : Nat) ({ cls := "SendHall$Reader", name := "wait", desc := "(LSendHall$Wait;)LSendHall$Step;" } : Jvm.MethodName)) ∈ lw_all := lw_g (lw_at lw_m7 56 rfl) rfl
theorem q1609 : (Jvm.Cond.privateMethod ({ cls := "SendHall$Reader", name := "wait", desc := "(LSendHall$Wait;)LSendHall$Step;" } : Jvm.MethodName)) ∈ lw_tbl := lw_at lw_m7 57 rfl
theorem q1610 : (Jvm.Cond.instanceMethod ({ cls := "SendHall$Reader", name := "wait", desc := "(LSendHall$Wait;)LSendHall$Step;" } : Jvm.MethodName)) ∈ lw_all := lw_g (lw_at lw_m7 58 rfl) rfl
theorem q1611 : (Jvm.Cond.code ({ cls := "SendHall$Reader", name := "wait", desc := "(LSendHall$Wait;)LSendHall$Step;" } : Jvm.MethodName) prog_9_method_17_code (2 : Nat) (Option.some (Jvm.ClassFile.FieldType.object "SendHall$Step"))) ∈ lw_all := lw_g (lw_at lw_m7 59 rfl) rfl
theorem q1612 : (Jvm.Cond.stringRef "SendHall$Reader" (293 : Nat) "into") ∈ lw_tbl := lw_at lw_m7 60 rfl
theorem q1613 : (Jvm.Cond.methodLink "SendHall$Reader" (231 : Nat) ({ cls := "SendHall$Reader", name := "var", desc := "()I" } : Jvm.MethodName)) ∈ lw_all := lw_g (lw_at lw_m7 61 rfl) rfl
theorem q1614 : (Jvm.Cond.privateMethod ({ cls := "SendHall$Reader", name := "var", desc := "()I" } : Jvm.MethodName)) ∈ lw_tbl := lw_at lw_m7 62 rfl
theorem q1615 : (Jvm.Cond.instanceMethod ({ cls := "SendHall$Reader", name := "var", desc := "()I" } : Jvm.MethodName)) ∈ lw_all := lw_g (lw_at lw_m7 63 rfl) rfl
theorem q1616 : (Jvm.Cond.code ({ cls := "SendHall$Reader", name := "var", desc := "()I" } : Jvm.MethodName) prog_9_method_10_code (2 : Nat) (Option.some Jvm.ClassFile.FieldType.int)) ∈ lw_all := lw_g (lw_at lw_m7 64 rfl) rfl
theorem q1617 : (Jvm.Cond.methodLink "SendHall$Reader" (138 : Nat) ({ cls := "java/lang/String", name := "length", desc := "()I" } : Jvm.MethodName)) ∈ lw_all := lw_g (lw_at lw_m7 65 rfl) rfl
theorem q1618 : (Jvm.Cond.stringRef "SendHall$Reader" (297 : Nat) "most") ∈ lw_tbl := lw_at lw_m7 66 rfl
theorem q1619 : (Jvm.Cond.classLink "SendHall$Reader" (234 : Nat) "SendHall$Set") ∈ lw_all := lw_g (lw_at lw_m7 67 rfl) rfl
theorem q1621 : (Jvm.Cond.methodLink "SendHall$Reader" (240 : Nat) ({ cls := "SendHall$Set", name := "<init>", desc := "(IILSendHall$Expr;)V" } : Jvm.MethodName)) ∈ lw_all := lw_g (lw_at lw_m7 69 rfl) rfl
theorem q1635 : (Jvm.Cond.classLink "SendHall$Reader" (243 : Nat) "SendHall$Tell") ∈ lw_all := lw_g (lw_at lw_m7 83 rfl) rfl
theorem q1637 : (Jvm.Cond.methodLink "SendHall$Reader" (245 : Nat) ({ cls := "SendHall$Tell", name := "<init>", desc := "(ILSendHall$Expr;)V" } : Jvm.MethodName)) ∈ lw_all := lw_g (lw_at lw_m7 85 rfl) rfl
theorem q1648 : (Jvm.Cond.methodLink "SendHall$Reader" (248 : Nat) ({ cls := "SendHall$Reader", name := "choice", desc := "(I)LSendHall$Step;" } : Jvm.MethodName)) ∈ lw_all := lw_g (lw_at lw_m7 96 rfl) rfl
theorem q1649 : (Jvm.Cond.privateMethod ({ cls := "SendHall$Reader", name := "choice", desc := "(I)LSendHall$Step;" } : Jvm.MethodName)) ∈ lw_tbl := lw_at lw_m7 97 rfl
theorem q1650 : (Jvm.Cond.instanceMethod ({ cls := "SendHall$Reader", name := "choice", desc := "(I)LSendHall$Step;" } : Jvm.MethodName)) ∈ lw_all := lw_g (lw_at lw_m7 98 rfl) rfl
theorem q1651 : (Jvm.Cond.code ({ cls := "SendHall$Reader", name := "choice", desc := "(I)LSendHall$Step;" } : Jvm.MethodName) prog_9_method_19_code (5 : Nat) (Option.some (Jvm.ClassFile.FieldType.object "SendHall$Step"))) ∈ lw_all := lw_g (lw_at lw_m7 99 rfl) rfl
theorem q1652 : (Jvm.Cond.classLink "SendHall$Reader" (306 : Nat) "SendHall$If") ∈ lw_all := lw_g (lw_at lw_m7 100 rfl) rfl
theorem q1654 : (Jvm.Cond.methodLink "SendHall$Reader" (308 : Nat) ({ cls := "SendHall$If", name := "<init>", desc := "(ILSendHall$Expr;)V" } : Jvm.MethodName)) ∈ lw_all := lw_g (lw_at lw_m7 102 rfl) rfl
theorem q1660 : (Jvm.Cond.fieldLinkNest "SendHall$Reader" (316 : Nat) "SendHall$If" "then" "LSendHall$Step;" "SendHall") ∈ lw_tbl := lw_at lw_m7 108 rfl
theorem q1662 : (Jvm.Cond.fieldLinkNest "SendHall$Reader" (318 : Nat) "SendHall$If" "other" "LSendHall$Step;" "SendHall") ∈ lw_tbl := lw_at lw_m7 110 rfl
theorem q1673 : (Jvm.Cond.methodLink "SendHall$Reader" (259 : Nat) ({ cls := "java/util/ArrayList", name := "set", desc := "(ILjava/lang/Object;)Ljava/lang/Object;" } : Jvm.MethodName)) ∈ lw_all := lw_g (lw_at lw_m7 121 rfl) rfl
theorem q1677 : (Jvm.Cond.stringRef "SendHall$Reader" (309 : Nat) "then") ∈ lw_tbl := lw_at lw_m7 125 rfl
theorem q1678 : (Jvm.Cond.stringRef "SendHall$Reader" (311 : Nat) "else") ∈ lw_tbl := lw_at lw_m7 126 rfl
theorem q1679 : (Jvm.Cond.stringRef "SendHall$Reader" (313 : Nat) "end") ∈ lw_tbl := lw_at lw_m7 127 rfl
theorem q1680 : (Jvm.Cond.classLink "SendHall$Reader" (252 : Nat) "SendHall$Plain") ∈ lw_all := lw_g (lw_at lw_m7 128 rfl) rfl
theorem q1682 : (Jvm.Cond.methodLink "SendHall$Reader" (254 : Nat) ({ cls := "SendHall$Plain", name := "<init>", desc := "(II)V" } : Jvm.MethodName)) ∈ lw_all := lw_g (lw_at lw_m7 130 rfl) rfl
theorem q1687 : (Jvm.Cond.fieldLinkNest "SendHall$Reader" (302 : Nat) "SendHall$Plain" "e" "LSendHall$Expr;" "SendHall") ∈ lw_tbl := lw_at lw_m7 135 rfl
theorem q1689 : (Jvm.Cond.fieldLinkNest "SendHall$Reader" (305 : Nat) "SendHall$Plain" "var" "I" "SendHall") ∈ lw_tbl := lw_at lw_m7 137 rfl
theorem q1698 : (Jvm.Cond.methodLink "SendHall$Reader" (255 : Nat) ({ cls := "SendHall$Reader", name := "plain", desc := "(LSendHall$Plain;)LSendHall$Step;" } : Jvm.MethodName)) ∈ lw_all := lw_g (lw_at lw_m7 146 rfl) rfl
theorem q1699 : (Jvm.Cond.privateMethod ({ cls := "SendHall$Reader", name := "plain", desc := "(LSendHall$Plain;)LSendHall$Step;" } : Jvm.MethodName)) ∈ lw_tbl := lw_at lw_m7 147 rfl
theorem q1700 : (Jvm.Cond.instanceMethod ({ cls := "SendHall$Reader", name := "plain", desc := "(LSendHall$Plain;)LSendHall$Step;" } : Jvm.MethodName)) ∈ lw_all := lw_g (lw_at lw_m7 148 rfl) rfl
theorem q1701 : (Jvm.Cond.code ({ cls := "SendHall$Reader", name := "plain", desc := "(LSendHall$Plain;)LSendHall$Step;" } : Jvm.MethodName) prog_9_method_18_code (2 : Nat) (Option.some (Jvm.ClassFile.FieldType.object "SendHall$Step"))) ∈ lw_all := lw_g (lw_at lw_m7 149 rfl) rfl
theorem q1702 : (Jvm.Cond.stringRef "SendHall$Reader" (213 : Nat) ";") ∈ lw_tbl := lw_at lw_m7 150 rfl
theorem q1703 : (Jvm.Cond.methodLink "SendHall$Reader" (172 : Nat) ({ cls := "SendHall$Reader", name := "links", desc := "(Ljava/util/ArrayList;LSendHall$Step;)LSendHall$Step;" } : Jvm.MethodName)) ∈ lw_all := lw_g (lw_at lw_m7 151 rfl) rfl
theorem q1704 : (Jvm.Cond.static ({ cls := "SendHall$Reader", name := "links", desc := "(Ljava/util/ArrayList;LSendHall$Step;)LSendHall$Step;" } : Jvm.MethodName)) ∈ lw_all := lw_g (lw_at lw_m7 152 rfl) rfl
theorem q1705 : (Jvm.Cond.code ({ cls := "SendHall$Reader", name := "links", desc := "(Ljava/util/ArrayList;LSendHall$Step;)LSendHall$Step;" } : Jvm.MethodName) prog_9_method_13_code (3 : Nat) (Option.some (Jvm.ClassFile.FieldType.object "SendHall$Step"))) ∈ lw_all := lw_g (lw_at lw_m7 153 rfl) rfl
theorem q1706 : (Jvm.Cond.methodLink "SendHall$Reader" (185 : Nat) ({ cls := "java/util/ArrayList", name := "get", desc := "(I)Ljava/lang/Object;" } : Jvm.MethodName)) ∈ lw_all := lw_g (lw_at lw_m7 154 rfl) rfl
theorem q1707 : (Jvm.Cond.classLink "SendHall$Reader" (189 : Nat) "SendHall$Step") ∈ lw_all := lw_g (lw_at lw_m7 155 rfl) rfl
theorem q1708 : (Jvm.Cond.methodLink "SendHall$Reader" (193 : Nat) ({ cls := "java/util/ArrayList", name := "isEmpty", desc := "()Z" } : Jvm.MethodName)) ∈ lw_all := lw_g (lw_at lw_m7 156 rfl) rfl
theorem q1709 : (Jvm.Cond.methodLink "SendHall$Reader" (180 : Nat) ({ cls := "SendHall$Reader", name := "joins", desc := "()V" } : Jvm.MethodName)) ∈ lw_all := lw_g (lw_at lw_m7 157 rfl) rfl
theorem q1710 : (Jvm.Cond.instanceMethod ({ cls := "SendHall$Reader", name := "joins", desc := "()V" } : Jvm.MethodName)) ∈ lw_all := lw_g (lw_at lw_m7 158 rfl) rfl
theorem q1711 : (Jvm.Cond.selects "SendHall$Reader" ({ cls := "SendHall$Reader", name := "joins", desc := "()V" } : Jvm.MethodName) ({ cls := "SendHall$Reader", name := "joins", desc := "()V" } : Jvm.MethodName)) ∈ lw_all := lw_g (lw_at lw_m7 159 rfl) rfl
theorem q1712 : (Jvm.Cond.code ({ cls := "SendHall$Reader", name := "joins", desc := "()V" } : Jvm.MethodName) prog_9_method_20_code (3 : Nat) (Option.none : Option Jvm.ClassFile.FieldType)) ∈ lw_all := lw_g (lw_at lw_m7 160 rfl) rfl
theorem q2473 : (Jvm.Cond.castable "SendHall$Reader" "java/lang/Object") ∈ lw_tbl := lw_at lw_m10 201 rfl
theorem in_X5 : ∀ w ∈ wsX50, w ∈ lw_all := lw_in wsX50 [1247, 1249, 1251, 1253, 1255, 1257, 1259, 1261, 1263, 1265, 1267, 1269, 1271, 1273] (by decide +kernel) (by decide +kernel)
/-! SendHall$Fault -/
set_option maxRecDepth 100000
def RX6 : String := "SendHall$Fault"
def TX6 : u_T := fun k => match k with
  | 0 => ("java/lang/Throwable", "cause", "Ljava/lang/Throwable;", false)
  | 1 => ("java/lang/Throwable", "stackTrace", "[Ljava/lang/StackTraceElement;", false)
  | 2 => ("java/lang/Throwable", "suppressedExceptions", "Ljava/util/List;", false)
  | 3 => ("java/lang/Throwable", "detailMessage", "Ljava/lang/String;", false)
  | 4 => ("java/lang/Throwable", "backtrace", "Ljava/lang/Object;", false)
  | 5 => ("java/lang/Throwable", "depth", "I", false)
  | 6 => ("SendHall$Fault", "kind", "I", true)
  | _ => ("SendHall$Fault", "place", "I", true)
def tyX6 : Nat → FieldType := fun k => match k with
  | 0 => .object "java/lang/Throwable"
  | 1 => .array (.object "java/lang/StackTraceElement")
  | 2 => .object "java/util/List"
  | 3 => .object "java/lang/String"
  | 4 => .object "java/lang/Object"
  | 5 => .int
  | 6 => .int
  | _ => .int
abbrev wsX60 : List Cond := u_ws RX6 TX6 8
theorem nmX6 : ∀ a, a < 8 → ∀ b, b < 8 → a ≠ b → (TX6 a).2.1 ≠ (TX6 b).2.1 := by decide +kernel
theorem tyX6_ok : ∀ k, k < 8 → parseFieldDescriptor (TX6 k).2.2.1 = some (tyX6 k) := by decide +kernel
abbrev cX6_init : ByteArray := prog_5_method_1_code
def yX6_init : MethodName := ⟨RX6, "<init>", "(II)V"⟩
def dkwX6_init_0 : List UInt8 := [42, 183, 0, 1, 42, 27, 181, 0, 7, 42, 28, 181, 0, 13, 177]
abbrev dktX6_init_0 : List UInt8 := dkwX6_init_0 ++ []
theorem dksX6_init_0 : cX6_init.data.toList.drop 0 = dktX6_init_0 := by decide +kernel
theorem dX6_init_0 : decode cX6_init 0 = .ok (.aload_n 0, 1) := dk_42 (dk_at dksX6_init_0 0 rfl rfl)
theorem dX6_init_1 : decode cX6_init 1 = .ok (.invokespecial 1, 3) := dk_183 0 1 (dk_at dksX6_init_0 1 rfl rfl)
theorem dX6_init_4 : decode cX6_init 4 = .ok (.aload_n 0, 1) := dk_42 (dk_at dksX6_init_0 4 rfl rfl)
theorem dX6_init_5 : decode cX6_init 5 = .ok (.iload_n 1, 1) := dk_27 (dk_at dksX6_init_0 5 rfl rfl)
theorem dX6_init_6 : decode cX6_init 6 = .ok (.putfield 7, 3) := dk_181 0 7 (dk_at dksX6_init_0 6 rfl rfl)
theorem dX6_init_9 : decode cX6_init 9 = .ok (.aload_n 0, 1) := dk_42 (dk_at dksX6_init_0 9 rfl rfl)
theorem dX6_init_10 : decode cX6_init 10 = .ok (.iload_n 2, 1) := dk_28 (dk_at dksX6_init_0 10 rfl rfl)
theorem dX6_init_11 : decode cX6_init 11 = .ok (.putfield 13, 3) := dk_181 0 13 (dk_at dksX6_init_0 11 rfl rfl)
theorem dX6_init_14 : decode cX6_init 14 = .ok (.return_, 1) := dk_177 (dk_at dksX6_init_0 14 rfl rfl)
theorem q140 : (Jvm.Cond.initialized "SendHall$Fault") ∈ lw_all := lw_g (lw_at lw_m1 28 rfl) rfl
theorem q219 : (Jvm.Cond.selects "SendHall$Fault" ({ cls := "java/lang/Throwable", name := "fillInStackTrace", desc := "()Ljava/lang/Throwable;" } : Jvm.MethodName) ({ cls := "java/lang/Throwable", name := "fillInStackTrace", desc := "()Ljava/lang/Throwable;" } : Jvm.MethodName)) ∈ lw_all := lw_g (lw_at lw_m1 107 rfl) rfl
theorem q1034 : (Jvm.Cond.selects "SendHall$Fault" ({ cls := "java/lang/Object", name := "getClass", desc := "()Ljava/lang/Class;" } : Jvm.MethodName) ({ cls := "java/lang/Object", name := "getClass", desc := "()Ljava/lang/Class;" } : Jvm.MethodName)) ∈ lw_all := lw_g (lw_at lw_m4 202 rfl) rfl
theorem q1368 : (Jvm.Cond.instantiable "SendHall$Fault" (8 : Nat)) ∈ lw_all := lw_g (lw_at lw_m6 56 rfl) rfl
theorem q1369 : (Jvm.Cond.castable "SendHall$Fault" "SendHall$Fault") ∈ lw_tbl := lw_at lw_m6 57 rfl
theorem q1370 : (Jvm.Cond.selects "SendHall$Fault" ({ cls := "java/lang/Throwable", name := "fillInStackTrace", desc := "(I)Ljava/lang/Throwable;" } : Jvm.MethodName) ({ cls := "java/lang/Throwable", name := "fillInStackTrace", desc := "(I)Ljava/lang/Throwable;" } : Jvm.MethodName)) ∈ lw_all := lw_g (lw_at lw_m6 58 rfl) rfl
theorem q1371 : (Jvm.Cond.lays "SendHall$Fault" "java/lang/Throwable" "cause" "Ljava/lang/Throwable;") ∈ lw_all := lw_g (lw_at lw_m6 59 rfl) rfl
theorem q1372 : (Jvm.Cond.lays "SendHall$Fault" "java/lang/Throwable" "stackTrace" "[Ljava/lang/StackTraceElement;") ∈ lw_all := lw_g (lw_at lw_m6 60 rfl) rfl
theorem q1373 : (Jvm.Cond.lays "SendHall$Fault" "java/lang/Throwable" "suppressedExceptions" "Ljava/util/List;") ∈ lw_all := lw_g (lw_at lw_m6 61 rfl) rfl
theorem q1374 : (Jvm.Cond.lays "SendHall$Fault" "java/lang/Throwable" "detailMessage" "Ljava/lang/String;") ∈ lw_all := lw_g (lw_at lw_m6 62 rfl) rfl
theorem q1375 : (Jvm.Cond.lays "SendHall$Fault" "java/lang/Throwable" "backtrace" "Ljava/lang/Object;") ∈ lw_all := lw_g (lw_at lw_m6 63 rfl) rfl
theorem q1377 : (Jvm.Cond.instanceMethod ({ cls := "SendHall$Fault", name := "<init>", desc := "(II)V" } : Jvm.MethodName)) ∈ lw_all := lw_g (lw_at lw_m6 65 rfl) rfl
theorem q1378 : (Jvm.Cond.code ({ cls := "SendHall$Fault", name := "<init>", desc := "(II)V" } : Jvm.MethodName) prog_5_method_1_code (3 : Nat) (Option.none : Option Jvm.ClassFile.FieldType)) ∈ lw_all := lw_g (lw_at lw_m6 66 rfl) rfl
theorem q1379 : (Jvm.Cond.methodLink "SendHall$Fault" (1 : Nat) ({ cls := "java/lang/Exception", name := "<init>", desc := "()V" } : Jvm.MethodName)) ∈ lw_all := lw_g (lw_at lw_m6 67 rfl) rfl
theorem q1380 : (Jvm.Cond.fieldLink "SendHall$Fault" (7 : Nat) "SendHall$Fault" "kind" "I") ∈ lw_all := lw_g (lw_at lw_m6 68 rfl) rfl
theorem q1382 : (Jvm.Cond.fieldLink "SendHall$Fault" (13 : Nat) "SendHall$Fault" "place" "I") ∈ lw_all := lw_g (lw_at lw_m6 70 rfl) rfl
theorem q1384 : (Jvm.Cond.laysFinal "SendHall$Fault" "SendHall$Fault" "kind" "I") ∈ lw_all := lw_g (lw_at lw_m6 72 rfl) rfl
theorem q1385 : (Jvm.Cond.soleField "SendHall$Fault" "kind") ∈ lw_all := lw_g (lw_at lw_m6 73 rfl) rfl
theorem q1386 : (Jvm.Cond.laysFinal "SendHall$Fault" "SendHall$Fault" "place" "I") ∈ lw_all := lw_g (lw_at lw_m6 74 rfl) rfl
theorem q1387 : (Jvm.Cond.soleField "SendHall$Fault" "place") ∈ lw_all := lw_g (lw_at lw_m6 75 rfl) rfl
theorem q1388 : (Jvm.Cond.lays "SendHall$Fault" "java/lang/Throwable" "depth" "I") ∈ lw_all := lw_g (lw_at lw_m6 76 rfl) rfl
theorem q1389 : (Jvm.Cond.superclass "SendHall$Fault" "java/lang/Exception") ∈ lw_all := lw_g (lw_at lw_m6 77 rfl) rfl
theorem q2476 : (Jvm.Cond.castable "SendHall$Fault" "java/lang/Object") ∈ lw_tbl := lw_at lw_m10 204 rfl
theorem in_X6 : ∀ w ∈ wsX60, w ∈ lw_all := lw_in wsX60 [1371, 1372, 1373, 1374, 1375, 1388, 1384, 1386] (by decide +kernel) (by decide +kernel)
/-! SendHall$Step -/
set_option maxRecDepth 100000
def RX7 : String := "SendHall$Step"
abbrev cX7_isOther : ByteArray := prog_14_method_3_code
def yX7_isOther : MethodName := ⟨RX7, "isOther", "(LSendHall$Life;II)Z"⟩
def dkwX7_isOther_0 : List UInt8 := [28, 155, 0, 20, 28, 42, 180, 0, 16, 162, 0, 12, 28, 27, 159, 0, 7, 4, 167, 0, 4, 3, 172]
abbrev dktX7_isOther_0 : List UInt8 := dkwX7_isOther_0 ++ []
theorem dksX7_isOther_0 : cX7_isOther.data.toList.drop 0 = dktX7_isOther_0 := by decide +kernel
theorem dX7_isOther_0 : decode cX7_isOther 0 = .ok (.iload_n 2, 1) := dk_28 (dk_at dksX7_isOther_0 0 rfl rfl)
theorem dX7_isOther_1 : decode cX7_isOther 1 = .ok (.ifCond .lt 20, 3) := dk_155 0 20 (dk_at dksX7_isOther_0 1 rfl rfl)
theorem dX7_isOther_4 : decode cX7_isOther 4 = .ok (.iload_n 2, 1) := dk_28 (dk_at dksX7_isOther_0 4 rfl rfl)
theorem dX7_isOther_5 : decode cX7_isOther 5 = .ok (.aload_n 0, 1) := dk_42 (dk_at dksX7_isOther_0 5 rfl rfl)
theorem dX7_isOther_6 : decode cX7_isOther 6 = .ok (.getfield 16, 3) := dk_180 0 16 (dk_at dksX7_isOther_0 6 rfl rfl)
theorem dX7_isOther_9 : decode cX7_isOther 9 = .ok (.if_icmp .ge 12, 3) := dk_162 0 12 (dk_at dksX7_isOther_0 9 rfl rfl)
theorem dX7_isOther_12 : decode cX7_isOther 12 = .ok (.iload_n 2, 1) := dk_28 (dk_at dksX7_isOther_0 12 rfl rfl)
theorem dX7_isOther_13 : decode cX7_isOther 13 = .ok (.iload_n 1, 1) := dk_27 (dk_at dksX7_isOther_0 13 rfl rfl)
theorem dX7_isOther_14 : decode cX7_isOther 14 = .ok (.if_icmp .eq 7, 3) := dk_159 0 7 (dk_at dksX7_isOther_0 14 rfl rfl)
theorem dX7_isOther_17 : decode cX7_isOther 17 = .ok (.iconst 1, 1) := dk_4 (dk_at dksX7_isOther_0 17 rfl rfl)
theorem dX7_isOther_18 : decode cX7_isOther 18 = .ok (.goto 4, 3) := dk_167 0 4 (dk_at dksX7_isOther_0 18 rfl rfl)
theorem dX7_isOther_21 : decode cX7_isOther 21 = .ok (.iconst 0, 1) := dk_3 (dk_at dksX7_isOther_0 21 rfl rfl)
theorem dX7_isOther_22 : decode cX7_isOther 22 = .ok (.ireturn, 1) := dk_172 (dk_at dksX7_isOther_0 22 rfl rfl)
abbrev cX7_comes : ByteArray := prog_14_method_2_code
def yX7_comes : MethodName := ⟨RX7, "comes", "(LSendHall$Life;I)LSendHall$Step;"⟩
theorem dX7_comes_0 : decode cX7_comes 0 = .ok (.aload_n 0, 1) := by decide +kernel
theorem dX7_comes_1 : decode cX7_comes 1 = .ok (.areturn, 1) := by decide +kernel
abbrev cX7_init : ByteArray := prog_14_method_1_code
def yX7_init : MethodName := ⟨RX7, "<init>", "(II)V"⟩
def dkwX7_init_0 : List UInt8 := [42, 183, 0, 1, 42, 27, 181, 0, 7, 42, 28, 181, 0, 13, 177]
abbrev dktX7_init_0 : List UInt8 := dkwX7_init_0 ++ []
theorem dksX7_init_0 : cX7_init.data.toList.drop 0 = dktX7_init_0 := by decide +kernel
theorem dX7_init_0 : decode cX7_init 0 = .ok (.aload_n 0, 1) := dk_42 (dk_at dksX7_init_0 0 rfl rfl)
theorem dX7_init_1 : decode cX7_init 1 = .ok (.invokespecial 1, 3) := dk_183 0 1 (dk_at dksX7_init_0 1 rfl rfl)
theorem dX7_init_4 : decode cX7_init 4 = .ok (.aload_n 0, 1) := dk_42 (dk_at dksX7_init_0 4 rfl rfl)
theorem dX7_init_5 : decode cX7_init 5 = .ok (.iload_n 1, 1) := dk_27 (dk_at dksX7_init_0 5 rfl rfl)
theorem dX7_init_6 : decode cX7_init 6 = .ok (.putfield 7, 3) := dk_181 0 7 (dk_at dksX7_init_0 6 rfl rfl)
theorem dX7_init_9 : decode cX7_init 9 = .ok (.aload_n 0, 1) := dk_42 (dk_at dksX7_init_0 9 rfl rfl)
theorem dX7_init_10 : decode cX7_init 10 = .ok (.iload_n 2, 1) := dk_28 (dk_at dksX7_init_0 10 rfl rfl)
theorem dX7_init_11 : decode cX7_init 11 = .ok (.putfield 13, 3) := dk_181 0 13 (dk_at dksX7_init_0 11 rfl rfl)
theorem dX7_init_14 : decode cX7_init 14 = .ok (.return_, 1) := dk_177 (dk_at dksX7_init_0 14 rfl rfl)
theorem q141 : (Jvm.Cond.initialized "SendHall$Step") ∈ lw_all := lw_g (lw_at lw_m1 29 rfl) rfl
theorem q540 : (Jvm.Cond.fieldLinkNest "SendHall$Step" (16 : Nat) "SendHall$Life" "n" "I" "SendHall") ∈ lw_tbl := lw_at lw_m2 188 rfl
theorem q737 : (Jvm.Cond.instanceMethod ({ cls := "SendHall$Step", name := "comes", desc := "(LSendHall$Life;I)LSendHall$Step;" } : Jvm.MethodName)) ∈ lw_all := lw_g (lw_at lw_m3 145 rfl) rfl
theorem q738 : (Jvm.Cond.sameMethod "SendHall$Step" "SendHall$Step" "comes" "(LSendHall$Life;I)LSendHall$Step;") ∈ lw_all := lw_g (lw_at lw_m3 146 rfl) rfl
theorem q805 : (Jvm.Cond.static ({ cls := "SendHall$Step", name := "isOther", desc := "(LSendHall$Life;II)Z" } : Jvm.MethodName)) ∈ lw_all := lw_g (lw_at lw_m3 213 rfl) rfl
theorem q806 : (Jvm.Cond.code ({ cls := "SendHall$Step", name := "isOther", desc := "(LSendHall$Life;II)Z" } : Jvm.MethodName) prog_14_method_3_code (3 : Nat) (Option.some Jvm.ClassFile.FieldType.boolean)) ∈ lw_all := lw_g (lw_at lw_m3 214 rfl) rfl
theorem q809 : (Jvm.Cond.declares ({ cls := "SendHall$Step", name := "comes", desc := "(LSendHall$Life;I)LSendHall$Step;" } : Jvm.MethodName)) ∈ lw_tbl := lw_at lw_m3 217 rfl
theorem q812 : (Jvm.Cond.code ({ cls := "SendHall$Step", name := "comes", desc := "(LSendHall$Life;I)LSendHall$Step;" } : Jvm.MethodName) prog_14_method_2_code (3 : Nat) (Option.some (Jvm.ClassFile.FieldType.object "SendHall$Step"))) ∈ lw_all := lw_g (lw_at lw_m3 220 rfl) rfl
theorem q1403 : (Jvm.Cond.instanceMethod ({ cls := "SendHall$Step", name := "<init>", desc := "(II)V" } : Jvm.MethodName)) ∈ lw_all := lw_g (lw_at lw_m6 91 rfl) rfl
theorem q1404 : (Jvm.Cond.code ({ cls := "SendHall$Step", name := "<init>", desc := "(II)V" } : Jvm.MethodName) prog_14_method_1_code (3 : Nat) (Option.none : Option Jvm.ClassFile.FieldType)) ∈ lw_all := lw_g (lw_at lw_m6 92 rfl) rfl
theorem q1405 : (Jvm.Cond.methodLink "SendHall$Step" (1 : Nat) ({ cls := "java/lang/Object", name := "<init>", desc := "()V" } : Jvm.MethodName)) ∈ lw_all := lw_g (lw_at lw_m6 93 rfl) rfl
theorem q1418 : (Jvm.Cond.fieldLink "SendHall$Step" (7 : Nat) "SendHall$Step" "kind" "I") ∈ lw_all := lw_g (lw_at lw_m6 106 rfl) rfl
theorem q1427 : (Jvm.Cond.fieldLink "SendHall$Step" (13 : Nat) "SendHall$Step" "number" "I") ∈ lw_all := lw_g (lw_at lw_m6 115 rfl) rfl
theorem q1453 : (Jvm.Cond.soleField "SendHall$Step" "kind") ∈ lw_all := lw_g (lw_at lw_m6 141 rfl) rfl
theorem q1455 : (Jvm.Cond.soleField "SendHall$Step" "number") ∈ lw_all := lw_g (lw_at lw_m6 143 rfl) rfl
theorem q1457 : (Jvm.Cond.soleField "SendHall$Step" "next") ∈ lw_all := lw_g (lw_at lw_m6 145 rfl) rfl
theorem q2465 : (Jvm.Cond.castable "SendHall$Step" "java/lang/Object") ∈ lw_tbl := lw_at lw_m10 193 rfl
/-! SendHall$Talk -/
set_option maxRecDepth 100000
def RX8 : String := "SendHall$Talk"
abbrev cX8_mark : ByteArray := prog_15_method_2_code
def yX8_mark : MethodName := ⟨RX8, "mark", "(LSendHall$Life;I)I"⟩
def dkwX8_mark_0 : List UInt8 := [42, 180, 0, 7, 43, 28, 185, 0, 13, 3, 0, 172]
abbrev dktX8_mark_0 : List UInt8 := dkwX8_mark_0 ++ []
theorem dksX8_mark_0 : cX8_mark.data.toList.drop 0 = dktX8_mark_0 := by decide +kernel
theorem dX8_mark_0 : decode cX8_mark 0 = .ok (.aload_n 0, 1) := dk_42 (dk_at dksX8_mark_0 0 rfl rfl)
theorem dX8_mark_1 : decode cX8_mark 1 = .ok (.getfield 7, 3) := dk_180 0 7 (dk_at dksX8_mark_0 1 rfl rfl)
theorem dX8_mark_4 : decode cX8_mark 4 = .ok (.aload_n 1, 1) := dk_43 (dk_at dksX8_mark_0 4 rfl rfl)
theorem dX8_mark_5 : decode cX8_mark 5 = .ok (.iload_n 2, 1) := dk_28 (dk_at dksX8_mark_0 5 rfl rfl)
theorem dX8_mark_6 : decode cX8_mark 6 = .ok (.invokeinterface 13 3, 5) := by decide +kernel
theorem dX8_mark_11 : decode cX8_mark 11 = .ok (.ireturn, 1) := dk_172 (dk_at dksX8_mark_0 11 rfl rfl)
abbrev cX8_init : ByteArray := prog_15_method_1_code
def yX8_init : MethodName := ⟨RX8, "<init>", "(II)V"⟩
def dkwX8_init_0 : List UInt8 := [42, 27, 28, 183, 0, 1, 177]
abbrev dktX8_init_0 : List UInt8 := dkwX8_init_0 ++ []
theorem dksX8_init_0 : cX8_init.data.toList.drop 0 = dktX8_init_0 := by decide +kernel
theorem dX8_init_0 : decode cX8_init 0 = .ok (.aload_n 0, 1) := dk_42 (dk_at dksX8_init_0 0 rfl rfl)
theorem dX8_init_1 : decode cX8_init 1 = .ok (.iload_n 1, 1) := dk_27 (dk_at dksX8_init_0 1 rfl rfl)
theorem dX8_init_2 : decode cX8_init 2 = .ok (.iload_n 2, 1) := dk_28 (dk_at dksX8_init_0 2 rfl rfl)
theorem dX8_init_3 : decode cX8_init 3 = .ok (.invokespecial 1, 3) := dk_183 0 1 (dk_at dksX8_init_0 3 rfl rfl)
theorem dX8_init_6 : decode cX8_init 6 = .ok (.return_, 1) := dk_177 (dk_at dksX8_init_0 6 rfl rfl)
theorem q142 : (Jvm.Cond.initialized "SendHall$Talk") ∈ lw_all := lw_g (lw_at lw_m1 30 rfl) rfl
theorem q808 : (Jvm.Cond.sameMethod "SendHall$Talk" "SendHall$Step" "comes" "(LSendHall$Life;I)LSendHall$Step;") ∈ lw_all := lw_g (lw_at lw_m3 216 rfl) rfl
theorem q811 : (Jvm.Cond.superclass "SendHall$Talk" "SendHall$Step") ∈ lw_all := lw_g (lw_at lw_m3 219 rfl) rfl
theorem q868 : (Jvm.Cond.declares ({ cls := "SendHall$Talk", name := "mark", desc := "(LSendHall$Life;I)I" } : Jvm.MethodName)) ∈ lw_tbl := lw_at lw_m4 36 rfl
theorem q870 : (Jvm.Cond.instanceMethod ({ cls := "SendHall$Talk", name := "mark", desc := "(LSendHall$Life;I)I" } : Jvm.MethodName)) ∈ lw_all := lw_g (lw_at lw_m4 38 rfl) rfl
theorem q871 : (Jvm.Cond.code ({ cls := "SendHall$Talk", name := "mark", desc := "(LSendHall$Life;I)I" } : Jvm.MethodName) prog_15_method_2_code (3 : Nat) (Option.some Jvm.ClassFile.FieldType.int)) ∈ lw_all := lw_g (lw_at lw_m4 39 rfl) rfl
theorem q872 : (Jvm.Cond.interfaceEntry "SendHall$Talk" (13 : Nat)) ∈ lw_tbl := lw_at lw_m4 40 rfl
theorem q873 : (Jvm.Cond.methodLink "SendHall$Talk" (13 : Nat) ({ cls := "SendHall$Expr", name := "value", desc := "(LSendHall$Life;I)I" } : Jvm.MethodName)) ∈ lw_all := lw_g (lw_at lw_m4 41 rfl) rfl
theorem q1400 : (Jvm.Cond.instanceMethod ({ cls := "SendHall$Talk", name := "<init>", desc := "(II)V" } : Jvm.MethodName)) ∈ lw_all := lw_g (lw_at lw_m6 88 rfl) rfl
theorem q1401 : (Jvm.Cond.code ({ cls := "SendHall$Talk", name := "<init>", desc := "(II)V" } : Jvm.MethodName) prog_15_method_1_code (3 : Nat) (Option.none : Option Jvm.ClassFile.FieldType)) ∈ lw_all := lw_g (lw_at lw_m6 89 rfl) rfl
theorem q1402 : (Jvm.Cond.methodLink "SendHall$Talk" (1 : Nat) ({ cls := "SendHall$Step", name := "<init>", desc := "(II)V" } : Jvm.MethodName)) ∈ lw_all := lw_g (lw_at lw_m6 90 rfl) rfl
theorem q1413 : (Jvm.Cond.fieldLink "SendHall$Talk" (7 : Nat) "SendHall$Talk" "mark" "LSendHall$Expr;") ∈ lw_all := lw_g (lw_at lw_m6 101 rfl) rfl
theorem q1451 : (Jvm.Cond.soleField "SendHall$Talk" "mark") ∈ lw_all := lw_g (lw_at lw_m6 139 rfl) rfl
/-! SendHall$Send -/
set_option maxRecDepth 100000
def RX9 : String := "SendHall$Send"
def TX9 : u_T := fun k => match k with
  | 0 => ("SendHall$Step", "kind", "I", true)
  | 1 => ("SendHall$Step", "number", "I", true)
  | 2 => ("SendHall$Step", "next", "LSendHall$Step;", false)
  | 3 => ("SendHall$Talk", "mark", "LSendHall$Expr;", false)
  | 4 => ("SendHall$Send", "to", "LSendHall$Expr;", false)
  | 5 => ("SendHall$Send", "word", "LSendHall$Expr;", false)
  | _ => ("SendHall$Send", "length", "I", false)
def tyX9 : Nat → FieldType := fun k => match k with
  | 0 => .int
  | 1 => .int
  | 2 => .object "SendHall$Step"
  | 3 => .object "SendHall$Expr"
  | 4 => .object "SendHall$Expr"
  | 5 => .object "SendHall$Expr"
  | _ => .int
abbrev wsX90 : List Cond := u_ws RX9 TX9 7
theorem nmX9 : ∀ a, a < 7 → ∀ b, b < 7 → a ≠ b → (TX9 a).2.1 ≠ (TX9 b).2.1 := by decide +kernel
theorem tyX9_ok : ∀ k, k < 7 → parseFieldDescriptor (TX9 k).2.2.1 = some (tyX9 k) := by decide +kernel
abbrev cX9_comes : ByteArray := prog_11_method_3_code
def yX9_comes : MethodName := ⟨RX9, "comes", "(LSendHall$Life;I)LSendHall$Step;"⟩
def dkwX9_comes_1 : List UInt8 := [84, 42, 43, 28, 183, 0, 35, 176]
abbrev dktX9_comes_1 : List UInt8 := dkwX9_comes_1 ++ []
def dkwX9_comes_0 : List UInt8 := [43, 180, 0, 23, 28, 43, 28, 42, 43, 28, 182, 0, 29, 184, 0, 31, 154, 0, 7, 4, 167, 0, 4, 3]
abbrev dktX9_comes_0 : List UInt8 := dkwX9_comes_0 ++ dktX9_comes_1
theorem dksX9_comes_0 : cX9_comes.data.toList.drop 0 = dktX9_comes_0 := by decide +kernel
theorem dksX9_comes_1 : cX9_comes.data.toList.drop 24 = dktX9_comes_1 := dk_seg dksX9_comes_0 24 rfl rfl
theorem dX9_comes_0 : decode cX9_comes 0 = .ok (.aload_n 1, 1) := dk_43 (dk_at dksX9_comes_0 0 rfl rfl)
theorem dX9_comes_1 : decode cX9_comes 1 = .ok (.getfield 23, 3) := dk_180 0 23 (dk_at dksX9_comes_0 1 rfl rfl)
theorem dX9_comes_4 : decode cX9_comes 4 = .ok (.iload_n 2, 1) := dk_28 (dk_at dksX9_comes_0 4 rfl rfl)
theorem dX9_comes_5 : decode cX9_comes 5 = .ok (.aload_n 1, 1) := dk_43 (dk_at dksX9_comes_0 5 rfl rfl)
theorem dX9_comes_6 : decode cX9_comes 6 = .ok (.iload_n 2, 1) := dk_28 (dk_at dksX9_comes_0 6 rfl rfl)
theorem dX9_comes_7 : decode cX9_comes 7 = .ok (.aload_n 0, 1) := dk_42 (dk_at dksX9_comes_0 7 rfl rfl)
theorem dX9_comes_8 : decode cX9_comes 8 = .ok (.aload_n 1, 1) := dk_43 (dk_at dksX9_comes_0 8 rfl rfl)
theorem dX9_comes_9 : decode cX9_comes 9 = .ok (.iload_n 2, 1) := dk_28 (dk_at dksX9_comes_0 9 rfl rfl)
theorem dX9_comes_10 : decode cX9_comes 10 = .ok (.invokevirtual 29, 3) := dk_182 0 29 (dk_at dksX9_comes_0 10 rfl rfl)
theorem dX9_comes_13 : decode cX9_comes 13 = .ok (.invokestatic 31, 3) := dk_184 0 31 (dk_at dksX9_comes_0 13 rfl rfl)
theorem dX9_comes_16 : decode cX9_comes 16 = .ok (.ifCond .ne 7, 3) := dk_154 0 7 (dk_at dksX9_comes_0 16 rfl rfl)
theorem dX9_comes_19 : decode cX9_comes 19 = .ok (.iconst 1, 1) := dk_4 (dk_at dksX9_comes_0 19 rfl rfl)
theorem dX9_comes_20 : decode cX9_comes 20 = .ok (.goto 4, 3) := dk_167 0 4 (dk_at dksX9_comes_0 20 rfl rfl)
theorem dX9_comes_23 : decode cX9_comes 23 = .ok (.iconst 0, 1) := dk_3 (dk_at dksX9_comes_0 23 rfl rfl)
theorem dX9_comes_24 : decode cX9_comes 24 = .ok (.bastore, 1) := dk_84 (dk_at dksX9_comes_1 0 rfl rfl)
theorem dX9_comes_25 : decode cX9_comes 25 = .ok (.aload_n 0, 1) := dk_42 (dk_at dksX9_comes_1 1 rfl rfl)
theorem dX9_comes_26 : decode cX9_comes 26 = .ok (.aload_n 1, 1) := dk_43 (dk_at dksX9_comes_1 2 rfl rfl)
theorem dX9_comes_27 : decode cX9_comes 27 = .ok (.iload_n 2, 1) := dk_28 (dk_at dksX9_comes_1 3 rfl rfl)
theorem dX9_comes_28 : decode cX9_comes 28 = .ok (.invokespecial 35, 3) := dk_183 0 35 (dk_at dksX9_comes_1 4 rfl rfl)
theorem dX9_comes_31 : decode cX9_comes 31 = .ok (.areturn, 1) := dk_176 (dk_at dksX9_comes_1 7 rfl rfl)
abbrev cX9_to : ByteArray := prog_11_method_2_code
def yX9_to : MethodName := ⟨RX9, "to", "(LSendHall$Life;I)I"⟩
def dkwX9_to_0 : List UInt8 := [42, 180, 0, 13, 43, 28, 185, 0, 17, 3, 0, 172]
abbrev dktX9_to_0 : List UInt8 := dkwX9_to_0 ++ []
theorem dksX9_to_0 : cX9_to.data.toList.drop 0 = dktX9_to_0 := by decide +kernel
theorem dX9_to_0 : decode cX9_to 0 = .ok (.aload_n 0, 1) := dk_42 (dk_at dksX9_to_0 0 rfl rfl)
theorem dX9_to_1 : decode cX9_to 1 = .ok (.getfield 13, 3) := dk_180 0 13 (dk_at dksX9_to_0 1 rfl rfl)
theorem dX9_to_4 : decode cX9_to 4 = .ok (.aload_n 1, 1) := dk_43 (dk_at dksX9_to_0 4 rfl rfl)
theorem dX9_to_5 : decode cX9_to 5 = .ok (.iload_n 2, 1) := dk_28 (dk_at dksX9_to_0 5 rfl rfl)
theorem dX9_to_6 : decode cX9_to 6 = .ok (.invokeinterface 17 3, 5) := by decide +kernel
theorem dX9_to_11 : decode cX9_to 11 = .ok (.ireturn, 1) := dk_172 (dk_at dksX9_to_0 11 rfl rfl)
abbrev cX9_init : ByteArray := prog_11_method_1_code
def yX9_init : MethodName := ⟨RX9, "<init>", "(II)V"⟩
def dkwX9_init_0 : List UInt8 := [42, 27, 28, 183, 0, 1, 42, 4, 181, 0, 7, 177]
abbrev dktX9_init_0 : List UInt8 := dkwX9_init_0 ++ []
theorem dksX9_init_0 : cX9_init.data.toList.drop 0 = dktX9_init_0 := by decide +kernel
theorem dX9_init_0 : decode cX9_init 0 = .ok (.aload_n 0, 1) := dk_42 (dk_at dksX9_init_0 0 rfl rfl)
theorem dX9_init_1 : decode cX9_init 1 = .ok (.iload_n 1, 1) := dk_27 (dk_at dksX9_init_0 1 rfl rfl)
theorem dX9_init_2 : decode cX9_init 2 = .ok (.iload_n 2, 1) := dk_28 (dk_at dksX9_init_0 2 rfl rfl)
theorem dX9_init_3 : decode cX9_init 3 = .ok (.invokespecial 1, 3) := dk_183 0 1 (dk_at dksX9_init_0 3 rfl rfl)
theorem dX9_init_6 : decode cX9_init 6 = .ok (.aload_n 0, 1) := dk_42 (dk_at dksX9_init_0 6 rfl rfl)
theorem dX9_init_7 : decode cX9_init 7 = .ok (.iconst 1, 1) := dk_4 (dk_at dksX9_init_0 7 rfl rfl)
theorem dX9_init_8 : decode cX9_init 8 = .ok (.putfield 7, 3) := dk_181 0 7 (dk_at dksX9_init_0 8 rfl rfl)
theorem dX9_init_11 : decode cX9_init 11 = .ok (.return_, 1) := dk_177 (dk_at dksX9_init_0 11 rfl rfl)
theorem q143 : (Jvm.Cond.initialized "SendHall$Send") ∈ lw_all := lw_g (lw_at lw_m1 31 rfl) rfl
theorem q548 : (Jvm.Cond.fieldLinkNest "SendHall$Send" (23 : Nat) "SendHall$Life" "stopped" "[Z" "SendHall") ∈ lw_tbl := lw_at lw_m2 196 rfl
theorem q794 : (Jvm.Cond.selects "SendHall$Send" ({ cls := "SendHall$Step", name := "comes", desc := "(LSendHall$Life;I)LSendHall$Step;" } : Jvm.MethodName) ({ cls := "SendHall$Send", name := "comes", desc := "(LSendHall$Life;I)LSendHall$Step;" } : Jvm.MethodName)) ∈ lw_all := lw_g (lw_at lw_m3 202 rfl) rfl
theorem q795 : (Jvm.Cond.instanceMethod ({ cls := "SendHall$Send", name := "comes", desc := "(LSendHall$Life;I)LSendHall$Step;" } : Jvm.MethodName)) ∈ lw_all := lw_g (lw_at lw_m3 203 rfl) rfl
theorem q796 : (Jvm.Cond.code ({ cls := "SendHall$Send", name := "comes", desc := "(LSendHall$Life;I)LSendHall$Step;" } : Jvm.MethodName) prog_11_method_3_code (3 : Nat) (Option.some (Jvm.ClassFile.FieldType.object "SendHall$Step"))) ∈ lw_all := lw_g (lw_at lw_m3 204 rfl) rfl
theorem q797 : (Jvm.Cond.methodLink "SendHall$Send" (29 : Nat) ({ cls := "SendHall$Send", name := "to", desc := "(LSendHall$Life;I)I" } : Jvm.MethodName)) ∈ lw_all := lw_g (lw_at lw_m3 205 rfl) rfl
theorem q798 : (Jvm.Cond.instanceMethod ({ cls := "SendHall$Send", name := "to", desc := "(LSendHall$Life;I)I" } : Jvm.MethodName)) ∈ lw_all := lw_g (lw_at lw_m3 206 rfl) rfl
theorem q799 : (Jvm.Cond.selects "SendHall$Send" ({ cls := "SendHall$Send", name := "to", desc := "(LSendHall$Life;I)I" } : Jvm.MethodName) ({ cls := "SendHall$Send", name := "to", desc := "(LSendHall$Life;I)I" } : Jvm.MethodName)) ∈ lw_all := lw_g (lw_at lw_m3 207 rfl) rfl
theorem q800 : (Jvm.Cond.code ({ cls := "SendHall$Send", name := "to", desc := "(LSendHall$Life;I)I" } : Jvm.MethodName) prog_11_method_2_code (3 : Nat) (Option.some Jvm.ClassFile.FieldType.int)) ∈ lw_all := lw_g (lw_at lw_m3 208 rfl) rfl
theorem q801 : (Jvm.Cond.interfaceEntry "SendHall$Send" (17 : Nat)) ∈ lw_tbl := lw_at lw_m3 209 rfl
theorem q802 : (Jvm.Cond.methodLink "SendHall$Send" (17 : Nat) ({ cls := "SendHall$Expr", name := "value", desc := "(LSendHall$Life;I)I" } : Jvm.MethodName)) ∈ lw_all := lw_g (lw_at lw_m3 210 rfl) rfl
theorem q803 : (Jvm.Cond.methodLink "SendHall$Send" (31 : Nat) ({ cls := "SendHall$Send", name := "isOther", desc := "(LSendHall$Life;II)Z" } : Jvm.MethodName)) ∈ lw_all := lw_g (lw_at lw_m3 211 rfl) rfl
theorem q804 : (Jvm.Cond.sameMethod "SendHall$Send" "SendHall$Step" "isOther" "(LSendHall$Life;II)Z") ∈ lw_all := lw_g (lw_at lw_m3 212 rfl) rfl
theorem q807 : (Jvm.Cond.methodLink "SendHall$Send" (35 : Nat) ({ cls := "SendHall$Talk", name := "comes", desc := "(LSendHall$Life;I)LSendHall$Step;" } : Jvm.MethodName)) ∈ lw_all := lw_g (lw_at lw_m3 215 rfl) rfl
theorem q810 : (Jvm.Cond.superclass "SendHall$Send" "SendHall$Talk") ∈ lw_all := lw_g (lw_at lw_m3 218 rfl) rfl
theorem q867 : (Jvm.Cond.sameMethod "SendHall$Send" "SendHall$Talk" "mark" "(LSendHall$Life;I)I") ∈ lw_all := lw_g (lw_at lw_m4 35 rfl) rfl
theorem q869 : (Jvm.Cond.selects "SendHall$Send" ({ cls := "SendHall$Send", name := "mark", desc := "(LSendHall$Life;I)I" } : Jvm.MethodName) ({ cls := "SendHall$Talk", name := "mark", desc := "(LSendHall$Life;I)I" } : Jvm.MethodName)) ∈ lw_all := lw_g (lw_at lw_m4 37 rfl) rfl
theorem q1040 : (Jvm.Cond.selects "SendHall$Send" ({ cls := "java/lang/Object", name := "getClass", desc := "()Ljava/lang/Class;" } : Jvm.MethodName) ({ cls := "java/lang/Object", name := "getClass", desc := "()Ljava/lang/Class;" } : Jvm.MethodName)) ∈ lw_all := lw_g (lw_at lw_m4 208 rfl) rfl
theorem q1395 : (Jvm.Cond.instantiable "SendHall$Send" (7 : Nat)) ∈ lw_all := lw_g (lw_at lw_m6 83 rfl) rfl
theorem q1397 : (Jvm.Cond.instanceMethod ({ cls := "SendHall$Send", name := "<init>", desc := "(II)V" } : Jvm.MethodName)) ∈ lw_all := lw_g (lw_at lw_m6 85 rfl) rfl
theorem q1398 : (Jvm.Cond.code ({ cls := "SendHall$Send", name := "<init>", desc := "(II)V" } : Jvm.MethodName) prog_11_method_1_code (3 : Nat) (Option.none : Option Jvm.ClassFile.FieldType)) ∈ lw_all := lw_g (lw_at lw_m6 86 rfl) rfl
theorem q1399 : (Jvm.Cond.methodLink "SendHall$Send" (1 : Nat) ({ cls := "SendHall$Talk", name := "<init>", desc := "(II)V" } : Jvm.MethodName)) ∈ lw_all := lw_g (lw_at lw_m6 87 rfl) rfl
theorem q1406 : (Jvm.Cond.fieldLink "SendHall$Send" (13 : Nat) "SendHall$Send" "to" "LSendHall$Expr;") ∈ lw_all := lw_g (lw_at lw_m6 94 rfl) rfl
theorem q1410 : (Jvm.Cond.fieldLink "SendHall$Send" (7 : Nat) "SendHall$Send" "length" "I") ∈ lw_all := lw_g (lw_at lw_m6 98 rfl) rfl
theorem q1415 : (Jvm.Cond.sameField "SendHall$Send" "SendHall$Talk" "mark" "LSendHall$Expr;") ∈ lw_all := lw_g (lw_at lw_m6 103 rfl) rfl
theorem q1420 : (Jvm.Cond.sameField "SendHall$Send" "SendHall$Step" "kind" "I") ∈ lw_all := lw_g (lw_at lw_m6 108 rfl) rfl
theorem q1438 : (Jvm.Cond.sameField "SendHall$Send" "SendHall$Step" "next" "LSendHall$Step;") ∈ lw_all := lw_g (lw_at lw_m6 126 rfl) rfl
theorem q1444 : (Jvm.Cond.lays "SendHall$Send" "SendHall$Send" "to" "LSendHall$Expr;") ∈ lw_all := lw_g (lw_at lw_m6 132 rfl) rfl
theorem q1445 : (Jvm.Cond.soleField "SendHall$Send" "to") ∈ lw_all := lw_g (lw_at lw_m6 133 rfl) rfl
theorem q1446 : (Jvm.Cond.lays "SendHall$Send" "SendHall$Send" "word" "LSendHall$Expr;") ∈ lw_all := lw_g (lw_at lw_m6 134 rfl) rfl
theorem q1447 : (Jvm.Cond.soleField "SendHall$Send" "word") ∈ lw_all := lw_g (lw_at lw_m6 135 rfl) rfl
theorem q1448 : (Jvm.Cond.lays "SendHall$Send" "SendHall$Send" "length" "I") ∈ lw_all := lw_g (lw_at lw_m6 136 rfl) rfl
theorem q1449 : (Jvm.Cond.soleField "SendHall$Send" "length") ∈ lw_all := lw_g (lw_at lw_m6 137 rfl) rfl
theorem q1450 : (Jvm.Cond.lays "SendHall$Send" "SendHall$Talk" "mark" "LSendHall$Expr;") ∈ lw_all := lw_g (lw_at lw_m6 138 rfl) rfl
theorem q1452 : (Jvm.Cond.laysFinal "SendHall$Send" "SendHall$Step" "kind" "I") ∈ lw_all := lw_g (lw_at lw_m6 140 rfl) rfl
theorem q1454 : (Jvm.Cond.laysFinal "SendHall$Send" "SendHall$Step" "number" "I") ∈ lw_all := lw_g (lw_at lw_m6 142 rfl) rfl
theorem q1456 : (Jvm.Cond.lays "SendHall$Send" "SendHall$Step" "next" "LSendHall$Step;") ∈ lw_all := lw_g (lw_at lw_m6 144 rfl) rfl
theorem q2460 : (Jvm.Cond.castable "SendHall$Send" "SendHall$Step") ∈ lw_tbl := lw_at lw_m10 188 rfl
theorem q2477 : (Jvm.Cond.castable "SendHall$Send" "java/lang/Object") ∈ lw_tbl := lw_at lw_m10 205 rfl
theorem in_X9 : ∀ w ∈ wsX90, w ∈ lw_all := lw_in wsX90 [1452, 1454, 1456, 1450, 1444, 1446, 1448] (by decide +kernel) (by decide +kernel)
/-! the law's own entry -/
set_option maxRecDepth 100000
abbrev cL_law : ByteArray := code
def dkwL_law_44 : List UInt8 := [167, 251, 210, 4, 172]
abbrev dktL_law_44 : List UInt8 := dkwL_law_44 ++ []
def dkwL_law_43 : List UInt8 := [172, 21, 5, 154, 0, 15, 45, 3, 47, 21, 6, 133, 148, 153, 0, 5, 3, 172, 167, 0, 3, 132, 4, 6]
abbrev dktL_law_43 : List UInt8 := dkwL_law_43 ++ dktL_law_44
def dkwL_law_42 : List UInt8 := [54, 5, 44, 42, 21, 4, 4, 96, 46, 182, 0, 134, 54, 6, 44, 182, 0, 68, 21, 5, 159, 0, 5, 3]
abbrev dktL_law_42 : List UInt8 := dkwL_law_42 ++ dktL_law_43
def dkwL_law_41 : List UInt8 := [21, 6, 133, 148, 153, 0, 5, 3, 172, 167, 0, 59, 43, 42, 21, 4, 4, 96, 46, 45, 184, 0, 132]
abbrev dktL_law_41 : List UInt8 := dkwL_law_41 ++ dktL_law_42
def dkwL_law_40 : List UInt8 := [182, 0, 131, 54, 6, 44, 182, 0, 68, 21, 5, 159, 0, 5, 3, 172, 21, 5, 154, 0, 15, 45, 3, 47]
abbrev dktL_law_40 : List UInt8 := dkwL_law_40 ++ dktL_law_41
def dkwL_law_39 : List UInt8 := [167, 0, 115, 43, 42, 21, 4, 4, 96, 46, 45, 184, 0, 129, 54, 5, 44, 42, 21, 4, 4, 96, 46]
abbrev dktL_law_39 : List UInt8 := dkwL_law_39 ++ dktL_law_40
def dkwL_law_38 : List UInt8 := [159, 0, 5, 3, 172, 21, 5, 154, 0, 15, 45, 3, 47, 21, 6, 133, 148, 153, 0, 5, 3, 172]
abbrev dktL_law_38 : List UInt8 := dkwL_law_38 ++ dktL_law_39
def dkwL_law_37 : List UInt8 := [184, 0, 126, 54, 5, 44, 42, 21, 4, 4, 96, 46, 182, 0, 128, 54, 6, 44, 182, 0, 68, 21, 5]
abbrev dktL_law_37 : List UInt8 := dkwL_law_37 ++ dktL_law_38
def dkwL_law_36 : List UInt8 := [3, 47, 21, 6, 133, 148, 153, 0, 5, 3, 172, 167, 0, 171, 43, 42, 21, 4, 4, 96, 46, 45]
abbrev dktL_law_36 : List UInt8 := dkwL_law_36 ++ dktL_law_37
def dkwL_law_35 : List UInt8 := [96, 46, 182, 0, 125, 54, 6, 44, 182, 0, 68, 21, 5, 159, 0, 5, 3, 172, 21, 5, 154, 0, 15, 45]
abbrev dktL_law_35 : List UInt8 := dkwL_law_35 ++ dktL_law_36
def dkwL_law_34 : List UInt8 := [46, 42, 21, 4, 5, 96, 46, 45, 184, 0, 123, 54, 5, 44, 42, 21, 4, 4, 96, 46, 42, 21, 4, 5]
abbrev dktL_law_34 : List UInt8 := dkwL_law_34 ++ dktL_law_35
def dkwL_law_33 : List UInt8 := [154, 0, 15, 45, 3, 47, 21, 6, 133, 148, 153, 0, 5, 3, 172, 167, 0, 239, 43, 42, 21, 4, 4, 96]
abbrev dktL_law_33 : List UInt8 := dkwL_law_33 ++ dktL_law_34
def dkwL_law_32 : List UInt8 := [20, 0, 117, 127, 129, 182, 0, 122, 54, 6, 44, 182, 0, 68, 21, 5, 159, 0, 5, 3, 172, 21, 5]
abbrev dktL_law_32 : List UInt8 := dkwL_law_32 ++ dktL_law_33
def dkwL_law_31 : List UInt8 := [44, 42, 21, 4, 4, 96, 46, 42, 21, 4, 5, 96, 46, 133, 16, 32, 121, 42, 21, 4, 6, 96, 46, 133]
abbrev dktL_law_31 : List UInt8 := dkwL_law_31 ++ dktL_law_32
def dkwL_law_30 : List UInt8 := [96, 46, 133, 16, 32, 121, 42, 21, 4, 6, 96, 46, 133, 20, 0, 117, 127, 129, 45, 184, 0, 119, 54, 5]
abbrev dktL_law_30 : List UInt8 := dkwL_law_30 ++ dktL_law_31
def dkwL_law_29 : List UInt8 := [167, 0, 4, 9, 148, 153, 0, 5, 3, 172, 167, 1, 83, 43, 42, 21, 4, 4, 96, 46, 42, 21, 4, 5]
abbrev dktL_law_29 : List UInt8 := dkwL_law_29 ++ dktL_law_30
def dkwL_law_28 : List UInt8 := [182, 0, 68, 21, 5, 159, 0, 5, 3, 172, 21, 5, 154, 0, 22, 45, 3, 47, 21, 6, 153, 0, 7, 10]
abbrev dktL_law_28 : List UInt8 := dkwL_law_28 ++ dktL_law_29
def dkwL_law_27 : List UInt8 := [21, 4, 4, 96, 46, 45, 184, 0, 114, 54, 5, 44, 42, 21, 4, 4, 96, 46, 182, 0, 116, 54, 6, 44]
abbrev dktL_law_27 : List UInt8 := dkwL_law_27 ++ dktL_law_28
def dkwL_law_26 : List UInt8 := [182, 0, 109, 159, 1, 161, 3, 172, 43, 182, 0, 110, 44, 182, 0, 113, 159, 1, 148, 3, 172, 43, 42]
abbrev dktL_law_26 : List UInt8 := dkwL_law_26 ++ dktL_law_27
def dkwL_law_25 : List UInt8 := [154, 0, 15, 45, 3, 47, 21, 6, 133, 148, 153, 0, 5, 3, 172, 167, 1, 172, 43, 182, 0, 106, 44]
abbrev dktL_law_25 : List UInt8 := dkwL_law_25 ++ dktL_law_26
def dkwL_law_24 : List UInt8 := [42, 21, 4, 5, 96, 46, 182, 0, 105, 54, 6, 44, 182, 0, 68, 21, 5, 159, 0, 5, 3, 172, 21, 5]
abbrev dktL_law_24 : List UInt8 := dkwL_law_24 ++ dktL_law_25
def dkwL_law_23 : List UInt8 := [21, 4, 4, 96, 46, 42, 21, 4, 5, 96, 46, 45, 184, 0, 103, 54, 5, 44, 42, 21, 4, 4, 96, 46]
abbrev dktL_law_23 : List UInt8 := dkwL_law_23 ++ dktL_law_24
def dkwL_law_22 : List UInt8 := [153, 0, 5, 3, 172, 167, 1, 253, 43, 182, 0, 98, 44, 182, 0, 102, 159, 1, 242, 3, 172, 43, 42]
abbrev dktL_law_22 : List UInt8 := dkwL_law_22 ++ dktL_law_23
def dkwL_law_21 : List UInt8 := [182, 0, 68, 21, 5, 159, 0, 5, 3, 172, 21, 5, 154, 0, 15, 45, 3, 47, 21, 6, 133, 148]
abbrev dktL_law_21 : List UInt8 := dkwL_law_21 ++ dktL_law_22
def dkwL_law_20 : List UInt8 := [184, 0, 94, 54, 5, 44, 42, 21, 4, 4, 96, 46, 42, 21, 4, 5, 96, 46, 182, 0, 97, 54, 6, 44]
abbrev dktL_law_20 : List UInt8 := dkwL_law_20 ++ dktL_law_21
def dkwL_law_19 : List UInt8 := [153, 0, 5, 3, 172, 167, 2, 65, 43, 42, 21, 4, 4, 96, 46, 42, 21, 4, 5, 96, 46, 45]
abbrev dktL_law_19 : List UInt8 := dkwL_law_19 ++ dktL_law_20
def dkwL_law_18 : List UInt8 := [182, 0, 68, 21, 5, 159, 0, 5, 3, 172, 21, 5, 154, 0, 15, 45, 3, 47, 21, 6, 133, 148]
abbrev dktL_law_18 : List UInt8 := dkwL_law_18 ++ dktL_law_19
def dkwL_law_17 : List UInt8 := [21, 4, 4, 96, 46, 45, 184, 0, 91, 54, 5, 44, 42, 21, 4, 4, 96, 46, 182, 0, 93, 54, 6, 44]
abbrev dktL_law_17 : List UInt8 := dkwL_law_17 ++ dktL_law_18
def dkwL_law_16 : List UInt8 := [153, 0, 5, 3, 172, 167, 2, 134, 43, 182, 0, 87, 44, 182, 0, 90, 159, 2, 123, 3, 172, 43, 42]
abbrev dktL_law_16 : List UInt8 := dkwL_law_16 ++ dktL_law_17
def dkwL_law_15 : List UInt8 := [182, 0, 68, 21, 5, 159, 0, 5, 3, 172, 21, 5, 154, 0, 15, 45, 3, 47, 21, 6, 133, 148]
abbrev dktL_law_15 : List UInt8 := dkwL_law_15 ++ dktL_law_16
def dkwL_law_14 : List UInt8 := [21, 4, 4, 96, 46, 45, 184, 0, 84, 54, 5, 44, 42, 21, 4, 4, 96, 46, 182, 0, 86, 54, 6, 44]
abbrev dktL_law_14 : List UInt8 := dkwL_law_14 ++ dktL_law_15
def dkwL_law_13 : List UInt8 := [172, 21, 5, 154, 0, 15, 45, 3, 47, 21, 6, 133, 148, 153, 0, 5, 3, 172, 167, 2, 190, 43, 42]
abbrev dktL_law_13 : List UInt8 := dkwL_law_13 ++ dktL_law_14
def dkwL_law_12 : List UInt8 := [54, 5, 44, 42, 21, 4, 4, 96, 46, 182, 0, 83, 54, 6, 44, 182, 0, 68, 21, 5, 159, 0, 5, 3]
abbrev dktL_law_12 : List UInt8 := dkwL_law_12 ++ dktL_law_13
def dkwL_law_11 : List UInt8 := [21, 4, 7, 96, 46, 182, 0, 80, 159, 2, 248, 3, 172, 43, 42, 21, 4, 4, 96, 46, 45, 184, 0, 81]
abbrev dktL_law_11 : List UInt8 := dkwL_law_11 ++ dktL_law_12
def dkwL_law_10 : List UInt8 := [182, 0, 76, 44, 42, 21, 4, 4, 96, 46, 42, 21, 4, 5, 96, 46, 42, 21, 4, 6, 96, 46, 42]
abbrev dktL_law_10 : List UInt8 := dkwL_law_10 ++ dktL_law_11
def dkwL_law_9 : List UInt8 := [21, 4, 4, 96, 46, 42, 21, 4, 5, 96, 46, 42, 21, 4, 6, 96, 46, 42, 21, 4, 7, 96, 46]
abbrev dktL_law_9 : List UInt8 := dkwL_law_9 ++ dktL_law_10
def dkwL_law_8 : List UInt8 := [148, 153, 0, 5, 3, 172, 167, 3, 64, 43, 182, 0, 72, 44, 182, 0, 75, 159, 3, 53, 3, 172, 43, 42]
abbrev dktL_law_8 : List UInt8 := dkwL_law_8 ++ dktL_law_9
def dkwL_law_7 : List UInt8 := [54, 6, 44, 182, 0, 68, 21, 5, 159, 0, 5, 3, 172, 21, 5, 154, 0, 15, 45, 3, 47, 21, 6, 133]
abbrev dktL_law_7 : List UInt8 := dkwL_law_7 ++ dktL_law_8
def dkwL_law_6 : List UInt8 := [172, 43, 42, 21, 4, 4, 96, 46, 45, 184, 0, 62, 54, 5, 44, 42, 21, 4, 4, 96, 46, 182, 0, 67]
abbrev dktL_law_6 : List UInt8 := dkwL_law_6 ++ dktL_law_7
def dkwL_law_5 : List UInt8 := [21, 4, 6, 96, 46, 42, 21, 4, 7, 96, 46, 42, 21, 4, 8, 96, 46, 182, 0, 61, 159, 3, 122, 3]
abbrev dktL_law_5 : List UInt8 := dkwL_law_5 ++ dktL_law_6
def dkwL_law_4 : List UInt8 := [46, 42, 21, 4, 8, 96, 46, 182, 0, 57, 44, 42, 21, 4, 4, 96, 46, 42, 21, 4, 5, 96, 46, 42]
abbrev dktL_law_4 : List UInt8 := dkwL_law_4 ++ dktL_law_5
def dkwL_law_3 : List UInt8 := [43, 42, 21, 4, 4, 96, 46, 42, 21, 4, 5, 96, 46, 42, 21, 4, 6, 96, 46, 42, 21, 4, 7, 96]
abbrev dktL_law_3 : List UInt8 := dkwL_law_3 ++ dktL_law_4
def dkwL_law_2 : List UInt8 := [170, 0, 0, 0, 0, 0, 4, 26, 0, 0, 0, 0, 0, 0, 0, 18, 0, 0, 0, 92, 0, 0, 0, 165, 0, 0, 0, 221, 0, 0, 0, 234, 0, 0, 1, 39, 0, 0, 1, 95, 0, 0, 1, 151, 0, 0, 1, 164, 0, 0, 1, 220, 0, 0, 2, 32, 0, 0, 2, 45, 0, 0, 2, 113, 0, 0, 2, 126, 0, 0, 2, 139, 0, 0, 2, 202, 0, 0, 3, 46, 0, 0, 3, 114, 0, 0, 3, 170, 0, 0, 3, 226]
abbrev dktL_law_2 : List UInt8 := dkwL_law_2 ++ dktL_law_3
def dkwL_law_1 : List UInt8 := [21, 4, 42, 190, 16, 6, 100, 163, 4, 42, 42, 21, 4, 46, 16, 31, 126]
abbrev dktL_law_1 : List UInt8 := dkwL_law_1 ++ dktL_law_2
def dkwL_law_0 : List UInt8 := [187, 0, 8, 89, 183, 0, 53, 76, 187, 0, 54, 89, 183, 0, 56, 77, 4, 188, 11, 78, 3, 54, 4]
abbrev dktL_law_0 : List UInt8 := dkwL_law_0 ++ dktL_law_1
theorem dksL_law_0 : cL_law.data.toList.drop 0 = dktL_law_0 := by decide +kernel
theorem dksL_law_1 : cL_law.data.toList.drop 23 = dktL_law_1 := dk_seg dksL_law_0 23 rfl rfl
theorem dksL_law_2 : cL_law.data.toList.drop 40 = dktL_law_2 := dk_seg dksL_law_1 17 rfl rfl
theorem dksL_law_3 : cL_law.data.toList.drop 132 = dktL_law_3 := dk_seg dksL_law_2 92 rfl rfl
theorem dksL_law_4 : cL_law.data.toList.drop 156 = dktL_law_4 := dk_seg dksL_law_3 24 rfl rfl
theorem dksL_law_5 : cL_law.data.toList.drop 180 = dktL_law_5 := dk_seg dksL_law_4 24 rfl rfl
theorem dksL_law_6 : cL_law.data.toList.drop 204 = dktL_law_6 := dk_seg dksL_law_5 24 rfl rfl
theorem dksL_law_7 : cL_law.data.toList.drop 228 = dktL_law_7 := dk_seg dksL_law_6 24 rfl rfl
theorem dksL_law_8 : cL_law.data.toList.drop 252 = dktL_law_8 := dk_seg dksL_law_7 24 rfl rfl
theorem dksL_law_9 : cL_law.data.toList.drop 276 = dktL_law_9 := dk_seg dksL_law_8 24 rfl rfl
theorem dksL_law_10 : cL_law.data.toList.drop 299 = dktL_law_10 := dk_seg dksL_law_9 23 rfl rfl
theorem dksL_law_11 : cL_law.data.toList.drop 322 = dktL_law_11 := dk_seg dksL_law_10 23 rfl rfl
theorem dksL_law_12 : cL_law.data.toList.drop 346 = dktL_law_12 := dk_seg dksL_law_11 24 rfl rfl
theorem dksL_law_13 : cL_law.data.toList.drop 370 = dktL_law_13 := dk_seg dksL_law_12 24 rfl rfl
theorem dksL_law_14 : cL_law.data.toList.drop 393 = dktL_law_14 := dk_seg dksL_law_13 23 rfl rfl
theorem dksL_law_15 : cL_law.data.toList.drop 417 = dktL_law_15 := dk_seg dksL_law_14 24 rfl rfl
theorem dksL_law_16 : cL_law.data.toList.drop 439 = dktL_law_16 := dk_seg dksL_law_15 22 rfl rfl
theorem dksL_law_17 : cL_law.data.toList.drop 462 = dktL_law_17 := dk_seg dksL_law_16 23 rfl rfl
theorem dksL_law_18 : cL_law.data.toList.drop 486 = dktL_law_18 := dk_seg dksL_law_17 24 rfl rfl
theorem dksL_law_19 : cL_law.data.toList.drop 508 = dktL_law_19 := dk_seg dksL_law_18 22 rfl rfl
theorem dksL_law_20 : cL_law.data.toList.drop 530 = dktL_law_20 := dk_seg dksL_law_19 22 rfl rfl
theorem dksL_law_21 : cL_law.data.toList.drop 554 = dktL_law_21 := dk_seg dksL_law_20 24 rfl rfl
theorem dksL_law_22 : cL_law.data.toList.drop 576 = dktL_law_22 := dk_seg dksL_law_21 22 rfl rfl
theorem dksL_law_23 : cL_law.data.toList.drop 599 = dktL_law_23 := dk_seg dksL_law_22 23 rfl rfl
theorem dksL_law_24 : cL_law.data.toList.drop 623 = dktL_law_24 := dk_seg dksL_law_23 24 rfl rfl
theorem dksL_law_25 : cL_law.data.toList.drop 647 = dktL_law_25 := dk_seg dksL_law_24 24 rfl rfl
theorem dksL_law_26 : cL_law.data.toList.drop 670 = dktL_law_26 := dk_seg dksL_law_25 23 rfl rfl
theorem dksL_law_27 : cL_law.data.toList.drop 693 = dktL_law_27 := dk_seg dksL_law_26 23 rfl rfl
theorem dksL_law_28 : cL_law.data.toList.drop 717 = dktL_law_28 := dk_seg dksL_law_27 24 rfl rfl
theorem dksL_law_29 : cL_law.data.toList.drop 741 = dktL_law_29 := dk_seg dksL_law_28 24 rfl rfl
theorem dksL_law_30 : cL_law.data.toList.drop 765 = dktL_law_30 := dk_seg dksL_law_29 24 rfl rfl
theorem dksL_law_31 : cL_law.data.toList.drop 789 = dktL_law_31 := dk_seg dksL_law_30 24 rfl rfl
theorem dksL_law_32 : cL_law.data.toList.drop 813 = dktL_law_32 := dk_seg dksL_law_31 24 rfl rfl
theorem dksL_law_33 : cL_law.data.toList.drop 836 = dktL_law_33 := dk_seg dksL_law_32 23 rfl rfl
theorem dksL_law_34 : cL_law.data.toList.drop 860 = dktL_law_34 := dk_seg dksL_law_33 24 rfl rfl
theorem dksL_law_35 : cL_law.data.toList.drop 884 = dktL_law_35 := dk_seg dksL_law_34 24 rfl rfl
theorem dksL_law_36 : cL_law.data.toList.drop 908 = dktL_law_36 := dk_seg dksL_law_35 24 rfl rfl
theorem dksL_law_37 : cL_law.data.toList.drop 930 = dktL_law_37 := dk_seg dksL_law_36 22 rfl rfl
theorem dksL_law_38 : cL_law.data.toList.drop 953 = dktL_law_38 := dk_seg dksL_law_37 23 rfl rfl
theorem dksL_law_39 : cL_law.data.toList.drop 975 = dktL_law_39 := dk_seg dksL_law_38 22 rfl rfl
theorem dksL_law_40 : cL_law.data.toList.drop 998 = dktL_law_40 := dk_seg dksL_law_39 23 rfl rfl
theorem dksL_law_41 : cL_law.data.toList.drop 1022 = dktL_law_41 := dk_seg dksL_law_40 24 rfl rfl
theorem dksL_law_42 : cL_law.data.toList.drop 1045 = dktL_law_42 := dk_seg dksL_law_41 23 rfl rfl
theorem dksL_law_43 : cL_law.data.toList.drop 1069 = dktL_law_43 := dk_seg dksL_law_42 24 rfl rfl
theorem dksL_law_44 : cL_law.data.toList.drop 1093 = dktL_law_44 := dk_seg dksL_law_43 24 rfl rfl
theorem dL_law_0 : decode cL_law 0 = .ok (.new 8, 3) := dk_187 0 8 (dk_at dksL_law_0 0 rfl rfl)
theorem dL_law_3 : decode cL_law 3 = .ok (.dup, 1) := dk_89 (dk_at dksL_law_0 3 rfl rfl)
theorem dL_law_4 : decode cL_law 4 = .ok (.invokespecial 53, 3) := dk_183 0 53 (dk_at dksL_law_0 4 rfl rfl)
theorem dL_law_7 : decode cL_law 7 = .ok (.astore_n 1, 1) := dk_76 (dk_at dksL_law_0 7 rfl rfl)
theorem dL_law_8 : decode cL_law 8 = .ok (.new 54, 3) := dk_187 0 54 (dk_at dksL_law_0 8 rfl rfl)
theorem dL_law_11 : decode cL_law 11 = .ok (.dup, 1) := dk_89 (dk_at dksL_law_0 11 rfl rfl)
theorem dL_law_12 : decode cL_law 12 = .ok (.invokespecial 56, 3) := dk_183 0 56 (dk_at dksL_law_0 12 rfl rfl)
theorem dL_law_15 : decode cL_law 15 = .ok (.astore_n 2, 1) := dk_77 (dk_at dksL_law_0 15 rfl rfl)
theorem dL_law_16 : decode cL_law 16 = .ok (.iconst 1, 1) := dk_4 (dk_at dksL_law_0 16 rfl rfl)
theorem dL_law_17 : decode cL_law 17 = .ok (.newarray .long, 2) := dk_188_11 (dk_at dksL_law_0 17 rfl rfl)
theorem dL_law_19 : decode cL_law 19 = .ok (.astore_n 3, 1) := dk_78 (dk_at dksL_law_0 19 rfl rfl)
theorem dL_law_20 : decode cL_law 20 = .ok (.iconst 0, 1) := dk_3 (dk_at dksL_law_0 20 rfl rfl)
theorem dL_law_21 : decode cL_law 21 = .ok (.istore 4, 2) := dk_54 4 (dk_at dksL_law_0 21 rfl rfl)
theorem dL_law_23 : decode cL_law 23 = .ok (.iload 4, 2) := dk_21 4 (dk_at dksL_law_1 0 rfl rfl)
theorem dL_law_25 : decode cL_law 25 = .ok (.aload_n 0, 1) := dk_42 (dk_at dksL_law_1 2 rfl rfl)
theorem dL_law_26 : decode cL_law 26 = .ok (.arraylength, 1) := dk_190 (dk_at dksL_law_1 3 rfl rfl)
theorem dL_law_27 : decode cL_law 27 = .ok (.bipush 6, 2) := dk_16 6 (dk_at dksL_law_1 4 rfl rfl)
theorem dL_law_29 : decode cL_law 29 = .ok (.isub, 1) := dk_100 (dk_at dksL_law_1 6 rfl rfl)
theorem dL_law_30 : decode cL_law 30 = .ok (.if_icmp .gt 1066, 3) := dk_163 4 42 (dk_at dksL_law_1 7 rfl rfl)
theorem dL_law_33 : decode cL_law 33 = .ok (.aload_n 0, 1) := dk_42 (dk_at dksL_law_1 10 rfl rfl)
theorem dL_law_34 : decode cL_law 34 = .ok (.iload 4, 2) := dk_21 4 (dk_at dksL_law_1 11 rfl rfl)
theorem dL_law_36 : decode cL_law 36 = .ok (.iaload, 1) := dk_46 (dk_at dksL_law_1 13 rfl rfl)
theorem dL_law_37 : decode cL_law 37 = .ok (.bipush 31, 2) := dk_16 31 (dk_at dksL_law_1 14 rfl rfl)
theorem dL_law_39 : decode cL_law 39 = .ok (.iand, 1) := dk_126 (dk_at dksL_law_1 16 rfl rfl)
theorem dL_law_40 : decode cL_law 40 = .ok (.tableswitch 1050 0 18 #[92, 165, 221, 234, 295, 351, 407, 420, 476, 544, 557, 625, 638, 651, 714, 814, 882, 938, 994], 92) := by decide +kernel
theorem dL_law_132 : decode cL_law 132 = .ok (.aload_n 1, 1) := dk_43 (dk_at dksL_law_3 0 rfl rfl)
theorem dL_law_133 : decode cL_law 133 = .ok (.aload_n 0, 1) := dk_42 (dk_at dksL_law_3 1 rfl rfl)
theorem dL_law_134 : decode cL_law 134 = .ok (.iload 4, 2) := dk_21 4 (dk_at dksL_law_3 2 rfl rfl)
theorem dL_law_136 : decode cL_law 136 = .ok (.iconst 1, 1) := dk_4 (dk_at dksL_law_3 4 rfl rfl)
theorem dL_law_137 : decode cL_law 137 = .ok (.iadd, 1) := dk_96 (dk_at dksL_law_3 5 rfl rfl)
theorem dL_law_138 : decode cL_law 138 = .ok (.iaload, 1) := dk_46 (dk_at dksL_law_3 6 rfl rfl)
theorem dL_law_139 : decode cL_law 139 = .ok (.aload_n 0, 1) := dk_42 (dk_at dksL_law_3 7 rfl rfl)
theorem dL_law_140 : decode cL_law 140 = .ok (.iload 4, 2) := dk_21 4 (dk_at dksL_law_3 8 rfl rfl)
theorem dL_law_142 : decode cL_law 142 = .ok (.iconst 2, 1) := dk_5 (dk_at dksL_law_3 10 rfl rfl)
theorem dL_law_143 : decode cL_law 143 = .ok (.iadd, 1) := dk_96 (dk_at dksL_law_3 11 rfl rfl)
theorem dL_law_144 : decode cL_law 144 = .ok (.iaload, 1) := dk_46 (dk_at dksL_law_3 12 rfl rfl)
theorem dL_law_145 : decode cL_law 145 = .ok (.aload_n 0, 1) := dk_42 (dk_at dksL_law_3 13 rfl rfl)
theorem dL_law_146 : decode cL_law 146 = .ok (.iload 4, 2) := dk_21 4 (dk_at dksL_law_3 14 rfl rfl)
theorem dL_law_148 : decode cL_law 148 = .ok (.iconst 3, 1) := dk_6 (dk_at dksL_law_3 16 rfl rfl)
theorem dL_law_149 : decode cL_law 149 = .ok (.iadd, 1) := dk_96 (dk_at dksL_law_3 17 rfl rfl)
theorem dL_law_150 : decode cL_law 150 = .ok (.iaload, 1) := dk_46 (dk_at dksL_law_3 18 rfl rfl)
theorem dL_law_151 : decode cL_law 151 = .ok (.aload_n 0, 1) := dk_42 (dk_at dksL_law_3 19 rfl rfl)
theorem dL_law_152 : decode cL_law 152 = .ok (.iload 4, 2) := dk_21 4 (dk_at dksL_law_3 20 rfl rfl)
theorem dL_law_154 : decode cL_law 154 = .ok (.iconst 4, 1) := dk_7 (dk_at dksL_law_3 22 rfl rfl)
theorem dL_law_155 : decode cL_law 155 = .ok (.iadd, 1) := dk_96 (dk_at dksL_law_3 23 rfl rfl)
theorem dL_law_156 : decode cL_law 156 = .ok (.iaload, 1) := dk_46 (dk_at dksL_law_4 0 rfl rfl)
theorem dL_law_157 : decode cL_law 157 = .ok (.aload_n 0, 1) := dk_42 (dk_at dksL_law_4 1 rfl rfl)
theorem dL_law_158 : decode cL_law 158 = .ok (.iload 4, 2) := dk_21 4 (dk_at dksL_law_4 2 rfl rfl)
theorem dL_law_160 : decode cL_law 160 = .ok (.iconst 5, 1) := dk_8 (dk_at dksL_law_4 4 rfl rfl)
theorem dL_law_161 : decode cL_law 161 = .ok (.iadd, 1) := dk_96 (dk_at dksL_law_4 5 rfl rfl)
theorem dL_law_162 : decode cL_law 162 = .ok (.iaload, 1) := dk_46 (dk_at dksL_law_4 6 rfl rfl)
theorem dL_law_163 : decode cL_law 163 = .ok (.invokevirtual 57, 3) := dk_182 0 57 (dk_at dksL_law_4 7 rfl rfl)
theorem dL_law_166 : decode cL_law 166 = .ok (.aload_n 2, 1) := dk_44 (dk_at dksL_law_4 10 rfl rfl)
theorem dL_law_167 : decode cL_law 167 = .ok (.aload_n 0, 1) := dk_42 (dk_at dksL_law_4 11 rfl rfl)
theorem dL_law_168 : decode cL_law 168 = .ok (.iload 4, 2) := dk_21 4 (dk_at dksL_law_4 12 rfl rfl)
theorem dL_law_170 : decode cL_law 170 = .ok (.iconst 1, 1) := dk_4 (dk_at dksL_law_4 14 rfl rfl)
theorem dL_law_171 : decode cL_law 171 = .ok (.iadd, 1) := dk_96 (dk_at dksL_law_4 15 rfl rfl)
theorem dL_law_172 : decode cL_law 172 = .ok (.iaload, 1) := dk_46 (dk_at dksL_law_4 16 rfl rfl)
theorem dL_law_173 : decode cL_law 173 = .ok (.aload_n 0, 1) := dk_42 (dk_at dksL_law_4 17 rfl rfl)
theorem dL_law_174 : decode cL_law 174 = .ok (.iload 4, 2) := dk_21 4 (dk_at dksL_law_4 18 rfl rfl)
theorem dL_law_176 : decode cL_law 176 = .ok (.iconst 2, 1) := dk_5 (dk_at dksL_law_4 20 rfl rfl)
theorem dL_law_177 : decode cL_law 177 = .ok (.iadd, 1) := dk_96 (dk_at dksL_law_4 21 rfl rfl)
theorem dL_law_178 : decode cL_law 178 = .ok (.iaload, 1) := dk_46 (dk_at dksL_law_4 22 rfl rfl)
theorem dL_law_179 : decode cL_law 179 = .ok (.aload_n 0, 1) := dk_42 (dk_at dksL_law_4 23 rfl rfl)
theorem dL_law_180 : decode cL_law 180 = .ok (.iload 4, 2) := dk_21 4 (dk_at dksL_law_5 0 rfl rfl)
theorem dL_law_182 : decode cL_law 182 = .ok (.iconst 3, 1) := dk_6 (dk_at dksL_law_5 2 rfl rfl)
theorem dL_law_183 : decode cL_law 183 = .ok (.iadd, 1) := dk_96 (dk_at dksL_law_5 3 rfl rfl)
theorem dL_law_184 : decode cL_law 184 = .ok (.iaload, 1) := dk_46 (dk_at dksL_law_5 4 rfl rfl)
theorem dL_law_185 : decode cL_law 185 = .ok (.aload_n 0, 1) := dk_42 (dk_at dksL_law_5 5 rfl rfl)
theorem dL_law_186 : decode cL_law 186 = .ok (.iload 4, 2) := dk_21 4 (dk_at dksL_law_5 6 rfl rfl)
theorem dL_law_188 : decode cL_law 188 = .ok (.iconst 4, 1) := dk_7 (dk_at dksL_law_5 8 rfl rfl)
theorem dL_law_189 : decode cL_law 189 = .ok (.iadd, 1) := dk_96 (dk_at dksL_law_5 9 rfl rfl)
theorem dL_law_190 : decode cL_law 190 = .ok (.iaload, 1) := dk_46 (dk_at dksL_law_5 10 rfl rfl)
theorem dL_law_191 : decode cL_law 191 = .ok (.aload_n 0, 1) := dk_42 (dk_at dksL_law_5 11 rfl rfl)
theorem dL_law_192 : decode cL_law 192 = .ok (.iload 4, 2) := dk_21 4 (dk_at dksL_law_5 12 rfl rfl)
theorem dL_law_194 : decode cL_law 194 = .ok (.iconst 5, 1) := dk_8 (dk_at dksL_law_5 14 rfl rfl)
theorem dL_law_195 : decode cL_law 195 = .ok (.iadd, 1) := dk_96 (dk_at dksL_law_5 15 rfl rfl)
theorem dL_law_196 : decode cL_law 196 = .ok (.iaload, 1) := dk_46 (dk_at dksL_law_5 16 rfl rfl)
theorem dL_law_197 : decode cL_law 197 = .ok (.invokevirtual 61, 3) := dk_182 0 61 (dk_at dksL_law_5 17 rfl rfl)
theorem dL_law_200 : decode cL_law 200 = .ok (.if_icmp .eq 890, 3) := dk_159 3 122 (dk_at dksL_law_5 20 rfl rfl)
theorem dL_law_203 : decode cL_law 203 = .ok (.iconst 0, 1) := dk_3 (dk_at dksL_law_5 23 rfl rfl)
theorem dL_law_204 : decode cL_law 204 = .ok (.ireturn, 1) := dk_172 (dk_at dksL_law_6 0 rfl rfl)
theorem dL_law_205 : decode cL_law 205 = .ok (.aload_n 1, 1) := dk_43 (dk_at dksL_law_6 1 rfl rfl)
theorem dL_law_206 : decode cL_law 206 = .ok (.aload_n 0, 1) := dk_42 (dk_at dksL_law_6 2 rfl rfl)
theorem dL_law_207 : decode cL_law 207 = .ok (.iload 4, 2) := dk_21 4 (dk_at dksL_law_6 3 rfl rfl)
theorem dL_law_209 : decode cL_law 209 = .ok (.iconst 1, 1) := dk_4 (dk_at dksL_law_6 5 rfl rfl)
theorem dL_law_210 : decode cL_law 210 = .ok (.iadd, 1) := dk_96 (dk_at dksL_law_6 6 rfl rfl)
theorem dL_law_211 : decode cL_law 211 = .ok (.iaload, 1) := dk_46 (dk_at dksL_law_6 7 rfl rfl)
theorem dL_law_212 : decode cL_law 212 = .ok (.aload_n 3, 1) := dk_45 (dk_at dksL_law_6 8 rfl rfl)
theorem dL_law_213 : decode cL_law 213 = .ok (.invokestatic 62, 3) := dk_184 0 62 (dk_at dksL_law_6 9 rfl rfl)
theorem dL_law_216 : decode cL_law 216 = .ok (.istore 5, 2) := dk_54 5 (dk_at dksL_law_6 12 rfl rfl)
theorem dL_law_218 : decode cL_law 218 = .ok (.aload_n 2, 1) := dk_44 (dk_at dksL_law_6 14 rfl rfl)
theorem dL_law_219 : decode cL_law 219 = .ok (.aload_n 0, 1) := dk_42 (dk_at dksL_law_6 15 rfl rfl)
theorem dL_law_220 : decode cL_law 220 = .ok (.iload 4, 2) := dk_21 4 (dk_at dksL_law_6 16 rfl rfl)
theorem dL_law_222 : decode cL_law 222 = .ok (.iconst 1, 1) := dk_4 (dk_at dksL_law_6 18 rfl rfl)
theorem dL_law_223 : decode cL_law 223 = .ok (.iadd, 1) := dk_96 (dk_at dksL_law_6 19 rfl rfl)
theorem dL_law_224 : decode cL_law 224 = .ok (.iaload, 1) := dk_46 (dk_at dksL_law_6 20 rfl rfl)
theorem dL_law_225 : decode cL_law 225 = .ok (.invokevirtual 67, 3) := dk_182 0 67 (dk_at dksL_law_6 21 rfl rfl)
theorem dL_law_228 : decode cL_law 228 = .ok (.istore 6, 2) := dk_54 6 (dk_at dksL_law_7 0 rfl rfl)
theorem dL_law_230 : decode cL_law 230 = .ok (.aload_n 2, 1) := dk_44 (dk_at dksL_law_7 2 rfl rfl)
theorem dL_law_231 : decode cL_law 231 = .ok (.invokevirtual 68, 3) := dk_182 0 68 (dk_at dksL_law_7 3 rfl rfl)
theorem dL_law_234 : decode cL_law 234 = .ok (.iload 5, 2) := dk_21 5 (dk_at dksL_law_7 6 rfl rfl)
theorem dL_law_236 : decode cL_law 236 = .ok (.if_icmp .eq 5, 3) := dk_159 0 5 (dk_at dksL_law_7 8 rfl rfl)
theorem dL_law_239 : decode cL_law 239 = .ok (.iconst 0, 1) := dk_3 (dk_at dksL_law_7 11 rfl rfl)
theorem dL_law_240 : decode cL_law 240 = .ok (.ireturn, 1) := dk_172 (dk_at dksL_law_7 12 rfl rfl)
theorem dL_law_241 : decode cL_law 241 = .ok (.iload 5, 2) := dk_21 5 (dk_at dksL_law_7 13 rfl rfl)
theorem dL_law_243 : decode cL_law 243 = .ok (.ifCond .ne 15, 3) := dk_154 0 15 (dk_at dksL_law_7 15 rfl rfl)
theorem dL_law_246 : decode cL_law 246 = .ok (.aload_n 3, 1) := dk_45 (dk_at dksL_law_7 18 rfl rfl)
theorem dL_law_247 : decode cL_law 247 = .ok (.iconst 0, 1) := dk_3 (dk_at dksL_law_7 19 rfl rfl)
theorem dL_law_248 : decode cL_law 248 = .ok (.laload, 1) := dk_47 (dk_at dksL_law_7 20 rfl rfl)
theorem dL_law_249 : decode cL_law 249 = .ok (.iload 6, 2) := dk_21 6 (dk_at dksL_law_7 21 rfl rfl)
theorem dL_law_251 : decode cL_law 251 = .ok (.i2l, 1) := dk_133 (dk_at dksL_law_7 23 rfl rfl)
theorem dL_law_252 : decode cL_law 252 = .ok (.lcmp, 1) := dk_148 (dk_at dksL_law_8 0 rfl rfl)
theorem dL_law_253 : decode cL_law 253 = .ok (.ifCond .eq 5, 3) := dk_153 0 5 (dk_at dksL_law_8 1 rfl rfl)
theorem dL_law_256 : decode cL_law 256 = .ok (.iconst 0, 1) := dk_3 (dk_at dksL_law_8 4 rfl rfl)
theorem dL_law_257 : decode cL_law 257 = .ok (.ireturn, 1) := dk_172 (dk_at dksL_law_8 5 rfl rfl)
theorem dL_law_258 : decode cL_law 258 = .ok (.goto 832, 3) := dk_167 3 64 (dk_at dksL_law_8 6 rfl rfl)
theorem dL_law_261 : decode cL_law 261 = .ok (.aload_n 1, 1) := dk_43 (dk_at dksL_law_8 9 rfl rfl)
theorem dL_law_262 : decode cL_law 262 = .ok (.invokevirtual 72, 3) := dk_182 0 72 (dk_at dksL_law_8 10 rfl rfl)
theorem dL_law_265 : decode cL_law 265 = .ok (.aload_n 2, 1) := dk_44 (dk_at dksL_law_8 13 rfl rfl)
theorem dL_law_266 : decode cL_law 266 = .ok (.invokevirtual 75, 3) := dk_182 0 75 (dk_at dksL_law_8 14 rfl rfl)
theorem dL_law_269 : decode cL_law 269 = .ok (.if_icmp .eq 821, 3) := dk_159 3 53 (dk_at dksL_law_8 17 rfl rfl)
theorem dL_law_272 : decode cL_law 272 = .ok (.iconst 0, 1) := dk_3 (dk_at dksL_law_8 20 rfl rfl)
theorem dL_law_273 : decode cL_law 273 = .ok (.ireturn, 1) := dk_172 (dk_at dksL_law_8 21 rfl rfl)
theorem dL_law_274 : decode cL_law 274 = .ok (.aload_n 1, 1) := dk_43 (dk_at dksL_law_8 22 rfl rfl)
theorem dL_law_275 : decode cL_law 275 = .ok (.aload_n 0, 1) := dk_42 (dk_at dksL_law_8 23 rfl rfl)
theorem dL_law_276 : decode cL_law 276 = .ok (.iload 4, 2) := dk_21 4 (dk_at dksL_law_9 0 rfl rfl)
theorem dL_law_278 : decode cL_law 278 = .ok (.iconst 1, 1) := dk_4 (dk_at dksL_law_9 2 rfl rfl)
theorem dL_law_279 : decode cL_law 279 = .ok (.iadd, 1) := dk_96 (dk_at dksL_law_9 3 rfl rfl)
theorem dL_law_280 : decode cL_law 280 = .ok (.iaload, 1) := dk_46 (dk_at dksL_law_9 4 rfl rfl)
theorem dL_law_281 : decode cL_law 281 = .ok (.aload_n 0, 1) := dk_42 (dk_at dksL_law_9 5 rfl rfl)
theorem dL_law_282 : decode cL_law 282 = .ok (.iload 4, 2) := dk_21 4 (dk_at dksL_law_9 6 rfl rfl)
theorem dL_law_284 : decode cL_law 284 = .ok (.iconst 2, 1) := dk_5 (dk_at dksL_law_9 8 rfl rfl)
theorem dL_law_285 : decode cL_law 285 = .ok (.iadd, 1) := dk_96 (dk_at dksL_law_9 9 rfl rfl)
theorem dL_law_286 : decode cL_law 286 = .ok (.iaload, 1) := dk_46 (dk_at dksL_law_9 10 rfl rfl)
theorem dL_law_287 : decode cL_law 287 = .ok (.aload_n 0, 1) := dk_42 (dk_at dksL_law_9 11 rfl rfl)
theorem dL_law_288 : decode cL_law 288 = .ok (.iload 4, 2) := dk_21 4 (dk_at dksL_law_9 12 rfl rfl)
theorem dL_law_290 : decode cL_law 290 = .ok (.iconst 3, 1) := dk_6 (dk_at dksL_law_9 14 rfl rfl)
theorem dL_law_291 : decode cL_law 291 = .ok (.iadd, 1) := dk_96 (dk_at dksL_law_9 15 rfl rfl)
theorem dL_law_292 : decode cL_law 292 = .ok (.iaload, 1) := dk_46 (dk_at dksL_law_9 16 rfl rfl)
theorem dL_law_293 : decode cL_law 293 = .ok (.aload_n 0, 1) := dk_42 (dk_at dksL_law_9 17 rfl rfl)
theorem dL_law_294 : decode cL_law 294 = .ok (.iload 4, 2) := dk_21 4 (dk_at dksL_law_9 18 rfl rfl)
theorem dL_law_296 : decode cL_law 296 = .ok (.iconst 4, 1) := dk_7 (dk_at dksL_law_9 20 rfl rfl)
theorem dL_law_297 : decode cL_law 297 = .ok (.iadd, 1) := dk_96 (dk_at dksL_law_9 21 rfl rfl)
theorem dL_law_298 : decode cL_law 298 = .ok (.iaload, 1) := dk_46 (dk_at dksL_law_9 22 rfl rfl)
theorem dL_law_299 : decode cL_law 299 = .ok (.invokevirtual 76, 3) := dk_182 0 76 (dk_at dksL_law_10 0 rfl rfl)
theorem dL_law_302 : decode cL_law 302 = .ok (.aload_n 2, 1) := dk_44 (dk_at dksL_law_10 3 rfl rfl)
theorem dL_law_303 : decode cL_law 303 = .ok (.aload_n 0, 1) := dk_42 (dk_at dksL_law_10 4 rfl rfl)
theorem dL_law_304 : decode cL_law 304 = .ok (.iload 4, 2) := dk_21 4 (dk_at dksL_law_10 5 rfl rfl)
theorem dL_law_306 : decode cL_law 306 = .ok (.iconst 1, 1) := dk_4 (dk_at dksL_law_10 7 rfl rfl)
theorem dL_law_307 : decode cL_law 307 = .ok (.iadd, 1) := dk_96 (dk_at dksL_law_10 8 rfl rfl)
theorem dL_law_308 : decode cL_law 308 = .ok (.iaload, 1) := dk_46 (dk_at dksL_law_10 9 rfl rfl)
theorem dL_law_309 : decode cL_law 309 = .ok (.aload_n 0, 1) := dk_42 (dk_at dksL_law_10 10 rfl rfl)
theorem dL_law_310 : decode cL_law 310 = .ok (.iload 4, 2) := dk_21 4 (dk_at dksL_law_10 11 rfl rfl)
theorem dL_law_312 : decode cL_law 312 = .ok (.iconst 2, 1) := dk_5 (dk_at dksL_law_10 13 rfl rfl)
theorem dL_law_313 : decode cL_law 313 = .ok (.iadd, 1) := dk_96 (dk_at dksL_law_10 14 rfl rfl)
theorem dL_law_314 : decode cL_law 314 = .ok (.iaload, 1) := dk_46 (dk_at dksL_law_10 15 rfl rfl)
theorem dL_law_315 : decode cL_law 315 = .ok (.aload_n 0, 1) := dk_42 (dk_at dksL_law_10 16 rfl rfl)
theorem dL_law_316 : decode cL_law 316 = .ok (.iload 4, 2) := dk_21 4 (dk_at dksL_law_10 17 rfl rfl)
theorem dL_law_318 : decode cL_law 318 = .ok (.iconst 3, 1) := dk_6 (dk_at dksL_law_10 19 rfl rfl)
theorem dL_law_319 : decode cL_law 319 = .ok (.iadd, 1) := dk_96 (dk_at dksL_law_10 20 rfl rfl)
theorem dL_law_320 : decode cL_law 320 = .ok (.iaload, 1) := dk_46 (dk_at dksL_law_10 21 rfl rfl)
theorem dL_law_321 : decode cL_law 321 = .ok (.aload_n 0, 1) := dk_42 (dk_at dksL_law_10 22 rfl rfl)
theorem dL_law_322 : decode cL_law 322 = .ok (.iload 4, 2) := dk_21 4 (dk_at dksL_law_11 0 rfl rfl)
theorem dL_law_324 : decode cL_law 324 = .ok (.iconst 4, 1) := dk_7 (dk_at dksL_law_11 2 rfl rfl)
theorem dL_law_325 : decode cL_law 325 = .ok (.iadd, 1) := dk_96 (dk_at dksL_law_11 3 rfl rfl)
theorem dL_law_326 : decode cL_law 326 = .ok (.iaload, 1) := dk_46 (dk_at dksL_law_11 4 rfl rfl)
theorem dL_law_327 : decode cL_law 327 = .ok (.invokevirtual 80, 3) := dk_182 0 80 (dk_at dksL_law_11 5 rfl rfl)
theorem dL_law_330 : decode cL_law 330 = .ok (.if_icmp .eq 760, 3) := dk_159 2 248 (dk_at dksL_law_11 8 rfl rfl)
theorem dL_law_333 : decode cL_law 333 = .ok (.iconst 0, 1) := dk_3 (dk_at dksL_law_11 11 rfl rfl)
theorem dL_law_334 : decode cL_law 334 = .ok (.ireturn, 1) := dk_172 (dk_at dksL_law_11 12 rfl rfl)
theorem dL_law_335 : decode cL_law 335 = .ok (.aload_n 1, 1) := dk_43 (dk_at dksL_law_11 13 rfl rfl)
theorem dL_law_336 : decode cL_law 336 = .ok (.aload_n 0, 1) := dk_42 (dk_at dksL_law_11 14 rfl rfl)
theorem dL_law_337 : decode cL_law 337 = .ok (.iload 4, 2) := dk_21 4 (dk_at dksL_law_11 15 rfl rfl)
theorem dL_law_339 : decode cL_law 339 = .ok (.iconst 1, 1) := dk_4 (dk_at dksL_law_11 17 rfl rfl)
theorem dL_law_340 : decode cL_law 340 = .ok (.iadd, 1) := dk_96 (dk_at dksL_law_11 18 rfl rfl)
theorem dL_law_341 : decode cL_law 341 = .ok (.iaload, 1) := dk_46 (dk_at dksL_law_11 19 rfl rfl)
theorem dL_law_342 : decode cL_law 342 = .ok (.aload_n 3, 1) := dk_45 (dk_at dksL_law_11 20 rfl rfl)
theorem dL_law_343 : decode cL_law 343 = .ok (.invokestatic 81, 3) := dk_184 0 81 (dk_at dksL_law_11 21 rfl rfl)
theorem dL_law_346 : decode cL_law 346 = .ok (.istore 5, 2) := dk_54 5 (dk_at dksL_law_12 0 rfl rfl)
theorem dL_law_348 : decode cL_law 348 = .ok (.aload_n 2, 1) := dk_44 (dk_at dksL_law_12 2 rfl rfl)
theorem dL_law_349 : decode cL_law 349 = .ok (.aload_n 0, 1) := dk_42 (dk_at dksL_law_12 3 rfl rfl)
theorem dL_law_350 : decode cL_law 350 = .ok (.iload 4, 2) := dk_21 4 (dk_at dksL_law_12 4 rfl rfl)
theorem dL_law_352 : decode cL_law 352 = .ok (.iconst 1, 1) := dk_4 (dk_at dksL_law_12 6 rfl rfl)
theorem dL_law_353 : decode cL_law 353 = .ok (.iadd, 1) := dk_96 (dk_at dksL_law_12 7 rfl rfl)
theorem dL_law_354 : decode cL_law 354 = .ok (.iaload, 1) := dk_46 (dk_at dksL_law_12 8 rfl rfl)
theorem dL_law_355 : decode cL_law 355 = .ok (.invokevirtual 83, 3) := dk_182 0 83 (dk_at dksL_law_12 9 rfl rfl)
theorem dL_law_358 : decode cL_law 358 = .ok (.istore 6, 2) := dk_54 6 (dk_at dksL_law_12 12 rfl rfl)
theorem dL_law_360 : decode cL_law 360 = .ok (.aload_n 2, 1) := dk_44 (dk_at dksL_law_12 14 rfl rfl)
theorem dL_law_361 : decode cL_law 361 = .ok (.invokevirtual 68, 3) := dk_182 0 68 (dk_at dksL_law_12 15 rfl rfl)
theorem dL_law_364 : decode cL_law 364 = .ok (.iload 5, 2) := dk_21 5 (dk_at dksL_law_12 18 rfl rfl)
theorem dL_law_366 : decode cL_law 366 = .ok (.if_icmp .eq 5, 3) := dk_159 0 5 (dk_at dksL_law_12 20 rfl rfl)
theorem dL_law_369 : decode cL_law 369 = .ok (.iconst 0, 1) := dk_3 (dk_at dksL_law_12 23 rfl rfl)
theorem dL_law_370 : decode cL_law 370 = .ok (.ireturn, 1) := dk_172 (dk_at dksL_law_13 0 rfl rfl)
theorem dL_law_371 : decode cL_law 371 = .ok (.iload 5, 2) := dk_21 5 (dk_at dksL_law_13 1 rfl rfl)
theorem dL_law_373 : decode cL_law 373 = .ok (.ifCond .ne 15, 3) := dk_154 0 15 (dk_at dksL_law_13 3 rfl rfl)
theorem dL_law_376 : decode cL_law 376 = .ok (.aload_n 3, 1) := dk_45 (dk_at dksL_law_13 6 rfl rfl)
theorem dL_law_377 : decode cL_law 377 = .ok (.iconst 0, 1) := dk_3 (dk_at dksL_law_13 7 rfl rfl)
theorem dL_law_378 : decode cL_law 378 = .ok (.laload, 1) := dk_47 (dk_at dksL_law_13 8 rfl rfl)
theorem dL_law_379 : decode cL_law 379 = .ok (.iload 6, 2) := dk_21 6 (dk_at dksL_law_13 9 rfl rfl)
theorem dL_law_381 : decode cL_law 381 = .ok (.i2l, 1) := dk_133 (dk_at dksL_law_13 11 rfl rfl)
theorem dL_law_382 : decode cL_law 382 = .ok (.lcmp, 1) := dk_148 (dk_at dksL_law_13 12 rfl rfl)
theorem dL_law_383 : decode cL_law 383 = .ok (.ifCond .eq 5, 3) := dk_153 0 5 (dk_at dksL_law_13 13 rfl rfl)
theorem dL_law_386 : decode cL_law 386 = .ok (.iconst 0, 1) := dk_3 (dk_at dksL_law_13 16 rfl rfl)
theorem dL_law_387 : decode cL_law 387 = .ok (.ireturn, 1) := dk_172 (dk_at dksL_law_13 17 rfl rfl)
theorem dL_law_388 : decode cL_law 388 = .ok (.goto 702, 3) := dk_167 2 190 (dk_at dksL_law_13 18 rfl rfl)
theorem dL_law_391 : decode cL_law 391 = .ok (.aload_n 1, 1) := dk_43 (dk_at dksL_law_13 21 rfl rfl)
theorem dL_law_392 : decode cL_law 392 = .ok (.aload_n 0, 1) := dk_42 (dk_at dksL_law_13 22 rfl rfl)
theorem dL_law_393 : decode cL_law 393 = .ok (.iload 4, 2) := dk_21 4 (dk_at dksL_law_14 0 rfl rfl)
theorem dL_law_395 : decode cL_law 395 = .ok (.iconst 1, 1) := dk_4 (dk_at dksL_law_14 2 rfl rfl)
theorem dL_law_396 : decode cL_law 396 = .ok (.iadd, 1) := dk_96 (dk_at dksL_law_14 3 rfl rfl)
theorem dL_law_397 : decode cL_law 397 = .ok (.iaload, 1) := dk_46 (dk_at dksL_law_14 4 rfl rfl)
theorem dL_law_398 : decode cL_law 398 = .ok (.aload_n 3, 1) := dk_45 (dk_at dksL_law_14 5 rfl rfl)
theorem dL_law_399 : decode cL_law 399 = .ok (.invokestatic 84, 3) := dk_184 0 84 (dk_at dksL_law_14 6 rfl rfl)
theorem dL_law_402 : decode cL_law 402 = .ok (.istore 5, 2) := dk_54 5 (dk_at dksL_law_14 9 rfl rfl)
theorem dL_law_404 : decode cL_law 404 = .ok (.aload_n 2, 1) := dk_44 (dk_at dksL_law_14 11 rfl rfl)
theorem dL_law_405 : decode cL_law 405 = .ok (.aload_n 0, 1) := dk_42 (dk_at dksL_law_14 12 rfl rfl)
theorem dL_law_406 : decode cL_law 406 = .ok (.iload 4, 2) := dk_21 4 (dk_at dksL_law_14 13 rfl rfl)
theorem dL_law_408 : decode cL_law 408 = .ok (.iconst 1, 1) := dk_4 (dk_at dksL_law_14 15 rfl rfl)
theorem dL_law_409 : decode cL_law 409 = .ok (.iadd, 1) := dk_96 (dk_at dksL_law_14 16 rfl rfl)
theorem dL_law_410 : decode cL_law 410 = .ok (.iaload, 1) := dk_46 (dk_at dksL_law_14 17 rfl rfl)
theorem dL_law_411 : decode cL_law 411 = .ok (.invokevirtual 86, 3) := dk_182 0 86 (dk_at dksL_law_14 18 rfl rfl)
theorem dL_law_414 : decode cL_law 414 = .ok (.istore 6, 2) := dk_54 6 (dk_at dksL_law_14 21 rfl rfl)
theorem dL_law_416 : decode cL_law 416 = .ok (.aload_n 2, 1) := dk_44 (dk_at dksL_law_14 23 rfl rfl)
theorem dL_law_417 : decode cL_law 417 = .ok (.invokevirtual 68, 3) := dk_182 0 68 (dk_at dksL_law_15 0 rfl rfl)
theorem dL_law_420 : decode cL_law 420 = .ok (.iload 5, 2) := dk_21 5 (dk_at dksL_law_15 3 rfl rfl)
theorem dL_law_422 : decode cL_law 422 = .ok (.if_icmp .eq 5, 3) := dk_159 0 5 (dk_at dksL_law_15 5 rfl rfl)
theorem dL_law_425 : decode cL_law 425 = .ok (.iconst 0, 1) := dk_3 (dk_at dksL_law_15 8 rfl rfl)
theorem dL_law_426 : decode cL_law 426 = .ok (.ireturn, 1) := dk_172 (dk_at dksL_law_15 9 rfl rfl)
theorem dL_law_427 : decode cL_law 427 = .ok (.iload 5, 2) := dk_21 5 (dk_at dksL_law_15 10 rfl rfl)
theorem dL_law_429 : decode cL_law 429 = .ok (.ifCond .ne 15, 3) := dk_154 0 15 (dk_at dksL_law_15 12 rfl rfl)
theorem dL_law_432 : decode cL_law 432 = .ok (.aload_n 3, 1) := dk_45 (dk_at dksL_law_15 15 rfl rfl)
theorem dL_law_433 : decode cL_law 433 = .ok (.iconst 0, 1) := dk_3 (dk_at dksL_law_15 16 rfl rfl)
theorem dL_law_434 : decode cL_law 434 = .ok (.laload, 1) := dk_47 (dk_at dksL_law_15 17 rfl rfl)
theorem dL_law_435 : decode cL_law 435 = .ok (.iload 6, 2) := dk_21 6 (dk_at dksL_law_15 18 rfl rfl)
theorem dL_law_437 : decode cL_law 437 = .ok (.i2l, 1) := dk_133 (dk_at dksL_law_15 20 rfl rfl)
theorem dL_law_438 : decode cL_law 438 = .ok (.lcmp, 1) := dk_148 (dk_at dksL_law_15 21 rfl rfl)
theorem dL_law_439 : decode cL_law 439 = .ok (.ifCond .eq 5, 3) := dk_153 0 5 (dk_at dksL_law_16 0 rfl rfl)
theorem dL_law_442 : decode cL_law 442 = .ok (.iconst 0, 1) := dk_3 (dk_at dksL_law_16 3 rfl rfl)
theorem dL_law_443 : decode cL_law 443 = .ok (.ireturn, 1) := dk_172 (dk_at dksL_law_16 4 rfl rfl)
theorem dL_law_444 : decode cL_law 444 = .ok (.goto 646, 3) := dk_167 2 134 (dk_at dksL_law_16 5 rfl rfl)
theorem dL_law_447 : decode cL_law 447 = .ok (.aload_n 1, 1) := dk_43 (dk_at dksL_law_16 8 rfl rfl)
theorem dL_law_448 : decode cL_law 448 = .ok (.invokevirtual 87, 3) := dk_182 0 87 (dk_at dksL_law_16 9 rfl rfl)
theorem dL_law_451 : decode cL_law 451 = .ok (.aload_n 2, 1) := dk_44 (dk_at dksL_law_16 12 rfl rfl)
theorem dL_law_452 : decode cL_law 452 = .ok (.invokevirtual 90, 3) := dk_182 0 90 (dk_at dksL_law_16 13 rfl rfl)
theorem dL_law_455 : decode cL_law 455 = .ok (.if_icmp .eq 635, 3) := dk_159 2 123 (dk_at dksL_law_16 16 rfl rfl)
theorem dL_law_458 : decode cL_law 458 = .ok (.iconst 0, 1) := dk_3 (dk_at dksL_law_16 19 rfl rfl)
theorem dL_law_459 : decode cL_law 459 = .ok (.ireturn, 1) := dk_172 (dk_at dksL_law_16 20 rfl rfl)
theorem dL_law_460 : decode cL_law 460 = .ok (.aload_n 1, 1) := dk_43 (dk_at dksL_law_16 21 rfl rfl)
theorem dL_law_461 : decode cL_law 461 = .ok (.aload_n 0, 1) := dk_42 (dk_at dksL_law_16 22 rfl rfl)
theorem dL_law_462 : decode cL_law 462 = .ok (.iload 4, 2) := dk_21 4 (dk_at dksL_law_17 0 rfl rfl)
theorem dL_law_464 : decode cL_law 464 = .ok (.iconst 1, 1) := dk_4 (dk_at dksL_law_17 2 rfl rfl)
theorem dL_law_465 : decode cL_law 465 = .ok (.iadd, 1) := dk_96 (dk_at dksL_law_17 3 rfl rfl)
theorem dL_law_466 : decode cL_law 466 = .ok (.iaload, 1) := dk_46 (dk_at dksL_law_17 4 rfl rfl)
theorem dL_law_467 : decode cL_law 467 = .ok (.aload_n 3, 1) := dk_45 (dk_at dksL_law_17 5 rfl rfl)
theorem dL_law_468 : decode cL_law 468 = .ok (.invokestatic 91, 3) := dk_184 0 91 (dk_at dksL_law_17 6 rfl rfl)
theorem dL_law_471 : decode cL_law 471 = .ok (.istore 5, 2) := dk_54 5 (dk_at dksL_law_17 9 rfl rfl)
theorem dL_law_473 : decode cL_law 473 = .ok (.aload_n 2, 1) := dk_44 (dk_at dksL_law_17 11 rfl rfl)
theorem dL_law_474 : decode cL_law 474 = .ok (.aload_n 0, 1) := dk_42 (dk_at dksL_law_17 12 rfl rfl)
theorem dL_law_475 : decode cL_law 475 = .ok (.iload 4, 2) := dk_21 4 (dk_at dksL_law_17 13 rfl rfl)
theorem dL_law_477 : decode cL_law 477 = .ok (.iconst 1, 1) := dk_4 (dk_at dksL_law_17 15 rfl rfl)
theorem dL_law_478 : decode cL_law 478 = .ok (.iadd, 1) := dk_96 (dk_at dksL_law_17 16 rfl rfl)
theorem dL_law_479 : decode cL_law 479 = .ok (.iaload, 1) := dk_46 (dk_at dksL_law_17 17 rfl rfl)
theorem dL_law_480 : decode cL_law 480 = .ok (.invokevirtual 93, 3) := dk_182 0 93 (dk_at dksL_law_17 18 rfl rfl)
theorem dL_law_483 : decode cL_law 483 = .ok (.istore 6, 2) := dk_54 6 (dk_at dksL_law_17 21 rfl rfl)
theorem dL_law_485 : decode cL_law 485 = .ok (.aload_n 2, 1) := dk_44 (dk_at dksL_law_17 23 rfl rfl)
theorem dL_law_486 : decode cL_law 486 = .ok (.invokevirtual 68, 3) := dk_182 0 68 (dk_at dksL_law_18 0 rfl rfl)
theorem dL_law_489 : decode cL_law 489 = .ok (.iload 5, 2) := dk_21 5 (dk_at dksL_law_18 3 rfl rfl)
theorem dL_law_491 : decode cL_law 491 = .ok (.if_icmp .eq 5, 3) := dk_159 0 5 (dk_at dksL_law_18 5 rfl rfl)
theorem dL_law_494 : decode cL_law 494 = .ok (.iconst 0, 1) := dk_3 (dk_at dksL_law_18 8 rfl rfl)
theorem dL_law_495 : decode cL_law 495 = .ok (.ireturn, 1) := dk_172 (dk_at dksL_law_18 9 rfl rfl)
theorem dL_law_496 : decode cL_law 496 = .ok (.iload 5, 2) := dk_21 5 (dk_at dksL_law_18 10 rfl rfl)
theorem dL_law_498 : decode cL_law 498 = .ok (.ifCond .ne 15, 3) := dk_154 0 15 (dk_at dksL_law_18 12 rfl rfl)
theorem dL_law_501 : decode cL_law 501 = .ok (.aload_n 3, 1) := dk_45 (dk_at dksL_law_18 15 rfl rfl)
theorem dL_law_502 : decode cL_law 502 = .ok (.iconst 0, 1) := dk_3 (dk_at dksL_law_18 16 rfl rfl)
theorem dL_law_503 : decode cL_law 503 = .ok (.laload, 1) := dk_47 (dk_at dksL_law_18 17 rfl rfl)
theorem dL_law_504 : decode cL_law 504 = .ok (.iload 6, 2) := dk_21 6 (dk_at dksL_law_18 18 rfl rfl)
theorem dL_law_506 : decode cL_law 506 = .ok (.i2l, 1) := dk_133 (dk_at dksL_law_18 20 rfl rfl)
theorem dL_law_507 : decode cL_law 507 = .ok (.lcmp, 1) := dk_148 (dk_at dksL_law_18 21 rfl rfl)
theorem dL_law_508 : decode cL_law 508 = .ok (.ifCond .eq 5, 3) := dk_153 0 5 (dk_at dksL_law_19 0 rfl rfl)
theorem dL_law_511 : decode cL_law 511 = .ok (.iconst 0, 1) := dk_3 (dk_at dksL_law_19 3 rfl rfl)
theorem dL_law_512 : decode cL_law 512 = .ok (.ireturn, 1) := dk_172 (dk_at dksL_law_19 4 rfl rfl)
theorem dL_law_513 : decode cL_law 513 = .ok (.goto 577, 3) := dk_167 2 65 (dk_at dksL_law_19 5 rfl rfl)
theorem dL_law_516 : decode cL_law 516 = .ok (.aload_n 1, 1) := dk_43 (dk_at dksL_law_19 8 rfl rfl)
theorem dL_law_517 : decode cL_law 517 = .ok (.aload_n 0, 1) := dk_42 (dk_at dksL_law_19 9 rfl rfl)
theorem dL_law_518 : decode cL_law 518 = .ok (.iload 4, 2) := dk_21 4 (dk_at dksL_law_19 10 rfl rfl)
theorem dL_law_520 : decode cL_law 520 = .ok (.iconst 1, 1) := dk_4 (dk_at dksL_law_19 12 rfl rfl)
theorem dL_law_521 : decode cL_law 521 = .ok (.iadd, 1) := dk_96 (dk_at dksL_law_19 13 rfl rfl)
theorem dL_law_522 : decode cL_law 522 = .ok (.iaload, 1) := dk_46 (dk_at dksL_law_19 14 rfl rfl)
theorem dL_law_523 : decode cL_law 523 = .ok (.aload_n 0, 1) := dk_42 (dk_at dksL_law_19 15 rfl rfl)
theorem dL_law_524 : decode cL_law 524 = .ok (.iload 4, 2) := dk_21 4 (dk_at dksL_law_19 16 rfl rfl)
theorem dL_law_526 : decode cL_law 526 = .ok (.iconst 2, 1) := dk_5 (dk_at dksL_law_19 18 rfl rfl)
theorem dL_law_527 : decode cL_law 527 = .ok (.iadd, 1) := dk_96 (dk_at dksL_law_19 19 rfl rfl)
theorem dL_law_528 : decode cL_law 528 = .ok (.iaload, 1) := dk_46 (dk_at dksL_law_19 20 rfl rfl)
theorem dL_law_529 : decode cL_law 529 = .ok (.aload_n 3, 1) := dk_45 (dk_at dksL_law_19 21 rfl rfl)
theorem dL_law_530 : decode cL_law 530 = .ok (.invokestatic 94, 3) := dk_184 0 94 (dk_at dksL_law_20 0 rfl rfl)
theorem dL_law_533 : decode cL_law 533 = .ok (.istore 5, 2) := dk_54 5 (dk_at dksL_law_20 3 rfl rfl)
theorem dL_law_535 : decode cL_law 535 = .ok (.aload_n 2, 1) := dk_44 (dk_at dksL_law_20 5 rfl rfl)
theorem dL_law_536 : decode cL_law 536 = .ok (.aload_n 0, 1) := dk_42 (dk_at dksL_law_20 6 rfl rfl)
theorem dL_law_537 : decode cL_law 537 = .ok (.iload 4, 2) := dk_21 4 (dk_at dksL_law_20 7 rfl rfl)
theorem dL_law_539 : decode cL_law 539 = .ok (.iconst 1, 1) := dk_4 (dk_at dksL_law_20 9 rfl rfl)
theorem dL_law_540 : decode cL_law 540 = .ok (.iadd, 1) := dk_96 (dk_at dksL_law_20 10 rfl rfl)
theorem dL_law_541 : decode cL_law 541 = .ok (.iaload, 1) := dk_46 (dk_at dksL_law_20 11 rfl rfl)
theorem dL_law_542 : decode cL_law 542 = .ok (.aload_n 0, 1) := dk_42 (dk_at dksL_law_20 12 rfl rfl)
theorem dL_law_543 : decode cL_law 543 = .ok (.iload 4, 2) := dk_21 4 (dk_at dksL_law_20 13 rfl rfl)
theorem dL_law_545 : decode cL_law 545 = .ok (.iconst 2, 1) := dk_5 (dk_at dksL_law_20 15 rfl rfl)
theorem dL_law_546 : decode cL_law 546 = .ok (.iadd, 1) := dk_96 (dk_at dksL_law_20 16 rfl rfl)
theorem dL_law_547 : decode cL_law 547 = .ok (.iaload, 1) := dk_46 (dk_at dksL_law_20 17 rfl rfl)
theorem dL_law_548 : decode cL_law 548 = .ok (.invokevirtual 97, 3) := dk_182 0 97 (dk_at dksL_law_20 18 rfl rfl)
theorem dL_law_551 : decode cL_law 551 = .ok (.istore 6, 2) := dk_54 6 (dk_at dksL_law_20 21 rfl rfl)
theorem dL_law_553 : decode cL_law 553 = .ok (.aload_n 2, 1) := dk_44 (dk_at dksL_law_20 23 rfl rfl)
theorem dL_law_554 : decode cL_law 554 = .ok (.invokevirtual 68, 3) := dk_182 0 68 (dk_at dksL_law_21 0 rfl rfl)
theorem dL_law_557 : decode cL_law 557 = .ok (.iload 5, 2) := dk_21 5 (dk_at dksL_law_21 3 rfl rfl)
theorem dL_law_559 : decode cL_law 559 = .ok (.if_icmp .eq 5, 3) := dk_159 0 5 (dk_at dksL_law_21 5 rfl rfl)
theorem dL_law_562 : decode cL_law 562 = .ok (.iconst 0, 1) := dk_3 (dk_at dksL_law_21 8 rfl rfl)
theorem dL_law_563 : decode cL_law 563 = .ok (.ireturn, 1) := dk_172 (dk_at dksL_law_21 9 rfl rfl)
theorem dL_law_564 : decode cL_law 564 = .ok (.iload 5, 2) := dk_21 5 (dk_at dksL_law_21 10 rfl rfl)
theorem dL_law_566 : decode cL_law 566 = .ok (.ifCond .ne 15, 3) := dk_154 0 15 (dk_at dksL_law_21 12 rfl rfl)
theorem dL_law_569 : decode cL_law 569 = .ok (.aload_n 3, 1) := dk_45 (dk_at dksL_law_21 15 rfl rfl)
theorem dL_law_570 : decode cL_law 570 = .ok (.iconst 0, 1) := dk_3 (dk_at dksL_law_21 16 rfl rfl)
theorem dL_law_571 : decode cL_law 571 = .ok (.laload, 1) := dk_47 (dk_at dksL_law_21 17 rfl rfl)
theorem dL_law_572 : decode cL_law 572 = .ok (.iload 6, 2) := dk_21 6 (dk_at dksL_law_21 18 rfl rfl)
theorem dL_law_574 : decode cL_law 574 = .ok (.i2l, 1) := dk_133 (dk_at dksL_law_21 20 rfl rfl)
theorem dL_law_575 : decode cL_law 575 = .ok (.lcmp, 1) := dk_148 (dk_at dksL_law_21 21 rfl rfl)
theorem dL_law_576 : decode cL_law 576 = .ok (.ifCond .eq 5, 3) := dk_153 0 5 (dk_at dksL_law_22 0 rfl rfl)
theorem dL_law_579 : decode cL_law 579 = .ok (.iconst 0, 1) := dk_3 (dk_at dksL_law_22 3 rfl rfl)
theorem dL_law_580 : decode cL_law 580 = .ok (.ireturn, 1) := dk_172 (dk_at dksL_law_22 4 rfl rfl)
theorem dL_law_581 : decode cL_law 581 = .ok (.goto 509, 3) := dk_167 1 253 (dk_at dksL_law_22 5 rfl rfl)
theorem dL_law_584 : decode cL_law 584 = .ok (.aload_n 1, 1) := dk_43 (dk_at dksL_law_22 8 rfl rfl)
theorem dL_law_585 : decode cL_law 585 = .ok (.invokevirtual 98, 3) := dk_182 0 98 (dk_at dksL_law_22 9 rfl rfl)
theorem dL_law_588 : decode cL_law 588 = .ok (.aload_n 2, 1) := dk_44 (dk_at dksL_law_22 12 rfl rfl)
theorem dL_law_589 : decode cL_law 589 = .ok (.invokevirtual 102, 3) := dk_182 0 102 (dk_at dksL_law_22 13 rfl rfl)
theorem dL_law_592 : decode cL_law 592 = .ok (.if_icmp .eq 498, 3) := dk_159 1 242 (dk_at dksL_law_22 16 rfl rfl)
theorem dL_law_595 : decode cL_law 595 = .ok (.iconst 0, 1) := dk_3 (dk_at dksL_law_22 19 rfl rfl)
theorem dL_law_596 : decode cL_law 596 = .ok (.ireturn, 1) := dk_172 (dk_at dksL_law_22 20 rfl rfl)
theorem dL_law_597 : decode cL_law 597 = .ok (.aload_n 1, 1) := dk_43 (dk_at dksL_law_22 21 rfl rfl)
theorem dL_law_598 : decode cL_law 598 = .ok (.aload_n 0, 1) := dk_42 (dk_at dksL_law_22 22 rfl rfl)
theorem dL_law_599 : decode cL_law 599 = .ok (.iload 4, 2) := dk_21 4 (dk_at dksL_law_23 0 rfl rfl)
theorem dL_law_601 : decode cL_law 601 = .ok (.iconst 1, 1) := dk_4 (dk_at dksL_law_23 2 rfl rfl)
theorem dL_law_602 : decode cL_law 602 = .ok (.iadd, 1) := dk_96 (dk_at dksL_law_23 3 rfl rfl)
theorem dL_law_603 : decode cL_law 603 = .ok (.iaload, 1) := dk_46 (dk_at dksL_law_23 4 rfl rfl)
theorem dL_law_604 : decode cL_law 604 = .ok (.aload_n 0, 1) := dk_42 (dk_at dksL_law_23 5 rfl rfl)
theorem dL_law_605 : decode cL_law 605 = .ok (.iload 4, 2) := dk_21 4 (dk_at dksL_law_23 6 rfl rfl)
theorem dL_law_607 : decode cL_law 607 = .ok (.iconst 2, 1) := dk_5 (dk_at dksL_law_23 8 rfl rfl)
theorem dL_law_608 : decode cL_law 608 = .ok (.iadd, 1) := dk_96 (dk_at dksL_law_23 9 rfl rfl)
theorem dL_law_609 : decode cL_law 609 = .ok (.iaload, 1) := dk_46 (dk_at dksL_law_23 10 rfl rfl)
theorem dL_law_610 : decode cL_law 610 = .ok (.aload_n 3, 1) := dk_45 (dk_at dksL_law_23 11 rfl rfl)
theorem dL_law_611 : decode cL_law 611 = .ok (.invokestatic 103, 3) := dk_184 0 103 (dk_at dksL_law_23 12 rfl rfl)
theorem dL_law_614 : decode cL_law 614 = .ok (.istore 5, 2) := dk_54 5 (dk_at dksL_law_23 15 rfl rfl)
theorem dL_law_616 : decode cL_law 616 = .ok (.aload_n 2, 1) := dk_44 (dk_at dksL_law_23 17 rfl rfl)
theorem dL_law_617 : decode cL_law 617 = .ok (.aload_n 0, 1) := dk_42 (dk_at dksL_law_23 18 rfl rfl)
theorem dL_law_618 : decode cL_law 618 = .ok (.iload 4, 2) := dk_21 4 (dk_at dksL_law_23 19 rfl rfl)
theorem dL_law_620 : decode cL_law 620 = .ok (.iconst 1, 1) := dk_4 (dk_at dksL_law_23 21 rfl rfl)
theorem dL_law_621 : decode cL_law 621 = .ok (.iadd, 1) := dk_96 (dk_at dksL_law_23 22 rfl rfl)
theorem dL_law_622 : decode cL_law 622 = .ok (.iaload, 1) := dk_46 (dk_at dksL_law_23 23 rfl rfl)
theorem dL_law_623 : decode cL_law 623 = .ok (.aload_n 0, 1) := dk_42 (dk_at dksL_law_24 0 rfl rfl)
theorem dL_law_624 : decode cL_law 624 = .ok (.iload 4, 2) := dk_21 4 (dk_at dksL_law_24 1 rfl rfl)
theorem dL_law_626 : decode cL_law 626 = .ok (.iconst 2, 1) := dk_5 (dk_at dksL_law_24 3 rfl rfl)
theorem dL_law_627 : decode cL_law 627 = .ok (.iadd, 1) := dk_96 (dk_at dksL_law_24 4 rfl rfl)
theorem dL_law_628 : decode cL_law 628 = .ok (.iaload, 1) := dk_46 (dk_at dksL_law_24 5 rfl rfl)
theorem dL_law_629 : decode cL_law 629 = .ok (.invokevirtual 105, 3) := dk_182 0 105 (dk_at dksL_law_24 6 rfl rfl)
theorem dL_law_632 : decode cL_law 632 = .ok (.istore 6, 2) := dk_54 6 (dk_at dksL_law_24 9 rfl rfl)
theorem dL_law_634 : decode cL_law 634 = .ok (.aload_n 2, 1) := dk_44 (dk_at dksL_law_24 11 rfl rfl)
theorem dL_law_635 : decode cL_law 635 = .ok (.invokevirtual 68, 3) := dk_182 0 68 (dk_at dksL_law_24 12 rfl rfl)
theorem dL_law_638 : decode cL_law 638 = .ok (.iload 5, 2) := dk_21 5 (dk_at dksL_law_24 15 rfl rfl)
theorem dL_law_640 : decode cL_law 640 = .ok (.if_icmp .eq 5, 3) := dk_159 0 5 (dk_at dksL_law_24 17 rfl rfl)
theorem dL_law_643 : decode cL_law 643 = .ok (.iconst 0, 1) := dk_3 (dk_at dksL_law_24 20 rfl rfl)
theorem dL_law_644 : decode cL_law 644 = .ok (.ireturn, 1) := dk_172 (dk_at dksL_law_24 21 rfl rfl)
theorem dL_law_645 : decode cL_law 645 = .ok (.iload 5, 2) := dk_21 5 (dk_at dksL_law_24 22 rfl rfl)
theorem dL_law_647 : decode cL_law 647 = .ok (.ifCond .ne 15, 3) := dk_154 0 15 (dk_at dksL_law_25 0 rfl rfl)
theorem dL_law_650 : decode cL_law 650 = .ok (.aload_n 3, 1) := dk_45 (dk_at dksL_law_25 3 rfl rfl)
theorem dL_law_651 : decode cL_law 651 = .ok (.iconst 0, 1) := dk_3 (dk_at dksL_law_25 4 rfl rfl)
theorem dL_law_652 : decode cL_law 652 = .ok (.laload, 1) := dk_47 (dk_at dksL_law_25 5 rfl rfl)
theorem dL_law_653 : decode cL_law 653 = .ok (.iload 6, 2) := dk_21 6 (dk_at dksL_law_25 6 rfl rfl)
theorem dL_law_655 : decode cL_law 655 = .ok (.i2l, 1) := dk_133 (dk_at dksL_law_25 8 rfl rfl)
theorem dL_law_656 : decode cL_law 656 = .ok (.lcmp, 1) := dk_148 (dk_at dksL_law_25 9 rfl rfl)
theorem dL_law_657 : decode cL_law 657 = .ok (.ifCond .eq 5, 3) := dk_153 0 5 (dk_at dksL_law_25 10 rfl rfl)
theorem dL_law_660 : decode cL_law 660 = .ok (.iconst 0, 1) := dk_3 (dk_at dksL_law_25 13 rfl rfl)
theorem dL_law_661 : decode cL_law 661 = .ok (.ireturn, 1) := dk_172 (dk_at dksL_law_25 14 rfl rfl)
theorem dL_law_662 : decode cL_law 662 = .ok (.goto 428, 3) := dk_167 1 172 (dk_at dksL_law_25 15 rfl rfl)
theorem dL_law_665 : decode cL_law 665 = .ok (.aload_n 1, 1) := dk_43 (dk_at dksL_law_25 18 rfl rfl)
theorem dL_law_666 : decode cL_law 666 = .ok (.invokevirtual 106, 3) := dk_182 0 106 (dk_at dksL_law_25 19 rfl rfl)
theorem dL_law_669 : decode cL_law 669 = .ok (.aload_n 2, 1) := dk_44 (dk_at dksL_law_25 22 rfl rfl)
theorem dL_law_670 : decode cL_law 670 = .ok (.invokevirtual 109, 3) := dk_182 0 109 (dk_at dksL_law_26 0 rfl rfl)
theorem dL_law_673 : decode cL_law 673 = .ok (.if_icmp .eq 417, 3) := dk_159 1 161 (dk_at dksL_law_26 3 rfl rfl)
theorem dL_law_676 : decode cL_law 676 = .ok (.iconst 0, 1) := dk_3 (dk_at dksL_law_26 6 rfl rfl)
theorem dL_law_677 : decode cL_law 677 = .ok (.ireturn, 1) := dk_172 (dk_at dksL_law_26 7 rfl rfl)
theorem dL_law_678 : decode cL_law 678 = .ok (.aload_n 1, 1) := dk_43 (dk_at dksL_law_26 8 rfl rfl)
theorem dL_law_679 : decode cL_law 679 = .ok (.invokevirtual 110, 3) := dk_182 0 110 (dk_at dksL_law_26 9 rfl rfl)
theorem dL_law_682 : decode cL_law 682 = .ok (.aload_n 2, 1) := dk_44 (dk_at dksL_law_26 12 rfl rfl)
theorem dL_law_683 : decode cL_law 683 = .ok (.invokevirtual 113, 3) := dk_182 0 113 (dk_at dksL_law_26 13 rfl rfl)
theorem dL_law_686 : decode cL_law 686 = .ok (.if_icmp .eq 404, 3) := dk_159 1 148 (dk_at dksL_law_26 16 rfl rfl)
theorem dL_law_689 : decode cL_law 689 = .ok (.iconst 0, 1) := dk_3 (dk_at dksL_law_26 19 rfl rfl)
theorem dL_law_690 : decode cL_law 690 = .ok (.ireturn, 1) := dk_172 (dk_at dksL_law_26 20 rfl rfl)
theorem dL_law_691 : decode cL_law 691 = .ok (.aload_n 1, 1) := dk_43 (dk_at dksL_law_26 21 rfl rfl)
theorem dL_law_692 : decode cL_law 692 = .ok (.aload_n 0, 1) := dk_42 (dk_at dksL_law_26 22 rfl rfl)
theorem dL_law_693 : decode cL_law 693 = .ok (.iload 4, 2) := dk_21 4 (dk_at dksL_law_27 0 rfl rfl)
theorem dL_law_695 : decode cL_law 695 = .ok (.iconst 1, 1) := dk_4 (dk_at dksL_law_27 2 rfl rfl)
theorem dL_law_696 : decode cL_law 696 = .ok (.iadd, 1) := dk_96 (dk_at dksL_law_27 3 rfl rfl)
theorem dL_law_697 : decode cL_law 697 = .ok (.iaload, 1) := dk_46 (dk_at dksL_law_27 4 rfl rfl)
theorem dL_law_698 : decode cL_law 698 = .ok (.aload_n 3, 1) := dk_45 (dk_at dksL_law_27 5 rfl rfl)
theorem dL_law_699 : decode cL_law 699 = .ok (.invokestatic 114, 3) := dk_184 0 114 (dk_at dksL_law_27 6 rfl rfl)
theorem dL_law_702 : decode cL_law 702 = .ok (.istore 5, 2) := dk_54 5 (dk_at dksL_law_27 9 rfl rfl)
theorem dL_law_704 : decode cL_law 704 = .ok (.aload_n 2, 1) := dk_44 (dk_at dksL_law_27 11 rfl rfl)
theorem dL_law_705 : decode cL_law 705 = .ok (.aload_n 0, 1) := dk_42 (dk_at dksL_law_27 12 rfl rfl)
theorem dL_law_706 : decode cL_law 706 = .ok (.iload 4, 2) := dk_21 4 (dk_at dksL_law_27 13 rfl rfl)
theorem dL_law_708 : decode cL_law 708 = .ok (.iconst 1, 1) := dk_4 (dk_at dksL_law_27 15 rfl rfl)
theorem dL_law_709 : decode cL_law 709 = .ok (.iadd, 1) := dk_96 (dk_at dksL_law_27 16 rfl rfl)
theorem dL_law_710 : decode cL_law 710 = .ok (.iaload, 1) := dk_46 (dk_at dksL_law_27 17 rfl rfl)
theorem dL_law_711 : decode cL_law 711 = .ok (.invokevirtual 116, 3) := dk_182 0 116 (dk_at dksL_law_27 18 rfl rfl)
theorem dL_law_714 : decode cL_law 714 = .ok (.istore 6, 2) := dk_54 6 (dk_at dksL_law_27 21 rfl rfl)
theorem dL_law_716 : decode cL_law 716 = .ok (.aload_n 2, 1) := dk_44 (dk_at dksL_law_27 23 rfl rfl)
theorem dL_law_717 : decode cL_law 717 = .ok (.invokevirtual 68, 3) := dk_182 0 68 (dk_at dksL_law_28 0 rfl rfl)
theorem dL_law_720 : decode cL_law 720 = .ok (.iload 5, 2) := dk_21 5 (dk_at dksL_law_28 3 rfl rfl)
theorem dL_law_722 : decode cL_law 722 = .ok (.if_icmp .eq 5, 3) := dk_159 0 5 (dk_at dksL_law_28 5 rfl rfl)
theorem dL_law_725 : decode cL_law 725 = .ok (.iconst 0, 1) := dk_3 (dk_at dksL_law_28 8 rfl rfl)
theorem dL_law_726 : decode cL_law 726 = .ok (.ireturn, 1) := dk_172 (dk_at dksL_law_28 9 rfl rfl)
theorem dL_law_727 : decode cL_law 727 = .ok (.iload 5, 2) := dk_21 5 (dk_at dksL_law_28 10 rfl rfl)
theorem dL_law_729 : decode cL_law 729 = .ok (.ifCond .ne 22, 3) := dk_154 0 22 (dk_at dksL_law_28 12 rfl rfl)
theorem dL_law_732 : decode cL_law 732 = .ok (.aload_n 3, 1) := dk_45 (dk_at dksL_law_28 15 rfl rfl)
theorem dL_law_733 : decode cL_law 733 = .ok (.iconst 0, 1) := dk_3 (dk_at dksL_law_28 16 rfl rfl)
theorem dL_law_734 : decode cL_law 734 = .ok (.laload, 1) := dk_47 (dk_at dksL_law_28 17 rfl rfl)
theorem dL_law_735 : decode cL_law 735 = .ok (.iload 6, 2) := dk_21 6 (dk_at dksL_law_28 18 rfl rfl)
theorem dL_law_737 : decode cL_law 737 = .ok (.ifCond .eq 7, 3) := dk_153 0 7 (dk_at dksL_law_28 20 rfl rfl)
theorem dL_law_740 : decode cL_law 740 = .ok (.lconst 1, 1) := dk_10 (dk_at dksL_law_28 23 rfl rfl)
theorem dL_law_741 : decode cL_law 741 = .ok (.goto 4, 3) := dk_167 0 4 (dk_at dksL_law_29 0 rfl rfl)
theorem dL_law_744 : decode cL_law 744 = .ok (.lconst 0, 1) := dk_9 (dk_at dksL_law_29 3 rfl rfl)
theorem dL_law_745 : decode cL_law 745 = .ok (.lcmp, 1) := dk_148 (dk_at dksL_law_29 4 rfl rfl)
theorem dL_law_746 : decode cL_law 746 = .ok (.ifCond .eq 5, 3) := dk_153 0 5 (dk_at dksL_law_29 5 rfl rfl)
theorem dL_law_749 : decode cL_law 749 = .ok (.iconst 0, 1) := dk_3 (dk_at dksL_law_29 8 rfl rfl)
theorem dL_law_750 : decode cL_law 750 = .ok (.ireturn, 1) := dk_172 (dk_at dksL_law_29 9 rfl rfl)
theorem dL_law_751 : decode cL_law 751 = .ok (.goto 339, 3) := dk_167 1 83 (dk_at dksL_law_29 10 rfl rfl)
theorem dL_law_754 : decode cL_law 754 = .ok (.aload_n 1, 1) := dk_43 (dk_at dksL_law_29 13 rfl rfl)
theorem dL_law_755 : decode cL_law 755 = .ok (.aload_n 0, 1) := dk_42 (dk_at dksL_law_29 14 rfl rfl)
theorem dL_law_756 : decode cL_law 756 = .ok (.iload 4, 2) := dk_21 4 (dk_at dksL_law_29 15 rfl rfl)
theorem dL_law_758 : decode cL_law 758 = .ok (.iconst 1, 1) := dk_4 (dk_at dksL_law_29 17 rfl rfl)
theorem dL_law_759 : decode cL_law 759 = .ok (.iadd, 1) := dk_96 (dk_at dksL_law_29 18 rfl rfl)
theorem dL_law_760 : decode cL_law 760 = .ok (.iaload, 1) := dk_46 (dk_at dksL_law_29 19 rfl rfl)
theorem dL_law_761 : decode cL_law 761 = .ok (.aload_n 0, 1) := dk_42 (dk_at dksL_law_29 20 rfl rfl)
theorem dL_law_762 : decode cL_law 762 = .ok (.iload 4, 2) := dk_21 4 (dk_at dksL_law_29 21 rfl rfl)
theorem dL_law_764 : decode cL_law 764 = .ok (.iconst 2, 1) := dk_5 (dk_at dksL_law_29 23 rfl rfl)
theorem dL_law_765 : decode cL_law 765 = .ok (.iadd, 1) := dk_96 (dk_at dksL_law_30 0 rfl rfl)
theorem dL_law_766 : decode cL_law 766 = .ok (.iaload, 1) := dk_46 (dk_at dksL_law_30 1 rfl rfl)
theorem dL_law_767 : decode cL_law 767 = .ok (.i2l, 1) := dk_133 (dk_at dksL_law_30 2 rfl rfl)
theorem dL_law_768 : decode cL_law 768 = .ok (.bipush 32, 2) := dk_16 32 (dk_at dksL_law_30 3 rfl rfl)
theorem dL_law_770 : decode cL_law 770 = .ok (.lshl, 1) := dk_121 (dk_at dksL_law_30 5 rfl rfl)
theorem dL_law_771 : decode cL_law 771 = .ok (.aload_n 0, 1) := dk_42 (dk_at dksL_law_30 6 rfl rfl)
theorem dL_law_772 : decode cL_law 772 = .ok (.iload 4, 2) := dk_21 4 (dk_at dksL_law_30 7 rfl rfl)
theorem dL_law_774 : decode cL_law 774 = .ok (.iconst 3, 1) := dk_6 (dk_at dksL_law_30 9 rfl rfl)
theorem dL_law_775 : decode cL_law 775 = .ok (.iadd, 1) := dk_96 (dk_at dksL_law_30 10 rfl rfl)
theorem dL_law_776 : decode cL_law 776 = .ok (.iaload, 1) := dk_46 (dk_at dksL_law_30 11 rfl rfl)
theorem dL_law_777 : decode cL_law 777 = .ok (.i2l, 1) := dk_133 (dk_at dksL_law_30 12 rfl rfl)
theorem dL_law_778 : decode cL_law 778 = .ok (.ldc2_w 117, 3) := dk_20 0 117 (dk_at dksL_law_30 13 rfl rfl)
theorem dL_law_781 : decode cL_law 781 = .ok (.land, 1) := dk_127 (dk_at dksL_law_30 16 rfl rfl)
theorem dL_law_782 : decode cL_law 782 = .ok (.lor, 1) := dk_129 (dk_at dksL_law_30 17 rfl rfl)
theorem dL_law_783 : decode cL_law 783 = .ok (.aload_n 3, 1) := dk_45 (dk_at dksL_law_30 18 rfl rfl)
theorem dL_law_784 : decode cL_law 784 = .ok (.invokestatic 119, 3) := dk_184 0 119 (dk_at dksL_law_30 19 rfl rfl)
theorem dL_law_787 : decode cL_law 787 = .ok (.istore 5, 2) := dk_54 5 (dk_at dksL_law_30 22 rfl rfl)
theorem dL_law_789 : decode cL_law 789 = .ok (.aload_n 2, 1) := dk_44 (dk_at dksL_law_31 0 rfl rfl)
theorem dL_law_790 : decode cL_law 790 = .ok (.aload_n 0, 1) := dk_42 (dk_at dksL_law_31 1 rfl rfl)
theorem dL_law_791 : decode cL_law 791 = .ok (.iload 4, 2) := dk_21 4 (dk_at dksL_law_31 2 rfl rfl)
theorem dL_law_793 : decode cL_law 793 = .ok (.iconst 1, 1) := dk_4 (dk_at dksL_law_31 4 rfl rfl)
theorem dL_law_794 : decode cL_law 794 = .ok (.iadd, 1) := dk_96 (dk_at dksL_law_31 5 rfl rfl)
theorem dL_law_795 : decode cL_law 795 = .ok (.iaload, 1) := dk_46 (dk_at dksL_law_31 6 rfl rfl)
theorem dL_law_796 : decode cL_law 796 = .ok (.aload_n 0, 1) := dk_42 (dk_at dksL_law_31 7 rfl rfl)
theorem dL_law_797 : decode cL_law 797 = .ok (.iload 4, 2) := dk_21 4 (dk_at dksL_law_31 8 rfl rfl)
theorem dL_law_799 : decode cL_law 799 = .ok (.iconst 2, 1) := dk_5 (dk_at dksL_law_31 10 rfl rfl)
theorem dL_law_800 : decode cL_law 800 = .ok (.iadd, 1) := dk_96 (dk_at dksL_law_31 11 rfl rfl)
theorem dL_law_801 : decode cL_law 801 = .ok (.iaload, 1) := dk_46 (dk_at dksL_law_31 12 rfl rfl)
theorem dL_law_802 : decode cL_law 802 = .ok (.i2l, 1) := dk_133 (dk_at dksL_law_31 13 rfl rfl)
theorem dL_law_803 : decode cL_law 803 = .ok (.bipush 32, 2) := dk_16 32 (dk_at dksL_law_31 14 rfl rfl)
theorem dL_law_805 : decode cL_law 805 = .ok (.lshl, 1) := dk_121 (dk_at dksL_law_31 16 rfl rfl)
theorem dL_law_806 : decode cL_law 806 = .ok (.aload_n 0, 1) := dk_42 (dk_at dksL_law_31 17 rfl rfl)
theorem dL_law_807 : decode cL_law 807 = .ok (.iload 4, 2) := dk_21 4 (dk_at dksL_law_31 18 rfl rfl)
theorem dL_law_809 : decode cL_law 809 = .ok (.iconst 3, 1) := dk_6 (dk_at dksL_law_31 20 rfl rfl)
theorem dL_law_810 : decode cL_law 810 = .ok (.iadd, 1) := dk_96 (dk_at dksL_law_31 21 rfl rfl)
theorem dL_law_811 : decode cL_law 811 = .ok (.iaload, 1) := dk_46 (dk_at dksL_law_31 22 rfl rfl)
theorem dL_law_812 : decode cL_law 812 = .ok (.i2l, 1) := dk_133 (dk_at dksL_law_31 23 rfl rfl)
theorem dL_law_813 : decode cL_law 813 = .ok (.ldc2_w 117, 3) := dk_20 0 117 (dk_at dksL_law_32 0 rfl rfl)
theorem dL_law_816 : decode cL_law 816 = .ok (.land, 1) := dk_127 (dk_at dksL_law_32 3 rfl rfl)
theorem dL_law_817 : decode cL_law 817 = .ok (.lor, 1) := dk_129 (dk_at dksL_law_32 4 rfl rfl)
theorem dL_law_818 : decode cL_law 818 = .ok (.invokevirtual 122, 3) := dk_182 0 122 (dk_at dksL_law_32 5 rfl rfl)
theorem dL_law_821 : decode cL_law 821 = .ok (.istore 6, 2) := dk_54 6 (dk_at dksL_law_32 8 rfl rfl)
theorem dL_law_823 : decode cL_law 823 = .ok (.aload_n 2, 1) := dk_44 (dk_at dksL_law_32 10 rfl rfl)
theorem dL_law_824 : decode cL_law 824 = .ok (.invokevirtual 68, 3) := dk_182 0 68 (dk_at dksL_law_32 11 rfl rfl)
theorem dL_law_827 : decode cL_law 827 = .ok (.iload 5, 2) := dk_21 5 (dk_at dksL_law_32 14 rfl rfl)
theorem dL_law_829 : decode cL_law 829 = .ok (.if_icmp .eq 5, 3) := dk_159 0 5 (dk_at dksL_law_32 16 rfl rfl)
theorem dL_law_832 : decode cL_law 832 = .ok (.iconst 0, 1) := dk_3 (dk_at dksL_law_32 19 rfl rfl)
theorem dL_law_833 : decode cL_law 833 = .ok (.ireturn, 1) := dk_172 (dk_at dksL_law_32 20 rfl rfl)
theorem dL_law_834 : decode cL_law 834 = .ok (.iload 5, 2) := dk_21 5 (dk_at dksL_law_32 21 rfl rfl)
theorem dL_law_836 : decode cL_law 836 = .ok (.ifCond .ne 15, 3) := dk_154 0 15 (dk_at dksL_law_33 0 rfl rfl)
theorem dL_law_839 : decode cL_law 839 = .ok (.aload_n 3, 1) := dk_45 (dk_at dksL_law_33 3 rfl rfl)
theorem dL_law_840 : decode cL_law 840 = .ok (.iconst 0, 1) := dk_3 (dk_at dksL_law_33 4 rfl rfl)
theorem dL_law_841 : decode cL_law 841 = .ok (.laload, 1) := dk_47 (dk_at dksL_law_33 5 rfl rfl)
theorem dL_law_842 : decode cL_law 842 = .ok (.iload 6, 2) := dk_21 6 (dk_at dksL_law_33 6 rfl rfl)
theorem dL_law_844 : decode cL_law 844 = .ok (.i2l, 1) := dk_133 (dk_at dksL_law_33 8 rfl rfl)
theorem dL_law_845 : decode cL_law 845 = .ok (.lcmp, 1) := dk_148 (dk_at dksL_law_33 9 rfl rfl)
theorem dL_law_846 : decode cL_law 846 = .ok (.ifCond .eq 5, 3) := dk_153 0 5 (dk_at dksL_law_33 10 rfl rfl)
theorem dL_law_849 : decode cL_law 849 = .ok (.iconst 0, 1) := dk_3 (dk_at dksL_law_33 13 rfl rfl)
theorem dL_law_850 : decode cL_law 850 = .ok (.ireturn, 1) := dk_172 (dk_at dksL_law_33 14 rfl rfl)
theorem dL_law_851 : decode cL_law 851 = .ok (.goto 239, 3) := dk_167 0 239 (dk_at dksL_law_33 15 rfl rfl)
theorem dL_law_854 : decode cL_law 854 = .ok (.aload_n 1, 1) := dk_43 (dk_at dksL_law_33 18 rfl rfl)
theorem dL_law_855 : decode cL_law 855 = .ok (.aload_n 0, 1) := dk_42 (dk_at dksL_law_33 19 rfl rfl)
theorem dL_law_856 : decode cL_law 856 = .ok (.iload 4, 2) := dk_21 4 (dk_at dksL_law_33 20 rfl rfl)
theorem dL_law_858 : decode cL_law 858 = .ok (.iconst 1, 1) := dk_4 (dk_at dksL_law_33 22 rfl rfl)
theorem dL_law_859 : decode cL_law 859 = .ok (.iadd, 1) := dk_96 (dk_at dksL_law_33 23 rfl rfl)
theorem dL_law_860 : decode cL_law 860 = .ok (.iaload, 1) := dk_46 (dk_at dksL_law_34 0 rfl rfl)
theorem dL_law_861 : decode cL_law 861 = .ok (.aload_n 0, 1) := dk_42 (dk_at dksL_law_34 1 rfl rfl)
theorem dL_law_862 : decode cL_law 862 = .ok (.iload 4, 2) := dk_21 4 (dk_at dksL_law_34 2 rfl rfl)
theorem dL_law_864 : decode cL_law 864 = .ok (.iconst 2, 1) := dk_5 (dk_at dksL_law_34 4 rfl rfl)
theorem dL_law_865 : decode cL_law 865 = .ok (.iadd, 1) := dk_96 (dk_at dksL_law_34 5 rfl rfl)
theorem dL_law_866 : decode cL_law 866 = .ok (.iaload, 1) := dk_46 (dk_at dksL_law_34 6 rfl rfl)
theorem dL_law_867 : decode cL_law 867 = .ok (.aload_n 3, 1) := dk_45 (dk_at dksL_law_34 7 rfl rfl)
theorem dL_law_868 : decode cL_law 868 = .ok (.invokestatic 123, 3) := dk_184 0 123 (dk_at dksL_law_34 8 rfl rfl)
theorem dL_law_871 : decode cL_law 871 = .ok (.istore 5, 2) := dk_54 5 (dk_at dksL_law_34 11 rfl rfl)
theorem dL_law_873 : decode cL_law 873 = .ok (.aload_n 2, 1) := dk_44 (dk_at dksL_law_34 13 rfl rfl)
theorem dL_law_874 : decode cL_law 874 = .ok (.aload_n 0, 1) := dk_42 (dk_at dksL_law_34 14 rfl rfl)
theorem dL_law_875 : decode cL_law 875 = .ok (.iload 4, 2) := dk_21 4 (dk_at dksL_law_34 15 rfl rfl)
theorem dL_law_877 : decode cL_law 877 = .ok (.iconst 1, 1) := dk_4 (dk_at dksL_law_34 17 rfl rfl)
theorem dL_law_878 : decode cL_law 878 = .ok (.iadd, 1) := dk_96 (dk_at dksL_law_34 18 rfl rfl)
theorem dL_law_879 : decode cL_law 879 = .ok (.iaload, 1) := dk_46 (dk_at dksL_law_34 19 rfl rfl)
theorem dL_law_880 : decode cL_law 880 = .ok (.aload_n 0, 1) := dk_42 (dk_at dksL_law_34 20 rfl rfl)
theorem dL_law_881 : decode cL_law 881 = .ok (.iload 4, 2) := dk_21 4 (dk_at dksL_law_34 21 rfl rfl)
theorem dL_law_883 : decode cL_law 883 = .ok (.iconst 2, 1) := dk_5 (dk_at dksL_law_34 23 rfl rfl)
theorem dL_law_884 : decode cL_law 884 = .ok (.iadd, 1) := dk_96 (dk_at dksL_law_35 0 rfl rfl)
theorem dL_law_885 : decode cL_law 885 = .ok (.iaload, 1) := dk_46 (dk_at dksL_law_35 1 rfl rfl)
theorem dL_law_886 : decode cL_law 886 = .ok (.invokevirtual 125, 3) := dk_182 0 125 (dk_at dksL_law_35 2 rfl rfl)
theorem dL_law_889 : decode cL_law 889 = .ok (.istore 6, 2) := dk_54 6 (dk_at dksL_law_35 5 rfl rfl)
theorem dL_law_891 : decode cL_law 891 = .ok (.aload_n 2, 1) := dk_44 (dk_at dksL_law_35 7 rfl rfl)
theorem dL_law_892 : decode cL_law 892 = .ok (.invokevirtual 68, 3) := dk_182 0 68 (dk_at dksL_law_35 8 rfl rfl)
theorem dL_law_895 : decode cL_law 895 = .ok (.iload 5, 2) := dk_21 5 (dk_at dksL_law_35 11 rfl rfl)
theorem dL_law_897 : decode cL_law 897 = .ok (.if_icmp .eq 5, 3) := dk_159 0 5 (dk_at dksL_law_35 13 rfl rfl)
theorem dL_law_900 : decode cL_law 900 = .ok (.iconst 0, 1) := dk_3 (dk_at dksL_law_35 16 rfl rfl)
theorem dL_law_901 : decode cL_law 901 = .ok (.ireturn, 1) := dk_172 (dk_at dksL_law_35 17 rfl rfl)
theorem dL_law_902 : decode cL_law 902 = .ok (.iload 5, 2) := dk_21 5 (dk_at dksL_law_35 18 rfl rfl)
theorem dL_law_904 : decode cL_law 904 = .ok (.ifCond .ne 15, 3) := dk_154 0 15 (dk_at dksL_law_35 20 rfl rfl)
theorem dL_law_907 : decode cL_law 907 = .ok (.aload_n 3, 1) := dk_45 (dk_at dksL_law_35 23 rfl rfl)
theorem dL_law_908 : decode cL_law 908 = .ok (.iconst 0, 1) := dk_3 (dk_at dksL_law_36 0 rfl rfl)
theorem dL_law_909 : decode cL_law 909 = .ok (.laload, 1) := dk_47 (dk_at dksL_law_36 1 rfl rfl)
theorem dL_law_910 : decode cL_law 910 = .ok (.iload 6, 2) := dk_21 6 (dk_at dksL_law_36 2 rfl rfl)
theorem dL_law_912 : decode cL_law 912 = .ok (.i2l, 1) := dk_133 (dk_at dksL_law_36 4 rfl rfl)
theorem dL_law_913 : decode cL_law 913 = .ok (.lcmp, 1) := dk_148 (dk_at dksL_law_36 5 rfl rfl)
theorem dL_law_914 : decode cL_law 914 = .ok (.ifCond .eq 5, 3) := dk_153 0 5 (dk_at dksL_law_36 6 rfl rfl)
theorem dL_law_917 : decode cL_law 917 = .ok (.iconst 0, 1) := dk_3 (dk_at dksL_law_36 9 rfl rfl)
theorem dL_law_918 : decode cL_law 918 = .ok (.ireturn, 1) := dk_172 (dk_at dksL_law_36 10 rfl rfl)
theorem dL_law_919 : decode cL_law 919 = .ok (.goto 171, 3) := dk_167 0 171 (dk_at dksL_law_36 11 rfl rfl)
theorem dL_law_922 : decode cL_law 922 = .ok (.aload_n 1, 1) := dk_43 (dk_at dksL_law_36 14 rfl rfl)
theorem dL_law_923 : decode cL_law 923 = .ok (.aload_n 0, 1) := dk_42 (dk_at dksL_law_36 15 rfl rfl)
theorem dL_law_924 : decode cL_law 924 = .ok (.iload 4, 2) := dk_21 4 (dk_at dksL_law_36 16 rfl rfl)
theorem dL_law_926 : decode cL_law 926 = .ok (.iconst 1, 1) := dk_4 (dk_at dksL_law_36 18 rfl rfl)
theorem dL_law_927 : decode cL_law 927 = .ok (.iadd, 1) := dk_96 (dk_at dksL_law_36 19 rfl rfl)
theorem dL_law_928 : decode cL_law 928 = .ok (.iaload, 1) := dk_46 (dk_at dksL_law_36 20 rfl rfl)
theorem dL_law_929 : decode cL_law 929 = .ok (.aload_n 3, 1) := dk_45 (dk_at dksL_law_36 21 rfl rfl)
theorem dL_law_930 : decode cL_law 930 = .ok (.invokestatic 126, 3) := dk_184 0 126 (dk_at dksL_law_37 0 rfl rfl)
theorem dL_law_933 : decode cL_law 933 = .ok (.istore 5, 2) := dk_54 5 (dk_at dksL_law_37 3 rfl rfl)
theorem dL_law_935 : decode cL_law 935 = .ok (.aload_n 2, 1) := dk_44 (dk_at dksL_law_37 5 rfl rfl)
theorem dL_law_936 : decode cL_law 936 = .ok (.aload_n 0, 1) := dk_42 (dk_at dksL_law_37 6 rfl rfl)
theorem dL_law_937 : decode cL_law 937 = .ok (.iload 4, 2) := dk_21 4 (dk_at dksL_law_37 7 rfl rfl)
theorem dL_law_939 : decode cL_law 939 = .ok (.iconst 1, 1) := dk_4 (dk_at dksL_law_37 9 rfl rfl)
theorem dL_law_940 : decode cL_law 940 = .ok (.iadd, 1) := dk_96 (dk_at dksL_law_37 10 rfl rfl)
theorem dL_law_941 : decode cL_law 941 = .ok (.iaload, 1) := dk_46 (dk_at dksL_law_37 11 rfl rfl)
theorem dL_law_942 : decode cL_law 942 = .ok (.invokevirtual 128, 3) := dk_182 0 128 (dk_at dksL_law_37 12 rfl rfl)
theorem dL_law_945 : decode cL_law 945 = .ok (.istore 6, 2) := dk_54 6 (dk_at dksL_law_37 15 rfl rfl)
theorem dL_law_947 : decode cL_law 947 = .ok (.aload_n 2, 1) := dk_44 (dk_at dksL_law_37 17 rfl rfl)
theorem dL_law_948 : decode cL_law 948 = .ok (.invokevirtual 68, 3) := dk_182 0 68 (dk_at dksL_law_37 18 rfl rfl)
theorem dL_law_951 : decode cL_law 951 = .ok (.iload 5, 2) := dk_21 5 (dk_at dksL_law_37 21 rfl rfl)
theorem dL_law_953 : decode cL_law 953 = .ok (.if_icmp .eq 5, 3) := dk_159 0 5 (dk_at dksL_law_38 0 rfl rfl)
theorem dL_law_956 : decode cL_law 956 = .ok (.iconst 0, 1) := dk_3 (dk_at dksL_law_38 3 rfl rfl)
theorem dL_law_957 : decode cL_law 957 = .ok (.ireturn, 1) := dk_172 (dk_at dksL_law_38 4 rfl rfl)
theorem dL_law_958 : decode cL_law 958 = .ok (.iload 5, 2) := dk_21 5 (dk_at dksL_law_38 5 rfl rfl)
theorem dL_law_960 : decode cL_law 960 = .ok (.ifCond .ne 15, 3) := dk_154 0 15 (dk_at dksL_law_38 7 rfl rfl)
theorem dL_law_963 : decode cL_law 963 = .ok (.aload_n 3, 1) := dk_45 (dk_at dksL_law_38 10 rfl rfl)
theorem dL_law_964 : decode cL_law 964 = .ok (.iconst 0, 1) := dk_3 (dk_at dksL_law_38 11 rfl rfl)
theorem dL_law_965 : decode cL_law 965 = .ok (.laload, 1) := dk_47 (dk_at dksL_law_38 12 rfl rfl)
theorem dL_law_966 : decode cL_law 966 = .ok (.iload 6, 2) := dk_21 6 (dk_at dksL_law_38 13 rfl rfl)
theorem dL_law_968 : decode cL_law 968 = .ok (.i2l, 1) := dk_133 (dk_at dksL_law_38 15 rfl rfl)
theorem dL_law_969 : decode cL_law 969 = .ok (.lcmp, 1) := dk_148 (dk_at dksL_law_38 16 rfl rfl)
theorem dL_law_970 : decode cL_law 970 = .ok (.ifCond .eq 5, 3) := dk_153 0 5 (dk_at dksL_law_38 17 rfl rfl)
theorem dL_law_973 : decode cL_law 973 = .ok (.iconst 0, 1) := dk_3 (dk_at dksL_law_38 20 rfl rfl)
theorem dL_law_974 : decode cL_law 974 = .ok (.ireturn, 1) := dk_172 (dk_at dksL_law_38 21 rfl rfl)
theorem dL_law_975 : decode cL_law 975 = .ok (.goto 115, 3) := dk_167 0 115 (dk_at dksL_law_39 0 rfl rfl)
theorem dL_law_978 : decode cL_law 978 = .ok (.aload_n 1, 1) := dk_43 (dk_at dksL_law_39 3 rfl rfl)
theorem dL_law_979 : decode cL_law 979 = .ok (.aload_n 0, 1) := dk_42 (dk_at dksL_law_39 4 rfl rfl)
theorem dL_law_980 : decode cL_law 980 = .ok (.iload 4, 2) := dk_21 4 (dk_at dksL_law_39 5 rfl rfl)
theorem dL_law_982 : decode cL_law 982 = .ok (.iconst 1, 1) := dk_4 (dk_at dksL_law_39 7 rfl rfl)
theorem dL_law_983 : decode cL_law 983 = .ok (.iadd, 1) := dk_96 (dk_at dksL_law_39 8 rfl rfl)
theorem dL_law_984 : decode cL_law 984 = .ok (.iaload, 1) := dk_46 (dk_at dksL_law_39 9 rfl rfl)
theorem dL_law_985 : decode cL_law 985 = .ok (.aload_n 3, 1) := dk_45 (dk_at dksL_law_39 10 rfl rfl)
theorem dL_law_986 : decode cL_law 986 = .ok (.invokestatic 129, 3) := dk_184 0 129 (dk_at dksL_law_39 11 rfl rfl)
theorem dL_law_989 : decode cL_law 989 = .ok (.istore 5, 2) := dk_54 5 (dk_at dksL_law_39 14 rfl rfl)
theorem dL_law_991 : decode cL_law 991 = .ok (.aload_n 2, 1) := dk_44 (dk_at dksL_law_39 16 rfl rfl)
theorem dL_law_992 : decode cL_law 992 = .ok (.aload_n 0, 1) := dk_42 (dk_at dksL_law_39 17 rfl rfl)
theorem dL_law_993 : decode cL_law 993 = .ok (.iload 4, 2) := dk_21 4 (dk_at dksL_law_39 18 rfl rfl)
theorem dL_law_995 : decode cL_law 995 = .ok (.iconst 1, 1) := dk_4 (dk_at dksL_law_39 20 rfl rfl)
theorem dL_law_996 : decode cL_law 996 = .ok (.iadd, 1) := dk_96 (dk_at dksL_law_39 21 rfl rfl)
theorem dL_law_997 : decode cL_law 997 = .ok (.iaload, 1) := dk_46 (dk_at dksL_law_39 22 rfl rfl)
theorem dL_law_998 : decode cL_law 998 = .ok (.invokevirtual 131, 3) := dk_182 0 131 (dk_at dksL_law_40 0 rfl rfl)
theorem dL_law_1001 : decode cL_law 1001 = .ok (.istore 6, 2) := dk_54 6 (dk_at dksL_law_40 3 rfl rfl)
theorem dL_law_1003 : decode cL_law 1003 = .ok (.aload_n 2, 1) := dk_44 (dk_at dksL_law_40 5 rfl rfl)
theorem dL_law_1004 : decode cL_law 1004 = .ok (.invokevirtual 68, 3) := dk_182 0 68 (dk_at dksL_law_40 6 rfl rfl)
theorem dL_law_1007 : decode cL_law 1007 = .ok (.iload 5, 2) := dk_21 5 (dk_at dksL_law_40 9 rfl rfl)
theorem dL_law_1009 : decode cL_law 1009 = .ok (.if_icmp .eq 5, 3) := dk_159 0 5 (dk_at dksL_law_40 11 rfl rfl)
theorem dL_law_1012 : decode cL_law 1012 = .ok (.iconst 0, 1) := dk_3 (dk_at dksL_law_40 14 rfl rfl)
theorem dL_law_1013 : decode cL_law 1013 = .ok (.ireturn, 1) := dk_172 (dk_at dksL_law_40 15 rfl rfl)
theorem dL_law_1014 : decode cL_law 1014 = .ok (.iload 5, 2) := dk_21 5 (dk_at dksL_law_40 16 rfl rfl)
theorem dL_law_1016 : decode cL_law 1016 = .ok (.ifCond .ne 15, 3) := dk_154 0 15 (dk_at dksL_law_40 18 rfl rfl)
theorem dL_law_1019 : decode cL_law 1019 = .ok (.aload_n 3, 1) := dk_45 (dk_at dksL_law_40 21 rfl rfl)
theorem dL_law_1020 : decode cL_law 1020 = .ok (.iconst 0, 1) := dk_3 (dk_at dksL_law_40 22 rfl rfl)
theorem dL_law_1021 : decode cL_law 1021 = .ok (.laload, 1) := dk_47 (dk_at dksL_law_40 23 rfl rfl)
theorem dL_law_1022 : decode cL_law 1022 = .ok (.iload 6, 2) := dk_21 6 (dk_at dksL_law_41 0 rfl rfl)
theorem dL_law_1024 : decode cL_law 1024 = .ok (.i2l, 1) := dk_133 (dk_at dksL_law_41 2 rfl rfl)
theorem dL_law_1025 : decode cL_law 1025 = .ok (.lcmp, 1) := dk_148 (dk_at dksL_law_41 3 rfl rfl)
theorem dL_law_1026 : decode cL_law 1026 = .ok (.ifCond .eq 5, 3) := dk_153 0 5 (dk_at dksL_law_41 4 rfl rfl)
theorem dL_law_1029 : decode cL_law 1029 = .ok (.iconst 0, 1) := dk_3 (dk_at dksL_law_41 7 rfl rfl)
theorem dL_law_1030 : decode cL_law 1030 = .ok (.ireturn, 1) := dk_172 (dk_at dksL_law_41 8 rfl rfl)
theorem dL_law_1031 : decode cL_law 1031 = .ok (.goto 59, 3) := dk_167 0 59 (dk_at dksL_law_41 9 rfl rfl)
theorem dL_law_1034 : decode cL_law 1034 = .ok (.aload_n 1, 1) := dk_43 (dk_at dksL_law_41 12 rfl rfl)
theorem dL_law_1035 : decode cL_law 1035 = .ok (.aload_n 0, 1) := dk_42 (dk_at dksL_law_41 13 rfl rfl)
theorem dL_law_1036 : decode cL_law 1036 = .ok (.iload 4, 2) := dk_21 4 (dk_at dksL_law_41 14 rfl rfl)
theorem dL_law_1038 : decode cL_law 1038 = .ok (.iconst 1, 1) := dk_4 (dk_at dksL_law_41 16 rfl rfl)
theorem dL_law_1039 : decode cL_law 1039 = .ok (.iadd, 1) := dk_96 (dk_at dksL_law_41 17 rfl rfl)
theorem dL_law_1040 : decode cL_law 1040 = .ok (.iaload, 1) := dk_46 (dk_at dksL_law_41 18 rfl rfl)
theorem dL_law_1041 : decode cL_law 1041 = .ok (.aload_n 3, 1) := dk_45 (dk_at dksL_law_41 19 rfl rfl)
theorem dL_law_1042 : decode cL_law 1042 = .ok (.invokestatic 132, 3) := dk_184 0 132 (dk_at dksL_law_41 20 rfl rfl)
theorem dL_law_1045 : decode cL_law 1045 = .ok (.istore 5, 2) := dk_54 5 (dk_at dksL_law_42 0 rfl rfl)
theorem dL_law_1047 : decode cL_law 1047 = .ok (.aload_n 2, 1) := dk_44 (dk_at dksL_law_42 2 rfl rfl)
theorem dL_law_1048 : decode cL_law 1048 = .ok (.aload_n 0, 1) := dk_42 (dk_at dksL_law_42 3 rfl rfl)
theorem dL_law_1049 : decode cL_law 1049 = .ok (.iload 4, 2) := dk_21 4 (dk_at dksL_law_42 4 rfl rfl)
theorem dL_law_1051 : decode cL_law 1051 = .ok (.iconst 1, 1) := dk_4 (dk_at dksL_law_42 6 rfl rfl)
theorem dL_law_1052 : decode cL_law 1052 = .ok (.iadd, 1) := dk_96 (dk_at dksL_law_42 7 rfl rfl)
theorem dL_law_1053 : decode cL_law 1053 = .ok (.iaload, 1) := dk_46 (dk_at dksL_law_42 8 rfl rfl)
theorem dL_law_1054 : decode cL_law 1054 = .ok (.invokevirtual 134, 3) := dk_182 0 134 (dk_at dksL_law_42 9 rfl rfl)
theorem dL_law_1057 : decode cL_law 1057 = .ok (.istore 6, 2) := dk_54 6 (dk_at dksL_law_42 12 rfl rfl)
theorem dL_law_1059 : decode cL_law 1059 = .ok (.aload_n 2, 1) := dk_44 (dk_at dksL_law_42 14 rfl rfl)
theorem dL_law_1060 : decode cL_law 1060 = .ok (.invokevirtual 68, 3) := dk_182 0 68 (dk_at dksL_law_42 15 rfl rfl)
theorem dL_law_1063 : decode cL_law 1063 = .ok (.iload 5, 2) := dk_21 5 (dk_at dksL_law_42 18 rfl rfl)
theorem dL_law_1065 : decode cL_law 1065 = .ok (.if_icmp .eq 5, 3) := dk_159 0 5 (dk_at dksL_law_42 20 rfl rfl)
theorem dL_law_1068 : decode cL_law 1068 = .ok (.iconst 0, 1) := dk_3 (dk_at dksL_law_42 23 rfl rfl)
theorem dL_law_1069 : decode cL_law 1069 = .ok (.ireturn, 1) := dk_172 (dk_at dksL_law_43 0 rfl rfl)
theorem dL_law_1070 : decode cL_law 1070 = .ok (.iload 5, 2) := dk_21 5 (dk_at dksL_law_43 1 rfl rfl)
theorem dL_law_1072 : decode cL_law 1072 = .ok (.ifCond .ne 15, 3) := dk_154 0 15 (dk_at dksL_law_43 3 rfl rfl)
theorem dL_law_1075 : decode cL_law 1075 = .ok (.aload_n 3, 1) := dk_45 (dk_at dksL_law_43 6 rfl rfl)
theorem dL_law_1076 : decode cL_law 1076 = .ok (.iconst 0, 1) := dk_3 (dk_at dksL_law_43 7 rfl rfl)
theorem dL_law_1077 : decode cL_law 1077 = .ok (.laload, 1) := dk_47 (dk_at dksL_law_43 8 rfl rfl)
theorem dL_law_1078 : decode cL_law 1078 = .ok (.iload 6, 2) := dk_21 6 (dk_at dksL_law_43 9 rfl rfl)
theorem dL_law_1080 : decode cL_law 1080 = .ok (.i2l, 1) := dk_133 (dk_at dksL_law_43 11 rfl rfl)
theorem dL_law_1081 : decode cL_law 1081 = .ok (.lcmp, 1) := dk_148 (dk_at dksL_law_43 12 rfl rfl)
theorem dL_law_1082 : decode cL_law 1082 = .ok (.ifCond .eq 5, 3) := dk_153 0 5 (dk_at dksL_law_43 13 rfl rfl)
theorem dL_law_1085 : decode cL_law 1085 = .ok (.iconst 0, 1) := dk_3 (dk_at dksL_law_43 16 rfl rfl)
theorem dL_law_1086 : decode cL_law 1086 = .ok (.ireturn, 1) := dk_172 (dk_at dksL_law_43 17 rfl rfl)
theorem dL_law_1087 : decode cL_law 1087 = .ok (.goto 3, 3) := dk_167 0 3 (dk_at dksL_law_43 18 rfl rfl)
theorem dL_law_1090 : decode cL_law 1090 = .ok (.iinc 4 6, 3) := dk_132 4 6 (dk_at dksL_law_43 21 rfl rfl)
theorem dL_law_1093 : decode cL_law 1093 = .ok (.goto (-1070), 3) := dk_167 251 210 (dk_at dksL_law_44 0 rfl rfl)
theorem dL_law_1096 : decode cL_law 1096 = .ok (.iconst 1, 1) := dk_4 (dk_at dksL_law_44 3 rfl rfl)
theorem dL_law_1097 : decode cL_law 1097 = .ok (.ireturn, 1) := dk_172 (dk_at dksL_law_44 4 rfl rfl)
