/-! code of X0 X3 X4 X5 X6 X7 X8 X9 X10 X11 X12 X13 X14 X15 -/
set_option maxRecDepth 100000
abbrev cX0_load : ByteArray := method_3_code
def yX0_load : MethodName := ⟨RX0, "load", "(LEventWindows;I[J)I"⟩
def dkwX0_load_0 : List UInt8 := [44, 3, 42, 27, 182, 0, 7, 133, 80, 167, 0, 9, 78, 4, 172, 78, 5, 172, 3, 172]
abbrev dktX0_load_0 : List UInt8 := dkwX0_load_0 ++ []
theorem dksX0_load_0 : cX0_load.data.toList.drop 0 = dktX0_load_0 := by decide +kernel
theorem dX0_load_0 : decode cX0_load 0 = .ok (.aload_n 2, 1) := dk_44 (dk_at dksX0_load_0 0 rfl rfl)
theorem dX0_load_1 : decode cX0_load 1 = .ok (.iconst 0, 1) := dk_3 (dk_at dksX0_load_0 1 rfl rfl)
theorem dX0_load_2 : decode cX0_load 2 = .ok (.aload_n 0, 1) := dk_42 (dk_at dksX0_load_0 2 rfl rfl)
theorem dX0_load_3 : decode cX0_load 3 = .ok (.iload_n 1, 1) := dk_27 (dk_at dksX0_load_0 3 rfl rfl)
theorem dX0_load_4 : decode cX0_load 4 = .ok (.invokevirtual 7, 3) := dk_182 0 7 (dk_at dksX0_load_0 4 rfl rfl)
theorem dX0_load_7 : decode cX0_load 7 = .ok (.i2l, 1) := dk_133 (dk_at dksX0_load_0 7 rfl rfl)
theorem dX0_load_8 : decode cX0_load 8 = .ok (.lastore, 1) := dk_80 (dk_at dksX0_load_0 8 rfl rfl)
theorem dX0_load_9 : decode cX0_load 9 = .ok (.goto 9, 3) := dk_167 0 9 (dk_at dksX0_load_0 9 rfl rfl)
theorem dX0_load_12 : decode cX0_load 12 = .ok (.astore_n 3, 1) := dk_78 (dk_at dksX0_load_0 12 rfl rfl)
theorem dX0_load_13 : decode cX0_load 13 = .ok (.iconst 1, 1) := dk_4 (dk_at dksX0_load_0 13 rfl rfl)
theorem dX0_load_14 : decode cX0_load 14 = .ok (.ireturn, 1) := dk_172 (dk_at dksX0_load_0 14 rfl rfl)
theorem dX0_load_15 : decode cX0_load 15 = .ok (.astore_n 3, 1) := dk_78 (dk_at dksX0_load_0 15 rfl rfl)
theorem dX0_load_16 : decode cX0_load 16 = .ok (.iconst 2, 1) := dk_5 (dk_at dksX0_load_0 16 rfl rfl)
theorem dX0_load_17 : decode cX0_load 17 = .ok (.ireturn, 1) := dk_172 (dk_at dksX0_load_0 17 rfl rfl)
theorem dX0_load_18 : decode cX0_load 18 = .ok (.iconst 0, 1) := dk_3 (dk_at dksX0_load_0 18 rfl rfl)
theorem dX0_load_19 : decode cX0_load 19 = .ok (.ireturn, 1) := dk_172 (dk_at dksX0_load_0 19 rfl rfl)
abbrev cX0_letter : ByteArray := method_4_code
def yX0_letter : MethodName := ⟨RX0, "letter", "(LEventWindows;II[J)I"⟩
def dkwX0_letter_0 : List UInt8 := [45, 3, 42, 27, 28, 182, 0, 17, 133, 80, 167, 0, 11, 58, 4, 4, 172, 58, 4, 5, 172, 3, 172]
abbrev dktX0_letter_0 : List UInt8 := dkwX0_letter_0 ++ []
theorem dksX0_letter_0 : cX0_letter.data.toList.drop 0 = dktX0_letter_0 := by decide +kernel
theorem dX0_letter_0 : decode cX0_letter 0 = .ok (.aload_n 3, 1) := dk_45 (dk_at dksX0_letter_0 0 rfl rfl)
theorem dX0_letter_1 : decode cX0_letter 1 = .ok (.iconst 0, 1) := dk_3 (dk_at dksX0_letter_0 1 rfl rfl)
theorem dX0_letter_2 : decode cX0_letter 2 = .ok (.aload_n 0, 1) := dk_42 (dk_at dksX0_letter_0 2 rfl rfl)
theorem dX0_letter_3 : decode cX0_letter 3 = .ok (.iload_n 1, 1) := dk_27 (dk_at dksX0_letter_0 3 rfl rfl)
theorem dX0_letter_4 : decode cX0_letter 4 = .ok (.iload_n 2, 1) := dk_28 (dk_at dksX0_letter_0 4 rfl rfl)
theorem dX0_letter_5 : decode cX0_letter 5 = .ok (.invokevirtual 17, 3) := dk_182 0 17 (dk_at dksX0_letter_0 5 rfl rfl)
theorem dX0_letter_8 : decode cX0_letter 8 = .ok (.i2l, 1) := dk_133 (dk_at dksX0_letter_0 8 rfl rfl)
theorem dX0_letter_9 : decode cX0_letter 9 = .ok (.lastore, 1) := dk_80 (dk_at dksX0_letter_0 9 rfl rfl)
theorem dX0_letter_10 : decode cX0_letter 10 = .ok (.goto 11, 3) := dk_167 0 11 (dk_at dksX0_letter_0 10 rfl rfl)
theorem dX0_letter_13 : decode cX0_letter 13 = .ok (.astore 4, 2) := dk_58 4 (dk_at dksX0_letter_0 13 rfl rfl)
theorem dX0_letter_15 : decode cX0_letter 15 = .ok (.iconst 1, 1) := dk_4 (dk_at dksX0_letter_0 15 rfl rfl)
theorem dX0_letter_16 : decode cX0_letter 16 = .ok (.ireturn, 1) := dk_172 (dk_at dksX0_letter_0 16 rfl rfl)
theorem dX0_letter_17 : decode cX0_letter 17 = .ok (.astore 4, 2) := dk_58 4 (dk_at dksX0_letter_0 17 rfl rfl)
theorem dX0_letter_19 : decode cX0_letter 19 = .ok (.iconst 2, 1) := dk_5 (dk_at dksX0_letter_0 19 rfl rfl)
theorem dX0_letter_20 : decode cX0_letter 20 = .ok (.ireturn, 1) := dk_172 (dk_at dksX0_letter_0 20 rfl rfl)
theorem dX0_letter_21 : decode cX0_letter 21 = .ok (.iconst 0, 1) := dk_3 (dk_at dksX0_letter_0 21 rfl rfl)
theorem dX0_letter_22 : decode cX0_letter 22 = .ok (.ireturn, 1) := dk_172 (dk_at dksX0_letter_0 22 rfl rfl)
abbrev cX0_window : ByteArray := method_5_code
def yX0_window : MethodName := ⟨RX0, "window", "(LEventWindows;II[J)I"⟩
def dkwX0_window_1 : List UInt8 := [172, 3, 172]
abbrev dktX0_window_1 : List UInt8 := dkwX0_window_1 ++ []
def dkwX0_window_0 : List UInt8 := [45, 3, 42, 27, 28, 182, 0, 23, 133, 80, 167, 0, 15, 58, 4, 4, 172, 58, 4, 5, 172, 58, 4, 6]
abbrev dktX0_window_0 : List UInt8 := dkwX0_window_0 ++ dktX0_window_1
theorem dksX0_window_0 : cX0_window.data.toList.drop 0 = dktX0_window_0 := by decide +kernel
theorem dksX0_window_1 : cX0_window.data.toList.drop 24 = dktX0_window_1 := dk_seg dksX0_window_0 24 rfl rfl
theorem dX0_window_0 : decode cX0_window 0 = .ok (.aload_n 3, 1) := dk_45 (dk_at dksX0_window_0 0 rfl rfl)
theorem dX0_window_1 : decode cX0_window 1 = .ok (.iconst 0, 1) := dk_3 (dk_at dksX0_window_0 1 rfl rfl)
theorem dX0_window_2 : decode cX0_window 2 = .ok (.aload_n 0, 1) := dk_42 (dk_at dksX0_window_0 2 rfl rfl)
theorem dX0_window_3 : decode cX0_window 3 = .ok (.iload_n 1, 1) := dk_27 (dk_at dksX0_window_0 3 rfl rfl)
theorem dX0_window_4 : decode cX0_window 4 = .ok (.iload_n 2, 1) := dk_28 (dk_at dksX0_window_0 4 rfl rfl)
theorem dX0_window_5 : decode cX0_window 5 = .ok (.invokevirtual 23, 3) := dk_182 0 23 (dk_at dksX0_window_0 5 rfl rfl)
theorem dX0_window_8 : decode cX0_window 8 = .ok (.i2l, 1) := dk_133 (dk_at dksX0_window_0 8 rfl rfl)
theorem dX0_window_9 : decode cX0_window 9 = .ok (.lastore, 1) := dk_80 (dk_at dksX0_window_0 9 rfl rfl)
theorem dX0_window_10 : decode cX0_window 10 = .ok (.goto 15, 3) := dk_167 0 15 (dk_at dksX0_window_0 10 rfl rfl)
theorem dX0_window_13 : decode cX0_window 13 = .ok (.astore 4, 2) := dk_58 4 (dk_at dksX0_window_0 13 rfl rfl)
theorem dX0_window_15 : decode cX0_window 15 = .ok (.iconst 1, 1) := dk_4 (dk_at dksX0_window_0 15 rfl rfl)
theorem dX0_window_16 : decode cX0_window 16 = .ok (.ireturn, 1) := dk_172 (dk_at dksX0_window_0 16 rfl rfl)
theorem dX0_window_17 : decode cX0_window 17 = .ok (.astore 4, 2) := dk_58 4 (dk_at dksX0_window_0 17 rfl rfl)
theorem dX0_window_19 : decode cX0_window 19 = .ok (.iconst 2, 1) := dk_5 (dk_at dksX0_window_0 19 rfl rfl)
theorem dX0_window_20 : decode cX0_window 20 = .ok (.ireturn, 1) := dk_172 (dk_at dksX0_window_0 20 rfl rfl)
theorem dX0_window_21 : decode cX0_window 21 = .ok (.astore 4, 2) := dk_58 4 (dk_at dksX0_window_0 21 rfl rfl)
theorem dX0_window_23 : decode cX0_window 23 = .ok (.iconst 3, 1) := dk_6 (dk_at dksX0_window_0 23 rfl rfl)
theorem dX0_window_24 : decode cX0_window 24 = .ok (.ireturn, 1) := dk_172 (dk_at dksX0_window_1 0 rfl rfl)
theorem dX0_window_25 : decode cX0_window 25 = .ok (.iconst 0, 1) := dk_3 (dk_at dksX0_window_1 1 rfl rfl)
theorem dX0_window_26 : decode cX0_window 26 = .ok (.ireturn, 1) := dk_172 (dk_at dksX0_window_1 2 rfl rfl)
abbrev cX0_fixedAt : ByteArray := method_6_code
def yX0_fixedAt : MethodName := ⟨RX0, "fixedAt", "(LEventWindows;I[J)I"⟩
def dkwX0_fixedAt_0 : List UInt8 := [44, 3, 42, 27, 182, 0, 26, 133, 80, 167, 0, 9, 78, 4, 172, 78, 5, 172, 3, 172]
abbrev dktX0_fixedAt_0 : List UInt8 := dkwX0_fixedAt_0 ++ []
theorem dksX0_fixedAt_0 : cX0_fixedAt.data.toList.drop 0 = dktX0_fixedAt_0 := by decide +kernel
theorem dX0_fixedAt_0 : decode cX0_fixedAt 0 = .ok (.aload_n 2, 1) := dk_44 (dk_at dksX0_fixedAt_0 0 rfl rfl)
theorem dX0_fixedAt_1 : decode cX0_fixedAt 1 = .ok (.iconst 0, 1) := dk_3 (dk_at dksX0_fixedAt_0 1 rfl rfl)
theorem dX0_fixedAt_2 : decode cX0_fixedAt 2 = .ok (.aload_n 0, 1) := dk_42 (dk_at dksX0_fixedAt_0 2 rfl rfl)
theorem dX0_fixedAt_3 : decode cX0_fixedAt 3 = .ok (.iload_n 1, 1) := dk_27 (dk_at dksX0_fixedAt_0 3 rfl rfl)
theorem dX0_fixedAt_4 : decode cX0_fixedAt 4 = .ok (.invokevirtual 26, 3) := dk_182 0 26 (dk_at dksX0_fixedAt_0 4 rfl rfl)
theorem dX0_fixedAt_7 : decode cX0_fixedAt 7 = .ok (.i2l, 1) := dk_133 (dk_at dksX0_fixedAt_0 7 rfl rfl)
theorem dX0_fixedAt_8 : decode cX0_fixedAt 8 = .ok (.lastore, 1) := dk_80 (dk_at dksX0_fixedAt_0 8 rfl rfl)
theorem dX0_fixedAt_9 : decode cX0_fixedAt 9 = .ok (.goto 9, 3) := dk_167 0 9 (dk_at dksX0_fixedAt_0 9 rfl rfl)
theorem dX0_fixedAt_12 : decode cX0_fixedAt 12 = .ok (.astore_n 3, 1) := dk_78 (dk_at dksX0_fixedAt_0 12 rfl rfl)
theorem dX0_fixedAt_13 : decode cX0_fixedAt 13 = .ok (.iconst 1, 1) := dk_4 (dk_at dksX0_fixedAt_0 13 rfl rfl)
theorem dX0_fixedAt_14 : decode cX0_fixedAt 14 = .ok (.ireturn, 1) := dk_172 (dk_at dksX0_fixedAt_0 14 rfl rfl)
theorem dX0_fixedAt_15 : decode cX0_fixedAt 15 = .ok (.astore_n 3, 1) := dk_78 (dk_at dksX0_fixedAt_0 15 rfl rfl)
theorem dX0_fixedAt_16 : decode cX0_fixedAt 16 = .ok (.iconst 2, 1) := dk_5 (dk_at dksX0_fixedAt_0 16 rfl rfl)
theorem dX0_fixedAt_17 : decode cX0_fixedAt 17 = .ok (.ireturn, 1) := dk_172 (dk_at dksX0_fixedAt_0 17 rfl rfl)
theorem dX0_fixedAt_18 : decode cX0_fixedAt 18 = .ok (.iconst 0, 1) := dk_3 (dk_at dksX0_fixedAt_0 18 rfl rfl)
theorem dX0_fixedAt_19 : decode cX0_fixedAt 19 = .ok (.ireturn, 1) := dk_172 (dk_at dksX0_fixedAt_0 19 rfl rfl)
abbrev cX0_delay : ByteArray := method_7_code
def yX0_delay : MethodName := ⟨RX0, "delay", "(LEventWindows;I[J)I"⟩
def dkwX0_delay_0 : List UInt8 := [44, 3, 42, 27, 182, 0, 29, 133, 80, 167, 0, 9, 78, 4, 172, 78, 5, 172, 3, 172]
abbrev dktX0_delay_0 : List UInt8 := dkwX0_delay_0 ++ []
theorem dksX0_delay_0 : cX0_delay.data.toList.drop 0 = dktX0_delay_0 := by decide +kernel
theorem dX0_delay_0 : decode cX0_delay 0 = .ok (.aload_n 2, 1) := dk_44 (dk_at dksX0_delay_0 0 rfl rfl)
theorem dX0_delay_1 : decode cX0_delay 1 = .ok (.iconst 0, 1) := dk_3 (dk_at dksX0_delay_0 1 rfl rfl)
theorem dX0_delay_2 : decode cX0_delay 2 = .ok (.aload_n 0, 1) := dk_42 (dk_at dksX0_delay_0 2 rfl rfl)
theorem dX0_delay_3 : decode cX0_delay 3 = .ok (.iload_n 1, 1) := dk_27 (dk_at dksX0_delay_0 3 rfl rfl)
theorem dX0_delay_4 : decode cX0_delay 4 = .ok (.invokevirtual 29, 3) := dk_182 0 29 (dk_at dksX0_delay_0 4 rfl rfl)
theorem dX0_delay_7 : decode cX0_delay 7 = .ok (.i2l, 1) := dk_133 (dk_at dksX0_delay_0 7 rfl rfl)
theorem dX0_delay_8 : decode cX0_delay 8 = .ok (.lastore, 1) := dk_80 (dk_at dksX0_delay_0 8 rfl rfl)
theorem dX0_delay_9 : decode cX0_delay 9 = .ok (.goto 9, 3) := dk_167 0 9 (dk_at dksX0_delay_0 9 rfl rfl)
theorem dX0_delay_12 : decode cX0_delay 12 = .ok (.astore_n 3, 1) := dk_78 (dk_at dksX0_delay_0 12 rfl rfl)
theorem dX0_delay_13 : decode cX0_delay 13 = .ok (.iconst 1, 1) := dk_4 (dk_at dksX0_delay_0 13 rfl rfl)
theorem dX0_delay_14 : decode cX0_delay 14 = .ok (.ireturn, 1) := dk_172 (dk_at dksX0_delay_0 14 rfl rfl)
theorem dX0_delay_15 : decode cX0_delay 15 = .ok (.astore_n 3, 1) := dk_78 (dk_at dksX0_delay_0 15 rfl rfl)
theorem dX0_delay_16 : decode cX0_delay 16 = .ok (.iconst 2, 1) := dk_5 (dk_at dksX0_delay_0 16 rfl rfl)
theorem dX0_delay_17 : decode cX0_delay 17 = .ok (.ireturn, 1) := dk_172 (dk_at dksX0_delay_0 17 rfl rfl)
theorem dX0_delay_18 : decode cX0_delay 18 = .ok (.iconst 0, 1) := dk_3 (dk_at dksX0_delay_0 18 rfl rfl)
theorem dX0_delay_19 : decode cX0_delay 19 = .ok (.ireturn, 1) := dk_172 (dk_at dksX0_delay_0 19 rfl rfl)
abbrev cX0_wish : ByteArray := method_8_code
def yX0_wish : MethodName := ⟨RX0, "wish", "(LEventWindows;I[J)I"⟩
def dkwX0_wish_0 : List UInt8 := [44, 3, 42, 27, 182, 0, 32, 133, 80, 167, 0, 9, 78, 4, 172, 78, 5, 172, 3, 172]
abbrev dktX0_wish_0 : List UInt8 := dkwX0_wish_0 ++ []
theorem dksX0_wish_0 : cX0_wish.data.toList.drop 0 = dktX0_wish_0 := by decide +kernel
theorem dX0_wish_0 : decode cX0_wish 0 = .ok (.aload_n 2, 1) := dk_44 (dk_at dksX0_wish_0 0 rfl rfl)
theorem dX0_wish_1 : decode cX0_wish 1 = .ok (.iconst 0, 1) := dk_3 (dk_at dksX0_wish_0 1 rfl rfl)
theorem dX0_wish_2 : decode cX0_wish 2 = .ok (.aload_n 0, 1) := dk_42 (dk_at dksX0_wish_0 2 rfl rfl)
theorem dX0_wish_3 : decode cX0_wish 3 = .ok (.iload_n 1, 1) := dk_27 (dk_at dksX0_wish_0 3 rfl rfl)
theorem dX0_wish_4 : decode cX0_wish 4 = .ok (.invokevirtual 32, 3) := dk_182 0 32 (dk_at dksX0_wish_0 4 rfl rfl)
theorem dX0_wish_7 : decode cX0_wish 7 = .ok (.i2l, 1) := dk_133 (dk_at dksX0_wish_0 7 rfl rfl)
theorem dX0_wish_8 : decode cX0_wish 8 = .ok (.lastore, 1) := dk_80 (dk_at dksX0_wish_0 8 rfl rfl)
theorem dX0_wish_9 : decode cX0_wish 9 = .ok (.goto 9, 3) := dk_167 0 9 (dk_at dksX0_wish_0 9 rfl rfl)
theorem dX0_wish_12 : decode cX0_wish 12 = .ok (.astore_n 3, 1) := dk_78 (dk_at dksX0_wish_0 12 rfl rfl)
theorem dX0_wish_13 : decode cX0_wish 13 = .ok (.iconst 1, 1) := dk_4 (dk_at dksX0_wish_0 13 rfl rfl)
theorem dX0_wish_14 : decode cX0_wish 14 = .ok (.ireturn, 1) := dk_172 (dk_at dksX0_wish_0 14 rfl rfl)
theorem dX0_wish_15 : decode cX0_wish 15 = .ok (.astore_n 3, 1) := dk_78 (dk_at dksX0_wish_0 15 rfl rfl)
theorem dX0_wish_16 : decode cX0_wish 16 = .ok (.iconst 2, 1) := dk_5 (dk_at dksX0_wish_0 16 rfl rfl)
theorem dX0_wish_17 : decode cX0_wish 17 = .ok (.ireturn, 1) := dk_172 (dk_at dksX0_wish_0 17 rfl rfl)
theorem dX0_wish_18 : decode cX0_wish 18 = .ok (.iconst 0, 1) := dk_3 (dk_at dksX0_wish_0 18 rfl rfl)
theorem dX0_wish_19 : decode cX0_wish 19 = .ok (.ireturn, 1) := dk_172 (dk_at dksX0_wish_0 19 rfl rfl)
abbrev cX0_isSound : ByteArray := method_9_code
def yX0_isSound : MethodName := ⟨RX0, "isSound", "(LEventWindows;[J)I"⟩
def dkwX0_isSound_0 : List UInt8 := [43, 3, 42, 182, 0, 35, 153, 0, 7, 10, 167, 0, 4, 9, 80, 167, 0, 6, 77, 4, 172, 3, 172]
abbrev dktX0_isSound_0 : List UInt8 := dkwX0_isSound_0 ++ []
theorem dksX0_isSound_0 : cX0_isSound.data.toList.drop 0 = dktX0_isSound_0 := by decide +kernel
theorem dX0_isSound_0 : decode cX0_isSound 0 = .ok (.aload_n 1, 1) := dk_43 (dk_at dksX0_isSound_0 0 rfl rfl)
theorem dX0_isSound_1 : decode cX0_isSound 1 = .ok (.iconst 0, 1) := dk_3 (dk_at dksX0_isSound_0 1 rfl rfl)
theorem dX0_isSound_2 : decode cX0_isSound 2 = .ok (.aload_n 0, 1) := dk_42 (dk_at dksX0_isSound_0 2 rfl rfl)
theorem dX0_isSound_3 : decode cX0_isSound 3 = .ok (.invokevirtual 35, 3) := dk_182 0 35 (dk_at dksX0_isSound_0 3 rfl rfl)
theorem dX0_isSound_6 : decode cX0_isSound 6 = .ok (.ifCond .eq 7, 3) := dk_153 0 7 (dk_at dksX0_isSound_0 6 rfl rfl)
theorem dX0_isSound_9 : decode cX0_isSound 9 = .ok (.lconst 1, 1) := dk_10 (dk_at dksX0_isSound_0 9 rfl rfl)
theorem dX0_isSound_10 : decode cX0_isSound 10 = .ok (.goto 4, 3) := dk_167 0 4 (dk_at dksX0_isSound_0 10 rfl rfl)
theorem dX0_isSound_13 : decode cX0_isSound 13 = .ok (.lconst 0, 1) := dk_9 (dk_at dksX0_isSound_0 13 rfl rfl)
theorem dX0_isSound_14 : decode cX0_isSound 14 = .ok (.lastore, 1) := dk_80 (dk_at dksX0_isSound_0 14 rfl rfl)
theorem dX0_isSound_15 : decode cX0_isSound 15 = .ok (.goto 6, 3) := dk_167 0 6 (dk_at dksX0_isSound_0 15 rfl rfl)
theorem dX0_isSound_18 : decode cX0_isSound 18 = .ok (.astore_n 2, 1) := dk_77 (dk_at dksX0_isSound_0 18 rfl rfl)
theorem dX0_isSound_19 : decode cX0_isSound 19 = .ok (.iconst 1, 1) := dk_4 (dk_at dksX0_isSound_0 19 rfl rfl)
theorem dX0_isSound_20 : decode cX0_isSound 20 = .ok (.ireturn, 1) := dk_172 (dk_at dksX0_isSound_0 20 rfl rfl)
theorem dX0_isSound_21 : decode cX0_isSound 21 = .ok (.iconst 0, 1) := dk_3 (dk_at dksX0_isSound_0 21 rfl rfl)
theorem dX0_isSound_22 : decode cX0_isSound 22 = .ok (.ireturn, 1) := dk_172 (dk_at dksX0_isSound_0 22 rfl rfl)
abbrev cX0_roundLength : ByteArray := method_10_code
def yX0_roundLength : MethodName := ⟨RX0, "roundLength", "(LEventWindows;[J)I"⟩
def dkwX0_roundLength_0 : List UInt8 := [43, 3, 42, 182, 0, 39, 133, 80, 167, 0, 6, 77, 4, 172, 3, 172]
abbrev dktX0_roundLength_0 : List UInt8 := dkwX0_roundLength_0 ++ []
theorem dksX0_roundLength_0 : cX0_roundLength.data.toList.drop 0 = dktX0_roundLength_0 := by decide +kernel
theorem dX0_roundLength_0 : decode cX0_roundLength 0 = .ok (.aload_n 1, 1) := dk_43 (dk_at dksX0_roundLength_0 0 rfl rfl)
theorem dX0_roundLength_1 : decode cX0_roundLength 1 = .ok (.iconst 0, 1) := dk_3 (dk_at dksX0_roundLength_0 1 rfl rfl)
theorem dX0_roundLength_2 : decode cX0_roundLength 2 = .ok (.aload_n 0, 1) := dk_42 (dk_at dksX0_roundLength_0 2 rfl rfl)
theorem dX0_roundLength_3 : decode cX0_roundLength 3 = .ok (.invokevirtual 39, 3) := dk_182 0 39 (dk_at dksX0_roundLength_0 3 rfl rfl)
theorem dX0_roundLength_6 : decode cX0_roundLength 6 = .ok (.i2l, 1) := dk_133 (dk_at dksX0_roundLength_0 6 rfl rfl)
theorem dX0_roundLength_7 : decode cX0_roundLength 7 = .ok (.lastore, 1) := dk_80 (dk_at dksX0_roundLength_0 7 rfl rfl)
theorem dX0_roundLength_8 : decode cX0_roundLength 8 = .ok (.goto 6, 3) := dk_167 0 6 (dk_at dksX0_roundLength_0 8 rfl rfl)
theorem dX0_roundLength_11 : decode cX0_roundLength 11 = .ok (.astore_n 2, 1) := dk_77 (dk_at dksX0_roundLength_0 11 rfl rfl)
theorem dX0_roundLength_12 : decode cX0_roundLength 12 = .ok (.iconst 1, 1) := dk_4 (dk_at dksX0_roundLength_0 12 rfl rfl)
theorem dX0_roundLength_13 : decode cX0_roundLength 13 = .ok (.ireturn, 1) := dk_172 (dk_at dksX0_roundLength_0 13 rfl rfl)
theorem dX0_roundLength_14 : decode cX0_roundLength 14 = .ok (.iconst 0, 1) := dk_3 (dk_at dksX0_roundLength_0 14 rfl rfl)
theorem dX0_roundLength_15 : decode cX0_roundLength 15 = .ok (.ireturn, 1) := dk_172 (dk_at dksX0_roundLength_0 15 rfl rfl)
abbrev cX0_roundStep : ByteArray := method_11_code
def yX0_roundStep : MethodName := ⟨RX0, "roundStep", "(LEventWindows;I[J)I"⟩
def dkwX0_roundStep_0 : List UInt8 := [44, 3, 42, 27, 182, 0, 43, 133, 80, 167, 0, 9, 78, 4, 172, 78, 5, 172, 3, 172]
abbrev dktX0_roundStep_0 : List UInt8 := dkwX0_roundStep_0 ++ []
theorem dksX0_roundStep_0 : cX0_roundStep.data.toList.drop 0 = dktX0_roundStep_0 := by decide +kernel
theorem dX0_roundStep_0 : decode cX0_roundStep 0 = .ok (.aload_n 2, 1) := dk_44 (dk_at dksX0_roundStep_0 0 rfl rfl)
theorem dX0_roundStep_1 : decode cX0_roundStep 1 = .ok (.iconst 0, 1) := dk_3 (dk_at dksX0_roundStep_0 1 rfl rfl)
theorem dX0_roundStep_2 : decode cX0_roundStep 2 = .ok (.aload_n 0, 1) := dk_42 (dk_at dksX0_roundStep_0 2 rfl rfl)
theorem dX0_roundStep_3 : decode cX0_roundStep 3 = .ok (.iload_n 1, 1) := dk_27 (dk_at dksX0_roundStep_0 3 rfl rfl)
theorem dX0_roundStep_4 : decode cX0_roundStep 4 = .ok (.invokevirtual 43, 3) := dk_182 0 43 (dk_at dksX0_roundStep_0 4 rfl rfl)
theorem dX0_roundStep_7 : decode cX0_roundStep 7 = .ok (.i2l, 1) := dk_133 (dk_at dksX0_roundStep_0 7 rfl rfl)
theorem dX0_roundStep_8 : decode cX0_roundStep 8 = .ok (.lastore, 1) := dk_80 (dk_at dksX0_roundStep_0 8 rfl rfl)
theorem dX0_roundStep_9 : decode cX0_roundStep 9 = .ok (.goto 9, 3) := dk_167 0 9 (dk_at dksX0_roundStep_0 9 rfl rfl)
theorem dX0_roundStep_12 : decode cX0_roundStep 12 = .ok (.astore_n 3, 1) := dk_78 (dk_at dksX0_roundStep_0 12 rfl rfl)
theorem dX0_roundStep_13 : decode cX0_roundStep 13 = .ok (.iconst 1, 1) := dk_4 (dk_at dksX0_roundStep_0 13 rfl rfl)
theorem dX0_roundStep_14 : decode cX0_roundStep 14 = .ok (.ireturn, 1) := dk_172 (dk_at dksX0_roundStep_0 14 rfl rfl)
theorem dX0_roundStep_15 : decode cX0_roundStep 15 = .ok (.astore_n 3, 1) := dk_78 (dk_at dksX0_roundStep_0 15 rfl rfl)
theorem dX0_roundStep_16 : decode cX0_roundStep 16 = .ok (.iconst 2, 1) := dk_5 (dk_at dksX0_roundStep_0 16 rfl rfl)
theorem dX0_roundStep_17 : decode cX0_roundStep 17 = .ok (.ireturn, 1) := dk_172 (dk_at dksX0_roundStep_0 17 rfl rfl)
theorem dX0_roundStep_18 : decode cX0_roundStep 18 = .ok (.iconst 0, 1) := dk_3 (dk_at dksX0_roundStep_0 18 rfl rfl)
theorem dX0_roundStep_19 : decode cX0_roundStep 19 = .ok (.ireturn, 1) := dk_172 (dk_at dksX0_roundStep_0 19 rfl rfl)
abbrev cX0_roundLack : ByteArray := method_12_code
def yX0_roundLack : MethodName := ⟨RX0, "roundLack", "(LEventWindows;[J)I"⟩
def dkwX0_roundLack_0 : List UInt8 := [43, 3, 42, 182, 0, 46, 133, 80, 167, 0, 6, 77, 4, 172, 3, 172]
abbrev dktX0_roundLack_0 : List UInt8 := dkwX0_roundLack_0 ++ []
theorem dksX0_roundLack_0 : cX0_roundLack.data.toList.drop 0 = dktX0_roundLack_0 := by decide +kernel
theorem dX0_roundLack_0 : decode cX0_roundLack 0 = .ok (.aload_n 1, 1) := dk_43 (dk_at dksX0_roundLack_0 0 rfl rfl)
theorem dX0_roundLack_1 : decode cX0_roundLack 1 = .ok (.iconst 0, 1) := dk_3 (dk_at dksX0_roundLack_0 1 rfl rfl)
theorem dX0_roundLack_2 : decode cX0_roundLack 2 = .ok (.aload_n 0, 1) := dk_42 (dk_at dksX0_roundLack_0 2 rfl rfl)
theorem dX0_roundLack_3 : decode cX0_roundLack 3 = .ok (.invokevirtual 46, 3) := dk_182 0 46 (dk_at dksX0_roundLack_0 3 rfl rfl)
theorem dX0_roundLack_6 : decode cX0_roundLack 6 = .ok (.i2l, 1) := dk_133 (dk_at dksX0_roundLack_0 6 rfl rfl)
theorem dX0_roundLack_7 : decode cX0_roundLack 7 = .ok (.lastore, 1) := dk_80 (dk_at dksX0_roundLack_0 7 rfl rfl)
theorem dX0_roundLack_8 : decode cX0_roundLack 8 = .ok (.goto 6, 3) := dk_167 0 6 (dk_at dksX0_roundLack_0 8 rfl rfl)
theorem dX0_roundLack_11 : decode cX0_roundLack 11 = .ok (.astore_n 2, 1) := dk_77 (dk_at dksX0_roundLack_0 11 rfl rfl)
theorem dX0_roundLack_12 : decode cX0_roundLack 12 = .ok (.iconst 1, 1) := dk_4 (dk_at dksX0_roundLack_0 12 rfl rfl)
theorem dX0_roundLack_13 : decode cX0_roundLack 13 = .ok (.ireturn, 1) := dk_172 (dk_at dksX0_roundLack_0 13 rfl rfl)
theorem dX0_roundLack_14 : decode cX0_roundLack 14 = .ok (.iconst 0, 1) := dk_3 (dk_at dksX0_roundLack_0 14 rfl rfl)
theorem dX0_roundLack_15 : decode cX0_roundLack 15 = .ok (.ireturn, 1) := dk_172 (dk_at dksX0_roundLack_0 15 rfl rfl)
abbrev cX0_most : ByteArray := method_13_code
def yX0_most : MethodName := ⟨RX0, "most", "(LEventWindows;II[J)I"⟩
def dkwX0_most_0 : List UInt8 := [45, 3, 42, 27, 28, 182, 0, 49, 133, 80, 167, 0, 11, 58, 4, 4, 172, 58, 4, 5, 172, 3, 172]
abbrev dktX0_most_0 : List UInt8 := dkwX0_most_0 ++ []
theorem dksX0_most_0 : cX0_most.data.toList.drop 0 = dktX0_most_0 := by decide +kernel
theorem dX0_most_0 : decode cX0_most 0 = .ok (.aload_n 3, 1) := dk_45 (dk_at dksX0_most_0 0 rfl rfl)
theorem dX0_most_1 : decode cX0_most 1 = .ok (.iconst 0, 1) := dk_3 (dk_at dksX0_most_0 1 rfl rfl)
theorem dX0_most_2 : decode cX0_most 2 = .ok (.aload_n 0, 1) := dk_42 (dk_at dksX0_most_0 2 rfl rfl)
theorem dX0_most_3 : decode cX0_most 3 = .ok (.iload_n 1, 1) := dk_27 (dk_at dksX0_most_0 3 rfl rfl)
theorem dX0_most_4 : decode cX0_most 4 = .ok (.iload_n 2, 1) := dk_28 (dk_at dksX0_most_0 4 rfl rfl)
theorem dX0_most_5 : decode cX0_most 5 = .ok (.invokevirtual 49, 3) := dk_182 0 49 (dk_at dksX0_most_0 5 rfl rfl)
theorem dX0_most_8 : decode cX0_most 8 = .ok (.i2l, 1) := dk_133 (dk_at dksX0_most_0 8 rfl rfl)
theorem dX0_most_9 : decode cX0_most 9 = .ok (.lastore, 1) := dk_80 (dk_at dksX0_most_0 9 rfl rfl)
theorem dX0_most_10 : decode cX0_most 10 = .ok (.goto 11, 3) := dk_167 0 11 (dk_at dksX0_most_0 10 rfl rfl)
theorem dX0_most_13 : decode cX0_most 13 = .ok (.astore 4, 2) := dk_58 4 (dk_at dksX0_most_0 13 rfl rfl)
theorem dX0_most_15 : decode cX0_most 15 = .ok (.iconst 1, 1) := dk_4 (dk_at dksX0_most_0 15 rfl rfl)
theorem dX0_most_16 : decode cX0_most 16 = .ok (.ireturn, 1) := dk_172 (dk_at dksX0_most_0 16 rfl rfl)
theorem dX0_most_17 : decode cX0_most 17 = .ok (.astore 4, 2) := dk_58 4 (dk_at dksX0_most_0 17 rfl rfl)
theorem dX0_most_19 : decode cX0_most 19 = .ok (.iconst 2, 1) := dk_5 (dk_at dksX0_most_0 19 rfl rfl)
theorem dX0_most_20 : decode cX0_most 20 = .ok (.ireturn, 1) := dk_172 (dk_at dksX0_most_0 20 rfl rfl)
theorem dX0_most_21 : decode cX0_most 21 = .ok (.iconst 0, 1) := dk_3 (dk_at dksX0_most_0 21 rfl rfl)
theorem dX0_most_22 : decode cX0_most 22 = .ok (.ireturn, 1) := dk_172 (dk_at dksX0_most_0 22 rfl rfl)
abbrev cX0_least : ByteArray := method_14_code
def yX0_least : MethodName := ⟨RX0, "least", "(LEventWindows;II[J)I"⟩
def dkwX0_least_0 : List UInt8 := [45, 3, 42, 27, 28, 182, 0, 52, 133, 80, 167, 0, 11, 58, 4, 4, 172, 58, 4, 5, 172, 3, 172]
abbrev dktX0_least_0 : List UInt8 := dkwX0_least_0 ++ []
theorem dksX0_least_0 : cX0_least.data.toList.drop 0 = dktX0_least_0 := by decide +kernel
theorem dX0_least_0 : decode cX0_least 0 = .ok (.aload_n 3, 1) := dk_45 (dk_at dksX0_least_0 0 rfl rfl)
theorem dX0_least_1 : decode cX0_least 1 = .ok (.iconst 0, 1) := dk_3 (dk_at dksX0_least_0 1 rfl rfl)
theorem dX0_least_2 : decode cX0_least 2 = .ok (.aload_n 0, 1) := dk_42 (dk_at dksX0_least_0 2 rfl rfl)
theorem dX0_least_3 : decode cX0_least 3 = .ok (.iload_n 1, 1) := dk_27 (dk_at dksX0_least_0 3 rfl rfl)
theorem dX0_least_4 : decode cX0_least 4 = .ok (.iload_n 2, 1) := dk_28 (dk_at dksX0_least_0 4 rfl rfl)
theorem dX0_least_5 : decode cX0_least 5 = .ok (.invokevirtual 52, 3) := dk_182 0 52 (dk_at dksX0_least_0 5 rfl rfl)
theorem dX0_least_8 : decode cX0_least 8 = .ok (.i2l, 1) := dk_133 (dk_at dksX0_least_0 8 rfl rfl)
theorem dX0_least_9 : decode cX0_least 9 = .ok (.lastore, 1) := dk_80 (dk_at dksX0_least_0 9 rfl rfl)
theorem dX0_least_10 : decode cX0_least 10 = .ok (.goto 11, 3) := dk_167 0 11 (dk_at dksX0_least_0 10 rfl rfl)
theorem dX0_least_13 : decode cX0_least 13 = .ok (.astore 4, 2) := dk_58 4 (dk_at dksX0_least_0 13 rfl rfl)
theorem dX0_least_15 : decode cX0_least 15 = .ok (.iconst 1, 1) := dk_4 (dk_at dksX0_least_0 15 rfl rfl)
theorem dX0_least_16 : decode cX0_least 16 = .ok (.ireturn, 1) := dk_172 (dk_at dksX0_least_0 16 rfl rfl)
theorem dX0_least_17 : decode cX0_least 17 = .ok (.astore 4, 2) := dk_58 4 (dk_at dksX0_least_0 17 rfl rfl)
theorem dX0_least_19 : decode cX0_least 19 = .ok (.iconst 2, 1) := dk_5 (dk_at dksX0_least_0 19 rfl rfl)
theorem dX0_least_20 : decode cX0_least 20 = .ok (.ireturn, 1) := dk_172 (dk_at dksX0_least_0 20 rfl rfl)
theorem dX0_least_21 : decode cX0_least 21 = .ok (.iconst 0, 1) := dk_3 (dk_at dksX0_least_0 21 rfl rfl)
theorem dX0_least_22 : decode cX0_least 22 = .ok (.ireturn, 1) := dk_172 (dk_at dksX0_least_0 22 rfl rfl)
abbrev cX0_earliest : ByteArray := method_15_code
def yX0_earliest : MethodName := ⟨RX0, "earliest", "(LEventWindows;I[J)I"⟩
def dkwX0_earliest_0 : List UInt8 := [44, 3, 42, 27, 182, 0, 55, 133, 80, 167, 0, 9, 78, 4, 172, 78, 5, 172, 3, 172]
abbrev dktX0_earliest_0 : List UInt8 := dkwX0_earliest_0 ++ []
theorem dksX0_earliest_0 : cX0_earliest.data.toList.drop 0 = dktX0_earliest_0 := by decide +kernel
theorem dX0_earliest_0 : decode cX0_earliest 0 = .ok (.aload_n 2, 1) := dk_44 (dk_at dksX0_earliest_0 0 rfl rfl)
theorem dX0_earliest_1 : decode cX0_earliest 1 = .ok (.iconst 0, 1) := dk_3 (dk_at dksX0_earliest_0 1 rfl rfl)
theorem dX0_earliest_2 : decode cX0_earliest 2 = .ok (.aload_n 0, 1) := dk_42 (dk_at dksX0_earliest_0 2 rfl rfl)
theorem dX0_earliest_3 : decode cX0_earliest 3 = .ok (.iload_n 1, 1) := dk_27 (dk_at dksX0_earliest_0 3 rfl rfl)
theorem dX0_earliest_4 : decode cX0_earliest 4 = .ok (.invokevirtual 55, 3) := dk_182 0 55 (dk_at dksX0_earliest_0 4 rfl rfl)
theorem dX0_earliest_7 : decode cX0_earliest 7 = .ok (.i2l, 1) := dk_133 (dk_at dksX0_earliest_0 7 rfl rfl)
theorem dX0_earliest_8 : decode cX0_earliest 8 = .ok (.lastore, 1) := dk_80 (dk_at dksX0_earliest_0 8 rfl rfl)
theorem dX0_earliest_9 : decode cX0_earliest 9 = .ok (.goto 9, 3) := dk_167 0 9 (dk_at dksX0_earliest_0 9 rfl rfl)
theorem dX0_earliest_12 : decode cX0_earliest 12 = .ok (.astore_n 3, 1) := dk_78 (dk_at dksX0_earliest_0 12 rfl rfl)
theorem dX0_earliest_13 : decode cX0_earliest 13 = .ok (.iconst 1, 1) := dk_4 (dk_at dksX0_earliest_0 13 rfl rfl)
theorem dX0_earliest_14 : decode cX0_earliest 14 = .ok (.ireturn, 1) := dk_172 (dk_at dksX0_earliest_0 14 rfl rfl)
theorem dX0_earliest_15 : decode cX0_earliest 15 = .ok (.astore_n 3, 1) := dk_78 (dk_at dksX0_earliest_0 15 rfl rfl)
theorem dX0_earliest_16 : decode cX0_earliest 16 = .ok (.iconst 2, 1) := dk_5 (dk_at dksX0_earliest_0 16 rfl rfl)
theorem dX0_earliest_17 : decode cX0_earliest 17 = .ok (.ireturn, 1) := dk_172 (dk_at dksX0_earliest_0 17 rfl rfl)
theorem dX0_earliest_18 : decode cX0_earliest 18 = .ok (.iconst 0, 1) := dk_3 (dk_at dksX0_earliest_0 18 rfl rfl)
theorem dX0_earliest_19 : decode cX0_earliest 19 = .ok (.ireturn, 1) := dk_172 (dk_at dksX0_earliest_0 19 rfl rfl)
abbrev cX0_latest : ByteArray := method_16_code
def yX0_latest : MethodName := ⟨RX0, "latest", "(LEventWindows;I[J)I"⟩
def dkwX0_latest_0 : List UInt8 := [44, 3, 42, 27, 182, 0, 58, 133, 80, 167, 0, 9, 78, 4, 172, 78, 5, 172, 3, 172]
abbrev dktX0_latest_0 : List UInt8 := dkwX0_latest_0 ++ []
theorem dksX0_latest_0 : cX0_latest.data.toList.drop 0 = dktX0_latest_0 := by decide +kernel
theorem dX0_latest_0 : decode cX0_latest 0 = .ok (.aload_n 2, 1) := dk_44 (dk_at dksX0_latest_0 0 rfl rfl)
theorem dX0_latest_1 : decode cX0_latest 1 = .ok (.iconst 0, 1) := dk_3 (dk_at dksX0_latest_0 1 rfl rfl)
theorem dX0_latest_2 : decode cX0_latest 2 = .ok (.aload_n 0, 1) := dk_42 (dk_at dksX0_latest_0 2 rfl rfl)
theorem dX0_latest_3 : decode cX0_latest 3 = .ok (.iload_n 1, 1) := dk_27 (dk_at dksX0_latest_0 3 rfl rfl)
theorem dX0_latest_4 : decode cX0_latest 4 = .ok (.invokevirtual 58, 3) := dk_182 0 58 (dk_at dksX0_latest_0 4 rfl rfl)
theorem dX0_latest_7 : decode cX0_latest 7 = .ok (.i2l, 1) := dk_133 (dk_at dksX0_latest_0 7 rfl rfl)
theorem dX0_latest_8 : decode cX0_latest 8 = .ok (.lastore, 1) := dk_80 (dk_at dksX0_latest_0 8 rfl rfl)
theorem dX0_latest_9 : decode cX0_latest 9 = .ok (.goto 9, 3) := dk_167 0 9 (dk_at dksX0_latest_0 9 rfl rfl)
theorem dX0_latest_12 : decode cX0_latest 12 = .ok (.astore_n 3, 1) := dk_78 (dk_at dksX0_latest_0 12 rfl rfl)
theorem dX0_latest_13 : decode cX0_latest 13 = .ok (.iconst 1, 1) := dk_4 (dk_at dksX0_latest_0 13 rfl rfl)
theorem dX0_latest_14 : decode cX0_latest 14 = .ok (.ireturn, 1) := dk_172 (dk_at dksX0_latest_0 14 rfl rfl)
theorem dX0_latest_15 : decode cX0_latest 15 = .ok (.astore_n 3, 1) := dk_78 (dk_at dksX0_latest_0 15 rfl rfl)
theorem dX0_latest_16 : decode cX0_latest 16 = .ok (.iconst 2, 1) := dk_5 (dk_at dksX0_latest_0 16 rfl rfl)
theorem dX0_latest_17 : decode cX0_latest 17 = .ok (.ireturn, 1) := dk_172 (dk_at dksX0_latest_0 17 rfl rfl)
theorem dX0_latest_18 : decode cX0_latest 18 = .ok (.iconst 0, 1) := dk_3 (dk_at dksX0_latest_0 18 rfl rfl)
theorem dX0_latest_19 : decode cX0_latest 19 = .ok (.ireturn, 1) := dk_172 (dk_at dksX0_latest_0 19 rfl rfl)
abbrev cX0_slack : ByteArray := method_17_code
def yX0_slack : MethodName := ⟨RX0, "slack", "(LEventWindows;I[J)I"⟩
def dkwX0_slack_0 : List UInt8 := [44, 3, 42, 27, 182, 0, 61, 133, 80, 167, 0, 9, 78, 4, 172, 78, 5, 172, 3, 172]
abbrev dktX0_slack_0 : List UInt8 := dkwX0_slack_0 ++ []
theorem dksX0_slack_0 : cX0_slack.data.toList.drop 0 = dktX0_slack_0 := by decide +kernel
theorem dX0_slack_0 : decode cX0_slack 0 = .ok (.aload_n 2, 1) := dk_44 (dk_at dksX0_slack_0 0 rfl rfl)
theorem dX0_slack_1 : decode cX0_slack 1 = .ok (.iconst 0, 1) := dk_3 (dk_at dksX0_slack_0 1 rfl rfl)
theorem dX0_slack_2 : decode cX0_slack 2 = .ok (.aload_n 0, 1) := dk_42 (dk_at dksX0_slack_0 2 rfl rfl)
theorem dX0_slack_3 : decode cX0_slack 3 = .ok (.iload_n 1, 1) := dk_27 (dk_at dksX0_slack_0 3 rfl rfl)
theorem dX0_slack_4 : decode cX0_slack 4 = .ok (.invokevirtual 61, 3) := dk_182 0 61 (dk_at dksX0_slack_0 4 rfl rfl)
theorem dX0_slack_7 : decode cX0_slack 7 = .ok (.i2l, 1) := dk_133 (dk_at dksX0_slack_0 7 rfl rfl)
theorem dX0_slack_8 : decode cX0_slack 8 = .ok (.lastore, 1) := dk_80 (dk_at dksX0_slack_0 8 rfl rfl)
theorem dX0_slack_9 : decode cX0_slack 9 = .ok (.goto 9, 3) := dk_167 0 9 (dk_at dksX0_slack_0 9 rfl rfl)
theorem dX0_slack_12 : decode cX0_slack 12 = .ok (.astore_n 3, 1) := dk_78 (dk_at dksX0_slack_0 12 rfl rfl)
theorem dX0_slack_13 : decode cX0_slack 13 = .ok (.iconst 1, 1) := dk_4 (dk_at dksX0_slack_0 13 rfl rfl)
theorem dX0_slack_14 : decode cX0_slack 14 = .ok (.ireturn, 1) := dk_172 (dk_at dksX0_slack_0 14 rfl rfl)
theorem dX0_slack_15 : decode cX0_slack 15 = .ok (.astore_n 3, 1) := dk_78 (dk_at dksX0_slack_0 15 rfl rfl)
theorem dX0_slack_16 : decode cX0_slack 16 = .ok (.iconst 2, 1) := dk_5 (dk_at dksX0_slack_0 16 rfl rfl)
theorem dX0_slack_17 : decode cX0_slack 17 = .ok (.ireturn, 1) := dk_172 (dk_at dksX0_slack_0 17 rfl rfl)
theorem dX0_slack_18 : decode cX0_slack 18 = .ok (.iconst 0, 1) := dk_3 (dk_at dksX0_slack_0 18 rfl rfl)
theorem dX0_slack_19 : decode cX0_slack 19 = .ok (.ireturn, 1) := dk_172 (dk_at dksX0_slack_0 19 rfl rfl)
abbrev cX0_wayLength : ByteArray := method_18_code
def yX0_wayLength : MethodName := ⟨RX0, "wayLength", "(LEventWindows;II[J)I"⟩
def dkwX0_wayLength_0 : List UInt8 := [45, 3, 42, 27, 28, 182, 0, 64, 133, 80, 167, 0, 11, 58, 4, 4, 172, 58, 4, 5, 172, 3, 172]
abbrev dktX0_wayLength_0 : List UInt8 := dkwX0_wayLength_0 ++ []
theorem dksX0_wayLength_0 : cX0_wayLength.data.toList.drop 0 = dktX0_wayLength_0 := by decide +kernel
theorem dX0_wayLength_0 : decode cX0_wayLength 0 = .ok (.aload_n 3, 1) := dk_45 (dk_at dksX0_wayLength_0 0 rfl rfl)
theorem dX0_wayLength_1 : decode cX0_wayLength 1 = .ok (.iconst 0, 1) := dk_3 (dk_at dksX0_wayLength_0 1 rfl rfl)
theorem dX0_wayLength_2 : decode cX0_wayLength 2 = .ok (.aload_n 0, 1) := dk_42 (dk_at dksX0_wayLength_0 2 rfl rfl)
theorem dX0_wayLength_3 : decode cX0_wayLength 3 = .ok (.iload_n 1, 1) := dk_27 (dk_at dksX0_wayLength_0 3 rfl rfl)
theorem dX0_wayLength_4 : decode cX0_wayLength 4 = .ok (.iload_n 2, 1) := dk_28 (dk_at dksX0_wayLength_0 4 rfl rfl)
theorem dX0_wayLength_5 : decode cX0_wayLength 5 = .ok (.invokevirtual 64, 3) := dk_182 0 64 (dk_at dksX0_wayLength_0 5 rfl rfl)
theorem dX0_wayLength_8 : decode cX0_wayLength 8 = .ok (.i2l, 1) := dk_133 (dk_at dksX0_wayLength_0 8 rfl rfl)
theorem dX0_wayLength_9 : decode cX0_wayLength 9 = .ok (.lastore, 1) := dk_80 (dk_at dksX0_wayLength_0 9 rfl rfl)
theorem dX0_wayLength_10 : decode cX0_wayLength 10 = .ok (.goto 11, 3) := dk_167 0 11 (dk_at dksX0_wayLength_0 10 rfl rfl)
theorem dX0_wayLength_13 : decode cX0_wayLength 13 = .ok (.astore 4, 2) := dk_58 4 (dk_at dksX0_wayLength_0 13 rfl rfl)
theorem dX0_wayLength_15 : decode cX0_wayLength 15 = .ok (.iconst 1, 1) := dk_4 (dk_at dksX0_wayLength_0 15 rfl rfl)
theorem dX0_wayLength_16 : decode cX0_wayLength 16 = .ok (.ireturn, 1) := dk_172 (dk_at dksX0_wayLength_0 16 rfl rfl)
theorem dX0_wayLength_17 : decode cX0_wayLength 17 = .ok (.astore 4, 2) := dk_58 4 (dk_at dksX0_wayLength_0 17 rfl rfl)
theorem dX0_wayLength_19 : decode cX0_wayLength 19 = .ok (.iconst 2, 1) := dk_5 (dk_at dksX0_wayLength_0 19 rfl rfl)
theorem dX0_wayLength_20 : decode cX0_wayLength 20 = .ok (.ireturn, 1) := dk_172 (dk_at dksX0_wayLength_0 20 rfl rfl)
theorem dX0_wayLength_21 : decode cX0_wayLength 21 = .ok (.iconst 0, 1) := dk_3 (dk_at dksX0_wayLength_0 21 rfl rfl)
theorem dX0_wayLength_22 : decode cX0_wayLength 22 = .ok (.ireturn, 1) := dk_172 (dk_at dksX0_wayLength_0 22 rfl rfl)
abbrev cX0_wayStep : ByteArray := method_19_code
def yX0_wayStep : MethodName := ⟨RX0, "wayStep", "(LEventWindows;III[J)I"⟩
def dkwX0_wayStep_1 : List UInt8 := [172]
abbrev dktX0_wayStep_1 : List UInt8 := dkwX0_wayStep_1 ++ []
def dkwX0_wayStep_0 : List UInt8 := [25, 4, 3, 42, 27, 28, 29, 182, 0, 67, 133, 80, 167, 0, 11, 58, 5, 4, 172, 58, 5, 5, 172, 3]
abbrev dktX0_wayStep_0 : List UInt8 := dkwX0_wayStep_0 ++ dktX0_wayStep_1
theorem dksX0_wayStep_0 : cX0_wayStep.data.toList.drop 0 = dktX0_wayStep_0 := by decide +kernel
theorem dksX0_wayStep_1 : cX0_wayStep.data.toList.drop 24 = dktX0_wayStep_1 := dk_seg dksX0_wayStep_0 24 rfl rfl
theorem dX0_wayStep_0 : decode cX0_wayStep 0 = .ok (.aload 4, 2) := dk_25 4 (dk_at dksX0_wayStep_0 0 rfl rfl)
theorem dX0_wayStep_2 : decode cX0_wayStep 2 = .ok (.iconst 0, 1) := dk_3 (dk_at dksX0_wayStep_0 2 rfl rfl)
theorem dX0_wayStep_3 : decode cX0_wayStep 3 = .ok (.aload_n 0, 1) := dk_42 (dk_at dksX0_wayStep_0 3 rfl rfl)
theorem dX0_wayStep_4 : decode cX0_wayStep 4 = .ok (.iload_n 1, 1) := dk_27 (dk_at dksX0_wayStep_0 4 rfl rfl)
theorem dX0_wayStep_5 : decode cX0_wayStep 5 = .ok (.iload_n 2, 1) := dk_28 (dk_at dksX0_wayStep_0 5 rfl rfl)
theorem dX0_wayStep_6 : decode cX0_wayStep 6 = .ok (.iload_n 3, 1) := dk_29 (dk_at dksX0_wayStep_0 6 rfl rfl)
theorem dX0_wayStep_7 : decode cX0_wayStep 7 = .ok (.invokevirtual 67, 3) := dk_182 0 67 (dk_at dksX0_wayStep_0 7 rfl rfl)
theorem dX0_wayStep_10 : decode cX0_wayStep 10 = .ok (.i2l, 1) := dk_133 (dk_at dksX0_wayStep_0 10 rfl rfl)
theorem dX0_wayStep_11 : decode cX0_wayStep 11 = .ok (.lastore, 1) := dk_80 (dk_at dksX0_wayStep_0 11 rfl rfl)
theorem dX0_wayStep_12 : decode cX0_wayStep 12 = .ok (.goto 11, 3) := dk_167 0 11 (dk_at dksX0_wayStep_0 12 rfl rfl)
theorem dX0_wayStep_15 : decode cX0_wayStep 15 = .ok (.astore 5, 2) := dk_58 5 (dk_at dksX0_wayStep_0 15 rfl rfl)
theorem dX0_wayStep_17 : decode cX0_wayStep 17 = .ok (.iconst 1, 1) := dk_4 (dk_at dksX0_wayStep_0 17 rfl rfl)
theorem dX0_wayStep_18 : decode cX0_wayStep 18 = .ok (.ireturn, 1) := dk_172 (dk_at dksX0_wayStep_0 18 rfl rfl)
theorem dX0_wayStep_19 : decode cX0_wayStep 19 = .ok (.astore 5, 2) := dk_58 5 (dk_at dksX0_wayStep_0 19 rfl rfl)
theorem dX0_wayStep_21 : decode cX0_wayStep 21 = .ok (.iconst 2, 1) := dk_5 (dk_at dksX0_wayStep_0 21 rfl rfl)
theorem dX0_wayStep_22 : decode cX0_wayStep 22 = .ok (.ireturn, 1) := dk_172 (dk_at dksX0_wayStep_0 22 rfl rfl)
theorem dX0_wayStep_23 : decode cX0_wayStep 23 = .ok (.iconst 0, 1) := dk_3 (dk_at dksX0_wayStep_0 23 rfl rfl)
theorem dX0_wayStep_24 : decode cX0_wayStep 24 = .ok (.ireturn, 1) := dk_172 (dk_at dksX0_wayStep_1 0 rfl rfl)
abbrev cX0_isTight : ByteArray := method_20_code
def yX0_isTight : MethodName := ⟨RX0, "isTight", "(LEventWindows;IZ[J)I"⟩
def dkwX0_isTight_1 : List UInt8 := [58, 4, 5, 172, 3, 172]
abbrev dktX0_isTight_1 : List UInt8 := dkwX0_isTight_1 ++ []
def dkwX0_isTight_0 : List UInt8 := [45, 3, 42, 27, 28, 182, 0, 71, 153, 0, 7, 10, 167, 0, 4, 9, 80, 167, 0, 11, 58, 4, 4, 172]
abbrev dktX0_isTight_0 : List UInt8 := dkwX0_isTight_0 ++ dktX0_isTight_1
theorem dksX0_isTight_0 : cX0_isTight.data.toList.drop 0 = dktX0_isTight_0 := by decide +kernel
theorem dksX0_isTight_1 : cX0_isTight.data.toList.drop 24 = dktX0_isTight_1 := dk_seg dksX0_isTight_0 24 rfl rfl
theorem dX0_isTight_0 : decode cX0_isTight 0 = .ok (.aload_n 3, 1) := dk_45 (dk_at dksX0_isTight_0 0 rfl rfl)
theorem dX0_isTight_1 : decode cX0_isTight 1 = .ok (.iconst 0, 1) := dk_3 (dk_at dksX0_isTight_0 1 rfl rfl)
theorem dX0_isTight_2 : decode cX0_isTight 2 = .ok (.aload_n 0, 1) := dk_42 (dk_at dksX0_isTight_0 2 rfl rfl)
theorem dX0_isTight_3 : decode cX0_isTight 3 = .ok (.iload_n 1, 1) := dk_27 (dk_at dksX0_isTight_0 3 rfl rfl)
theorem dX0_isTight_4 : decode cX0_isTight 4 = .ok (.iload_n 2, 1) := dk_28 (dk_at dksX0_isTight_0 4 rfl rfl)
theorem dX0_isTight_5 : decode cX0_isTight 5 = .ok (.invokevirtual 71, 3) := dk_182 0 71 (dk_at dksX0_isTight_0 5 rfl rfl)
theorem dX0_isTight_8 : decode cX0_isTight 8 = .ok (.ifCond .eq 7, 3) := dk_153 0 7 (dk_at dksX0_isTight_0 8 rfl rfl)
theorem dX0_isTight_11 : decode cX0_isTight 11 = .ok (.lconst 1, 1) := dk_10 (dk_at dksX0_isTight_0 11 rfl rfl)
theorem dX0_isTight_12 : decode cX0_isTight 12 = .ok (.goto 4, 3) := dk_167 0 4 (dk_at dksX0_isTight_0 12 rfl rfl)
theorem dX0_isTight_15 : decode cX0_isTight 15 = .ok (.lconst 0, 1) := dk_9 (dk_at dksX0_isTight_0 15 rfl rfl)
theorem dX0_isTight_16 : decode cX0_isTight 16 = .ok (.lastore, 1) := dk_80 (dk_at dksX0_isTight_0 16 rfl rfl)
theorem dX0_isTight_17 : decode cX0_isTight 17 = .ok (.goto 11, 3) := dk_167 0 11 (dk_at dksX0_isTight_0 17 rfl rfl)
theorem dX0_isTight_20 : decode cX0_isTight 20 = .ok (.astore 4, 2) := dk_58 4 (dk_at dksX0_isTight_0 20 rfl rfl)
theorem dX0_isTight_22 : decode cX0_isTight 22 = .ok (.iconst 1, 1) := dk_4 (dk_at dksX0_isTight_0 22 rfl rfl)
theorem dX0_isTight_23 : decode cX0_isTight 23 = .ok (.ireturn, 1) := dk_172 (dk_at dksX0_isTight_0 23 rfl rfl)
theorem dX0_isTight_24 : decode cX0_isTight 24 = .ok (.astore 4, 2) := dk_58 4 (dk_at dksX0_isTight_1 0 rfl rfl)
theorem dX0_isTight_26 : decode cX0_isTight 26 = .ok (.iconst 2, 1) := dk_5 (dk_at dksX0_isTight_1 2 rfl rfl)
theorem dX0_isTight_27 : decode cX0_isTight 27 = .ok (.ireturn, 1) := dk_172 (dk_at dksX0_isTight_1 3 rfl rfl)
theorem dX0_isTight_28 : decode cX0_isTight 28 = .ok (.iconst 0, 1) := dk_3 (dk_at dksX0_isTight_1 4 rfl rfl)
theorem dX0_isTight_29 : decode cX0_isTight 29 = .ok (.ireturn, 1) := dk_172 (dk_at dksX0_isTight_1 5 rfl rfl)
abbrev cX0_isNeeded : ByteArray := method_21_code
def yX0_isNeeded : MethodName := ⟨RX0, "isNeeded", "(LEventWindows;I[J)I"⟩
def dkwX0_isNeeded_1 : List UInt8 := [172, 3, 172]
abbrev dktX0_isNeeded_1 : List UInt8 := dkwX0_isNeeded_1 ++ []
def dkwX0_isNeeded_0 : List UInt8 := [44, 3, 42, 27, 182, 0, 75, 153, 0, 7, 10, 167, 0, 4, 9, 80, 167, 0, 9, 78, 4, 172, 78, 5]
abbrev dktX0_isNeeded_0 : List UInt8 := dkwX0_isNeeded_0 ++ dktX0_isNeeded_1
theorem dksX0_isNeeded_0 : cX0_isNeeded.data.toList.drop 0 = dktX0_isNeeded_0 := by decide +kernel
theorem dksX0_isNeeded_1 : cX0_isNeeded.data.toList.drop 24 = dktX0_isNeeded_1 := dk_seg dksX0_isNeeded_0 24 rfl rfl
theorem dX0_isNeeded_0 : decode cX0_isNeeded 0 = .ok (.aload_n 2, 1) := dk_44 (dk_at dksX0_isNeeded_0 0 rfl rfl)
theorem dX0_isNeeded_1 : decode cX0_isNeeded 1 = .ok (.iconst 0, 1) := dk_3 (dk_at dksX0_isNeeded_0 1 rfl rfl)
theorem dX0_isNeeded_2 : decode cX0_isNeeded 2 = .ok (.aload_n 0, 1) := dk_42 (dk_at dksX0_isNeeded_0 2 rfl rfl)
theorem dX0_isNeeded_3 : decode cX0_isNeeded 3 = .ok (.iload_n 1, 1) := dk_27 (dk_at dksX0_isNeeded_0 3 rfl rfl)
theorem dX0_isNeeded_4 : decode cX0_isNeeded 4 = .ok (.invokevirtual 75, 3) := dk_182 0 75 (dk_at dksX0_isNeeded_0 4 rfl rfl)
theorem dX0_isNeeded_7 : decode cX0_isNeeded 7 = .ok (.ifCond .eq 7, 3) := dk_153 0 7 (dk_at dksX0_isNeeded_0 7 rfl rfl)
theorem dX0_isNeeded_10 : decode cX0_isNeeded 10 = .ok (.lconst 1, 1) := dk_10 (dk_at dksX0_isNeeded_0 10 rfl rfl)
theorem dX0_isNeeded_11 : decode cX0_isNeeded 11 = .ok (.goto 4, 3) := dk_167 0 4 (dk_at dksX0_isNeeded_0 11 rfl rfl)
theorem dX0_isNeeded_14 : decode cX0_isNeeded 14 = .ok (.lconst 0, 1) := dk_9 (dk_at dksX0_isNeeded_0 14 rfl rfl)
theorem dX0_isNeeded_15 : decode cX0_isNeeded 15 = .ok (.lastore, 1) := dk_80 (dk_at dksX0_isNeeded_0 15 rfl rfl)
theorem dX0_isNeeded_16 : decode cX0_isNeeded 16 = .ok (.goto 9, 3) := dk_167 0 9 (dk_at dksX0_isNeeded_0 16 rfl rfl)
theorem dX0_isNeeded_19 : decode cX0_isNeeded 19 = .ok (.astore_n 3, 1) := dk_78 (dk_at dksX0_isNeeded_0 19 rfl rfl)
theorem dX0_isNeeded_20 : decode cX0_isNeeded 20 = .ok (.iconst 1, 1) := dk_4 (dk_at dksX0_isNeeded_0 20 rfl rfl)
theorem dX0_isNeeded_21 : decode cX0_isNeeded 21 = .ok (.ireturn, 1) := dk_172 (dk_at dksX0_isNeeded_0 21 rfl rfl)
theorem dX0_isNeeded_22 : decode cX0_isNeeded 22 = .ok (.astore_n 3, 1) := dk_78 (dk_at dksX0_isNeeded_0 22 rfl rfl)
theorem dX0_isNeeded_23 : decode cX0_isNeeded 23 = .ok (.iconst 2, 1) := dk_5 (dk_at dksX0_isNeeded_0 23 rfl rfl)
theorem dX0_isNeeded_24 : decode cX0_isNeeded 24 = .ok (.ireturn, 1) := dk_172 (dk_at dksX0_isNeeded_1 0 rfl rfl)
theorem dX0_isNeeded_25 : decode cX0_isNeeded 25 = .ok (.iconst 0, 1) := dk_3 (dk_at dksX0_isNeeded_1 1 rfl rfl)
theorem dX0_isNeeded_26 : decode cX0_isNeeded 26 = .ok (.ireturn, 1) := dk_172 (dk_at dksX0_isNeeded_1 2 rfl rfl)
abbrev cX0_loose : ByteArray := method_22_code
def yX0_loose : MethodName := ⟨RX0, "loose", "(LEventWindows;[J)I"⟩
def dkwX0_loose_0 : List UInt8 := [43, 3, 42, 182, 0, 79, 133, 80, 167, 0, 6, 77, 4, 172, 3, 172]
abbrev dktX0_loose_0 : List UInt8 := dkwX0_loose_0 ++ []
theorem dksX0_loose_0 : cX0_loose.data.toList.drop 0 = dktX0_loose_0 := by decide +kernel
theorem dX0_loose_0 : decode cX0_loose 0 = .ok (.aload_n 1, 1) := dk_43 (dk_at dksX0_loose_0 0 rfl rfl)
theorem dX0_loose_1 : decode cX0_loose 1 = .ok (.iconst 0, 1) := dk_3 (dk_at dksX0_loose_0 1 rfl rfl)
theorem dX0_loose_2 : decode cX0_loose 2 = .ok (.aload_n 0, 1) := dk_42 (dk_at dksX0_loose_0 2 rfl rfl)
theorem dX0_loose_3 : decode cX0_loose 3 = .ok (.invokevirtual 79, 3) := dk_182 0 79 (dk_at dksX0_loose_0 3 rfl rfl)
theorem dX0_loose_6 : decode cX0_loose 6 = .ok (.i2l, 1) := dk_133 (dk_at dksX0_loose_0 6 rfl rfl)
theorem dX0_loose_7 : decode cX0_loose 7 = .ok (.lastore, 1) := dk_80 (dk_at dksX0_loose_0 7 rfl rfl)
theorem dX0_loose_8 : decode cX0_loose 8 = .ok (.goto 6, 3) := dk_167 0 6 (dk_at dksX0_loose_0 8 rfl rfl)
theorem dX0_loose_11 : decode cX0_loose 11 = .ok (.astore_n 2, 1) := dk_77 (dk_at dksX0_loose_0 11 rfl rfl)
theorem dX0_loose_12 : decode cX0_loose 12 = .ok (.iconst 1, 1) := dk_4 (dk_at dksX0_loose_0 12 rfl rfl)
theorem dX0_loose_13 : decode cX0_loose 13 = .ok (.ireturn, 1) := dk_172 (dk_at dksX0_loose_0 13 rfl rfl)
theorem dX0_loose_14 : decode cX0_loose 14 = .ok (.iconst 0, 1) := dk_3 (dk_at dksX0_loose_0 14 rfl rfl)
theorem dX0_loose_15 : decode cX0_loose 15 = .ok (.ireturn, 1) := dk_172 (dk_at dksX0_loose_0 15 rfl rfl)
abbrev cX0_critical : ByteArray := method_23_code
def yX0_critical : MethodName := ⟨RX0, "critical", "(LEventWindows;[J)I"⟩
def dkwX0_critical_0 : List UInt8 := [43, 3, 42, 182, 0, 82, 133, 80, 167, 0, 6, 77, 4, 172, 3, 172]
abbrev dktX0_critical_0 : List UInt8 := dkwX0_critical_0 ++ []
theorem dksX0_critical_0 : cX0_critical.data.toList.drop 0 = dktX0_critical_0 := by decide +kernel
theorem dX0_critical_0 : decode cX0_critical 0 = .ok (.aload_n 1, 1) := dk_43 (dk_at dksX0_critical_0 0 rfl rfl)
theorem dX0_critical_1 : decode cX0_critical 1 = .ok (.iconst 0, 1) := dk_3 (dk_at dksX0_critical_0 1 rfl rfl)
theorem dX0_critical_2 : decode cX0_critical 2 = .ok (.aload_n 0, 1) := dk_42 (dk_at dksX0_critical_0 2 rfl rfl)
theorem dX0_critical_3 : decode cX0_critical 3 = .ok (.invokevirtual 82, 3) := dk_182 0 82 (dk_at dksX0_critical_0 3 rfl rfl)
theorem dX0_critical_6 : decode cX0_critical 6 = .ok (.i2l, 1) := dk_133 (dk_at dksX0_critical_0 6 rfl rfl)
theorem dX0_critical_7 : decode cX0_critical 7 = .ok (.lastore, 1) := dk_80 (dk_at dksX0_critical_0 7 rfl rfl)
theorem dX0_critical_8 : decode cX0_critical 8 = .ok (.goto 6, 3) := dk_167 0 6 (dk_at dksX0_critical_0 8 rfl rfl)
theorem dX0_critical_11 : decode cX0_critical 11 = .ok (.astore_n 2, 1) := dk_77 (dk_at dksX0_critical_0 11 rfl rfl)
theorem dX0_critical_12 : decode cX0_critical 12 = .ok (.iconst 1, 1) := dk_4 (dk_at dksX0_critical_0 12 rfl rfl)
theorem dX0_critical_13 : decode cX0_critical 13 = .ok (.ireturn, 1) := dk_172 (dk_at dksX0_critical_0 13 rfl rfl)
theorem dX0_critical_14 : decode cX0_critical 14 = .ok (.iconst 0, 1) := dk_3 (dk_at dksX0_critical_0 14 rfl rfl)
theorem dX0_critical_15 : decode cX0_critical 15 = .ok (.ireturn, 1) := dk_172 (dk_at dksX0_critical_0 15 rfl rfl)
abbrev cX0_mustPrecede : ByteArray := method_24_code
def yX0_mustPrecede : MethodName := ⟨RX0, "mustPrecede", "(LEventWindows;II[J)I"⟩
def dkwX0_mustPrecede_1 : List UInt8 := [58, 4, 5, 172, 3, 172]
abbrev dktX0_mustPrecede_1 : List UInt8 := dkwX0_mustPrecede_1 ++ []
def dkwX0_mustPrecede_0 : List UInt8 := [45, 3, 42, 27, 28, 182, 0, 85, 153, 0, 7, 10, 167, 0, 4, 9, 80, 167, 0, 11, 58, 4, 4, 172]
abbrev dktX0_mustPrecede_0 : List UInt8 := dkwX0_mustPrecede_0 ++ dktX0_mustPrecede_1
theorem dksX0_mustPrecede_0 : cX0_mustPrecede.data.toList.drop 0 = dktX0_mustPrecede_0 := by decide +kernel
theorem dksX0_mustPrecede_1 : cX0_mustPrecede.data.toList.drop 24 = dktX0_mustPrecede_1 := dk_seg dksX0_mustPrecede_0 24 rfl rfl
theorem dX0_mustPrecede_0 : decode cX0_mustPrecede 0 = .ok (.aload_n 3, 1) := dk_45 (dk_at dksX0_mustPrecede_0 0 rfl rfl)
theorem dX0_mustPrecede_1 : decode cX0_mustPrecede 1 = .ok (.iconst 0, 1) := dk_3 (dk_at dksX0_mustPrecede_0 1 rfl rfl)
theorem dX0_mustPrecede_2 : decode cX0_mustPrecede 2 = .ok (.aload_n 0, 1) := dk_42 (dk_at dksX0_mustPrecede_0 2 rfl rfl)
theorem dX0_mustPrecede_3 : decode cX0_mustPrecede 3 = .ok (.iload_n 1, 1) := dk_27 (dk_at dksX0_mustPrecede_0 3 rfl rfl)
theorem dX0_mustPrecede_4 : decode cX0_mustPrecede 4 = .ok (.iload_n 2, 1) := dk_28 (dk_at dksX0_mustPrecede_0 4 rfl rfl)
theorem dX0_mustPrecede_5 : decode cX0_mustPrecede 5 = .ok (.invokevirtual 85, 3) := dk_182 0 85 (dk_at dksX0_mustPrecede_0 5 rfl rfl)
theorem dX0_mustPrecede_8 : decode cX0_mustPrecede 8 = .ok (.ifCond .eq 7, 3) := dk_153 0 7 (dk_at dksX0_mustPrecede_0 8 rfl rfl)
theorem dX0_mustPrecede_11 : decode cX0_mustPrecede 11 = .ok (.lconst 1, 1) := dk_10 (dk_at dksX0_mustPrecede_0 11 rfl rfl)
theorem dX0_mustPrecede_12 : decode cX0_mustPrecede 12 = .ok (.goto 4, 3) := dk_167 0 4 (dk_at dksX0_mustPrecede_0 12 rfl rfl)
theorem dX0_mustPrecede_15 : decode cX0_mustPrecede 15 = .ok (.lconst 0, 1) := dk_9 (dk_at dksX0_mustPrecede_0 15 rfl rfl)
theorem dX0_mustPrecede_16 : decode cX0_mustPrecede 16 = .ok (.lastore, 1) := dk_80 (dk_at dksX0_mustPrecede_0 16 rfl rfl)
theorem dX0_mustPrecede_17 : decode cX0_mustPrecede 17 = .ok (.goto 11, 3) := dk_167 0 11 (dk_at dksX0_mustPrecede_0 17 rfl rfl)
theorem dX0_mustPrecede_20 : decode cX0_mustPrecede 20 = .ok (.astore 4, 2) := dk_58 4 (dk_at dksX0_mustPrecede_0 20 rfl rfl)
theorem dX0_mustPrecede_22 : decode cX0_mustPrecede 22 = .ok (.iconst 1, 1) := dk_4 (dk_at dksX0_mustPrecede_0 22 rfl rfl)
theorem dX0_mustPrecede_23 : decode cX0_mustPrecede 23 = .ok (.ireturn, 1) := dk_172 (dk_at dksX0_mustPrecede_0 23 rfl rfl)
theorem dX0_mustPrecede_24 : decode cX0_mustPrecede 24 = .ok (.astore 4, 2) := dk_58 4 (dk_at dksX0_mustPrecede_1 0 rfl rfl)
theorem dX0_mustPrecede_26 : decode cX0_mustPrecede 26 = .ok (.iconst 2, 1) := dk_5 (dk_at dksX0_mustPrecede_1 2 rfl rfl)
theorem dX0_mustPrecede_27 : decode cX0_mustPrecede 27 = .ok (.ireturn, 1) := dk_172 (dk_at dksX0_mustPrecede_1 3 rfl rfl)
theorem dX0_mustPrecede_28 : decode cX0_mustPrecede 28 = .ok (.iconst 0, 1) := dk_3 (dk_at dksX0_mustPrecede_1 4 rfl rfl)
theorem dX0_mustPrecede_29 : decode cX0_mustPrecede 29 = .ok (.ireturn, 1) := dk_172 (dk_at dksX0_mustPrecede_1 5 rfl rfl)
abbrev cX0_canMeet : ByteArray := method_25_code
def yX0_canMeet : MethodName := ⟨RX0, "canMeet", "(LEventWindows;II[J)I"⟩
def dkwX0_canMeet_1 : List UInt8 := [58, 4, 5, 172, 3, 172]
abbrev dktX0_canMeet_1 : List UInt8 := dkwX0_canMeet_1 ++ []
def dkwX0_canMeet_0 : List UInt8 := [45, 3, 42, 27, 28, 182, 0, 89, 153, 0, 7, 10, 167, 0, 4, 9, 80, 167, 0, 11, 58, 4, 4, 172]
abbrev dktX0_canMeet_0 : List UInt8 := dkwX0_canMeet_0 ++ dktX0_canMeet_1
theorem dksX0_canMeet_0 : cX0_canMeet.data.toList.drop 0 = dktX0_canMeet_0 := by decide +kernel
theorem dksX0_canMeet_1 : cX0_canMeet.data.toList.drop 24 = dktX0_canMeet_1 := dk_seg dksX0_canMeet_0 24 rfl rfl
theorem dX0_canMeet_0 : decode cX0_canMeet 0 = .ok (.aload_n 3, 1) := dk_45 (dk_at dksX0_canMeet_0 0 rfl rfl)
theorem dX0_canMeet_1 : decode cX0_canMeet 1 = .ok (.iconst 0, 1) := dk_3 (dk_at dksX0_canMeet_0 1 rfl rfl)
theorem dX0_canMeet_2 : decode cX0_canMeet 2 = .ok (.aload_n 0, 1) := dk_42 (dk_at dksX0_canMeet_0 2 rfl rfl)
theorem dX0_canMeet_3 : decode cX0_canMeet 3 = .ok (.iload_n 1, 1) := dk_27 (dk_at dksX0_canMeet_0 3 rfl rfl)
theorem dX0_canMeet_4 : decode cX0_canMeet 4 = .ok (.iload_n 2, 1) := dk_28 (dk_at dksX0_canMeet_0 4 rfl rfl)
theorem dX0_canMeet_5 : decode cX0_canMeet 5 = .ok (.invokevirtual 89, 3) := dk_182 0 89 (dk_at dksX0_canMeet_0 5 rfl rfl)
theorem dX0_canMeet_8 : decode cX0_canMeet 8 = .ok (.ifCond .eq 7, 3) := dk_153 0 7 (dk_at dksX0_canMeet_0 8 rfl rfl)
theorem dX0_canMeet_11 : decode cX0_canMeet 11 = .ok (.lconst 1, 1) := dk_10 (dk_at dksX0_canMeet_0 11 rfl rfl)
theorem dX0_canMeet_12 : decode cX0_canMeet 12 = .ok (.goto 4, 3) := dk_167 0 4 (dk_at dksX0_canMeet_0 12 rfl rfl)
theorem dX0_canMeet_15 : decode cX0_canMeet 15 = .ok (.lconst 0, 1) := dk_9 (dk_at dksX0_canMeet_0 15 rfl rfl)
theorem dX0_canMeet_16 : decode cX0_canMeet 16 = .ok (.lastore, 1) := dk_80 (dk_at dksX0_canMeet_0 16 rfl rfl)
theorem dX0_canMeet_17 : decode cX0_canMeet 17 = .ok (.goto 11, 3) := dk_167 0 11 (dk_at dksX0_canMeet_0 17 rfl rfl)
theorem dX0_canMeet_20 : decode cX0_canMeet 20 = .ok (.astore 4, 2) := dk_58 4 (dk_at dksX0_canMeet_0 20 rfl rfl)
theorem dX0_canMeet_22 : decode cX0_canMeet 22 = .ok (.iconst 1, 1) := dk_4 (dk_at dksX0_canMeet_0 22 rfl rfl)
theorem dX0_canMeet_23 : decode cX0_canMeet 23 = .ok (.ireturn, 1) := dk_172 (dk_at dksX0_canMeet_0 23 rfl rfl)
theorem dX0_canMeet_24 : decode cX0_canMeet 24 = .ok (.astore 4, 2) := dk_58 4 (dk_at dksX0_canMeet_1 0 rfl rfl)
theorem dX0_canMeet_26 : decode cX0_canMeet 26 = .ok (.iconst 2, 1) := dk_5 (dk_at dksX0_canMeet_1 2 rfl rfl)
theorem dX0_canMeet_27 : decode cX0_canMeet 27 = .ok (.ireturn, 1) := dk_172 (dk_at dksX0_canMeet_1 3 rfl rfl)
theorem dX0_canMeet_28 : decode cX0_canMeet 28 = .ok (.iconst 0, 1) := dk_3 (dk_at dksX0_canMeet_1 4 rfl rfl)
theorem dX0_canMeet_29 : decode cX0_canMeet 29 = .ok (.ireturn, 1) := dk_172 (dk_at dksX0_canMeet_1 5 rfl rfl)
abbrev cX0_part : ByteArray := method_26_code
def yX0_part : MethodName := ⟨RX0, "part", "(LEventWindows;I[J)I"⟩
def dkwX0_part_0 : List UInt8 := [44, 3, 42, 27, 182, 0, 92, 133, 80, 167, 0, 9, 78, 4, 172, 78, 5, 172, 3, 172]
abbrev dktX0_part_0 : List UInt8 := dkwX0_part_0 ++ []
theorem dksX0_part_0 : cX0_part.data.toList.drop 0 = dktX0_part_0 := by decide +kernel
theorem dX0_part_0 : decode cX0_part 0 = .ok (.aload_n 2, 1) := dk_44 (dk_at dksX0_part_0 0 rfl rfl)
theorem dX0_part_1 : decode cX0_part 1 = .ok (.iconst 0, 1) := dk_3 (dk_at dksX0_part_0 1 rfl rfl)
theorem dX0_part_2 : decode cX0_part 2 = .ok (.aload_n 0, 1) := dk_42 (dk_at dksX0_part_0 2 rfl rfl)
theorem dX0_part_3 : decode cX0_part 3 = .ok (.iload_n 1, 1) := dk_27 (dk_at dksX0_part_0 3 rfl rfl)
theorem dX0_part_4 : decode cX0_part 4 = .ok (.invokevirtual 92, 3) := dk_182 0 92 (dk_at dksX0_part_0 4 rfl rfl)
theorem dX0_part_7 : decode cX0_part 7 = .ok (.i2l, 1) := dk_133 (dk_at dksX0_part_0 7 rfl rfl)
theorem dX0_part_8 : decode cX0_part 8 = .ok (.lastore, 1) := dk_80 (dk_at dksX0_part_0 8 rfl rfl)
theorem dX0_part_9 : decode cX0_part 9 = .ok (.goto 9, 3) := dk_167 0 9 (dk_at dksX0_part_0 9 rfl rfl)
theorem dX0_part_12 : decode cX0_part 12 = .ok (.astore_n 3, 1) := dk_78 (dk_at dksX0_part_0 12 rfl rfl)
theorem dX0_part_13 : decode cX0_part 13 = .ok (.iconst 1, 1) := dk_4 (dk_at dksX0_part_0 13 rfl rfl)
theorem dX0_part_14 : decode cX0_part 14 = .ok (.ireturn, 1) := dk_172 (dk_at dksX0_part_0 14 rfl rfl)
theorem dX0_part_15 : decode cX0_part 15 = .ok (.astore_n 3, 1) := dk_78 (dk_at dksX0_part_0 15 rfl rfl)
theorem dX0_part_16 : decode cX0_part 16 = .ok (.iconst 2, 1) := dk_5 (dk_at dksX0_part_0 16 rfl rfl)
theorem dX0_part_17 : decode cX0_part 17 = .ok (.ireturn, 1) := dk_172 (dk_at dksX0_part_0 17 rfl rfl)
theorem dX0_part_18 : decode cX0_part 18 = .ok (.iconst 0, 1) := dk_3 (dk_at dksX0_part_0 18 rfl rfl)
theorem dX0_part_19 : decode cX0_part 19 = .ok (.ireturn, 1) := dk_172 (dk_at dksX0_part_0 19 rfl rfl)
abbrev cX0_parts : ByteArray := method_27_code
def yX0_parts : MethodName := ⟨RX0, "parts", "(LEventWindows;[J)I"⟩
def dkwX0_parts_0 : List UInt8 := [43, 3, 42, 182, 0, 95, 133, 80, 167, 0, 6, 77, 4, 172, 3, 172]
abbrev dktX0_parts_0 : List UInt8 := dkwX0_parts_0 ++ []
theorem dksX0_parts_0 : cX0_parts.data.toList.drop 0 = dktX0_parts_0 := by decide +kernel
theorem dX0_parts_0 : decode cX0_parts 0 = .ok (.aload_n 1, 1) := dk_43 (dk_at dksX0_parts_0 0 rfl rfl)
theorem dX0_parts_1 : decode cX0_parts 1 = .ok (.iconst 0, 1) := dk_3 (dk_at dksX0_parts_0 1 rfl rfl)
theorem dX0_parts_2 : decode cX0_parts 2 = .ok (.aload_n 0, 1) := dk_42 (dk_at dksX0_parts_0 2 rfl rfl)
theorem dX0_parts_3 : decode cX0_parts 3 = .ok (.invokevirtual 95, 3) := dk_182 0 95 (dk_at dksX0_parts_0 3 rfl rfl)
theorem dX0_parts_6 : decode cX0_parts 6 = .ok (.i2l, 1) := dk_133 (dk_at dksX0_parts_0 6 rfl rfl)
theorem dX0_parts_7 : decode cX0_parts 7 = .ok (.lastore, 1) := dk_80 (dk_at dksX0_parts_0 7 rfl rfl)
theorem dX0_parts_8 : decode cX0_parts 8 = .ok (.goto 6, 3) := dk_167 0 6 (dk_at dksX0_parts_0 8 rfl rfl)
theorem dX0_parts_11 : decode cX0_parts 11 = .ok (.astore_n 2, 1) := dk_77 (dk_at dksX0_parts_0 11 rfl rfl)
theorem dX0_parts_12 : decode cX0_parts 12 = .ok (.iconst 1, 1) := dk_4 (dk_at dksX0_parts_0 12 rfl rfl)
theorem dX0_parts_13 : decode cX0_parts 13 = .ok (.ireturn, 1) := dk_172 (dk_at dksX0_parts_0 13 rfl rfl)
theorem dX0_parts_14 : decode cX0_parts 14 = .ok (.iconst 0, 1) := dk_3 (dk_at dksX0_parts_0 14 rfl rfl)
theorem dX0_parts_15 : decode cX0_parts 15 = .ok (.ireturn, 1) := dk_172 (dk_at dksX0_parts_0 15 rfl rfl)
abbrev cX0_end : ByteArray := method_28_code
def yX0_end : MethodName := ⟨RX0, "end", "(LEventWindows;[J)I"⟩
def dkwX0_end_0 : List UInt8 := [43, 3, 42, 182, 0, 98, 133, 80, 167, 0, 6, 77, 4, 172, 3, 172]
abbrev dktX0_end_0 : List UInt8 := dkwX0_end_0 ++ []
theorem dksX0_end_0 : cX0_end.data.toList.drop 0 = dktX0_end_0 := by decide +kernel
theorem dX0_end_0 : decode cX0_end 0 = .ok (.aload_n 1, 1) := dk_43 (dk_at dksX0_end_0 0 rfl rfl)
theorem dX0_end_1 : decode cX0_end 1 = .ok (.iconst 0, 1) := dk_3 (dk_at dksX0_end_0 1 rfl rfl)
theorem dX0_end_2 : decode cX0_end 2 = .ok (.aload_n 0, 1) := dk_42 (dk_at dksX0_end_0 2 rfl rfl)
theorem dX0_end_3 : decode cX0_end 3 = .ok (.invokevirtual 98, 3) := dk_182 0 98 (dk_at dksX0_end_0 3 rfl rfl)
theorem dX0_end_6 : decode cX0_end 6 = .ok (.i2l, 1) := dk_133 (dk_at dksX0_end_0 6 rfl rfl)
theorem dX0_end_7 : decode cX0_end 7 = .ok (.lastore, 1) := dk_80 (dk_at dksX0_end_0 7 rfl rfl)
theorem dX0_end_8 : decode cX0_end 8 = .ok (.goto 6, 3) := dk_167 0 6 (dk_at dksX0_end_0 8 rfl rfl)
theorem dX0_end_11 : decode cX0_end 11 = .ok (.astore_n 2, 1) := dk_77 (dk_at dksX0_end_0 11 rfl rfl)
theorem dX0_end_12 : decode cX0_end 12 = .ok (.iconst 1, 1) := dk_4 (dk_at dksX0_end_0 12 rfl rfl)
theorem dX0_end_13 : decode cX0_end 13 = .ok (.ireturn, 1) := dk_172 (dk_at dksX0_end_0 13 rfl rfl)
theorem dX0_end_14 : decode cX0_end 14 = .ok (.iconst 0, 1) := dk_3 (dk_at dksX0_end_0 14 rfl rfl)
theorem dX0_end_15 : decode cX0_end 15 = .ok (.ireturn, 1) := dk_172 (dk_at dksX0_end_0 15 rfl rfl)
abbrev cX0_meanSlack : ByteArray := method_29_code
def yX0_meanSlack : MethodName := ⟨RX0, "meanSlack", "(LEventWindows;[D)I"⟩
def dkwX0_meanSlack_0 : List UInt8 := [43, 3, 42, 182, 0, 101, 82, 167, 0, 6, 77, 4, 172, 3, 172]
abbrev dktX0_meanSlack_0 : List UInt8 := dkwX0_meanSlack_0 ++ []
theorem dksX0_meanSlack_0 : cX0_meanSlack.data.toList.drop 0 = dktX0_meanSlack_0 := by decide +kernel
theorem dX0_meanSlack_0 : decode cX0_meanSlack 0 = .ok (.aload_n 1, 1) := dk_43 (dk_at dksX0_meanSlack_0 0 rfl rfl)
theorem dX0_meanSlack_1 : decode cX0_meanSlack 1 = .ok (.iconst 0, 1) := dk_3 (dk_at dksX0_meanSlack_0 1 rfl rfl)
theorem dX0_meanSlack_2 : decode cX0_meanSlack 2 = .ok (.aload_n 0, 1) := dk_42 (dk_at dksX0_meanSlack_0 2 rfl rfl)
theorem dX0_meanSlack_3 : decode cX0_meanSlack 3 = .ok (.invokevirtual 101, 3) := dk_182 0 101 (dk_at dksX0_meanSlack_0 3 rfl rfl)
theorem dX0_meanSlack_6 : decode cX0_meanSlack 6 = .ok (.dastore, 1) := dk_82 (dk_at dksX0_meanSlack_0 6 rfl rfl)
theorem dX0_meanSlack_7 : decode cX0_meanSlack 7 = .ok (.goto 6, 3) := dk_167 0 6 (dk_at dksX0_meanSlack_0 7 rfl rfl)
theorem dX0_meanSlack_10 : decode cX0_meanSlack 10 = .ok (.astore_n 2, 1) := dk_77 (dk_at dksX0_meanSlack_0 10 rfl rfl)
theorem dX0_meanSlack_11 : decode cX0_meanSlack 11 = .ok (.iconst 1, 1) := dk_4 (dk_at dksX0_meanSlack_0 11 rfl rfl)
theorem dX0_meanSlack_12 : decode cX0_meanSlack 12 = .ok (.ireturn, 1) := dk_172 (dk_at dksX0_meanSlack_0 12 rfl rfl)
theorem dX0_meanSlack_13 : decode cX0_meanSlack 13 = .ok (.iconst 0, 1) := dk_3 (dk_at dksX0_meanSlack_0 13 rfl rfl)
theorem dX0_meanSlack_14 : decode cX0_meanSlack 14 = .ok (.ireturn, 1) := dk_172 (dk_at dksX0_meanSlack_0 14 rfl rfl)
abbrev cX0_neededShare : ByteArray := method_30_code
def yX0_neededShare : MethodName := ⟨RX0, "neededShare", "(LEventWindows;[D)I"⟩
def dkwX0_neededShare_0 : List UInt8 := [43, 3, 42, 182, 0, 105, 141, 82, 167, 0, 6, 77, 4, 172, 3, 172]
abbrev dktX0_neededShare_0 : List UInt8 := dkwX0_neededShare_0 ++ []
theorem dksX0_neededShare_0 : cX0_neededShare.data.toList.drop 0 = dktX0_neededShare_0 := by decide +kernel
theorem dX0_neededShare_0 : decode cX0_neededShare 0 = .ok (.aload_n 1, 1) := dk_43 (dk_at dksX0_neededShare_0 0 rfl rfl)
theorem dX0_neededShare_1 : decode cX0_neededShare 1 = .ok (.iconst 0, 1) := dk_3 (dk_at dksX0_neededShare_0 1 rfl rfl)
theorem dX0_neededShare_2 : decode cX0_neededShare 2 = .ok (.aload_n 0, 1) := dk_42 (dk_at dksX0_neededShare_0 2 rfl rfl)
theorem dX0_neededShare_3 : decode cX0_neededShare 3 = .ok (.invokevirtual 105, 3) := dk_182 0 105 (dk_at dksX0_neededShare_0 3 rfl rfl)
theorem dX0_neededShare_6 : decode cX0_neededShare 6 = .ok (.f2d, 1) := dk_141 (dk_at dksX0_neededShare_0 6 rfl rfl)
theorem dX0_neededShare_7 : decode cX0_neededShare 7 = .ok (.dastore, 1) := dk_82 (dk_at dksX0_neededShare_0 7 rfl rfl)
theorem dX0_neededShare_8 : decode cX0_neededShare 8 = .ok (.goto 6, 3) := dk_167 0 6 (dk_at dksX0_neededShare_0 8 rfl rfl)
theorem dX0_neededShare_11 : decode cX0_neededShare 11 = .ok (.astore_n 2, 1) := dk_77 (dk_at dksX0_neededShare_0 11 rfl rfl)
theorem dX0_neededShare_12 : decode cX0_neededShare 12 = .ok (.iconst 1, 1) := dk_4 (dk_at dksX0_neededShare_0 12 rfl rfl)
theorem dX0_neededShare_13 : decode cX0_neededShare 13 = .ok (.ireturn, 1) := dk_172 (dk_at dksX0_neededShare_0 13 rfl rfl)
theorem dX0_neededShare_14 : decode cX0_neededShare 14 = .ok (.iconst 0, 1) := dk_3 (dk_at dksX0_neededShare_0 14 rfl rfl)
theorem dX0_neededShare_15 : decode cX0_neededShare 15 = .ok (.ireturn, 1) := dk_172 (dk_at dksX0_neededShare_0 15 rfl rfl)
abbrev cX0_widening : ByteArray := method_31_code
def yX0_widening : MethodName := ⟨RX0, "widening", "(LEventWindows;IZ[J)I"⟩
def dkwX0_widening_0 : List UInt8 := [45, 3, 42, 27, 28, 182, 0, 109, 133, 80, 167, 0, 11, 58, 4, 4, 172, 58, 4, 5, 172, 3, 172]
abbrev dktX0_widening_0 : List UInt8 := dkwX0_widening_0 ++ []
theorem dksX0_widening_0 : cX0_widening.data.toList.drop 0 = dktX0_widening_0 := by decide +kernel
theorem dX0_widening_0 : decode cX0_widening 0 = .ok (.aload_n 3, 1) := dk_45 (dk_at dksX0_widening_0 0 rfl rfl)
theorem dX0_widening_1 : decode cX0_widening 1 = .ok (.iconst 0, 1) := dk_3 (dk_at dksX0_widening_0 1 rfl rfl)
theorem dX0_widening_2 : decode cX0_widening 2 = .ok (.aload_n 0, 1) := dk_42 (dk_at dksX0_widening_0 2 rfl rfl)
theorem dX0_widening_3 : decode cX0_widening 3 = .ok (.iload_n 1, 1) := dk_27 (dk_at dksX0_widening_0 3 rfl rfl)
theorem dX0_widening_4 : decode cX0_widening 4 = .ok (.iload_n 2, 1) := dk_28 (dk_at dksX0_widening_0 4 rfl rfl)
theorem dX0_widening_5 : decode cX0_widening 5 = .ok (.invokevirtual 109, 3) := dk_182 0 109 (dk_at dksX0_widening_0 5 rfl rfl)
theorem dX0_widening_8 : decode cX0_widening 8 = .ok (.i2l, 1) := dk_133 (dk_at dksX0_widening_0 8 rfl rfl)
theorem dX0_widening_9 : decode cX0_widening 9 = .ok (.lastore, 1) := dk_80 (dk_at dksX0_widening_0 9 rfl rfl)
theorem dX0_widening_10 : decode cX0_widening 10 = .ok (.goto 11, 3) := dk_167 0 11 (dk_at dksX0_widening_0 10 rfl rfl)
theorem dX0_widening_13 : decode cX0_widening 13 = .ok (.astore 4, 2) := dk_58 4 (dk_at dksX0_widening_0 13 rfl rfl)
theorem dX0_widening_15 : decode cX0_widening 15 = .ok (.iconst 1, 1) := dk_4 (dk_at dksX0_widening_0 15 rfl rfl)
theorem dX0_widening_16 : decode cX0_widening 16 = .ok (.ireturn, 1) := dk_172 (dk_at dksX0_widening_0 16 rfl rfl)
theorem dX0_widening_17 : decode cX0_widening 17 = .ok (.astore 4, 2) := dk_58 4 (dk_at dksX0_widening_0 17 rfl rfl)
theorem dX0_widening_19 : decode cX0_widening 19 = .ok (.iconst 2, 1) := dk_5 (dk_at dksX0_widening_0 19 rfl rfl)
theorem dX0_widening_20 : decode cX0_widening 20 = .ok (.ireturn, 1) := dk_172 (dk_at dksX0_widening_0 20 rfl rfl)
theorem dX0_widening_21 : decode cX0_widening 21 = .ok (.iconst 0, 1) := dk_3 (dk_at dksX0_widening_0 21 rfl rfl)
theorem dX0_widening_22 : decode cX0_widening 22 = .ok (.ireturn, 1) := dk_172 (dk_at dksX0_widening_0 22 rfl rfl)
abbrev cX0_bestMend : ByteArray := method_32_code
def yX0_bestMend : MethodName := ⟨RX0, "bestMend", "(LEventWindows;[J)I"⟩
def dkwX0_bestMend_0 : List UInt8 := [43, 3, 42, 182, 0, 113, 133, 80, 167, 0, 6, 77, 4, 172, 3, 172]
abbrev dktX0_bestMend_0 : List UInt8 := dkwX0_bestMend_0 ++ []
theorem dksX0_bestMend_0 : cX0_bestMend.data.toList.drop 0 = dktX0_bestMend_0 := by decide +kernel
theorem dX0_bestMend_0 : decode cX0_bestMend 0 = .ok (.aload_n 1, 1) := dk_43 (dk_at dksX0_bestMend_0 0 rfl rfl)
theorem dX0_bestMend_1 : decode cX0_bestMend 1 = .ok (.iconst 0, 1) := dk_3 (dk_at dksX0_bestMend_0 1 rfl rfl)
theorem dX0_bestMend_2 : decode cX0_bestMend 2 = .ok (.aload_n 0, 1) := dk_42 (dk_at dksX0_bestMend_0 2 rfl rfl)
theorem dX0_bestMend_3 : decode cX0_bestMend 3 = .ok (.invokevirtual 113, 3) := dk_182 0 113 (dk_at dksX0_bestMend_0 3 rfl rfl)
theorem dX0_bestMend_6 : decode cX0_bestMend 6 = .ok (.i2l, 1) := dk_133 (dk_at dksX0_bestMend_0 6 rfl rfl)
theorem dX0_bestMend_7 : decode cX0_bestMend 7 = .ok (.lastore, 1) := dk_80 (dk_at dksX0_bestMend_0 7 rfl rfl)
theorem dX0_bestMend_8 : decode cX0_bestMend 8 = .ok (.goto 6, 3) := dk_167 0 6 (dk_at dksX0_bestMend_0 8 rfl rfl)
theorem dX0_bestMend_11 : decode cX0_bestMend 11 = .ok (.astore_n 2, 1) := dk_77 (dk_at dksX0_bestMend_0 11 rfl rfl)
theorem dX0_bestMend_12 : decode cX0_bestMend 12 = .ok (.iconst 1, 1) := dk_4 (dk_at dksX0_bestMend_0 12 rfl rfl)
theorem dX0_bestMend_13 : decode cX0_bestMend 13 = .ok (.ireturn, 1) := dk_172 (dk_at dksX0_bestMend_0 13 rfl rfl)
theorem dX0_bestMend_14 : decode cX0_bestMend 14 = .ok (.iconst 0, 1) := dk_3 (dk_at dksX0_bestMend_0 14 rfl rfl)
theorem dX0_bestMend_15 : decode cX0_bestMend 15 = .ok (.ireturn, 1) := dk_172 (dk_at dksX0_bestMend_0 15 rfl rfl)
abbrev cX0_mendCost : ByteArray := method_33_code
def yX0_mendCost : MethodName := ⟨RX0, "mendCost", "(LEventWindows;[J)I"⟩
def dkwX0_mendCost_0 : List UInt8 := [43, 3, 42, 182, 0, 116, 133, 80, 167, 0, 6, 77, 4, 172, 3, 172]
abbrev dktX0_mendCost_0 : List UInt8 := dkwX0_mendCost_0 ++ []
theorem dksX0_mendCost_0 : cX0_mendCost.data.toList.drop 0 = dktX0_mendCost_0 := by decide +kernel
theorem dX0_mendCost_0 : decode cX0_mendCost 0 = .ok (.aload_n 1, 1) := dk_43 (dk_at dksX0_mendCost_0 0 rfl rfl)
theorem dX0_mendCost_1 : decode cX0_mendCost 1 = .ok (.iconst 0, 1) := dk_3 (dk_at dksX0_mendCost_0 1 rfl rfl)
theorem dX0_mendCost_2 : decode cX0_mendCost 2 = .ok (.aload_n 0, 1) := dk_42 (dk_at dksX0_mendCost_0 2 rfl rfl)
theorem dX0_mendCost_3 : decode cX0_mendCost 3 = .ok (.invokevirtual 116, 3) := dk_182 0 116 (dk_at dksX0_mendCost_0 3 rfl rfl)
theorem dX0_mendCost_6 : decode cX0_mendCost 6 = .ok (.i2l, 1) := dk_133 (dk_at dksX0_mendCost_0 6 rfl rfl)
theorem dX0_mendCost_7 : decode cX0_mendCost 7 = .ok (.lastore, 1) := dk_80 (dk_at dksX0_mendCost_0 7 rfl rfl)
theorem dX0_mendCost_8 : decode cX0_mendCost 8 = .ok (.goto 6, 3) := dk_167 0 6 (dk_at dksX0_mendCost_0 8 rfl rfl)
theorem dX0_mendCost_11 : decode cX0_mendCost 11 = .ok (.astore_n 2, 1) := dk_77 (dk_at dksX0_mendCost_0 11 rfl rfl)
theorem dX0_mendCost_12 : decode cX0_mendCost 12 = .ok (.iconst 1, 1) := dk_4 (dk_at dksX0_mendCost_0 12 rfl rfl)
theorem dX0_mendCost_13 : decode cX0_mendCost 13 = .ok (.ireturn, 1) := dk_172 (dk_at dksX0_mendCost_0 13 rfl rfl)
theorem dX0_mendCost_14 : decode cX0_mendCost 14 = .ok (.iconst 0, 1) := dk_3 (dk_at dksX0_mendCost_0 14 rfl rfl)
theorem dX0_mendCost_15 : decode cX0_mendCost 15 = .ok (.ireturn, 1) := dk_172 (dk_at dksX0_mendCost_0 15 rfl rfl)
abbrev cX0_leastDrop : ByteArray := method_34_code
def yX0_leastDrop : MethodName := ⟨RX0, "leastDrop", "(LEventWindows;[J)I"⟩
def dkwX0_leastDrop_0 : List UInt8 := [43, 3, 42, 182, 0, 119, 133, 80, 167, 0, 6, 77, 4, 172, 3, 172]
abbrev dktX0_leastDrop_0 : List UInt8 := dkwX0_leastDrop_0 ++ []
theorem dksX0_leastDrop_0 : cX0_leastDrop.data.toList.drop 0 = dktX0_leastDrop_0 := by decide +kernel
theorem dX0_leastDrop_0 : decode cX0_leastDrop 0 = .ok (.aload_n 1, 1) := dk_43 (dk_at dksX0_leastDrop_0 0 rfl rfl)
theorem dX0_leastDrop_1 : decode cX0_leastDrop 1 = .ok (.iconst 0, 1) := dk_3 (dk_at dksX0_leastDrop_0 1 rfl rfl)
theorem dX0_leastDrop_2 : decode cX0_leastDrop 2 = .ok (.aload_n 0, 1) := dk_42 (dk_at dksX0_leastDrop_0 2 rfl rfl)
theorem dX0_leastDrop_3 : decode cX0_leastDrop 3 = .ok (.invokevirtual 119, 3) := dk_182 0 119 (dk_at dksX0_leastDrop_0 3 rfl rfl)
theorem dX0_leastDrop_6 : decode cX0_leastDrop 6 = .ok (.i2l, 1) := dk_133 (dk_at dksX0_leastDrop_0 6 rfl rfl)
theorem dX0_leastDrop_7 : decode cX0_leastDrop 7 = .ok (.lastore, 1) := dk_80 (dk_at dksX0_leastDrop_0 7 rfl rfl)
theorem dX0_leastDrop_8 : decode cX0_leastDrop 8 = .ok (.goto 6, 3) := dk_167 0 6 (dk_at dksX0_leastDrop_0 8 rfl rfl)
theorem dX0_leastDrop_11 : decode cX0_leastDrop 11 = .ok (.astore_n 2, 1) := dk_77 (dk_at dksX0_leastDrop_0 11 rfl rfl)
theorem dX0_leastDrop_12 : decode cX0_leastDrop 12 = .ok (.iconst 1, 1) := dk_4 (dk_at dksX0_leastDrop_0 12 rfl rfl)
theorem dX0_leastDrop_13 : decode cX0_leastDrop 13 = .ok (.ireturn, 1) := dk_172 (dk_at dksX0_leastDrop_0 13 rfl rfl)
theorem dX0_leastDrop_14 : decode cX0_leastDrop 14 = .ok (.iconst 0, 1) := dk_3 (dk_at dksX0_leastDrop_0 14 rfl rfl)
theorem dX0_leastDrop_15 : decode cX0_leastDrop 15 = .ok (.ireturn, 1) := dk_172 (dk_at dksX0_leastDrop_0 15 rfl rfl)
abbrev cX0_dropCost : ByteArray := method_35_code
def yX0_dropCost : MethodName := ⟨RX0, "dropCost", "(LEventWindows;[J)I"⟩
def dkwX0_dropCost_0 : List UInt8 := [43, 3, 42, 182, 0, 122, 133, 80, 167, 0, 6, 77, 4, 172, 3, 172]
abbrev dktX0_dropCost_0 : List UInt8 := dkwX0_dropCost_0 ++ []
theorem dksX0_dropCost_0 : cX0_dropCost.data.toList.drop 0 = dktX0_dropCost_0 := by decide +kernel
theorem dX0_dropCost_0 : decode cX0_dropCost 0 = .ok (.aload_n 1, 1) := dk_43 (dk_at dksX0_dropCost_0 0 rfl rfl)
theorem dX0_dropCost_1 : decode cX0_dropCost 1 = .ok (.iconst 0, 1) := dk_3 (dk_at dksX0_dropCost_0 1 rfl rfl)
theorem dX0_dropCost_2 : decode cX0_dropCost 2 = .ok (.aload_n 0, 1) := dk_42 (dk_at dksX0_dropCost_0 2 rfl rfl)
theorem dX0_dropCost_3 : decode cX0_dropCost 3 = .ok (.invokevirtual 122, 3) := dk_182 0 122 (dk_at dksX0_dropCost_0 3 rfl rfl)
theorem dX0_dropCost_6 : decode cX0_dropCost 6 = .ok (.i2l, 1) := dk_133 (dk_at dksX0_dropCost_0 6 rfl rfl)
theorem dX0_dropCost_7 : decode cX0_dropCost 7 = .ok (.lastore, 1) := dk_80 (dk_at dksX0_dropCost_0 7 rfl rfl)
theorem dX0_dropCost_8 : decode cX0_dropCost 8 = .ok (.goto 6, 3) := dk_167 0 6 (dk_at dksX0_dropCost_0 8 rfl rfl)
theorem dX0_dropCost_11 : decode cX0_dropCost 11 = .ok (.astore_n 2, 1) := dk_77 (dk_at dksX0_dropCost_0 11 rfl rfl)
theorem dX0_dropCost_12 : decode cX0_dropCost 12 = .ok (.iconst 1, 1) := dk_4 (dk_at dksX0_dropCost_0 12 rfl rfl)
theorem dX0_dropCost_13 : decode cX0_dropCost 13 = .ok (.ireturn, 1) := dk_172 (dk_at dksX0_dropCost_0 13 rfl rfl)
theorem dX0_dropCost_14 : decode cX0_dropCost 14 = .ok (.iconst 0, 1) := dk_3 (dk_at dksX0_dropCost_0 14 rfl rfl)
theorem dX0_dropCost_15 : decode cX0_dropCost 15 = .ok (.ireturn, 1) := dk_172 (dk_at dksX0_dropCost_0 15 rfl rfl)
abbrev cX0_runBreaks : ByteArray := method_36_code
def yX0_runBreaks : MethodName := ⟨RX0, "runBreaks", "(LEventWindows;I[J)I"⟩
def dkwX0_runBreaks_0 : List UInt8 := [44, 3, 42, 27, 182, 0, 125, 133, 80, 167, 0, 9, 78, 4, 172, 78, 5, 172, 3, 172]
abbrev dktX0_runBreaks_0 : List UInt8 := dkwX0_runBreaks_0 ++ []
theorem dksX0_runBreaks_0 : cX0_runBreaks.data.toList.drop 0 = dktX0_runBreaks_0 := by decide +kernel
theorem dX0_runBreaks_0 : decode cX0_runBreaks 0 = .ok (.aload_n 2, 1) := dk_44 (dk_at dksX0_runBreaks_0 0 rfl rfl)
theorem dX0_runBreaks_1 : decode cX0_runBreaks 1 = .ok (.iconst 0, 1) := dk_3 (dk_at dksX0_runBreaks_0 1 rfl rfl)
theorem dX0_runBreaks_2 : decode cX0_runBreaks 2 = .ok (.aload_n 0, 1) := dk_42 (dk_at dksX0_runBreaks_0 2 rfl rfl)
theorem dX0_runBreaks_3 : decode cX0_runBreaks 3 = .ok (.iload_n 1, 1) := dk_27 (dk_at dksX0_runBreaks_0 3 rfl rfl)
theorem dX0_runBreaks_4 : decode cX0_runBreaks 4 = .ok (.invokevirtual 125, 3) := dk_182 0 125 (dk_at dksX0_runBreaks_0 4 rfl rfl)
theorem dX0_runBreaks_7 : decode cX0_runBreaks 7 = .ok (.i2l, 1) := dk_133 (dk_at dksX0_runBreaks_0 7 rfl rfl)
theorem dX0_runBreaks_8 : decode cX0_runBreaks 8 = .ok (.lastore, 1) := dk_80 (dk_at dksX0_runBreaks_0 8 rfl rfl)
theorem dX0_runBreaks_9 : decode cX0_runBreaks 9 = .ok (.goto 9, 3) := dk_167 0 9 (dk_at dksX0_runBreaks_0 9 rfl rfl)
theorem dX0_runBreaks_12 : decode cX0_runBreaks 12 = .ok (.astore_n 3, 1) := dk_78 (dk_at dksX0_runBreaks_0 12 rfl rfl)
theorem dX0_runBreaks_13 : decode cX0_runBreaks 13 = .ok (.iconst 1, 1) := dk_4 (dk_at dksX0_runBreaks_0 13 rfl rfl)
theorem dX0_runBreaks_14 : decode cX0_runBreaks 14 = .ok (.ireturn, 1) := dk_172 (dk_at dksX0_runBreaks_0 14 rfl rfl)
theorem dX0_runBreaks_15 : decode cX0_runBreaks 15 = .ok (.astore_n 3, 1) := dk_78 (dk_at dksX0_runBreaks_0 15 rfl rfl)
theorem dX0_runBreaks_16 : decode cX0_runBreaks 16 = .ok (.iconst 2, 1) := dk_5 (dk_at dksX0_runBreaks_0 16 rfl rfl)
theorem dX0_runBreaks_17 : decode cX0_runBreaks 17 = .ok (.ireturn, 1) := dk_172 (dk_at dksX0_runBreaks_0 17 rfl rfl)
theorem dX0_runBreaks_18 : decode cX0_runBreaks 18 = .ok (.iconst 0, 1) := dk_3 (dk_at dksX0_runBreaks_0 18 rfl rfl)
theorem dX0_runBreaks_19 : decode cX0_runBreaks 19 = .ok (.ireturn, 1) := dk_172 (dk_at dksX0_runBreaks_0 19 rfl rfl)
abbrev cX0_runTime : ByteArray := method_37_code
def yX0_runTime : MethodName := ⟨RX0, "runTime", "(LEventWindows;II[J)I"⟩
def dkwX0_runTime_1 : List UInt8 := [172, 3, 172]
abbrev dktX0_runTime_1 : List UInt8 := dkwX0_runTime_1 ++ []
def dkwX0_runTime_0 : List UInt8 := [45, 3, 42, 27, 28, 182, 0, 128, 133, 80, 167, 0, 15, 58, 4, 4, 172, 58, 4, 5, 172, 58, 4, 6]
abbrev dktX0_runTime_0 : List UInt8 := dkwX0_runTime_0 ++ dktX0_runTime_1
theorem dksX0_runTime_0 : cX0_runTime.data.toList.drop 0 = dktX0_runTime_0 := by decide +kernel
theorem dksX0_runTime_1 : cX0_runTime.data.toList.drop 24 = dktX0_runTime_1 := dk_seg dksX0_runTime_0 24 rfl rfl
theorem dX0_runTime_0 : decode cX0_runTime 0 = .ok (.aload_n 3, 1) := dk_45 (dk_at dksX0_runTime_0 0 rfl rfl)
theorem dX0_runTime_1 : decode cX0_runTime 1 = .ok (.iconst 0, 1) := dk_3 (dk_at dksX0_runTime_0 1 rfl rfl)
theorem dX0_runTime_2 : decode cX0_runTime 2 = .ok (.aload_n 0, 1) := dk_42 (dk_at dksX0_runTime_0 2 rfl rfl)
theorem dX0_runTime_3 : decode cX0_runTime 3 = .ok (.iload_n 1, 1) := dk_27 (dk_at dksX0_runTime_0 3 rfl rfl)
theorem dX0_runTime_4 : decode cX0_runTime 4 = .ok (.iload_n 2, 1) := dk_28 (dk_at dksX0_runTime_0 4 rfl rfl)
theorem dX0_runTime_5 : decode cX0_runTime 5 = .ok (.invokevirtual 128, 3) := dk_182 0 128 (dk_at dksX0_runTime_0 5 rfl rfl)
theorem dX0_runTime_8 : decode cX0_runTime 8 = .ok (.i2l, 1) := dk_133 (dk_at dksX0_runTime_0 8 rfl rfl)
theorem dX0_runTime_9 : decode cX0_runTime 9 = .ok (.lastore, 1) := dk_80 (dk_at dksX0_runTime_0 9 rfl rfl)
theorem dX0_runTime_10 : decode cX0_runTime 10 = .ok (.goto 15, 3) := dk_167 0 15 (dk_at dksX0_runTime_0 10 rfl rfl)
theorem dX0_runTime_13 : decode cX0_runTime 13 = .ok (.astore 4, 2) := dk_58 4 (dk_at dksX0_runTime_0 13 rfl rfl)
theorem dX0_runTime_15 : decode cX0_runTime 15 = .ok (.iconst 1, 1) := dk_4 (dk_at dksX0_runTime_0 15 rfl rfl)
theorem dX0_runTime_16 : decode cX0_runTime 16 = .ok (.ireturn, 1) := dk_172 (dk_at dksX0_runTime_0 16 rfl rfl)
theorem dX0_runTime_17 : decode cX0_runTime 17 = .ok (.astore 4, 2) := dk_58 4 (dk_at dksX0_runTime_0 17 rfl rfl)
theorem dX0_runTime_19 : decode cX0_runTime 19 = .ok (.iconst 2, 1) := dk_5 (dk_at dksX0_runTime_0 19 rfl rfl)
theorem dX0_runTime_20 : decode cX0_runTime 20 = .ok (.ireturn, 1) := dk_172 (dk_at dksX0_runTime_0 20 rfl rfl)
theorem dX0_runTime_21 : decode cX0_runTime 21 = .ok (.astore 4, 2) := dk_58 4 (dk_at dksX0_runTime_0 21 rfl rfl)
theorem dX0_runTime_23 : decode cX0_runTime 23 = .ok (.iconst 3, 1) := dk_6 (dk_at dksX0_runTime_0 23 rfl rfl)
theorem dX0_runTime_24 : decode cX0_runTime 24 = .ok (.ireturn, 1) := dk_172 (dk_at dksX0_runTime_1 0 rfl rfl)
theorem dX0_runTime_25 : decode cX0_runTime 25 = .ok (.iconst 0, 1) := dk_3 (dk_at dksX0_runTime_1 1 rfl rfl)
theorem dX0_runTime_26 : decode cX0_runTime 26 = .ok (.ireturn, 1) := dk_172 (dk_at dksX0_runTime_1 2 rfl rfl)
abbrev cX0_runEnd : ByteArray := method_38_code
def yX0_runEnd : MethodName := ⟨RX0, "runEnd", "(LEventWindows;I[J)I"⟩
def dkwX0_runEnd_0 : List UInt8 := [44, 3, 42, 27, 182, 0, 131, 133, 80, 167, 0, 9, 78, 4, 172, 78, 5, 172, 3, 172]
abbrev dktX0_runEnd_0 : List UInt8 := dkwX0_runEnd_0 ++ []
theorem dksX0_runEnd_0 : cX0_runEnd.data.toList.drop 0 = dktX0_runEnd_0 := by decide +kernel
theorem dX0_runEnd_0 : decode cX0_runEnd 0 = .ok (.aload_n 2, 1) := dk_44 (dk_at dksX0_runEnd_0 0 rfl rfl)
theorem dX0_runEnd_1 : decode cX0_runEnd 1 = .ok (.iconst 0, 1) := dk_3 (dk_at dksX0_runEnd_0 1 rfl rfl)
theorem dX0_runEnd_2 : decode cX0_runEnd 2 = .ok (.aload_n 0, 1) := dk_42 (dk_at dksX0_runEnd_0 2 rfl rfl)
theorem dX0_runEnd_3 : decode cX0_runEnd 3 = .ok (.iload_n 1, 1) := dk_27 (dk_at dksX0_runEnd_0 3 rfl rfl)
theorem dX0_runEnd_4 : decode cX0_runEnd 4 = .ok (.invokevirtual 131, 3) := dk_182 0 131 (dk_at dksX0_runEnd_0 4 rfl rfl)
theorem dX0_runEnd_7 : decode cX0_runEnd 7 = .ok (.i2l, 1) := dk_133 (dk_at dksX0_runEnd_0 7 rfl rfl)
theorem dX0_runEnd_8 : decode cX0_runEnd 8 = .ok (.lastore, 1) := dk_80 (dk_at dksX0_runEnd_0 8 rfl rfl)
theorem dX0_runEnd_9 : decode cX0_runEnd 9 = .ok (.goto 9, 3) := dk_167 0 9 (dk_at dksX0_runEnd_0 9 rfl rfl)
theorem dX0_runEnd_12 : decode cX0_runEnd 12 = .ok (.astore_n 3, 1) := dk_78 (dk_at dksX0_runEnd_0 12 rfl rfl)
theorem dX0_runEnd_13 : decode cX0_runEnd 13 = .ok (.iconst 1, 1) := dk_4 (dk_at dksX0_runEnd_0 13 rfl rfl)
theorem dX0_runEnd_14 : decode cX0_runEnd 14 = .ok (.ireturn, 1) := dk_172 (dk_at dksX0_runEnd_0 14 rfl rfl)
theorem dX0_runEnd_15 : decode cX0_runEnd 15 = .ok (.astore_n 3, 1) := dk_78 (dk_at dksX0_runEnd_0 15 rfl rfl)
theorem dX0_runEnd_16 : decode cX0_runEnd 16 = .ok (.iconst 2, 1) := dk_5 (dk_at dksX0_runEnd_0 16 rfl rfl)
theorem dX0_runEnd_17 : decode cX0_runEnd 17 = .ok (.ireturn, 1) := dk_172 (dk_at dksX0_runEnd_0 17 rfl rfl)
theorem dX0_runEnd_18 : decode cX0_runEnd 18 = .ok (.iconst 0, 1) := dk_3 (dk_at dksX0_runEnd_0 18 rfl rfl)
theorem dX0_runEnd_19 : decode cX0_runEnd 19 = .ok (.ireturn, 1) := dk_172 (dk_at dksX0_runEnd_0 19 rfl rfl)
abbrev cX0_spare : ByteArray := method_39_code
def yX0_spare : MethodName := ⟨RX0, "spare", "(LEventWindows;II[J)I"⟩
def dkwX0_spare_1 : List UInt8 := [172, 3, 172]
abbrev dktX0_spare_1 : List UInt8 := dkwX0_spare_1 ++ []
def dkwX0_spare_0 : List UInt8 := [45, 3, 42, 27, 28, 182, 0, 134, 133, 80, 167, 0, 15, 58, 4, 4, 172, 58, 4, 5, 172, 58, 4, 6]
abbrev dktX0_spare_0 : List UInt8 := dkwX0_spare_0 ++ dktX0_spare_1
theorem dksX0_spare_0 : cX0_spare.data.toList.drop 0 = dktX0_spare_0 := by decide +kernel
theorem dksX0_spare_1 : cX0_spare.data.toList.drop 24 = dktX0_spare_1 := dk_seg dksX0_spare_0 24 rfl rfl
theorem dX0_spare_0 : decode cX0_spare 0 = .ok (.aload_n 3, 1) := dk_45 (dk_at dksX0_spare_0 0 rfl rfl)
theorem dX0_spare_1 : decode cX0_spare 1 = .ok (.iconst 0, 1) := dk_3 (dk_at dksX0_spare_0 1 rfl rfl)
theorem dX0_spare_2 : decode cX0_spare 2 = .ok (.aload_n 0, 1) := dk_42 (dk_at dksX0_spare_0 2 rfl rfl)
theorem dX0_spare_3 : decode cX0_spare 3 = .ok (.iload_n 1, 1) := dk_27 (dk_at dksX0_spare_0 3 rfl rfl)
theorem dX0_spare_4 : decode cX0_spare 4 = .ok (.iload_n 2, 1) := dk_28 (dk_at dksX0_spare_0 4 rfl rfl)
theorem dX0_spare_5 : decode cX0_spare 5 = .ok (.invokevirtual 134, 3) := dk_182 0 134 (dk_at dksX0_spare_0 5 rfl rfl)
theorem dX0_spare_8 : decode cX0_spare 8 = .ok (.i2l, 1) := dk_133 (dk_at dksX0_spare_0 8 rfl rfl)
theorem dX0_spare_9 : decode cX0_spare 9 = .ok (.lastore, 1) := dk_80 (dk_at dksX0_spare_0 9 rfl rfl)
theorem dX0_spare_10 : decode cX0_spare 10 = .ok (.goto 15, 3) := dk_167 0 15 (dk_at dksX0_spare_0 10 rfl rfl)
theorem dX0_spare_13 : decode cX0_spare 13 = .ok (.astore 4, 2) := dk_58 4 (dk_at dksX0_spare_0 13 rfl rfl)
theorem dX0_spare_15 : decode cX0_spare 15 = .ok (.iconst 1, 1) := dk_4 (dk_at dksX0_spare_0 15 rfl rfl)
theorem dX0_spare_16 : decode cX0_spare 16 = .ok (.ireturn, 1) := dk_172 (dk_at dksX0_spare_0 16 rfl rfl)
theorem dX0_spare_17 : decode cX0_spare 17 = .ok (.astore 4, 2) := dk_58 4 (dk_at dksX0_spare_0 17 rfl rfl)
theorem dX0_spare_19 : decode cX0_spare 19 = .ok (.iconst 2, 1) := dk_5 (dk_at dksX0_spare_0 19 rfl rfl)
theorem dX0_spare_20 : decode cX0_spare 20 = .ok (.ireturn, 1) := dk_172 (dk_at dksX0_spare_0 20 rfl rfl)
theorem dX0_spare_21 : decode cX0_spare 21 = .ok (.astore 4, 2) := dk_58 4 (dk_at dksX0_spare_0 21 rfl rfl)
theorem dX0_spare_23 : decode cX0_spare 23 = .ok (.iconst 3, 1) := dk_6 (dk_at dksX0_spare_0 23 rfl rfl)
theorem dX0_spare_24 : decode cX0_spare 24 = .ok (.ireturn, 1) := dk_172 (dk_at dksX0_spare_1 0 rfl rfl)
theorem dX0_spare_25 : decode cX0_spare 25 = .ok (.iconst 0, 1) := dk_3 (dk_at dksX0_spare_1 1 rfl rfl)
theorem dX0_spare_26 : decode cX0_spare 26 = .ok (.ireturn, 1) := dk_172 (dk_at dksX0_spare_1 2 rfl rfl)
abbrev cX0_weakest : ByteArray := method_40_code
def yX0_weakest : MethodName := ⟨RX0, "weakest", "(LEventWindows;I[J)I"⟩
def dkwX0_weakest_0 : List UInt8 := [44, 3, 42, 27, 182, 0, 137, 133, 80, 167, 0, 9, 78, 4, 172, 78, 5, 172, 3, 172]
abbrev dktX0_weakest_0 : List UInt8 := dkwX0_weakest_0 ++ []
theorem dksX0_weakest_0 : cX0_weakest.data.toList.drop 0 = dktX0_weakest_0 := by decide +kernel
theorem dX0_weakest_0 : decode cX0_weakest 0 = .ok (.aload_n 2, 1) := dk_44 (dk_at dksX0_weakest_0 0 rfl rfl)
theorem dX0_weakest_1 : decode cX0_weakest 1 = .ok (.iconst 0, 1) := dk_3 (dk_at dksX0_weakest_0 1 rfl rfl)
theorem dX0_weakest_2 : decode cX0_weakest 2 = .ok (.aload_n 0, 1) := dk_42 (dk_at dksX0_weakest_0 2 rfl rfl)
theorem dX0_weakest_3 : decode cX0_weakest 3 = .ok (.iload_n 1, 1) := dk_27 (dk_at dksX0_weakest_0 3 rfl rfl)
theorem dX0_weakest_4 : decode cX0_weakest 4 = .ok (.invokevirtual 137, 3) := dk_182 0 137 (dk_at dksX0_weakest_0 4 rfl rfl)
theorem dX0_weakest_7 : decode cX0_weakest 7 = .ok (.i2l, 1) := dk_133 (dk_at dksX0_weakest_0 7 rfl rfl)
theorem dX0_weakest_8 : decode cX0_weakest 8 = .ok (.lastore, 1) := dk_80 (dk_at dksX0_weakest_0 8 rfl rfl)
theorem dX0_weakest_9 : decode cX0_weakest 9 = .ok (.goto 9, 3) := dk_167 0 9 (dk_at dksX0_weakest_0 9 rfl rfl)
theorem dX0_weakest_12 : decode cX0_weakest 12 = .ok (.astore_n 3, 1) := dk_78 (dk_at dksX0_weakest_0 12 rfl rfl)
theorem dX0_weakest_13 : decode cX0_weakest 13 = .ok (.iconst 1, 1) := dk_4 (dk_at dksX0_weakest_0 13 rfl rfl)
theorem dX0_weakest_14 : decode cX0_weakest 14 = .ok (.ireturn, 1) := dk_172 (dk_at dksX0_weakest_0 14 rfl rfl)
theorem dX0_weakest_15 : decode cX0_weakest 15 = .ok (.astore_n 3, 1) := dk_78 (dk_at dksX0_weakest_0 15 rfl rfl)
theorem dX0_weakest_16 : decode cX0_weakest 16 = .ok (.iconst 2, 1) := dk_5 (dk_at dksX0_weakest_0 16 rfl rfl)
theorem dX0_weakest_17 : decode cX0_weakest 17 = .ok (.ireturn, 1) := dk_172 (dk_at dksX0_weakest_0 17 rfl rfl)
theorem dX0_weakest_18 : decode cX0_weakest 18 = .ok (.iconst 0, 1) := dk_3 (dk_at dksX0_weakest_0 18 rfl rfl)
theorem dX0_weakest_19 : decode cX0_weakest 19 = .ok (.ireturn, 1) := dk_172 (dk_at dksX0_weakest_0 19 rfl rfl)
abbrev cX0_writeEvent : ByteArray := method_41_code
def yX0_writeEvent : MethodName := ⟨RX0, "writeEvent", "(LEventWindows;I[J)I"⟩
def dkwX0_writeEvent_0 : List UInt8 := [44, 3, 42, 27, 182, 0, 140, 133, 80, 167, 0, 9, 78, 4, 172, 78, 5, 172, 3, 172]
abbrev dktX0_writeEvent_0 : List UInt8 := dkwX0_writeEvent_0 ++ []
theorem dksX0_writeEvent_0 : cX0_writeEvent.data.toList.drop 0 = dktX0_writeEvent_0 := by decide +kernel
theorem dX0_writeEvent_0 : decode cX0_writeEvent 0 = .ok (.aload_n 2, 1) := dk_44 (dk_at dksX0_writeEvent_0 0 rfl rfl)
theorem dX0_writeEvent_1 : decode cX0_writeEvent 1 = .ok (.iconst 0, 1) := dk_3 (dk_at dksX0_writeEvent_0 1 rfl rfl)
theorem dX0_writeEvent_2 : decode cX0_writeEvent 2 = .ok (.aload_n 0, 1) := dk_42 (dk_at dksX0_writeEvent_0 2 rfl rfl)
theorem dX0_writeEvent_3 : decode cX0_writeEvent 3 = .ok (.iload_n 1, 1) := dk_27 (dk_at dksX0_writeEvent_0 3 rfl rfl)
theorem dX0_writeEvent_4 : decode cX0_writeEvent 4 = .ok (.invokevirtual 140, 3) := dk_182 0 140 (dk_at dksX0_writeEvent_0 4 rfl rfl)
theorem dX0_writeEvent_7 : decode cX0_writeEvent 7 = .ok (.i2l, 1) := dk_133 (dk_at dksX0_writeEvent_0 7 rfl rfl)
theorem dX0_writeEvent_8 : decode cX0_writeEvent 8 = .ok (.lastore, 1) := dk_80 (dk_at dksX0_writeEvent_0 8 rfl rfl)
theorem dX0_writeEvent_9 : decode cX0_writeEvent 9 = .ok (.goto 9, 3) := dk_167 0 9 (dk_at dksX0_writeEvent_0 9 rfl rfl)
theorem dX0_writeEvent_12 : decode cX0_writeEvent 12 = .ok (.astore_n 3, 1) := dk_78 (dk_at dksX0_writeEvent_0 12 rfl rfl)
theorem dX0_writeEvent_13 : decode cX0_writeEvent 13 = .ok (.iconst 1, 1) := dk_4 (dk_at dksX0_writeEvent_0 13 rfl rfl)
theorem dX0_writeEvent_14 : decode cX0_writeEvent 14 = .ok (.ireturn, 1) := dk_172 (dk_at dksX0_writeEvent_0 14 rfl rfl)
theorem dX0_writeEvent_15 : decode cX0_writeEvent 15 = .ok (.astore_n 3, 1) := dk_78 (dk_at dksX0_writeEvent_0 15 rfl rfl)
theorem dX0_writeEvent_16 : decode cX0_writeEvent 16 = .ok (.iconst 2, 1) := dk_5 (dk_at dksX0_writeEvent_0 16 rfl rfl)
theorem dX0_writeEvent_17 : decode cX0_writeEvent 17 = .ok (.ireturn, 1) := dk_172 (dk_at dksX0_writeEvent_0 17 rfl rfl)
theorem dX0_writeEvent_18 : decode cX0_writeEvent 18 = .ok (.iconst 0, 1) := dk_3 (dk_at dksX0_writeEvent_0 18 rfl rfl)
theorem dX0_writeEvent_19 : decode cX0_writeEvent 19 = .ok (.ireturn, 1) := dk_172 (dk_at dksX0_writeEvent_0 19 rfl rfl)
abbrev cX0_writeRound : ByteArray := method_42_code
def yX0_writeRound : MethodName := ⟨RX0, "writeRound", "(LEventWindows;[J)I"⟩
def dkwX0_writeRound_0 : List UInt8 := [43, 3, 42, 182, 0, 143, 133, 80, 167, 0, 6, 77, 4, 172, 3, 172]
abbrev dktX0_writeRound_0 : List UInt8 := dkwX0_writeRound_0 ++ []
theorem dksX0_writeRound_0 : cX0_writeRound.data.toList.drop 0 = dktX0_writeRound_0 := by decide +kernel
theorem dX0_writeRound_0 : decode cX0_writeRound 0 = .ok (.aload_n 1, 1) := dk_43 (dk_at dksX0_writeRound_0 0 rfl rfl)
theorem dX0_writeRound_1 : decode cX0_writeRound 1 = .ok (.iconst 0, 1) := dk_3 (dk_at dksX0_writeRound_0 1 rfl rfl)
theorem dX0_writeRound_2 : decode cX0_writeRound 2 = .ok (.aload_n 0, 1) := dk_42 (dk_at dksX0_writeRound_0 2 rfl rfl)
theorem dX0_writeRound_3 : decode cX0_writeRound 3 = .ok (.invokevirtual 143, 3) := dk_182 0 143 (dk_at dksX0_writeRound_0 3 rfl rfl)
theorem dX0_writeRound_6 : decode cX0_writeRound 6 = .ok (.i2l, 1) := dk_133 (dk_at dksX0_writeRound_0 6 rfl rfl)
theorem dX0_writeRound_7 : decode cX0_writeRound 7 = .ok (.lastore, 1) := dk_80 (dk_at dksX0_writeRound_0 7 rfl rfl)
theorem dX0_writeRound_8 : decode cX0_writeRound 8 = .ok (.goto 6, 3) := dk_167 0 6 (dk_at dksX0_writeRound_0 8 rfl rfl)
theorem dX0_writeRound_11 : decode cX0_writeRound 11 = .ok (.astore_n 2, 1) := dk_77 (dk_at dksX0_writeRound_0 11 rfl rfl)
theorem dX0_writeRound_12 : decode cX0_writeRound 12 = .ok (.iconst 1, 1) := dk_4 (dk_at dksX0_writeRound_0 12 rfl rfl)
theorem dX0_writeRound_13 : decode cX0_writeRound 13 = .ok (.ireturn, 1) := dk_172 (dk_at dksX0_writeRound_0 13 rfl rfl)
theorem dX0_writeRound_14 : decode cX0_writeRound 14 = .ok (.iconst 0, 1) := dk_3 (dk_at dksX0_writeRound_0 14 rfl rfl)
theorem dX0_writeRound_15 : decode cX0_writeRound 15 = .ok (.ireturn, 1) := dk_172 (dk_at dksX0_writeRound_0 15 rfl rfl)
abbrev cX0_writeRun : ByteArray := method_43_code
def yX0_writeRun : MethodName := ⟨RX0, "writeRun", "(LEventWindows;I[J)I"⟩
def dkwX0_writeRun_0 : List UInt8 := [44, 3, 42, 27, 182, 0, 146, 133, 80, 167, 0, 9, 78, 4, 172, 78, 5, 172, 3, 172]
abbrev dktX0_writeRun_0 : List UInt8 := dkwX0_writeRun_0 ++ []
theorem dksX0_writeRun_0 : cX0_writeRun.data.toList.drop 0 = dktX0_writeRun_0 := by decide +kernel
theorem dX0_writeRun_0 : decode cX0_writeRun 0 = .ok (.aload_n 2, 1) := dk_44 (dk_at dksX0_writeRun_0 0 rfl rfl)
theorem dX0_writeRun_1 : decode cX0_writeRun 1 = .ok (.iconst 0, 1) := dk_3 (dk_at dksX0_writeRun_0 1 rfl rfl)
theorem dX0_writeRun_2 : decode cX0_writeRun 2 = .ok (.aload_n 0, 1) := dk_42 (dk_at dksX0_writeRun_0 2 rfl rfl)
theorem dX0_writeRun_3 : decode cX0_writeRun 3 = .ok (.iload_n 1, 1) := dk_27 (dk_at dksX0_writeRun_0 3 rfl rfl)
theorem dX0_writeRun_4 : decode cX0_writeRun 4 = .ok (.invokevirtual 146, 3) := dk_182 0 146 (dk_at dksX0_writeRun_0 4 rfl rfl)
theorem dX0_writeRun_7 : decode cX0_writeRun 7 = .ok (.i2l, 1) := dk_133 (dk_at dksX0_writeRun_0 7 rfl rfl)
theorem dX0_writeRun_8 : decode cX0_writeRun 8 = .ok (.lastore, 1) := dk_80 (dk_at dksX0_writeRun_0 8 rfl rfl)
theorem dX0_writeRun_9 : decode cX0_writeRun 9 = .ok (.goto 9, 3) := dk_167 0 9 (dk_at dksX0_writeRun_0 9 rfl rfl)
theorem dX0_writeRun_12 : decode cX0_writeRun 12 = .ok (.astore_n 3, 1) := dk_78 (dk_at dksX0_writeRun_0 12 rfl rfl)
theorem dX0_writeRun_13 : decode cX0_writeRun 13 = .ok (.iconst 1, 1) := dk_4 (dk_at dksX0_writeRun_0 13 rfl rfl)
theorem dX0_writeRun_14 : decode cX0_writeRun 14 = .ok (.ireturn, 1) := dk_172 (dk_at dksX0_writeRun_0 14 rfl rfl)
theorem dX0_writeRun_15 : decode cX0_writeRun 15 = .ok (.astore_n 3, 1) := dk_78 (dk_at dksX0_writeRun_0 15 rfl rfl)
theorem dX0_writeRun_16 : decode cX0_writeRun 16 = .ok (.iconst 2, 1) := dk_5 (dk_at dksX0_writeRun_0 16 rfl rfl)
theorem dX0_writeRun_17 : decode cX0_writeRun 17 = .ok (.ireturn, 1) := dk_172 (dk_at dksX0_writeRun_0 17 rfl rfl)
theorem dX0_writeRun_18 : decode cX0_writeRun 18 = .ok (.iconst 0, 1) := dk_3 (dk_at dksX0_writeRun_0 18 rfl rfl)
theorem dX0_writeRun_19 : decode cX0_writeRun 19 = .ok (.ireturn, 1) := dk_172 (dk_at dksX0_writeRun_0 19 rfl rfl)
abbrev cX0_textByte : ByteArray := method_44_code
def yX0_textByte : MethodName := ⟨RX0, "textByte", "(LEventWindows;I[J)I"⟩
def dkwX0_textByte_0 : List UInt8 := [44, 3, 42, 27, 182, 0, 149, 133, 80, 167, 0, 6, 78, 4, 172, 3, 172]
abbrev dktX0_textByte_0 : List UInt8 := dkwX0_textByte_0 ++ []
theorem dksX0_textByte_0 : cX0_textByte.data.toList.drop 0 = dktX0_textByte_0 := by decide +kernel
theorem dX0_textByte_0 : decode cX0_textByte 0 = .ok (.aload_n 2, 1) := dk_44 (dk_at dksX0_textByte_0 0 rfl rfl)
theorem dX0_textByte_1 : decode cX0_textByte 1 = .ok (.iconst 0, 1) := dk_3 (dk_at dksX0_textByte_0 1 rfl rfl)
theorem dX0_textByte_2 : decode cX0_textByte 2 = .ok (.aload_n 0, 1) := dk_42 (dk_at dksX0_textByte_0 2 rfl rfl)
theorem dX0_textByte_3 : decode cX0_textByte 3 = .ok (.iload_n 1, 1) := dk_27 (dk_at dksX0_textByte_0 3 rfl rfl)
theorem dX0_textByte_4 : decode cX0_textByte 4 = .ok (.invokevirtual 149, 3) := dk_182 0 149 (dk_at dksX0_textByte_0 4 rfl rfl)
theorem dX0_textByte_7 : decode cX0_textByte 7 = .ok (.i2l, 1) := dk_133 (dk_at dksX0_textByte_0 7 rfl rfl)
theorem dX0_textByte_8 : decode cX0_textByte 8 = .ok (.lastore, 1) := dk_80 (dk_at dksX0_textByte_0 8 rfl rfl)
theorem dX0_textByte_9 : decode cX0_textByte 9 = .ok (.goto 6, 3) := dk_167 0 6 (dk_at dksX0_textByte_0 9 rfl rfl)
theorem dX0_textByte_12 : decode cX0_textByte 12 = .ok (.astore_n 3, 1) := dk_78 (dk_at dksX0_textByte_0 12 rfl rfl)
theorem dX0_textByte_13 : decode cX0_textByte 13 = .ok (.iconst 1, 1) := dk_4 (dk_at dksX0_textByte_0 13 rfl rfl)
theorem dX0_textByte_14 : decode cX0_textByte 14 = .ok (.ireturn, 1) := dk_172 (dk_at dksX0_textByte_0 14 rfl rfl)
theorem dX0_textByte_15 : decode cX0_textByte 15 = .ok (.iconst 0, 1) := dk_3 (dk_at dksX0_textByte_0 15 rfl rfl)
theorem dX0_textByte_16 : decode cX0_textByte 16 = .ok (.ireturn, 1) := dk_172 (dk_at dksX0_textByte_0 16 rfl rfl)
abbrev cX0_setLow : ByteArray := method_45_code
def yX0_setLow : MethodName := ⟨RX0, "setLow", "(LEventWindows;II[J)I"⟩
def dkwX0_setLow_1 : List UInt8 := [172, 3, 172]
abbrev dktX0_setLow_1 : List UInt8 := dkwX0_setLow_1 ++ []
def dkwX0_setLow_0 : List UInt8 := [45, 3, 42, 27, 28, 182, 0, 152, 133, 80, 167, 0, 15, 58, 4, 4, 172, 58, 4, 5, 172, 58, 4, 6]
abbrev dktX0_setLow_0 : List UInt8 := dkwX0_setLow_0 ++ dktX0_setLow_1
theorem dksX0_setLow_0 : cX0_setLow.data.toList.drop 0 = dktX0_setLow_0 := by decide +kernel
theorem dksX0_setLow_1 : cX0_setLow.data.toList.drop 24 = dktX0_setLow_1 := dk_seg dksX0_setLow_0 24 rfl rfl
theorem dX0_setLow_0 : decode cX0_setLow 0 = .ok (.aload_n 3, 1) := dk_45 (dk_at dksX0_setLow_0 0 rfl rfl)
theorem dX0_setLow_1 : decode cX0_setLow 1 = .ok (.iconst 0, 1) := dk_3 (dk_at dksX0_setLow_0 1 rfl rfl)
theorem dX0_setLow_2 : decode cX0_setLow 2 = .ok (.aload_n 0, 1) := dk_42 (dk_at dksX0_setLow_0 2 rfl rfl)
theorem dX0_setLow_3 : decode cX0_setLow 3 = .ok (.iload_n 1, 1) := dk_27 (dk_at dksX0_setLow_0 3 rfl rfl)
theorem dX0_setLow_4 : decode cX0_setLow 4 = .ok (.iload_n 2, 1) := dk_28 (dk_at dksX0_setLow_0 4 rfl rfl)
theorem dX0_setLow_5 : decode cX0_setLow 5 = .ok (.invokevirtual 152, 3) := dk_182 0 152 (dk_at dksX0_setLow_0 5 rfl rfl)
theorem dX0_setLow_8 : decode cX0_setLow 8 = .ok (.i2l, 1) := dk_133 (dk_at dksX0_setLow_0 8 rfl rfl)
theorem dX0_setLow_9 : decode cX0_setLow 9 = .ok (.lastore, 1) := dk_80 (dk_at dksX0_setLow_0 9 rfl rfl)
theorem dX0_setLow_10 : decode cX0_setLow 10 = .ok (.goto 15, 3) := dk_167 0 15 (dk_at dksX0_setLow_0 10 rfl rfl)
theorem dX0_setLow_13 : decode cX0_setLow 13 = .ok (.astore 4, 2) := dk_58 4 (dk_at dksX0_setLow_0 13 rfl rfl)
theorem dX0_setLow_15 : decode cX0_setLow 15 = .ok (.iconst 1, 1) := dk_4 (dk_at dksX0_setLow_0 15 rfl rfl)
theorem dX0_setLow_16 : decode cX0_setLow 16 = .ok (.ireturn, 1) := dk_172 (dk_at dksX0_setLow_0 16 rfl rfl)
theorem dX0_setLow_17 : decode cX0_setLow 17 = .ok (.astore 4, 2) := dk_58 4 (dk_at dksX0_setLow_0 17 rfl rfl)
theorem dX0_setLow_19 : decode cX0_setLow 19 = .ok (.iconst 2, 1) := dk_5 (dk_at dksX0_setLow_0 19 rfl rfl)
theorem dX0_setLow_20 : decode cX0_setLow 20 = .ok (.ireturn, 1) := dk_172 (dk_at dksX0_setLow_0 20 rfl rfl)
theorem dX0_setLow_21 : decode cX0_setLow 21 = .ok (.astore 4, 2) := dk_58 4 (dk_at dksX0_setLow_0 21 rfl rfl)
theorem dX0_setLow_23 : decode cX0_setLow 23 = .ok (.iconst 3, 1) := dk_6 (dk_at dksX0_setLow_0 23 rfl rfl)
theorem dX0_setLow_24 : decode cX0_setLow 24 = .ok (.ireturn, 1) := dk_172 (dk_at dksX0_setLow_1 0 rfl rfl)
theorem dX0_setLow_25 : decode cX0_setLow 25 = .ok (.iconst 0, 1) := dk_3 (dk_at dksX0_setLow_1 1 rfl rfl)
theorem dX0_setLow_26 : decode cX0_setLow 26 = .ok (.ireturn, 1) := dk_172 (dk_at dksX0_setLow_1 2 rfl rfl)
abbrev cX0_setHigh : ByteArray := method_46_code
def yX0_setHigh : MethodName := ⟨RX0, "setHigh", "(LEventWindows;II[J)I"⟩
def dkwX0_setHigh_1 : List UInt8 := [172, 3, 172]
abbrev dktX0_setHigh_1 : List UInt8 := dkwX0_setHigh_1 ++ []
def dkwX0_setHigh_0 : List UInt8 := [45, 3, 42, 27, 28, 182, 0, 155, 133, 80, 167, 0, 15, 58, 4, 4, 172, 58, 4, 5, 172, 58, 4, 6]
abbrev dktX0_setHigh_0 : List UInt8 := dkwX0_setHigh_0 ++ dktX0_setHigh_1
theorem dksX0_setHigh_0 : cX0_setHigh.data.toList.drop 0 = dktX0_setHigh_0 := by decide +kernel
theorem dksX0_setHigh_1 : cX0_setHigh.data.toList.drop 24 = dktX0_setHigh_1 := dk_seg dksX0_setHigh_0 24 rfl rfl
theorem dX0_setHigh_0 : decode cX0_setHigh 0 = .ok (.aload_n 3, 1) := dk_45 (dk_at dksX0_setHigh_0 0 rfl rfl)
theorem dX0_setHigh_1 : decode cX0_setHigh 1 = .ok (.iconst 0, 1) := dk_3 (dk_at dksX0_setHigh_0 1 rfl rfl)
theorem dX0_setHigh_2 : decode cX0_setHigh 2 = .ok (.aload_n 0, 1) := dk_42 (dk_at dksX0_setHigh_0 2 rfl rfl)
theorem dX0_setHigh_3 : decode cX0_setHigh 3 = .ok (.iload_n 1, 1) := dk_27 (dk_at dksX0_setHigh_0 3 rfl rfl)
theorem dX0_setHigh_4 : decode cX0_setHigh 4 = .ok (.iload_n 2, 1) := dk_28 (dk_at dksX0_setHigh_0 4 rfl rfl)
theorem dX0_setHigh_5 : decode cX0_setHigh 5 = .ok (.invokevirtual 155, 3) := dk_182 0 155 (dk_at dksX0_setHigh_0 5 rfl rfl)
theorem dX0_setHigh_8 : decode cX0_setHigh 8 = .ok (.i2l, 1) := dk_133 (dk_at dksX0_setHigh_0 8 rfl rfl)
theorem dX0_setHigh_9 : decode cX0_setHigh 9 = .ok (.lastore, 1) := dk_80 (dk_at dksX0_setHigh_0 9 rfl rfl)
theorem dX0_setHigh_10 : decode cX0_setHigh 10 = .ok (.goto 15, 3) := dk_167 0 15 (dk_at dksX0_setHigh_0 10 rfl rfl)
theorem dX0_setHigh_13 : decode cX0_setHigh 13 = .ok (.astore 4, 2) := dk_58 4 (dk_at dksX0_setHigh_0 13 rfl rfl)
theorem dX0_setHigh_15 : decode cX0_setHigh 15 = .ok (.iconst 1, 1) := dk_4 (dk_at dksX0_setHigh_0 15 rfl rfl)
theorem dX0_setHigh_16 : decode cX0_setHigh 16 = .ok (.ireturn, 1) := dk_172 (dk_at dksX0_setHigh_0 16 rfl rfl)
theorem dX0_setHigh_17 : decode cX0_setHigh 17 = .ok (.astore 4, 2) := dk_58 4 (dk_at dksX0_setHigh_0 17 rfl rfl)
theorem dX0_setHigh_19 : decode cX0_setHigh 19 = .ok (.iconst 2, 1) := dk_5 (dk_at dksX0_setHigh_0 19 rfl rfl)
theorem dX0_setHigh_20 : decode cX0_setHigh 20 = .ok (.ireturn, 1) := dk_172 (dk_at dksX0_setHigh_0 20 rfl rfl)
theorem dX0_setHigh_21 : decode cX0_setHigh 21 = .ok (.astore 4, 2) := dk_58 4 (dk_at dksX0_setHigh_0 21 rfl rfl)
theorem dX0_setHigh_23 : decode cX0_setHigh 23 = .ok (.iconst 3, 1) := dk_6 (dk_at dksX0_setHigh_0 23 rfl rfl)
theorem dX0_setHigh_24 : decode cX0_setHigh 24 = .ok (.ireturn, 1) := dk_172 (dk_at dksX0_setHigh_1 0 rfl rfl)
theorem dX0_setHigh_25 : decode cX0_setHigh 25 = .ok (.iconst 0, 1) := dk_3 (dk_at dksX0_setHigh_1 1 rfl rfl)
theorem dX0_setHigh_26 : decode cX0_setHigh 26 = .ok (.ireturn, 1) := dk_172 (dk_at dksX0_setHigh_1 2 rfl rfl)
abbrev cX0_setCost : ByteArray := method_47_code
def yX0_setCost : MethodName := ⟨RX0, "setCost", "(LEventWindows;II[J)I"⟩
def dkwX0_setCost_1 : List UInt8 := [172, 3, 172]
abbrev dktX0_setCost_1 : List UInt8 := dkwX0_setCost_1 ++ []
def dkwX0_setCost_0 : List UInt8 := [45, 3, 42, 27, 28, 182, 0, 158, 133, 80, 167, 0, 15, 58, 4, 4, 172, 58, 4, 5, 172, 58, 4, 6]
abbrev dktX0_setCost_0 : List UInt8 := dkwX0_setCost_0 ++ dktX0_setCost_1
theorem dksX0_setCost_0 : cX0_setCost.data.toList.drop 0 = dktX0_setCost_0 := by decide +kernel
theorem dksX0_setCost_1 : cX0_setCost.data.toList.drop 24 = dktX0_setCost_1 := dk_seg dksX0_setCost_0 24 rfl rfl
theorem dX0_setCost_0 : decode cX0_setCost 0 = .ok (.aload_n 3, 1) := dk_45 (dk_at dksX0_setCost_0 0 rfl rfl)
theorem dX0_setCost_1 : decode cX0_setCost 1 = .ok (.iconst 0, 1) := dk_3 (dk_at dksX0_setCost_0 1 rfl rfl)
theorem dX0_setCost_2 : decode cX0_setCost 2 = .ok (.aload_n 0, 1) := dk_42 (dk_at dksX0_setCost_0 2 rfl rfl)
theorem dX0_setCost_3 : decode cX0_setCost 3 = .ok (.iload_n 1, 1) := dk_27 (dk_at dksX0_setCost_0 3 rfl rfl)
theorem dX0_setCost_4 : decode cX0_setCost 4 = .ok (.iload_n 2, 1) := dk_28 (dk_at dksX0_setCost_0 4 rfl rfl)
theorem dX0_setCost_5 : decode cX0_setCost 5 = .ok (.invokevirtual 158, 3) := dk_182 0 158 (dk_at dksX0_setCost_0 5 rfl rfl)
theorem dX0_setCost_8 : decode cX0_setCost 8 = .ok (.i2l, 1) := dk_133 (dk_at dksX0_setCost_0 8 rfl rfl)
theorem dX0_setCost_9 : decode cX0_setCost 9 = .ok (.lastore, 1) := dk_80 (dk_at dksX0_setCost_0 9 rfl rfl)
theorem dX0_setCost_10 : decode cX0_setCost 10 = .ok (.goto 15, 3) := dk_167 0 15 (dk_at dksX0_setCost_0 10 rfl rfl)
theorem dX0_setCost_13 : decode cX0_setCost 13 = .ok (.astore 4, 2) := dk_58 4 (dk_at dksX0_setCost_0 13 rfl rfl)
theorem dX0_setCost_15 : decode cX0_setCost 15 = .ok (.iconst 1, 1) := dk_4 (dk_at dksX0_setCost_0 15 rfl rfl)
theorem dX0_setCost_16 : decode cX0_setCost 16 = .ok (.ireturn, 1) := dk_172 (dk_at dksX0_setCost_0 16 rfl rfl)
theorem dX0_setCost_17 : decode cX0_setCost 17 = .ok (.astore 4, 2) := dk_58 4 (dk_at dksX0_setCost_0 17 rfl rfl)
theorem dX0_setCost_19 : decode cX0_setCost 19 = .ok (.iconst 2, 1) := dk_5 (dk_at dksX0_setCost_0 19 rfl rfl)
theorem dX0_setCost_20 : decode cX0_setCost 20 = .ok (.ireturn, 1) := dk_172 (dk_at dksX0_setCost_0 20 rfl rfl)
theorem dX0_setCost_21 : decode cX0_setCost 21 = .ok (.astore 4, 2) := dk_58 4 (dk_at dksX0_setCost_0 21 rfl rfl)
theorem dX0_setCost_23 : decode cX0_setCost 23 = .ok (.iconst 3, 1) := dk_6 (dk_at dksX0_setCost_0 23 rfl rfl)
theorem dX0_setCost_24 : decode cX0_setCost 24 = .ok (.ireturn, 1) := dk_172 (dk_at dksX0_setCost_1 0 rfl rfl)
theorem dX0_setCost_25 : decode cX0_setCost 25 = .ok (.iconst 0, 1) := dk_3 (dk_at dksX0_setCost_1 1 rfl rfl)
theorem dX0_setCost_26 : decode cX0_setCost 26 = .ok (.ireturn, 1) := dk_172 (dk_at dksX0_setCost_1 2 rfl rfl)
abbrev cX0_turn : ByteArray := method_48_code
def yX0_turn : MethodName := ⟨RX0, "turn", "(LEventWindows;I[J)I"⟩
def dkwX0_turn_1 : List UInt8 := [172, 3, 172]
abbrev dktX0_turn_1 : List UInt8 := dkwX0_turn_1 ++ []
def dkwX0_turn_0 : List UInt8 := [44, 3, 42, 27, 182, 0, 161, 153, 0, 7, 10, 167, 0, 4, 9, 80, 167, 0, 9, 78, 4, 172, 78, 5]
abbrev dktX0_turn_0 : List UInt8 := dkwX0_turn_0 ++ dktX0_turn_1
theorem dksX0_turn_0 : cX0_turn.data.toList.drop 0 = dktX0_turn_0 := by decide +kernel
theorem dksX0_turn_1 : cX0_turn.data.toList.drop 24 = dktX0_turn_1 := dk_seg dksX0_turn_0 24 rfl rfl
theorem dX0_turn_0 : decode cX0_turn 0 = .ok (.aload_n 2, 1) := dk_44 (dk_at dksX0_turn_0 0 rfl rfl)
theorem dX0_turn_1 : decode cX0_turn 1 = .ok (.iconst 0, 1) := dk_3 (dk_at dksX0_turn_0 1 rfl rfl)
theorem dX0_turn_2 : decode cX0_turn 2 = .ok (.aload_n 0, 1) := dk_42 (dk_at dksX0_turn_0 2 rfl rfl)
theorem dX0_turn_3 : decode cX0_turn 3 = .ok (.iload_n 1, 1) := dk_27 (dk_at dksX0_turn_0 3 rfl rfl)
theorem dX0_turn_4 : decode cX0_turn 4 = .ok (.invokevirtual 161, 3) := dk_182 0 161 (dk_at dksX0_turn_0 4 rfl rfl)
theorem dX0_turn_7 : decode cX0_turn 7 = .ok (.ifCond .eq 7, 3) := dk_153 0 7 (dk_at dksX0_turn_0 7 rfl rfl)
theorem dX0_turn_10 : decode cX0_turn 10 = .ok (.lconst 1, 1) := dk_10 (dk_at dksX0_turn_0 10 rfl rfl)
theorem dX0_turn_11 : decode cX0_turn 11 = .ok (.goto 4, 3) := dk_167 0 4 (dk_at dksX0_turn_0 11 rfl rfl)
theorem dX0_turn_14 : decode cX0_turn 14 = .ok (.lconst 0, 1) := dk_9 (dk_at dksX0_turn_0 14 rfl rfl)
theorem dX0_turn_15 : decode cX0_turn 15 = .ok (.lastore, 1) := dk_80 (dk_at dksX0_turn_0 15 rfl rfl)
theorem dX0_turn_16 : decode cX0_turn 16 = .ok (.goto 9, 3) := dk_167 0 9 (dk_at dksX0_turn_0 16 rfl rfl)
theorem dX0_turn_19 : decode cX0_turn 19 = .ok (.astore_n 3, 1) := dk_78 (dk_at dksX0_turn_0 19 rfl rfl)
theorem dX0_turn_20 : decode cX0_turn 20 = .ok (.iconst 1, 1) := dk_4 (dk_at dksX0_turn_0 20 rfl rfl)
theorem dX0_turn_21 : decode cX0_turn 21 = .ok (.ireturn, 1) := dk_172 (dk_at dksX0_turn_0 21 rfl rfl)
theorem dX0_turn_22 : decode cX0_turn 22 = .ok (.astore_n 3, 1) := dk_78 (dk_at dksX0_turn_0 22 rfl rfl)
theorem dX0_turn_23 : decode cX0_turn 23 = .ok (.iconst 2, 1) := dk_5 (dk_at dksX0_turn_0 23 rfl rfl)
theorem dX0_turn_24 : decode cX0_turn 24 = .ok (.ireturn, 1) := dk_172 (dk_at dksX0_turn_1 0 rfl rfl)
theorem dX0_turn_25 : decode cX0_turn 25 = .ok (.iconst 0, 1) := dk_3 (dk_at dksX0_turn_1 1 rfl rfl)
theorem dX0_turn_26 : decode cX0_turn 26 = .ok (.ireturn, 1) := dk_172 (dk_at dksX0_turn_1 2 rfl rfl)
abbrev cX0_addWindow : ByteArray := method_49_code
def yX0_addWindow : MethodName := ⟨RX0, "addWindow", "(LEventWindows;IIII[J)I"⟩
def dkwX0_addWindow_1 : List UInt8 := [172, 58, 6, 6, 172, 3, 172]
abbrev dktX0_addWindow_1 : List UInt8 := dkwX0_addWindow_1 ++ []
def dkwX0_addWindow_0 : List UInt8 := [25, 5, 3, 42, 27, 28, 29, 21, 4, 182, 0, 164, 133, 80, 167, 0, 15, 58, 6, 4, 172, 58, 6, 5]
abbrev dktX0_addWindow_0 : List UInt8 := dkwX0_addWindow_0 ++ dktX0_addWindow_1
theorem dksX0_addWindow_0 : cX0_addWindow.data.toList.drop 0 = dktX0_addWindow_0 := by decide +kernel
theorem dksX0_addWindow_1 : cX0_addWindow.data.toList.drop 24 = dktX0_addWindow_1 := dk_seg dksX0_addWindow_0 24 rfl rfl
theorem dX0_addWindow_0 : decode cX0_addWindow 0 = .ok (.aload 5, 2) := dk_25 5 (dk_at dksX0_addWindow_0 0 rfl rfl)
theorem dX0_addWindow_2 : decode cX0_addWindow 2 = .ok (.iconst 0, 1) := dk_3 (dk_at dksX0_addWindow_0 2 rfl rfl)
theorem dX0_addWindow_3 : decode cX0_addWindow 3 = .ok (.aload_n 0, 1) := dk_42 (dk_at dksX0_addWindow_0 3 rfl rfl)
theorem dX0_addWindow_4 : decode cX0_addWindow 4 = .ok (.iload_n 1, 1) := dk_27 (dk_at dksX0_addWindow_0 4 rfl rfl)
theorem dX0_addWindow_5 : decode cX0_addWindow 5 = .ok (.iload_n 2, 1) := dk_28 (dk_at dksX0_addWindow_0 5 rfl rfl)
theorem dX0_addWindow_6 : decode cX0_addWindow 6 = .ok (.iload_n 3, 1) := dk_29 (dk_at dksX0_addWindow_0 6 rfl rfl)
theorem dX0_addWindow_7 : decode cX0_addWindow 7 = .ok (.iload 4, 2) := dk_21 4 (dk_at dksX0_addWindow_0 7 rfl rfl)
theorem dX0_addWindow_9 : decode cX0_addWindow 9 = .ok (.invokevirtual 164, 3) := dk_182 0 164 (dk_at dksX0_addWindow_0 9 rfl rfl)
theorem dX0_addWindow_12 : decode cX0_addWindow 12 = .ok (.i2l, 1) := dk_133 (dk_at dksX0_addWindow_0 12 rfl rfl)
theorem dX0_addWindow_13 : decode cX0_addWindow 13 = .ok (.lastore, 1) := dk_80 (dk_at dksX0_addWindow_0 13 rfl rfl)
theorem dX0_addWindow_14 : decode cX0_addWindow 14 = .ok (.goto 15, 3) := dk_167 0 15 (dk_at dksX0_addWindow_0 14 rfl rfl)
theorem dX0_addWindow_17 : decode cX0_addWindow 17 = .ok (.astore 6, 2) := dk_58 6 (dk_at dksX0_addWindow_0 17 rfl rfl)
theorem dX0_addWindow_19 : decode cX0_addWindow 19 = .ok (.iconst 1, 1) := dk_4 (dk_at dksX0_addWindow_0 19 rfl rfl)
theorem dX0_addWindow_20 : decode cX0_addWindow 20 = .ok (.ireturn, 1) := dk_172 (dk_at dksX0_addWindow_0 20 rfl rfl)
theorem dX0_addWindow_21 : decode cX0_addWindow 21 = .ok (.astore 6, 2) := dk_58 6 (dk_at dksX0_addWindow_0 21 rfl rfl)
theorem dX0_addWindow_23 : decode cX0_addWindow 23 = .ok (.iconst 2, 1) := dk_5 (dk_at dksX0_addWindow_0 23 rfl rfl)
theorem dX0_addWindow_24 : decode cX0_addWindow 24 = .ok (.ireturn, 1) := dk_172 (dk_at dksX0_addWindow_1 0 rfl rfl)
theorem dX0_addWindow_25 : decode cX0_addWindow 25 = .ok (.astore 6, 2) := dk_58 6 (dk_at dksX0_addWindow_1 1 rfl rfl)
theorem dX0_addWindow_27 : decode cX0_addWindow 27 = .ok (.iconst 3, 1) := dk_6 (dk_at dksX0_addWindow_1 3 rfl rfl)
theorem dX0_addWindow_28 : decode cX0_addWindow 28 = .ok (.ireturn, 1) := dk_172 (dk_at dksX0_addWindow_1 4 rfl rfl)
theorem dX0_addWindow_29 : decode cX0_addWindow 29 = .ok (.iconst 0, 1) := dk_3 (dk_at dksX0_addWindow_1 5 rfl rfl)
theorem dX0_addWindow_30 : decode cX0_addWindow 30 = .ok (.ireturn, 1) := dk_172 (dk_at dksX0_addWindow_1 6 rfl rfl)
abbrev cX0_fix : ByteArray := method_50_code
def yX0_fix : MethodName := ⟨RX0, "fix", "(LEventWindows;II[J)I"⟩
def dkwX0_fix_1 : List UInt8 := [172, 3, 172]
abbrev dktX0_fix_1 : List UInt8 := dkwX0_fix_1 ++ []
def dkwX0_fix_0 : List UInt8 := [45, 3, 42, 27, 28, 182, 0, 168, 133, 80, 167, 0, 15, 58, 4, 4, 172, 58, 4, 5, 172, 58, 4, 6]
abbrev dktX0_fix_0 : List UInt8 := dkwX0_fix_0 ++ dktX0_fix_1
theorem dksX0_fix_0 : cX0_fix.data.toList.drop 0 = dktX0_fix_0 := by decide +kernel
theorem dksX0_fix_1 : cX0_fix.data.toList.drop 24 = dktX0_fix_1 := dk_seg dksX0_fix_0 24 rfl rfl
theorem dX0_fix_0 : decode cX0_fix 0 = .ok (.aload_n 3, 1) := dk_45 (dk_at dksX0_fix_0 0 rfl rfl)
theorem dX0_fix_1 : decode cX0_fix 1 = .ok (.iconst 0, 1) := dk_3 (dk_at dksX0_fix_0 1 rfl rfl)
theorem dX0_fix_2 : decode cX0_fix 2 = .ok (.aload_n 0, 1) := dk_42 (dk_at dksX0_fix_0 2 rfl rfl)
theorem dX0_fix_3 : decode cX0_fix 3 = .ok (.iload_n 1, 1) := dk_27 (dk_at dksX0_fix_0 3 rfl rfl)
theorem dX0_fix_4 : decode cX0_fix 4 = .ok (.iload_n 2, 1) := dk_28 (dk_at dksX0_fix_0 4 rfl rfl)
theorem dX0_fix_5 : decode cX0_fix 5 = .ok (.invokevirtual 168, 3) := dk_182 0 168 (dk_at dksX0_fix_0 5 rfl rfl)
theorem dX0_fix_8 : decode cX0_fix 8 = .ok (.i2l, 1) := dk_133 (dk_at dksX0_fix_0 8 rfl rfl)
theorem dX0_fix_9 : decode cX0_fix 9 = .ok (.lastore, 1) := dk_80 (dk_at dksX0_fix_0 9 rfl rfl)
theorem dX0_fix_10 : decode cX0_fix 10 = .ok (.goto 15, 3) := dk_167 0 15 (dk_at dksX0_fix_0 10 rfl rfl)
theorem dX0_fix_13 : decode cX0_fix 13 = .ok (.astore 4, 2) := dk_58 4 (dk_at dksX0_fix_0 13 rfl rfl)
theorem dX0_fix_15 : decode cX0_fix 15 = .ok (.iconst 1, 1) := dk_4 (dk_at dksX0_fix_0 15 rfl rfl)
theorem dX0_fix_16 : decode cX0_fix 16 = .ok (.ireturn, 1) := dk_172 (dk_at dksX0_fix_0 16 rfl rfl)
theorem dX0_fix_17 : decode cX0_fix 17 = .ok (.astore 4, 2) := dk_58 4 (dk_at dksX0_fix_0 17 rfl rfl)
theorem dX0_fix_19 : decode cX0_fix 19 = .ok (.iconst 2, 1) := dk_5 (dk_at dksX0_fix_0 19 rfl rfl)
theorem dX0_fix_20 : decode cX0_fix 20 = .ok (.ireturn, 1) := dk_172 (dk_at dksX0_fix_0 20 rfl rfl)
theorem dX0_fix_21 : decode cX0_fix 21 = .ok (.astore 4, 2) := dk_58 4 (dk_at dksX0_fix_0 21 rfl rfl)
theorem dX0_fix_23 : decode cX0_fix 23 = .ok (.iconst 3, 1) := dk_6 (dk_at dksX0_fix_0 23 rfl rfl)
theorem dX0_fix_24 : decode cX0_fix 24 = .ok (.ireturn, 1) := dk_172 (dk_at dksX0_fix_1 0 rfl rfl)
theorem dX0_fix_25 : decode cX0_fix 25 = .ok (.iconst 0, 1) := dk_3 (dk_at dksX0_fix_1 1 rfl rfl)
theorem dX0_fix_26 : decode cX0_fix 26 = .ok (.ireturn, 1) := dk_172 (dk_at dksX0_fix_1 2 rfl rfl)
abbrev cX0_free : ByteArray := method_51_code
def yX0_free : MethodName := ⟨RX0, "free", "(LEventWindows;I[J)I"⟩
def dkwX0_free_0 : List UInt8 := [44, 3, 42, 27, 182, 0, 171, 133, 80, 167, 0, 12, 78, 4, 172, 78, 5, 172, 78, 6, 172, 3, 172]
abbrev dktX0_free_0 : List UInt8 := dkwX0_free_0 ++ []
theorem dksX0_free_0 : cX0_free.data.toList.drop 0 = dktX0_free_0 := by decide +kernel
theorem dX0_free_0 : decode cX0_free 0 = .ok (.aload_n 2, 1) := dk_44 (dk_at dksX0_free_0 0 rfl rfl)
theorem dX0_free_1 : decode cX0_free 1 = .ok (.iconst 0, 1) := dk_3 (dk_at dksX0_free_0 1 rfl rfl)
theorem dX0_free_2 : decode cX0_free 2 = .ok (.aload_n 0, 1) := dk_42 (dk_at dksX0_free_0 2 rfl rfl)
theorem dX0_free_3 : decode cX0_free 3 = .ok (.iload_n 1, 1) := dk_27 (dk_at dksX0_free_0 3 rfl rfl)
theorem dX0_free_4 : decode cX0_free 4 = .ok (.invokevirtual 171, 3) := dk_182 0 171 (dk_at dksX0_free_0 4 rfl rfl)
theorem dX0_free_7 : decode cX0_free 7 = .ok (.i2l, 1) := dk_133 (dk_at dksX0_free_0 7 rfl rfl)
theorem dX0_free_8 : decode cX0_free 8 = .ok (.lastore, 1) := dk_80 (dk_at dksX0_free_0 8 rfl rfl)
theorem dX0_free_9 : decode cX0_free 9 = .ok (.goto 12, 3) := dk_167 0 12 (dk_at dksX0_free_0 9 rfl rfl)
theorem dX0_free_12 : decode cX0_free 12 = .ok (.astore_n 3, 1) := dk_78 (dk_at dksX0_free_0 12 rfl rfl)
theorem dX0_free_13 : decode cX0_free 13 = .ok (.iconst 1, 1) := dk_4 (dk_at dksX0_free_0 13 rfl rfl)
theorem dX0_free_14 : decode cX0_free 14 = .ok (.ireturn, 1) := dk_172 (dk_at dksX0_free_0 14 rfl rfl)
theorem dX0_free_15 : decode cX0_free 15 = .ok (.astore_n 3, 1) := dk_78 (dk_at dksX0_free_0 15 rfl rfl)
theorem dX0_free_16 : decode cX0_free 16 = .ok (.iconst 2, 1) := dk_5 (dk_at dksX0_free_0 16 rfl rfl)
theorem dX0_free_17 : decode cX0_free 17 = .ok (.ireturn, 1) := dk_172 (dk_at dksX0_free_0 17 rfl rfl)
theorem dX0_free_18 : decode cX0_free 18 = .ok (.astore_n 3, 1) := dk_78 (dk_at dksX0_free_0 18 rfl rfl)
theorem dX0_free_19 : decode cX0_free 19 = .ok (.iconst 3, 1) := dk_6 (dk_at dksX0_free_0 19 rfl rfl)
theorem dX0_free_20 : decode cX0_free 20 = .ok (.ireturn, 1) := dk_172 (dk_at dksX0_free_0 20 rfl rfl)
theorem dX0_free_21 : decode cX0_free 21 = .ok (.iconst 0, 1) := dk_3 (dk_at dksX0_free_0 21 rfl rfl)
theorem dX0_free_22 : decode cX0_free 22 = .ok (.ireturn, 1) := dk_172 (dk_at dksX0_free_0 22 rfl rfl)
abbrev cX0_setDelay : ByteArray := method_52_code
def yX0_setDelay : MethodName := ⟨RX0, "setDelay", "(LEventWindows;II[J)I"⟩
def dkwX0_setDelay_1 : List UInt8 := [172, 3, 172]
abbrev dktX0_setDelay_1 : List UInt8 := dkwX0_setDelay_1 ++ []
def dkwX0_setDelay_0 : List UInt8 := [45, 3, 42, 27, 28, 182, 0, 174, 133, 80, 167, 0, 15, 58, 4, 4, 172, 58, 4, 5, 172, 58, 4, 6]
abbrev dktX0_setDelay_0 : List UInt8 := dkwX0_setDelay_0 ++ dktX0_setDelay_1
theorem dksX0_setDelay_0 : cX0_setDelay.data.toList.drop 0 = dktX0_setDelay_0 := by decide +kernel
theorem dksX0_setDelay_1 : cX0_setDelay.data.toList.drop 24 = dktX0_setDelay_1 := dk_seg dksX0_setDelay_0 24 rfl rfl
theorem dX0_setDelay_0 : decode cX0_setDelay 0 = .ok (.aload_n 3, 1) := dk_45 (dk_at dksX0_setDelay_0 0 rfl rfl)
theorem dX0_setDelay_1 : decode cX0_setDelay 1 = .ok (.iconst 0, 1) := dk_3 (dk_at dksX0_setDelay_0 1 rfl rfl)
theorem dX0_setDelay_2 : decode cX0_setDelay 2 = .ok (.aload_n 0, 1) := dk_42 (dk_at dksX0_setDelay_0 2 rfl rfl)
theorem dX0_setDelay_3 : decode cX0_setDelay 3 = .ok (.iload_n 1, 1) := dk_27 (dk_at dksX0_setDelay_0 3 rfl rfl)
theorem dX0_setDelay_4 : decode cX0_setDelay 4 = .ok (.iload_n 2, 1) := dk_28 (dk_at dksX0_setDelay_0 4 rfl rfl)
theorem dX0_setDelay_5 : decode cX0_setDelay 5 = .ok (.invokevirtual 174, 3) := dk_182 0 174 (dk_at dksX0_setDelay_0 5 rfl rfl)
theorem dX0_setDelay_8 : decode cX0_setDelay 8 = .ok (.i2l, 1) := dk_133 (dk_at dksX0_setDelay_0 8 rfl rfl)
theorem dX0_setDelay_9 : decode cX0_setDelay 9 = .ok (.lastore, 1) := dk_80 (dk_at dksX0_setDelay_0 9 rfl rfl)
theorem dX0_setDelay_10 : decode cX0_setDelay 10 = .ok (.goto 15, 3) := dk_167 0 15 (dk_at dksX0_setDelay_0 10 rfl rfl)
theorem dX0_setDelay_13 : decode cX0_setDelay 13 = .ok (.astore 4, 2) := dk_58 4 (dk_at dksX0_setDelay_0 13 rfl rfl)
theorem dX0_setDelay_15 : decode cX0_setDelay 15 = .ok (.iconst 1, 1) := dk_4 (dk_at dksX0_setDelay_0 15 rfl rfl)
theorem dX0_setDelay_16 : decode cX0_setDelay 16 = .ok (.ireturn, 1) := dk_172 (dk_at dksX0_setDelay_0 16 rfl rfl)
theorem dX0_setDelay_17 : decode cX0_setDelay 17 = .ok (.astore 4, 2) := dk_58 4 (dk_at dksX0_setDelay_0 17 rfl rfl)
theorem dX0_setDelay_19 : decode cX0_setDelay 19 = .ok (.iconst 2, 1) := dk_5 (dk_at dksX0_setDelay_0 19 rfl rfl)
theorem dX0_setDelay_20 : decode cX0_setDelay 20 = .ok (.ireturn, 1) := dk_172 (dk_at dksX0_setDelay_0 20 rfl rfl)
theorem dX0_setDelay_21 : decode cX0_setDelay 21 = .ok (.astore 4, 2) := dk_58 4 (dk_at dksX0_setDelay_0 21 rfl rfl)
theorem dX0_setDelay_23 : decode cX0_setDelay 23 = .ok (.iconst 3, 1) := dk_6 (dk_at dksX0_setDelay_0 23 rfl rfl)
theorem dX0_setDelay_24 : decode cX0_setDelay 24 = .ok (.ireturn, 1) := dk_172 (dk_at dksX0_setDelay_1 0 rfl rfl)
theorem dX0_setDelay_25 : decode cX0_setDelay 25 = .ok (.iconst 0, 1) := dk_3 (dk_at dksX0_setDelay_1 1 rfl rfl)
theorem dX0_setDelay_26 : decode cX0_setDelay 26 = .ok (.ireturn, 1) := dk_172 (dk_at dksX0_setDelay_1 2 rfl rfl)
abbrev cX0_setWish : ByteArray := method_53_code
def yX0_setWish : MethodName := ⟨RX0, "setWish", "(LEventWindows;II[J)I"⟩
def dkwX0_setWish_1 : List UInt8 := [172, 3, 172]
abbrev dktX0_setWish_1 : List UInt8 := dkwX0_setWish_1 ++ []
def dkwX0_setWish_0 : List UInt8 := [45, 3, 42, 27, 28, 182, 0, 177, 133, 80, 167, 0, 15, 58, 4, 4, 172, 58, 4, 5, 172, 58, 4, 6]
abbrev dktX0_setWish_0 : List UInt8 := dkwX0_setWish_0 ++ dktX0_setWish_1
theorem dksX0_setWish_0 : cX0_setWish.data.toList.drop 0 = dktX0_setWish_0 := by decide +kernel
theorem dksX0_setWish_1 : cX0_setWish.data.toList.drop 24 = dktX0_setWish_1 := dk_seg dksX0_setWish_0 24 rfl rfl
theorem dX0_setWish_0 : decode cX0_setWish 0 = .ok (.aload_n 3, 1) := dk_45 (dk_at dksX0_setWish_0 0 rfl rfl)
theorem dX0_setWish_1 : decode cX0_setWish 1 = .ok (.iconst 0, 1) := dk_3 (dk_at dksX0_setWish_0 1 rfl rfl)
theorem dX0_setWish_2 : decode cX0_setWish 2 = .ok (.aload_n 0, 1) := dk_42 (dk_at dksX0_setWish_0 2 rfl rfl)
theorem dX0_setWish_3 : decode cX0_setWish 3 = .ok (.iload_n 1, 1) := dk_27 (dk_at dksX0_setWish_0 3 rfl rfl)
theorem dX0_setWish_4 : decode cX0_setWish 4 = .ok (.iload_n 2, 1) := dk_28 (dk_at dksX0_setWish_0 4 rfl rfl)
theorem dX0_setWish_5 : decode cX0_setWish 5 = .ok (.invokevirtual 177, 3) := dk_182 0 177 (dk_at dksX0_setWish_0 5 rfl rfl)
theorem dX0_setWish_8 : decode cX0_setWish 8 = .ok (.i2l, 1) := dk_133 (dk_at dksX0_setWish_0 8 rfl rfl)
theorem dX0_setWish_9 : decode cX0_setWish 9 = .ok (.lastore, 1) := dk_80 (dk_at dksX0_setWish_0 9 rfl rfl)
theorem dX0_setWish_10 : decode cX0_setWish 10 = .ok (.goto 15, 3) := dk_167 0 15 (dk_at dksX0_setWish_0 10 rfl rfl)
theorem dX0_setWish_13 : decode cX0_setWish 13 = .ok (.astore 4, 2) := dk_58 4 (dk_at dksX0_setWish_0 13 rfl rfl)
theorem dX0_setWish_15 : decode cX0_setWish 15 = .ok (.iconst 1, 1) := dk_4 (dk_at dksX0_setWish_0 15 rfl rfl)
theorem dX0_setWish_16 : decode cX0_setWish 16 = .ok (.ireturn, 1) := dk_172 (dk_at dksX0_setWish_0 16 rfl rfl)
theorem dX0_setWish_17 : decode cX0_setWish 17 = .ok (.astore 4, 2) := dk_58 4 (dk_at dksX0_setWish_0 17 rfl rfl)
theorem dX0_setWish_19 : decode cX0_setWish 19 = .ok (.iconst 2, 1) := dk_5 (dk_at dksX0_setWish_0 19 rfl rfl)
theorem dX0_setWish_20 : decode cX0_setWish 20 = .ok (.ireturn, 1) := dk_172 (dk_at dksX0_setWish_0 20 rfl rfl)
theorem dX0_setWish_21 : decode cX0_setWish 21 = .ok (.astore 4, 2) := dk_58 4 (dk_at dksX0_setWish_0 21 rfl rfl)
theorem dX0_setWish_23 : decode cX0_setWish 23 = .ok (.iconst 3, 1) := dk_6 (dk_at dksX0_setWish_0 23 rfl rfl)
theorem dX0_setWish_24 : decode cX0_setWish 24 = .ok (.ireturn, 1) := dk_172 (dk_at dksX0_setWish_1 0 rfl rfl)
theorem dX0_setWish_25 : decode cX0_setWish 25 = .ok (.iconst 0, 1) := dk_3 (dk_at dksX0_setWish_1 1 rfl rfl)
theorem dX0_setWish_26 : decode cX0_setWish 26 = .ok (.ireturn, 1) := dk_172 (dk_at dksX0_setWish_1 2 rfl rfl)
abbrev cX0_tighten : ByteArray := method_54_code
def yX0_tighten : MethodName := ⟨RX0, "tighten", "(LEventWindows;[J)I"⟩
def dkwX0_tighten_0 : List UInt8 := [43, 3, 42, 182, 0, 180, 133, 80, 167, 0, 6, 77, 4, 172, 3, 172]
abbrev dktX0_tighten_0 : List UInt8 := dkwX0_tighten_0 ++ []
theorem dksX0_tighten_0 : cX0_tighten.data.toList.drop 0 = dktX0_tighten_0 := by decide +kernel
theorem dX0_tighten_0 : decode cX0_tighten 0 = .ok (.aload_n 1, 1) := dk_43 (dk_at dksX0_tighten_0 0 rfl rfl)
theorem dX0_tighten_1 : decode cX0_tighten 1 = .ok (.iconst 0, 1) := dk_3 (dk_at dksX0_tighten_0 1 rfl rfl)
theorem dX0_tighten_2 : decode cX0_tighten 2 = .ok (.aload_n 0, 1) := dk_42 (dk_at dksX0_tighten_0 2 rfl rfl)
theorem dX0_tighten_3 : decode cX0_tighten 3 = .ok (.invokevirtual 180, 3) := dk_182 0 180 (dk_at dksX0_tighten_0 3 rfl rfl)
theorem dX0_tighten_6 : decode cX0_tighten 6 = .ok (.i2l, 1) := dk_133 (dk_at dksX0_tighten_0 6 rfl rfl)
theorem dX0_tighten_7 : decode cX0_tighten 7 = .ok (.lastore, 1) := dk_80 (dk_at dksX0_tighten_0 7 rfl rfl)
theorem dX0_tighten_8 : decode cX0_tighten 8 = .ok (.goto 6, 3) := dk_167 0 6 (dk_at dksX0_tighten_0 8 rfl rfl)
theorem dX0_tighten_11 : decode cX0_tighten 11 = .ok (.astore_n 2, 1) := dk_77 (dk_at dksX0_tighten_0 11 rfl rfl)
theorem dX0_tighten_12 : decode cX0_tighten 12 = .ok (.iconst 1, 1) := dk_4 (dk_at dksX0_tighten_0 12 rfl rfl)
theorem dX0_tighten_13 : decode cX0_tighten 13 = .ok (.ireturn, 1) := dk_172 (dk_at dksX0_tighten_0 13 rfl rfl)
theorem dX0_tighten_14 : decode cX0_tighten 14 = .ok (.iconst 0, 1) := dk_3 (dk_at dksX0_tighten_0 14 rfl rfl)
theorem dX0_tighten_15 : decode cX0_tighten 15 = .ok (.ireturn, 1) := dk_172 (dk_at dksX0_tighten_0 15 rfl rfl)
abbrev cX0_mend : ByteArray := method_55_code
def yX0_mend : MethodName := ⟨RX0, "mend", "(LEventWindows;[J)I"⟩
def dkwX0_mend_0 : List UInt8 := [43, 3, 42, 182, 0, 183, 133, 80, 167, 0, 9, 77, 4, 172, 77, 5, 172, 3, 172]
abbrev dktX0_mend_0 : List UInt8 := dkwX0_mend_0 ++ []
theorem dksX0_mend_0 : cX0_mend.data.toList.drop 0 = dktX0_mend_0 := by decide +kernel
theorem dX0_mend_0 : decode cX0_mend 0 = .ok (.aload_n 1, 1) := dk_43 (dk_at dksX0_mend_0 0 rfl rfl)
theorem dX0_mend_1 : decode cX0_mend 1 = .ok (.iconst 0, 1) := dk_3 (dk_at dksX0_mend_0 1 rfl rfl)
theorem dX0_mend_2 : decode cX0_mend 2 = .ok (.aload_n 0, 1) := dk_42 (dk_at dksX0_mend_0 2 rfl rfl)
theorem dX0_mend_3 : decode cX0_mend 3 = .ok (.invokevirtual 183, 3) := dk_182 0 183 (dk_at dksX0_mend_0 3 rfl rfl)
theorem dX0_mend_6 : decode cX0_mend 6 = .ok (.i2l, 1) := dk_133 (dk_at dksX0_mend_0 6 rfl rfl)
theorem dX0_mend_7 : decode cX0_mend 7 = .ok (.lastore, 1) := dk_80 (dk_at dksX0_mend_0 7 rfl rfl)
theorem dX0_mend_8 : decode cX0_mend 8 = .ok (.goto 9, 3) := dk_167 0 9 (dk_at dksX0_mend_0 8 rfl rfl)
theorem dX0_mend_11 : decode cX0_mend 11 = .ok (.astore_n 2, 1) := dk_77 (dk_at dksX0_mend_0 11 rfl rfl)
theorem dX0_mend_12 : decode cX0_mend 12 = .ok (.iconst 1, 1) := dk_4 (dk_at dksX0_mend_0 12 rfl rfl)
theorem dX0_mend_13 : decode cX0_mend 13 = .ok (.ireturn, 1) := dk_172 (dk_at dksX0_mend_0 13 rfl rfl)
theorem dX0_mend_14 : decode cX0_mend 14 = .ok (.astore_n 2, 1) := dk_77 (dk_at dksX0_mend_0 14 rfl rfl)
theorem dX0_mend_15 : decode cX0_mend 15 = .ok (.iconst 2, 1) := dk_5 (dk_at dksX0_mend_0 15 rfl rfl)
theorem dX0_mend_16 : decode cX0_mend 16 = .ok (.ireturn, 1) := dk_172 (dk_at dksX0_mend_0 16 rfl rfl)
theorem dX0_mend_17 : decode cX0_mend 17 = .ok (.iconst 0, 1) := dk_3 (dk_at dksX0_mend_0 17 rfl rfl)
theorem dX0_mend_18 : decode cX0_mend 18 = .ok (.ireturn, 1) := dk_172 (dk_at dksX0_mend_0 18 rfl rfl)
abbrev cX0_dropLeast : ByteArray := method_56_code
def yX0_dropLeast : MethodName := ⟨RX0, "dropLeast", "(LEventWindows;[J)I"⟩
def dkwX0_dropLeast_0 : List UInt8 := [43, 3, 42, 182, 0, 186, 133, 80, 167, 0, 9, 77, 4, 172, 77, 5, 172, 3, 172]
abbrev dktX0_dropLeast_0 : List UInt8 := dkwX0_dropLeast_0 ++ []
theorem dksX0_dropLeast_0 : cX0_dropLeast.data.toList.drop 0 = dktX0_dropLeast_0 := by decide +kernel
theorem dX0_dropLeast_0 : decode cX0_dropLeast 0 = .ok (.aload_n 1, 1) := dk_43 (dk_at dksX0_dropLeast_0 0 rfl rfl)
theorem dX0_dropLeast_1 : decode cX0_dropLeast 1 = .ok (.iconst 0, 1) := dk_3 (dk_at dksX0_dropLeast_0 1 rfl rfl)
theorem dX0_dropLeast_2 : decode cX0_dropLeast 2 = .ok (.aload_n 0, 1) := dk_42 (dk_at dksX0_dropLeast_0 2 rfl rfl)
theorem dX0_dropLeast_3 : decode cX0_dropLeast 3 = .ok (.invokevirtual 186, 3) := dk_182 0 186 (dk_at dksX0_dropLeast_0 3 rfl rfl)
theorem dX0_dropLeast_6 : decode cX0_dropLeast 6 = .ok (.i2l, 1) := dk_133 (dk_at dksX0_dropLeast_0 6 rfl rfl)
theorem dX0_dropLeast_7 : decode cX0_dropLeast 7 = .ok (.lastore, 1) := dk_80 (dk_at dksX0_dropLeast_0 7 rfl rfl)
theorem dX0_dropLeast_8 : decode cX0_dropLeast 8 = .ok (.goto 9, 3) := dk_167 0 9 (dk_at dksX0_dropLeast_0 8 rfl rfl)
theorem dX0_dropLeast_11 : decode cX0_dropLeast 11 = .ok (.astore_n 2, 1) := dk_77 (dk_at dksX0_dropLeast_0 11 rfl rfl)
theorem dX0_dropLeast_12 : decode cX0_dropLeast 12 = .ok (.iconst 1, 1) := dk_4 (dk_at dksX0_dropLeast_0 12 rfl rfl)
theorem dX0_dropLeast_13 : decode cX0_dropLeast 13 = .ok (.ireturn, 1) := dk_172 (dk_at dksX0_dropLeast_0 13 rfl rfl)
theorem dX0_dropLeast_14 : decode cX0_dropLeast 14 = .ok (.astore_n 2, 1) := dk_77 (dk_at dksX0_dropLeast_0 14 rfl rfl)
theorem dX0_dropLeast_15 : decode cX0_dropLeast 15 = .ok (.iconst 2, 1) := dk_5 (dk_at dksX0_dropLeast_0 15 rfl rfl)
theorem dX0_dropLeast_16 : decode cX0_dropLeast 16 = .ok (.ireturn, 1) := dk_172 (dk_at dksX0_dropLeast_0 16 rfl rfl)
theorem dX0_dropLeast_17 : decode cX0_dropLeast 17 = .ok (.iconst 0, 1) := dk_3 (dk_at dksX0_dropLeast_0 17 rfl rfl)
theorem dX0_dropLeast_18 : decode cX0_dropLeast 18 = .ok (.ireturn, 1) := dk_172 (dk_at dksX0_dropLeast_0 18 rfl rfl)
abbrev cX0_undo : ByteArray := method_57_code
def yX0_undo : MethodName := ⟨RX0, "undo", "(LEventWindows;[J)I"⟩
def dkwX0_undo_0 : List UInt8 := [43, 3, 42, 182, 0, 189, 133, 80, 167, 0, 6, 77, 4, 172, 3, 172]
abbrev dktX0_undo_0 : List UInt8 := dkwX0_undo_0 ++ []
theorem dksX0_undo_0 : cX0_undo.data.toList.drop 0 = dktX0_undo_0 := by decide +kernel
theorem dX0_undo_0 : decode cX0_undo 0 = .ok (.aload_n 1, 1) := dk_43 (dk_at dksX0_undo_0 0 rfl rfl)
theorem dX0_undo_1 : decode cX0_undo 1 = .ok (.iconst 0, 1) := dk_3 (dk_at dksX0_undo_0 1 rfl rfl)
theorem dX0_undo_2 : decode cX0_undo 2 = .ok (.aload_n 0, 1) := dk_42 (dk_at dksX0_undo_0 2 rfl rfl)
theorem dX0_undo_3 : decode cX0_undo 3 = .ok (.invokevirtual 189, 3) := dk_182 0 189 (dk_at dksX0_undo_0 3 rfl rfl)
theorem dX0_undo_6 : decode cX0_undo 6 = .ok (.i2l, 1) := dk_133 (dk_at dksX0_undo_0 6 rfl rfl)
theorem dX0_undo_7 : decode cX0_undo 7 = .ok (.lastore, 1) := dk_80 (dk_at dksX0_undo_0 7 rfl rfl)
theorem dX0_undo_8 : decode cX0_undo 8 = .ok (.goto 6, 3) := dk_167 0 6 (dk_at dksX0_undo_0 8 rfl rfl)
theorem dX0_undo_11 : decode cX0_undo 11 = .ok (.astore_n 2, 1) := dk_77 (dk_at dksX0_undo_0 11 rfl rfl)
theorem dX0_undo_12 : decode cX0_undo 12 = .ok (.iconst 1, 1) := dk_4 (dk_at dksX0_undo_0 12 rfl rfl)
theorem dX0_undo_13 : decode cX0_undo 13 = .ok (.ireturn, 1) := dk_172 (dk_at dksX0_undo_0 13 rfl rfl)
theorem dX0_undo_14 : decode cX0_undo 14 = .ok (.iconst 0, 1) := dk_3 (dk_at dksX0_undo_0 14 rfl rfl)
theorem dX0_undo_15 : decode cX0_undo 15 = .ok (.ireturn, 1) := dk_172 (dk_at dksX0_undo_0 15 rfl rfl)
abbrev cX0_save : ByteArray := method_58_code
def yX0_save : MethodName := ⟨RX0, "save", "(LEventWindows;I[J)I"⟩
def dkwX0_save_0 : List UInt8 := [44, 3, 42, 27, 182, 0, 192, 133, 80, 167, 0, 9, 78, 4, 172, 78, 5, 172, 3, 172]
abbrev dktX0_save_0 : List UInt8 := dkwX0_save_0 ++ []
theorem dksX0_save_0 : cX0_save.data.toList.drop 0 = dktX0_save_0 := by decide +kernel
theorem dX0_save_0 : decode cX0_save 0 = .ok (.aload_n 2, 1) := dk_44 (dk_at dksX0_save_0 0 rfl rfl)
theorem dX0_save_1 : decode cX0_save 1 = .ok (.iconst 0, 1) := dk_3 (dk_at dksX0_save_0 1 rfl rfl)
theorem dX0_save_2 : decode cX0_save 2 = .ok (.aload_n 0, 1) := dk_42 (dk_at dksX0_save_0 2 rfl rfl)
theorem dX0_save_3 : decode cX0_save 3 = .ok (.iload_n 1, 1) := dk_27 (dk_at dksX0_save_0 3 rfl rfl)
theorem dX0_save_4 : decode cX0_save 4 = .ok (.invokevirtual 192, 3) := dk_182 0 192 (dk_at dksX0_save_0 4 rfl rfl)
theorem dX0_save_7 : decode cX0_save 7 = .ok (.i2l, 1) := dk_133 (dk_at dksX0_save_0 7 rfl rfl)
theorem dX0_save_8 : decode cX0_save 8 = .ok (.lastore, 1) := dk_80 (dk_at dksX0_save_0 8 rfl rfl)
theorem dX0_save_9 : decode cX0_save 9 = .ok (.goto 9, 3) := dk_167 0 9 (dk_at dksX0_save_0 9 rfl rfl)
theorem dX0_save_12 : decode cX0_save 12 = .ok (.astore_n 3, 1) := dk_78 (dk_at dksX0_save_0 12 rfl rfl)
theorem dX0_save_13 : decode cX0_save 13 = .ok (.iconst 1, 1) := dk_4 (dk_at dksX0_save_0 13 rfl rfl)
theorem dX0_save_14 : decode cX0_save 14 = .ok (.ireturn, 1) := dk_172 (dk_at dksX0_save_0 14 rfl rfl)
theorem dX0_save_15 : decode cX0_save 15 = .ok (.astore_n 3, 1) := dk_78 (dk_at dksX0_save_0 15 rfl rfl)
theorem dX0_save_16 : decode cX0_save 16 = .ok (.iconst 2, 1) := dk_5 (dk_at dksX0_save_0 16 rfl rfl)
theorem dX0_save_17 : decode cX0_save 17 = .ok (.ireturn, 1) := dk_172 (dk_at dksX0_save_0 17 rfl rfl)
theorem dX0_save_18 : decode cX0_save 18 = .ok (.iconst 0, 1) := dk_3 (dk_at dksX0_save_0 18 rfl rfl)
theorem dX0_save_19 : decode cX0_save 19 = .ok (.ireturn, 1) := dk_172 (dk_at dksX0_save_0 19 rfl rfl)
abbrev cX0_restore : ByteArray := method_59_code
def yX0_restore : MethodName := ⟨RX0, "restore", "(LEventWindows;I[J)I"⟩
def dkwX0_restore_0 : List UInt8 := [44, 3, 42, 27, 182, 0, 195, 133, 80, 167, 0, 9, 78, 4, 172, 78, 5, 172, 3, 172]
abbrev dktX0_restore_0 : List UInt8 := dkwX0_restore_0 ++ []
theorem dksX0_restore_0 : cX0_restore.data.toList.drop 0 = dktX0_restore_0 := by decide +kernel
theorem dX0_restore_0 : decode cX0_restore 0 = .ok (.aload_n 2, 1) := dk_44 (dk_at dksX0_restore_0 0 rfl rfl)
theorem dX0_restore_1 : decode cX0_restore 1 = .ok (.iconst 0, 1) := dk_3 (dk_at dksX0_restore_0 1 rfl rfl)
theorem dX0_restore_2 : decode cX0_restore 2 = .ok (.aload_n 0, 1) := dk_42 (dk_at dksX0_restore_0 2 rfl rfl)
theorem dX0_restore_3 : decode cX0_restore 3 = .ok (.iload_n 1, 1) := dk_27 (dk_at dksX0_restore_0 3 rfl rfl)
theorem dX0_restore_4 : decode cX0_restore 4 = .ok (.invokevirtual 195, 3) := dk_182 0 195 (dk_at dksX0_restore_0 4 rfl rfl)
theorem dX0_restore_7 : decode cX0_restore 7 = .ok (.i2l, 1) := dk_133 (dk_at dksX0_restore_0 7 rfl rfl)
theorem dX0_restore_8 : decode cX0_restore 8 = .ok (.lastore, 1) := dk_80 (dk_at dksX0_restore_0 8 rfl rfl)
theorem dX0_restore_9 : decode cX0_restore 9 = .ok (.goto 9, 3) := dk_167 0 9 (dk_at dksX0_restore_0 9 rfl rfl)
theorem dX0_restore_12 : decode cX0_restore 12 = .ok (.astore_n 3, 1) := dk_78 (dk_at dksX0_restore_0 12 rfl rfl)
theorem dX0_restore_13 : decode cX0_restore 13 = .ok (.iconst 1, 1) := dk_4 (dk_at dksX0_restore_0 13 rfl rfl)
theorem dX0_restore_14 : decode cX0_restore 14 = .ok (.ireturn, 1) := dk_172 (dk_at dksX0_restore_0 14 rfl rfl)
theorem dX0_restore_15 : decode cX0_restore 15 = .ok (.astore_n 3, 1) := dk_78 (dk_at dksX0_restore_0 15 rfl rfl)
theorem dX0_restore_16 : decode cX0_restore 16 = .ok (.iconst 2, 1) := dk_5 (dk_at dksX0_restore_0 16 rfl rfl)
theorem dX0_restore_17 : decode cX0_restore 17 = .ok (.ireturn, 1) := dk_172 (dk_at dksX0_restore_0 17 rfl rfl)
theorem dX0_restore_18 : decode cX0_restore 18 = .ok (.iconst 0, 1) := dk_3 (dk_at dksX0_restore_0 18 rfl rfl)
theorem dX0_restore_19 : decode cX0_restore 19 = .ok (.ireturn, 1) := dk_172 (dk_at dksX0_restore_0 19 rfl rfl)
abbrev cX3_init : ByteArray := prog_9_method_1_code
def yX3_init : MethodName := ⟨RX3, "<init>", "([BI)V"⟩
def dkwX3_init_3 : List UInt8 := [181, 0, 44, 42, 28, 181, 0, 48, 177]
abbrev dktX3_init_3 : List UInt8 := dkwX3_init_3 ++ []
def dkwX3_init_2 : List UInt8 := [188, 10, 181, 0, 34, 42, 16, 10, 188, 10, 181, 0, 38, 42, 16, 10, 188, 10, 181, 0, 41, 42, 43]
abbrev dktX3_init_2 : List UInt8 := dkwX3_init_2 ++ dktX3_init_3
def dkwX3_init_1 : List UInt8 := [187, 0, 24, 89, 183, 0, 26, 181, 0, 27, 42, 187, 0, 24, 89, 183, 0, 26, 181, 0, 31, 42, 16, 10]
abbrev dktX3_init_1 : List UInt8 := dkwX3_init_1 ++ dktX3_init_2
def dkwX3_init_0 : List UInt8 := [42, 183, 0, 3, 42, 18, 9, 181, 0, 11, 42, 187, 0, 17, 89, 183, 0, 19, 181, 0, 20, 42]
abbrev dktX3_init_0 : List UInt8 := dkwX3_init_0 ++ dktX3_init_1
theorem dksX3_init_0 : cX3_init.data.toList.drop 0 = dktX3_init_0 := by decide +kernel
theorem dksX3_init_1 : cX3_init.data.toList.drop 22 = dktX3_init_1 := dk_seg dksX3_init_0 22 rfl rfl
theorem dksX3_init_2 : cX3_init.data.toList.drop 46 = dktX3_init_2 := dk_seg dksX3_init_1 24 rfl rfl
theorem dksX3_init_3 : cX3_init.data.toList.drop 69 = dktX3_init_3 := dk_seg dksX3_init_2 23 rfl rfl
theorem dX3_init_0 : decode cX3_init 0 = .ok (.aload_n 0, 1) := dk_42 (dk_at dksX3_init_0 0 rfl rfl)
theorem dX3_init_1 : decode cX3_init 1 = .ok (.invokespecial 3, 3) := dk_183 0 3 (dk_at dksX3_init_0 1 rfl rfl)
theorem dX3_init_4 : decode cX3_init 4 = .ok (.aload_n 0, 1) := dk_42 (dk_at dksX3_init_0 4 rfl rfl)
theorem dX3_init_5 : decode cX3_init 5 = .ok (.ldc 9, 2) := dk_18 9 (dk_at dksX3_init_0 5 rfl rfl)
theorem dX3_init_7 : decode cX3_init 7 = .ok (.putfield 11, 3) := dk_181 0 11 (dk_at dksX3_init_0 7 rfl rfl)
theorem dX3_init_10 : decode cX3_init 10 = .ok (.aload_n 0, 1) := dk_42 (dk_at dksX3_init_0 10 rfl rfl)
theorem dX3_init_11 : decode cX3_init 11 = .ok (.new 17, 3) := dk_187 0 17 (dk_at dksX3_init_0 11 rfl rfl)
theorem dX3_init_14 : decode cX3_init 14 = .ok (.dup, 1) := dk_89 (dk_at dksX3_init_0 14 rfl rfl)
theorem dX3_init_15 : decode cX3_init 15 = .ok (.invokespecial 19, 3) := dk_183 0 19 (dk_at dksX3_init_0 15 rfl rfl)
theorem dX3_init_18 : decode cX3_init 18 = .ok (.putfield 20, 3) := dk_181 0 20 (dk_at dksX3_init_0 18 rfl rfl)
theorem dX3_init_21 : decode cX3_init 21 = .ok (.aload_n 0, 1) := dk_42 (dk_at dksX3_init_0 21 rfl rfl)
theorem dX3_init_22 : decode cX3_init 22 = .ok (.new 24, 3) := dk_187 0 24 (dk_at dksX3_init_1 0 rfl rfl)
theorem dX3_init_25 : decode cX3_init 25 = .ok (.dup, 1) := dk_89 (dk_at dksX3_init_1 3 rfl rfl)
theorem dX3_init_26 : decode cX3_init 26 = .ok (.invokespecial 26, 3) := dk_183 0 26 (dk_at dksX3_init_1 4 rfl rfl)
theorem dX3_init_29 : decode cX3_init 29 = .ok (.putfield 27, 3) := dk_181 0 27 (dk_at dksX3_init_1 7 rfl rfl)
theorem dX3_init_32 : decode cX3_init 32 = .ok (.aload_n 0, 1) := dk_42 (dk_at dksX3_init_1 10 rfl rfl)
theorem dX3_init_33 : decode cX3_init 33 = .ok (.new 24, 3) := dk_187 0 24 (dk_at dksX3_init_1 11 rfl rfl)
theorem dX3_init_36 : decode cX3_init 36 = .ok (.dup, 1) := dk_89 (dk_at dksX3_init_1 14 rfl rfl)
theorem dX3_init_37 : decode cX3_init 37 = .ok (.invokespecial 26, 3) := dk_183 0 26 (dk_at dksX3_init_1 15 rfl rfl)
theorem dX3_init_40 : decode cX3_init 40 = .ok (.putfield 31, 3) := dk_181 0 31 (dk_at dksX3_init_1 18 rfl rfl)
theorem dX3_init_43 : decode cX3_init 43 = .ok (.aload_n 0, 1) := dk_42 (dk_at dksX3_init_1 21 rfl rfl)
theorem dX3_init_44 : decode cX3_init 44 = .ok (.bipush 10, 2) := dk_16 10 (dk_at dksX3_init_1 22 rfl rfl)
theorem dX3_init_46 : decode cX3_init 46 = .ok (.newarray .int, 2) := dk_188_10 (dk_at dksX3_init_2 0 rfl rfl)
theorem dX3_init_48 : decode cX3_init 48 = .ok (.putfield 34, 3) := dk_181 0 34 (dk_at dksX3_init_2 2 rfl rfl)
theorem dX3_init_51 : decode cX3_init 51 = .ok (.aload_n 0, 1) := dk_42 (dk_at dksX3_init_2 5 rfl rfl)
theorem dX3_init_52 : decode cX3_init 52 = .ok (.bipush 10, 2) := dk_16 10 (dk_at dksX3_init_2 6 rfl rfl)
theorem dX3_init_54 : decode cX3_init 54 = .ok (.newarray .int, 2) := dk_188_10 (dk_at dksX3_init_2 8 rfl rfl)
theorem dX3_init_56 : decode cX3_init 56 = .ok (.putfield 38, 3) := dk_181 0 38 (dk_at dksX3_init_2 10 rfl rfl)
theorem dX3_init_59 : decode cX3_init 59 = .ok (.aload_n 0, 1) := dk_42 (dk_at dksX3_init_2 13 rfl rfl)
theorem dX3_init_60 : decode cX3_init 60 = .ok (.bipush 10, 2) := dk_16 10 (dk_at dksX3_init_2 14 rfl rfl)
theorem dX3_init_62 : decode cX3_init 62 = .ok (.newarray .int, 2) := dk_188_10 (dk_at dksX3_init_2 16 rfl rfl)
theorem dX3_init_64 : decode cX3_init 64 = .ok (.putfield 41, 3) := dk_181 0 41 (dk_at dksX3_init_2 18 rfl rfl)
theorem dX3_init_67 : decode cX3_init 67 = .ok (.aload_n 0, 1) := dk_42 (dk_at dksX3_init_2 21 rfl rfl)
theorem dX3_init_68 : decode cX3_init 68 = .ok (.aload_n 1, 1) := dk_43 (dk_at dksX3_init_2 22 rfl rfl)
theorem dX3_init_69 : decode cX3_init 69 = .ok (.putfield 44, 3) := dk_181 0 44 (dk_at dksX3_init_3 0 rfl rfl)
theorem dX3_init_72 : decode cX3_init 72 = .ok (.aload_n 0, 1) := dk_42 (dk_at dksX3_init_3 3 rfl rfl)
theorem dX3_init_73 : decode cX3_init 73 = .ok (.iload_n 2, 1) := dk_28 (dk_at dksX3_init_3 4 rfl rfl)
theorem dX3_init_74 : decode cX3_init 74 = .ok (.putfield 48, 3) := dk_181 0 48 (dk_at dksX3_init_3 5 rfl rfl)
theorem dX3_init_77 : decode cX3_init 77 = .ok (.return_, 1) := dk_177 (dk_at dksX3_init_3 8 rfl rfl)
abbrev cX3_parse : ByteArray := prog_9_method_10_code
def yX3_parse : MethodName := ⟨RX3, "parse", "()LEventWindows$Net;"⟩
def dkwX3_parse_8 : List UInt8 := [29, 46, 79, 132, 3, 1, 167, 255, 189, 44, 176]
abbrev dktX3_parse_8 : List UInt8 := dkwX3_parse_8 ++ []
def dkwX3_parse_7 : List UInt8 := [153, 0, 15, 44, 180, 0, 188, 29, 42, 180, 0, 41, 29, 46, 79, 44, 180, 0, 189, 29, 42, 180, 0, 38]
abbrev dktX3_parse_7 : List UInt8 := dkwX3_parse_7 ++ dktX3_parse_8
def dkwX3_parse_6 : List UInt8 := [153, 0, 15, 44, 180, 0, 183, 29, 42, 180, 0, 34, 29, 46, 79, 42, 180, 0, 185, 29, 184, 0, 151]
abbrev dktX3_parse_6 : List UInt8 := dkwX3_parse_6 ++ dktX3_parse_7
def dkwX3_parse_5 : List UInt8 := [185, 0, 176, 2, 0, 87, 4, 62, 29, 43, 190, 162, 0, 67, 42, 180, 0, 180, 29, 184, 0, 151]
abbrev dktX3_parse_5 : List UInt8 := dkwX3_parse_5 ++ dktX3_parse_6
def dkwX3_parse_4 : List UInt8 := [167, 255, 231, 187, 0, 170, 89, 43, 183, 0, 172, 77, 44, 180, 0, 175, 42, 180, 0, 31]
abbrev dktX3_parse_4 : List UInt8 := dkwX3_parse_4 ++ dktX3_parse_5
def dkwX3_parse_3 : List UInt8 := [162, 0, 25, 43, 28, 42, 180, 0, 27, 28, 185, 0, 167, 2, 0, 192, 0, 99, 83, 132, 2, 1]
abbrev dktX3_parse_3 : List UInt8 := dkwX3_parse_3 ++ dktX3_parse_4
def dkwX3_parse_2 : List UInt8 := [42, 4, 182, 0, 104, 191, 42, 180, 0, 27, 185, 0, 125, 1, 0, 189, 0, 99, 76, 3, 61, 28, 43, 190]
abbrev dktX3_parse_2 : List UInt8 := dkwX3_parse_2 ++ dktX3_parse_3
def dkwX3_parse_1 : List UInt8 := [153, 0, 14, 42, 182, 0, 108, 42, 182, 0, 164, 167, 255, 236, 42, 180, 0, 11, 182, 0, 111, 154, 0, 9]
abbrev dktX3_parse_1 : List UInt8 := dkwX3_parse_1 ++ dktX3_parse_2
def dkwX3_parse_0 : List UInt8 := [42, 182, 0, 108, 42, 18, 155, 182, 0, 157, 42, 182, 0, 161, 42, 180, 0, 11, 18, 91, 182, 0, 98]
abbrev dktX3_parse_0 : List UInt8 := dkwX3_parse_0 ++ dktX3_parse_1
theorem dksX3_parse_0 : cX3_parse.data.toList.drop 0 = dktX3_parse_0 := by decide +kernel
theorem dksX3_parse_1 : cX3_parse.data.toList.drop 23 = dktX3_parse_1 := dk_seg dksX3_parse_0 23 rfl rfl
theorem dksX3_parse_2 : cX3_parse.data.toList.drop 47 = dktX3_parse_2 := dk_seg dksX3_parse_1 24 rfl rfl
theorem dksX3_parse_3 : cX3_parse.data.toList.drop 71 = dktX3_parse_3 := dk_seg dksX3_parse_2 24 rfl rfl
theorem dksX3_parse_4 : cX3_parse.data.toList.drop 93 = dktX3_parse_4 := dk_seg dksX3_parse_3 22 rfl rfl
theorem dksX3_parse_5 : cX3_parse.data.toList.drop 113 = dktX3_parse_5 := dk_seg dksX3_parse_4 20 rfl rfl
theorem dksX3_parse_6 : cX3_parse.data.toList.drop 135 = dktX3_parse_6 := dk_seg dksX3_parse_5 22 rfl rfl
theorem dksX3_parse_7 : cX3_parse.data.toList.drop 158 = dktX3_parse_7 := dk_seg dksX3_parse_6 23 rfl rfl
theorem dksX3_parse_8 : cX3_parse.data.toList.drop 182 = dktX3_parse_8 := dk_seg dksX3_parse_7 24 rfl rfl
theorem dX3_parse_0 : decode cX3_parse 0 = .ok (.aload_n 0, 1) := dk_42 (dk_at dksX3_parse_0 0 rfl rfl)
theorem dX3_parse_1 : decode cX3_parse 1 = .ok (.invokevirtual 108, 3) := dk_182 0 108 (dk_at dksX3_parse_0 1 rfl rfl)
theorem dX3_parse_4 : decode cX3_parse 4 = .ok (.aload_n 0, 1) := dk_42 (dk_at dksX3_parse_0 4 rfl rfl)
theorem dX3_parse_5 : decode cX3_parse 5 = .ok (.ldc 155, 2) := dk_18 155 (dk_at dksX3_parse_0 5 rfl rfl)
theorem dX3_parse_7 : decode cX3_parse 7 = .ok (.invokevirtual 157, 3) := dk_182 0 157 (dk_at dksX3_parse_0 7 rfl rfl)
theorem dX3_parse_10 : decode cX3_parse 10 = .ok (.aload_n 0, 1) := dk_42 (dk_at dksX3_parse_0 10 rfl rfl)
theorem dX3_parse_11 : decode cX3_parse 11 = .ok (.invokevirtual 161, 3) := dk_182 0 161 (dk_at dksX3_parse_0 11 rfl rfl)
theorem dX3_parse_14 : decode cX3_parse 14 = .ok (.aload_n 0, 1) := dk_42 (dk_at dksX3_parse_0 14 rfl rfl)
theorem dX3_parse_15 : decode cX3_parse 15 = .ok (.getfield 11, 3) := dk_180 0 11 (dk_at dksX3_parse_0 15 rfl rfl)
theorem dX3_parse_18 : decode cX3_parse 18 = .ok (.ldc 91, 2) := dk_18 91 (dk_at dksX3_parse_0 18 rfl rfl)
theorem dX3_parse_20 : decode cX3_parse 20 = .ok (.invokevirtual 98, 3) := dk_182 0 98 (dk_at dksX3_parse_0 20 rfl rfl)
theorem dX3_parse_23 : decode cX3_parse 23 = .ok (.ifCond .eq 14, 3) := dk_153 0 14 (dk_at dksX3_parse_1 0 rfl rfl)
theorem dX3_parse_26 : decode cX3_parse 26 = .ok (.aload_n 0, 1) := dk_42 (dk_at dksX3_parse_1 3 rfl rfl)
theorem dX3_parse_27 : decode cX3_parse 27 = .ok (.invokevirtual 108, 3) := dk_182 0 108 (dk_at dksX3_parse_1 4 rfl rfl)
theorem dX3_parse_30 : decode cX3_parse 30 = .ok (.aload_n 0, 1) := dk_42 (dk_at dksX3_parse_1 7 rfl rfl)
theorem dX3_parse_31 : decode cX3_parse 31 = .ok (.invokevirtual 164, 3) := dk_182 0 164 (dk_at dksX3_parse_1 8 rfl rfl)
theorem dX3_parse_34 : decode cX3_parse 34 = .ok (.goto (-20), 3) := dk_167 255 236 (dk_at dksX3_parse_1 11 rfl rfl)
theorem dX3_parse_37 : decode cX3_parse 37 = .ok (.aload_n 0, 1) := dk_42 (dk_at dksX3_parse_1 14 rfl rfl)
theorem dX3_parse_38 : decode cX3_parse 38 = .ok (.getfield 11, 3) := dk_180 0 11 (dk_at dksX3_parse_1 15 rfl rfl)
theorem dX3_parse_41 : decode cX3_parse 41 = .ok (.invokevirtual 111, 3) := dk_182 0 111 (dk_at dksX3_parse_1 18 rfl rfl)
theorem dX3_parse_44 : decode cX3_parse 44 = .ok (.ifCond .ne 9, 3) := dk_154 0 9 (dk_at dksX3_parse_1 21 rfl rfl)
theorem dX3_parse_47 : decode cX3_parse 47 = .ok (.aload_n 0, 1) := dk_42 (dk_at dksX3_parse_2 0 rfl rfl)
theorem dX3_parse_48 : decode cX3_parse 48 = .ok (.iconst 1, 1) := dk_4 (dk_at dksX3_parse_2 1 rfl rfl)
theorem dX3_parse_49 : decode cX3_parse 49 = .ok (.invokevirtual 104, 3) := dk_182 0 104 (dk_at dksX3_parse_2 2 rfl rfl)
theorem dX3_parse_52 : decode cX3_parse 52 = .ok (.athrow, 1) := dk_191 (dk_at dksX3_parse_2 5 rfl rfl)
theorem dX3_parse_53 : decode cX3_parse 53 = .ok (.aload_n 0, 1) := dk_42 (dk_at dksX3_parse_2 6 rfl rfl)
theorem dX3_parse_54 : decode cX3_parse 54 = .ok (.getfield 27, 3) := dk_180 0 27 (dk_at dksX3_parse_2 7 rfl rfl)
theorem dX3_parse_57 : decode cX3_parse 57 = .ok (.invokeinterface 125 1, 5) := by decide +kernel
theorem dX3_parse_62 : decode cX3_parse 62 = .ok (.anewarray 99, 3) := dk_189 0 99 (dk_at dksX3_parse_2 15 rfl rfl)
theorem dX3_parse_65 : decode cX3_parse 65 = .ok (.astore_n 1, 1) := dk_76 (dk_at dksX3_parse_2 18 rfl rfl)
theorem dX3_parse_66 : decode cX3_parse 66 = .ok (.iconst 0, 1) := dk_3 (dk_at dksX3_parse_2 19 rfl rfl)
theorem dX3_parse_67 : decode cX3_parse 67 = .ok (.istore_n 2, 1) := dk_61 (dk_at dksX3_parse_2 20 rfl rfl)
theorem dX3_parse_68 : decode cX3_parse 68 = .ok (.iload_n 2, 1) := dk_28 (dk_at dksX3_parse_2 21 rfl rfl)
theorem dX3_parse_69 : decode cX3_parse 69 = .ok (.aload_n 1, 1) := dk_43 (dk_at dksX3_parse_2 22 rfl rfl)
theorem dX3_parse_70 : decode cX3_parse 70 = .ok (.arraylength, 1) := dk_190 (dk_at dksX3_parse_2 23 rfl rfl)
theorem dX3_parse_71 : decode cX3_parse 71 = .ok (.if_icmp .ge 25, 3) := dk_162 0 25 (dk_at dksX3_parse_3 0 rfl rfl)
theorem dX3_parse_74 : decode cX3_parse 74 = .ok (.aload_n 1, 1) := dk_43 (dk_at dksX3_parse_3 3 rfl rfl)
theorem dX3_parse_75 : decode cX3_parse 75 = .ok (.iload_n 2, 1) := dk_28 (dk_at dksX3_parse_3 4 rfl rfl)
theorem dX3_parse_76 : decode cX3_parse 76 = .ok (.aload_n 0, 1) := dk_42 (dk_at dksX3_parse_3 5 rfl rfl)
theorem dX3_parse_77 : decode cX3_parse 77 = .ok (.getfield 27, 3) := dk_180 0 27 (dk_at dksX3_parse_3 6 rfl rfl)
theorem dX3_parse_80 : decode cX3_parse 80 = .ok (.iload_n 2, 1) := dk_28 (dk_at dksX3_parse_3 9 rfl rfl)
theorem dX3_parse_81 : decode cX3_parse 81 = .ok (.invokeinterface 167 2, 5) := by decide +kernel
theorem dX3_parse_86 : decode cX3_parse 86 = .ok (.checkcast 99, 3) := dk_192 0 99 (dk_at dksX3_parse_3 15 rfl rfl)
theorem dX3_parse_89 : decode cX3_parse 89 = .ok (.aastore, 1) := dk_83 (dk_at dksX3_parse_3 18 rfl rfl)
theorem dX3_parse_90 : decode cX3_parse 90 = .ok (.iinc 2 1, 3) := dk_132 2 1 (dk_at dksX3_parse_3 19 rfl rfl)
theorem dX3_parse_93 : decode cX3_parse 93 = .ok (.goto (-25), 3) := dk_167 255 231 (dk_at dksX3_parse_4 0 rfl rfl)
theorem dX3_parse_96 : decode cX3_parse 96 = .ok (.new 170, 3) := dk_187 0 170 (dk_at dksX3_parse_4 3 rfl rfl)
theorem dX3_parse_99 : decode cX3_parse 99 = .ok (.dup, 1) := dk_89 (dk_at dksX3_parse_4 6 rfl rfl)
theorem dX3_parse_100 : decode cX3_parse 100 = .ok (.aload_n 1, 1) := dk_43 (dk_at dksX3_parse_4 7 rfl rfl)
theorem dX3_parse_101 : decode cX3_parse 101 = .ok (.invokespecial 172, 3) := dk_183 0 172 (dk_at dksX3_parse_4 8 rfl rfl)
theorem dX3_parse_104 : decode cX3_parse 104 = .ok (.astore_n 2, 1) := dk_77 (dk_at dksX3_parse_4 11 rfl rfl)
theorem dX3_parse_105 : decode cX3_parse 105 = .ok (.aload_n 2, 1) := dk_44 (dk_at dksX3_parse_4 12 rfl rfl)
theorem dX3_parse_106 : decode cX3_parse 106 = .ok (.getfield 175, 3) := dk_180 0 175 (dk_at dksX3_parse_4 13 rfl rfl)
theorem dX3_parse_109 : decode cX3_parse 109 = .ok (.aload_n 0, 1) := dk_42 (dk_at dksX3_parse_4 16 rfl rfl)
theorem dX3_parse_110 : decode cX3_parse 110 = .ok (.getfield 31, 3) := dk_180 0 31 (dk_at dksX3_parse_4 17 rfl rfl)
theorem dX3_parse_113 : decode cX3_parse 113 = .ok (.invokeinterface 176 2, 5) := by decide +kernel
theorem dX3_parse_118 : decode cX3_parse 118 = .ok (.pop, 1) := dk_87 (dk_at dksX3_parse_5 5 rfl rfl)
theorem dX3_parse_119 : decode cX3_parse 119 = .ok (.iconst 1, 1) := dk_4 (dk_at dksX3_parse_5 6 rfl rfl)
theorem dX3_parse_120 : decode cX3_parse 120 = .ok (.istore_n 3, 1) := dk_62 (dk_at dksX3_parse_5 7 rfl rfl)
theorem dX3_parse_121 : decode cX3_parse 121 = .ok (.iload_n 3, 1) := dk_29 (dk_at dksX3_parse_5 8 rfl rfl)
theorem dX3_parse_122 : decode cX3_parse 122 = .ok (.aload_n 1, 1) := dk_43 (dk_at dksX3_parse_5 9 rfl rfl)
theorem dX3_parse_123 : decode cX3_parse 123 = .ok (.arraylength, 1) := dk_190 (dk_at dksX3_parse_5 10 rfl rfl)
theorem dX3_parse_124 : decode cX3_parse 124 = .ok (.if_icmp .ge 67, 3) := dk_162 0 67 (dk_at dksX3_parse_5 11 rfl rfl)
theorem dX3_parse_127 : decode cX3_parse 127 = .ok (.aload_n 0, 1) := dk_42 (dk_at dksX3_parse_5 14 rfl rfl)
theorem dX3_parse_128 : decode cX3_parse 128 = .ok (.getfield 180, 3) := dk_180 0 180 (dk_at dksX3_parse_5 15 rfl rfl)
theorem dX3_parse_131 : decode cX3_parse 131 = .ok (.iload_n 3, 1) := dk_29 (dk_at dksX3_parse_5 18 rfl rfl)
theorem dX3_parse_132 : decode cX3_parse 132 = .ok (.invokestatic 151, 3) := dk_184 0 151 (dk_at dksX3_parse_5 19 rfl rfl)
theorem dX3_parse_135 : decode cX3_parse 135 = .ok (.ifCond .eq 15, 3) := dk_153 0 15 (dk_at dksX3_parse_6 0 rfl rfl)
theorem dX3_parse_138 : decode cX3_parse 138 = .ok (.aload_n 2, 1) := dk_44 (dk_at dksX3_parse_6 3 rfl rfl)
theorem dX3_parse_139 : decode cX3_parse 139 = .ok (.getfield 183, 3) := dk_180 0 183 (dk_at dksX3_parse_6 4 rfl rfl)
theorem dX3_parse_142 : decode cX3_parse 142 = .ok (.iload_n 3, 1) := dk_29 (dk_at dksX3_parse_6 7 rfl rfl)
theorem dX3_parse_143 : decode cX3_parse 143 = .ok (.aload_n 0, 1) := dk_42 (dk_at dksX3_parse_6 8 rfl rfl)
theorem dX3_parse_144 : decode cX3_parse 144 = .ok (.getfield 34, 3) := dk_180 0 34 (dk_at dksX3_parse_6 9 rfl rfl)
theorem dX3_parse_147 : decode cX3_parse 147 = .ok (.iload_n 3, 1) := dk_29 (dk_at dksX3_parse_6 12 rfl rfl)
theorem dX3_parse_148 : decode cX3_parse 148 = .ok (.iaload, 1) := dk_46 (dk_at dksX3_parse_6 13 rfl rfl)
theorem dX3_parse_149 : decode cX3_parse 149 = .ok (.iastore, 1) := dk_79 (dk_at dksX3_parse_6 14 rfl rfl)
theorem dX3_parse_150 : decode cX3_parse 150 = .ok (.aload_n 0, 1) := dk_42 (dk_at dksX3_parse_6 15 rfl rfl)
theorem dX3_parse_151 : decode cX3_parse 151 = .ok (.getfield 185, 3) := dk_180 0 185 (dk_at dksX3_parse_6 16 rfl rfl)
theorem dX3_parse_154 : decode cX3_parse 154 = .ok (.iload_n 3, 1) := dk_29 (dk_at dksX3_parse_6 19 rfl rfl)
theorem dX3_parse_155 : decode cX3_parse 155 = .ok (.invokestatic 151, 3) := dk_184 0 151 (dk_at dksX3_parse_6 20 rfl rfl)
theorem dX3_parse_158 : decode cX3_parse 158 = .ok (.ifCond .eq 15, 3) := dk_153 0 15 (dk_at dksX3_parse_7 0 rfl rfl)
theorem dX3_parse_161 : decode cX3_parse 161 = .ok (.aload_n 2, 1) := dk_44 (dk_at dksX3_parse_7 3 rfl rfl)
theorem dX3_parse_162 : decode cX3_parse 162 = .ok (.getfield 188, 3) := dk_180 0 188 (dk_at dksX3_parse_7 4 rfl rfl)
theorem dX3_parse_165 : decode cX3_parse 165 = .ok (.iload_n 3, 1) := dk_29 (dk_at dksX3_parse_7 7 rfl rfl)
theorem dX3_parse_166 : decode cX3_parse 166 = .ok (.aload_n 0, 1) := dk_42 (dk_at dksX3_parse_7 8 rfl rfl)
theorem dX3_parse_167 : decode cX3_parse 167 = .ok (.getfield 41, 3) := dk_180 0 41 (dk_at dksX3_parse_7 9 rfl rfl)
theorem dX3_parse_170 : decode cX3_parse 170 = .ok (.iload_n 3, 1) := dk_29 (dk_at dksX3_parse_7 12 rfl rfl)
theorem dX3_parse_171 : decode cX3_parse 171 = .ok (.iaload, 1) := dk_46 (dk_at dksX3_parse_7 13 rfl rfl)
theorem dX3_parse_172 : decode cX3_parse 172 = .ok (.iastore, 1) := dk_79 (dk_at dksX3_parse_7 14 rfl rfl)
theorem dX3_parse_173 : decode cX3_parse 173 = .ok (.aload_n 2, 1) := dk_44 (dk_at dksX3_parse_7 15 rfl rfl)
theorem dX3_parse_174 : decode cX3_parse 174 = .ok (.getfield 189, 3) := dk_180 0 189 (dk_at dksX3_parse_7 16 rfl rfl)
theorem dX3_parse_177 : decode cX3_parse 177 = .ok (.iload_n 3, 1) := dk_29 (dk_at dksX3_parse_7 19 rfl rfl)
theorem dX3_parse_178 : decode cX3_parse 178 = .ok (.aload_n 0, 1) := dk_42 (dk_at dksX3_parse_7 20 rfl rfl)
theorem dX3_parse_179 : decode cX3_parse 179 = .ok (.getfield 38, 3) := dk_180 0 38 (dk_at dksX3_parse_7 21 rfl rfl)
theorem dX3_parse_182 : decode cX3_parse 182 = .ok (.iload_n 3, 1) := dk_29 (dk_at dksX3_parse_8 0 rfl rfl)
theorem dX3_parse_183 : decode cX3_parse 183 = .ok (.iaload, 1) := dk_46 (dk_at dksX3_parse_8 1 rfl rfl)
theorem dX3_parse_184 : decode cX3_parse 184 = .ok (.iastore, 1) := dk_79 (dk_at dksX3_parse_8 2 rfl rfl)
theorem dX3_parse_185 : decode cX3_parse 185 = .ok (.iinc 3 1, 3) := dk_132 3 1 (dk_at dksX3_parse_8 3 rfl rfl)
theorem dX3_parse_188 : decode cX3_parse 188 = .ok (.goto (-67), 3) := dk_167 255 189 (dk_at dksX3_parse_8 6 rfl rfl)
theorem dX3_parse_191 : decode cX3_parse 191 = .ok (.aload_n 2, 1) := dk_44 (dk_at dksX3_parse_8 9 rfl rfl)
theorem dX3_parse_192 : decode cX3_parse 192 = .ok (.areturn, 1) := dk_176 (dk_at dksX3_parse_8 10 rfl rfl)
abbrev cX3_advance : ByteArray := prog_9_method_3_code
def yX3_advance : MethodName := ⟨RX3, "advance", "()V"⟩
def dkwX3_advance_12 : List UInt8 := [181, 0, 52, 42, 27, 16, 59, 160, 0, 8, 18, 91, 167, 0, 5, 18, 73, 181, 0, 11, 177]
abbrev dktX3_advance_12 : List UInt8 := dkwX3_advance_12 ++ []
def dkwX3_advance_11 : List UInt8 := [164, 0, 8, 18, 73, 167, 0, 5, 18, 89, 181, 0, 11, 167, 0, 30, 42, 89, 180, 0, 52, 4, 96]
abbrev dktX3_advance_11 : List UInt8 := dkwX3_advance_11 ++ dktX3_advance_12
def dkwX3_advance_10 : List UInt8 := [180, 0, 52, 4, 96, 181, 0, 52, 167, 255, 200, 42, 42, 180, 0, 52, 42, 180, 0, 59, 100, 6]
abbrev dktX3_advance_10 : List UInt8 := dkwX3_advance_10 ++ dktX3_advance_11
def dkwX3_advance_9 : List UInt8 := [180, 0, 79, 104, 42, 42, 180, 0, 52, 182, 0, 55, 96, 16, 48, 100, 184, 0, 83, 181, 0, 79, 42, 89]
abbrev dktX3_advance_9 : List UInt8 := dkwX3_advance_9 ++ dktX3_advance_10
def dkwX3_advance_8 : List UInt8 := [180, 0, 52, 182, 0, 55, 16, 48, 16, 57, 184, 0, 62, 153, 0, 44, 42, 18, 82, 16, 10, 42]
abbrev dktX3_advance_8 : List UInt8 := dkwX3_advance_8 ++ dktX3_advance_9
def dkwX3_advance_7 : List UInt8 := [181, 0, 11, 167, 0, 132, 27, 16, 48, 16, 57, 184, 0, 62, 153, 0, 94, 42, 3, 181, 0, 79, 42, 42]
abbrev dktX3_advance_7 : List UInt8 := dkwX3_advance_7 ++ dktX3_advance_8
def dkwX3_advance_6 : List UInt8 := [180, 0, 52, 42, 180, 0, 59, 100, 16, 8, 164, 0, 8, 18, 73, 167, 0, 7, 44, 182, 0, 75]
abbrev dktX3_advance_6 : List UInt8 := dkwX3_advance_6 ++ dktX3_advance_7
def dkwX3_advance_5 : List UInt8 := [182, 0, 55, 146, 182, 0, 69, 87, 42, 89, 180, 0, 52, 4, 96, 181, 0, 52, 167, 255, 200, 42, 42]
abbrev dktX3_advance_5 : List UInt8 := dkwX3_advance_5 ++ dktX3_advance_6
def dkwX3_advance_4 : List UInt8 := [153, 0, 44, 42, 180, 0, 52, 42, 180, 0, 59, 100, 16, 8, 163, 0, 17, 44, 42, 42, 180, 0, 52]
abbrev dktX3_advance_4 : List UInt8 := dkwX3_advance_4 ++ dktX3_advance_5
def dkwX3_advance_3 : List UInt8 := [187, 0, 66, 89, 183, 0, 68, 77, 42, 42, 180, 0, 52, 182, 0, 55, 16, 97, 16, 122, 184, 0, 62]
abbrev dktX3_advance_3 : List UInt8 := dkwX3_advance_3 ++ dktX3_advance_4
def dkwX3_advance_2 : List UInt8 := [160, 0, 12, 42, 18, 9, 181, 0, 11, 167, 0, 240, 27, 16, 97, 16, 122, 184, 0, 62, 153, 0, 100]
abbrev dktX3_advance_2 : List UInt8 := dkwX3_advance_2 ++ dktX3_advance_3
def dkwX3_advance_1 : List UInt8 := [167, 255, 233, 42, 42, 180, 0, 52, 181, 0, 59, 42, 42, 180, 0, 52, 182, 0, 55, 60, 27, 2]
abbrev dktX3_advance_1 : List UInt8 := dkwX3_advance_1 ++ dktX3_advance_2
def dkwX3_advance_0 : List UInt8 := [42, 42, 180, 0, 52, 182, 0, 55, 16, 32, 160, 0, 16, 42, 89, 180, 0, 52, 4, 96, 181, 0, 52]
abbrev dktX3_advance_0 : List UInt8 := dkwX3_advance_0 ++ dktX3_advance_1
theorem dksX3_advance_0 : cX3_advance.data.toList.drop 0 = dktX3_advance_0 := by decide +kernel
theorem dksX3_advance_1 : cX3_advance.data.toList.drop 23 = dktX3_advance_1 := dk_seg dksX3_advance_0 23 rfl rfl
theorem dksX3_advance_2 : cX3_advance.data.toList.drop 45 = dktX3_advance_2 := dk_seg dksX3_advance_1 22 rfl rfl
theorem dksX3_advance_3 : cX3_advance.data.toList.drop 68 = dktX3_advance_3 := dk_seg dksX3_advance_2 23 rfl rfl
theorem dksX3_advance_4 : cX3_advance.data.toList.drop 91 = dktX3_advance_4 := dk_seg dksX3_advance_3 23 rfl rfl
theorem dksX3_advance_5 : cX3_advance.data.toList.drop 114 = dktX3_advance_5 := dk_seg dksX3_advance_4 23 rfl rfl
theorem dksX3_advance_6 : cX3_advance.data.toList.drop 137 = dktX3_advance_6 := dk_seg dksX3_advance_5 23 rfl rfl
theorem dksX3_advance_7 : cX3_advance.data.toList.drop 159 = dktX3_advance_7 := dk_seg dksX3_advance_6 22 rfl rfl
theorem dksX3_advance_8 : cX3_advance.data.toList.drop 183 = dktX3_advance_8 := dk_seg dksX3_advance_7 24 rfl rfl
theorem dksX3_advance_9 : cX3_advance.data.toList.drop 205 = dktX3_advance_9 := dk_seg dksX3_advance_8 22 rfl rfl
theorem dksX3_advance_10 : cX3_advance.data.toList.drop 229 = dktX3_advance_10 := dk_seg dksX3_advance_9 24 rfl rfl
theorem dksX3_advance_11 : cX3_advance.data.toList.drop 251 = dktX3_advance_11 := dk_seg dksX3_advance_10 22 rfl rfl
theorem dksX3_advance_12 : cX3_advance.data.toList.drop 274 = dktX3_advance_12 := dk_seg dksX3_advance_11 23 rfl rfl
theorem dX3_advance_0 : decode cX3_advance 0 = .ok (.aload_n 0, 1) := dk_42 (dk_at dksX3_advance_0 0 rfl rfl)
theorem dX3_advance_1 : decode cX3_advance 1 = .ok (.aload_n 0, 1) := dk_42 (dk_at dksX3_advance_0 1 rfl rfl)
theorem dX3_advance_2 : decode cX3_advance 2 = .ok (.getfield 52, 3) := dk_180 0 52 (dk_at dksX3_advance_0 2 rfl rfl)
theorem dX3_advance_5 : decode cX3_advance 5 = .ok (.invokevirtual 55, 3) := dk_182 0 55 (dk_at dksX3_advance_0 5 rfl rfl)
theorem dX3_advance_8 : decode cX3_advance 8 = .ok (.bipush 32, 2) := dk_16 32 (dk_at dksX3_advance_0 8 rfl rfl)
theorem dX3_advance_10 : decode cX3_advance 10 = .ok (.if_icmp .ne 16, 3) := dk_160 0 16 (dk_at dksX3_advance_0 10 rfl rfl)
theorem dX3_advance_13 : decode cX3_advance 13 = .ok (.aload_n 0, 1) := dk_42 (dk_at dksX3_advance_0 13 rfl rfl)
theorem dX3_advance_14 : decode cX3_advance 14 = .ok (.dup, 1) := dk_89 (dk_at dksX3_advance_0 14 rfl rfl)
theorem dX3_advance_15 : decode cX3_advance 15 = .ok (.getfield 52, 3) := dk_180 0 52 (dk_at dksX3_advance_0 15 rfl rfl)
theorem dX3_advance_18 : decode cX3_advance 18 = .ok (.iconst 1, 1) := dk_4 (dk_at dksX3_advance_0 18 rfl rfl)
theorem dX3_advance_19 : decode cX3_advance 19 = .ok (.iadd, 1) := dk_96 (dk_at dksX3_advance_0 19 rfl rfl)
theorem dX3_advance_20 : decode cX3_advance 20 = .ok (.putfield 52, 3) := dk_181 0 52 (dk_at dksX3_advance_0 20 rfl rfl)
theorem dX3_advance_23 : decode cX3_advance 23 = .ok (.goto (-23), 3) := dk_167 255 233 (dk_at dksX3_advance_1 0 rfl rfl)
theorem dX3_advance_26 : decode cX3_advance 26 = .ok (.aload_n 0, 1) := dk_42 (dk_at dksX3_advance_1 3 rfl rfl)
theorem dX3_advance_27 : decode cX3_advance 27 = .ok (.aload_n 0, 1) := dk_42 (dk_at dksX3_advance_1 4 rfl rfl)
theorem dX3_advance_28 : decode cX3_advance 28 = .ok (.getfield 52, 3) := dk_180 0 52 (dk_at dksX3_advance_1 5 rfl rfl)
theorem dX3_advance_31 : decode cX3_advance 31 = .ok (.putfield 59, 3) := dk_181 0 59 (dk_at dksX3_advance_1 8 rfl rfl)
theorem dX3_advance_34 : decode cX3_advance 34 = .ok (.aload_n 0, 1) := dk_42 (dk_at dksX3_advance_1 11 rfl rfl)
theorem dX3_advance_35 : decode cX3_advance 35 = .ok (.aload_n 0, 1) := dk_42 (dk_at dksX3_advance_1 12 rfl rfl)
theorem dX3_advance_36 : decode cX3_advance 36 = .ok (.getfield 52, 3) := dk_180 0 52 (dk_at dksX3_advance_1 13 rfl rfl)
theorem dX3_advance_39 : decode cX3_advance 39 = .ok (.invokevirtual 55, 3) := dk_182 0 55 (dk_at dksX3_advance_1 16 rfl rfl)
theorem dX3_advance_42 : decode cX3_advance 42 = .ok (.istore_n 1, 1) := dk_60 (dk_at dksX3_advance_1 19 rfl rfl)
theorem dX3_advance_43 : decode cX3_advance 43 = .ok (.iload_n 1, 1) := dk_27 (dk_at dksX3_advance_1 20 rfl rfl)
theorem dX3_advance_44 : decode cX3_advance 44 = .ok (.iconst (-1), 1) := dk_2 (dk_at dksX3_advance_1 21 rfl rfl)
theorem dX3_advance_45 : decode cX3_advance 45 = .ok (.if_icmp .ne 12, 3) := dk_160 0 12 (dk_at dksX3_advance_2 0 rfl rfl)
theorem dX3_advance_48 : decode cX3_advance 48 = .ok (.aload_n 0, 1) := dk_42 (dk_at dksX3_advance_2 3 rfl rfl)
theorem dX3_advance_49 : decode cX3_advance 49 = .ok (.ldc 9, 2) := dk_18 9 (dk_at dksX3_advance_2 4 rfl rfl)
theorem dX3_advance_51 : decode cX3_advance 51 = .ok (.putfield 11, 3) := dk_181 0 11 (dk_at dksX3_advance_2 6 rfl rfl)
theorem dX3_advance_54 : decode cX3_advance 54 = .ok (.goto 240, 3) := dk_167 0 240 (dk_at dksX3_advance_2 9 rfl rfl)
theorem dX3_advance_57 : decode cX3_advance 57 = .ok (.iload_n 1, 1) := dk_27 (dk_at dksX3_advance_2 12 rfl rfl)
theorem dX3_advance_58 : decode cX3_advance 58 = .ok (.bipush 97, 2) := dk_16 97 (dk_at dksX3_advance_2 13 rfl rfl)
theorem dX3_advance_60 : decode cX3_advance 60 = .ok (.bipush 122, 2) := dk_16 122 (dk_at dksX3_advance_2 15 rfl rfl)
theorem dX3_advance_62 : decode cX3_advance 62 = .ok (.invokestatic 62, 3) := dk_184 0 62 (dk_at dksX3_advance_2 17 rfl rfl)
theorem dX3_advance_65 : decode cX3_advance 65 = .ok (.ifCond .eq 100, 3) := dk_153 0 100 (dk_at dksX3_advance_2 20 rfl rfl)
theorem dX3_advance_68 : decode cX3_advance 68 = .ok (.new 66, 3) := dk_187 0 66 (dk_at dksX3_advance_3 0 rfl rfl)
theorem dX3_advance_71 : decode cX3_advance 71 = .ok (.dup, 1) := dk_89 (dk_at dksX3_advance_3 3 rfl rfl)
theorem dX3_advance_72 : decode cX3_advance 72 = .ok (.invokespecial 68, 3) := dk_183 0 68 (dk_at dksX3_advance_3 4 rfl rfl)
theorem dX3_advance_75 : decode cX3_advance 75 = .ok (.astore_n 2, 1) := dk_77 (dk_at dksX3_advance_3 7 rfl rfl)
theorem dX3_advance_76 : decode cX3_advance 76 = .ok (.aload_n 0, 1) := dk_42 (dk_at dksX3_advance_3 8 rfl rfl)
theorem dX3_advance_77 : decode cX3_advance 77 = .ok (.aload_n 0, 1) := dk_42 (dk_at dksX3_advance_3 9 rfl rfl)
theorem dX3_advance_78 : decode cX3_advance 78 = .ok (.getfield 52, 3) := dk_180 0 52 (dk_at dksX3_advance_3 10 rfl rfl)
theorem dX3_advance_81 : decode cX3_advance 81 = .ok (.invokevirtual 55, 3) := dk_182 0 55 (dk_at dksX3_advance_3 13 rfl rfl)
theorem dX3_advance_84 : decode cX3_advance 84 = .ok (.bipush 97, 2) := dk_16 97 (dk_at dksX3_advance_3 16 rfl rfl)
theorem dX3_advance_86 : decode cX3_advance 86 = .ok (.bipush 122, 2) := dk_16 122 (dk_at dksX3_advance_3 18 rfl rfl)
theorem dX3_advance_88 : decode cX3_advance 88 = .ok (.invokestatic 62, 3) := dk_184 0 62 (dk_at dksX3_advance_3 20 rfl rfl)
theorem dX3_advance_91 : decode cX3_advance 91 = .ok (.ifCond .eq 44, 3) := dk_153 0 44 (dk_at dksX3_advance_4 0 rfl rfl)
theorem dX3_advance_94 : decode cX3_advance 94 = .ok (.aload_n 0, 1) := dk_42 (dk_at dksX3_advance_4 3 rfl rfl)
theorem dX3_advance_95 : decode cX3_advance 95 = .ok (.getfield 52, 3) := dk_180 0 52 (dk_at dksX3_advance_4 4 rfl rfl)
theorem dX3_advance_98 : decode cX3_advance 98 = .ok (.aload_n 0, 1) := dk_42 (dk_at dksX3_advance_4 7 rfl rfl)
theorem dX3_advance_99 : decode cX3_advance 99 = .ok (.getfield 59, 3) := dk_180 0 59 (dk_at dksX3_advance_4 8 rfl rfl)
theorem dX3_advance_102 : decode cX3_advance 102 = .ok (.isub, 1) := dk_100 (dk_at dksX3_advance_4 11 rfl rfl)
theorem dX3_advance_103 : decode cX3_advance 103 = .ok (.bipush 8, 2) := dk_16 8 (dk_at dksX3_advance_4 12 rfl rfl)
theorem dX3_advance_105 : decode cX3_advance 105 = .ok (.if_icmp .gt 17, 3) := dk_163 0 17 (dk_at dksX3_advance_4 14 rfl rfl)
theorem dX3_advance_108 : decode cX3_advance 108 = .ok (.aload_n 2, 1) := dk_44 (dk_at dksX3_advance_4 17 rfl rfl)
theorem dX3_advance_109 : decode cX3_advance 109 = .ok (.aload_n 0, 1) := dk_42 (dk_at dksX3_advance_4 18 rfl rfl)
theorem dX3_advance_110 : decode cX3_advance 110 = .ok (.aload_n 0, 1) := dk_42 (dk_at dksX3_advance_4 19 rfl rfl)
theorem dX3_advance_111 : decode cX3_advance 111 = .ok (.getfield 52, 3) := dk_180 0 52 (dk_at dksX3_advance_4 20 rfl rfl)
theorem dX3_advance_114 : decode cX3_advance 114 = .ok (.invokevirtual 55, 3) := dk_182 0 55 (dk_at dksX3_advance_5 0 rfl rfl)
theorem dX3_advance_117 : decode cX3_advance 117 = .ok (.i2c, 1) := dk_146 (dk_at dksX3_advance_5 3 rfl rfl)
theorem dX3_advance_118 : decode cX3_advance 118 = .ok (.invokevirtual 69, 3) := dk_182 0 69 (dk_at dksX3_advance_5 4 rfl rfl)
theorem dX3_advance_121 : decode cX3_advance 121 = .ok (.pop, 1) := dk_87 (dk_at dksX3_advance_5 7 rfl rfl)
theorem dX3_advance_122 : decode cX3_advance 122 = .ok (.aload_n 0, 1) := dk_42 (dk_at dksX3_advance_5 8 rfl rfl)
theorem dX3_advance_123 : decode cX3_advance 123 = .ok (.dup, 1) := dk_89 (dk_at dksX3_advance_5 9 rfl rfl)
theorem dX3_advance_124 : decode cX3_advance 124 = .ok (.getfield 52, 3) := dk_180 0 52 (dk_at dksX3_advance_5 10 rfl rfl)
theorem dX3_advance_127 : decode cX3_advance 127 = .ok (.iconst 1, 1) := dk_4 (dk_at dksX3_advance_5 13 rfl rfl)
theorem dX3_advance_128 : decode cX3_advance 128 = .ok (.iadd, 1) := dk_96 (dk_at dksX3_advance_5 14 rfl rfl)
theorem dX3_advance_129 : decode cX3_advance 129 = .ok (.putfield 52, 3) := dk_181 0 52 (dk_at dksX3_advance_5 15 rfl rfl)
theorem dX3_advance_132 : decode cX3_advance 132 = .ok (.goto (-56), 3) := dk_167 255 200 (dk_at dksX3_advance_5 18 rfl rfl)
theorem dX3_advance_135 : decode cX3_advance 135 = .ok (.aload_n 0, 1) := dk_42 (dk_at dksX3_advance_5 21 rfl rfl)
theorem dX3_advance_136 : decode cX3_advance 136 = .ok (.aload_n 0, 1) := dk_42 (dk_at dksX3_advance_5 22 rfl rfl)
theorem dX3_advance_137 : decode cX3_advance 137 = .ok (.getfield 52, 3) := dk_180 0 52 (dk_at dksX3_advance_6 0 rfl rfl)
theorem dX3_advance_140 : decode cX3_advance 140 = .ok (.aload_n 0, 1) := dk_42 (dk_at dksX3_advance_6 3 rfl rfl)
theorem dX3_advance_141 : decode cX3_advance 141 = .ok (.getfield 59, 3) := dk_180 0 59 (dk_at dksX3_advance_6 4 rfl rfl)
theorem dX3_advance_144 : decode cX3_advance 144 = .ok (.isub, 1) := dk_100 (dk_at dksX3_advance_6 7 rfl rfl)
theorem dX3_advance_145 : decode cX3_advance 145 = .ok (.bipush 8, 2) := dk_16 8 (dk_at dksX3_advance_6 8 rfl rfl)
theorem dX3_advance_147 : decode cX3_advance 147 = .ok (.if_icmp .le 8, 3) := dk_164 0 8 (dk_at dksX3_advance_6 10 rfl rfl)
theorem dX3_advance_150 : decode cX3_advance 150 = .ok (.ldc 73, 2) := dk_18 73 (dk_at dksX3_advance_6 13 rfl rfl)
theorem dX3_advance_152 : decode cX3_advance 152 = .ok (.goto 7, 3) := dk_167 0 7 (dk_at dksX3_advance_6 15 rfl rfl)
theorem dX3_advance_155 : decode cX3_advance 155 = .ok (.aload_n 2, 1) := dk_44 (dk_at dksX3_advance_6 18 rfl rfl)
theorem dX3_advance_156 : decode cX3_advance 156 = .ok (.invokevirtual 75, 3) := dk_182 0 75 (dk_at dksX3_advance_6 19 rfl rfl)
theorem dX3_advance_159 : decode cX3_advance 159 = .ok (.putfield 11, 3) := dk_181 0 11 (dk_at dksX3_advance_7 0 rfl rfl)
theorem dX3_advance_162 : decode cX3_advance 162 = .ok (.goto 132, 3) := dk_167 0 132 (dk_at dksX3_advance_7 3 rfl rfl)
theorem dX3_advance_165 : decode cX3_advance 165 = .ok (.iload_n 1, 1) := dk_27 (dk_at dksX3_advance_7 6 rfl rfl)
theorem dX3_advance_166 : decode cX3_advance 166 = .ok (.bipush 48, 2) := dk_16 48 (dk_at dksX3_advance_7 7 rfl rfl)
theorem dX3_advance_168 : decode cX3_advance 168 = .ok (.bipush 57, 2) := dk_16 57 (dk_at dksX3_advance_7 9 rfl rfl)
theorem dX3_advance_170 : decode cX3_advance 170 = .ok (.invokestatic 62, 3) := dk_184 0 62 (dk_at dksX3_advance_7 11 rfl rfl)
theorem dX3_advance_173 : decode cX3_advance 173 = .ok (.ifCond .eq 94, 3) := dk_153 0 94 (dk_at dksX3_advance_7 14 rfl rfl)
theorem dX3_advance_176 : decode cX3_advance 176 = .ok (.aload_n 0, 1) := dk_42 (dk_at dksX3_advance_7 17 rfl rfl)
theorem dX3_advance_177 : decode cX3_advance 177 = .ok (.iconst 0, 1) := dk_3 (dk_at dksX3_advance_7 18 rfl rfl)
theorem dX3_advance_178 : decode cX3_advance 178 = .ok (.putfield 79, 3) := dk_181 0 79 (dk_at dksX3_advance_7 19 rfl rfl)
theorem dX3_advance_181 : decode cX3_advance 181 = .ok (.aload_n 0, 1) := dk_42 (dk_at dksX3_advance_7 22 rfl rfl)
theorem dX3_advance_182 : decode cX3_advance 182 = .ok (.aload_n 0, 1) := dk_42 (dk_at dksX3_advance_7 23 rfl rfl)
theorem dX3_advance_183 : decode cX3_advance 183 = .ok (.getfield 52, 3) := dk_180 0 52 (dk_at dksX3_advance_8 0 rfl rfl)
theorem dX3_advance_186 : decode cX3_advance 186 = .ok (.invokevirtual 55, 3) := dk_182 0 55 (dk_at dksX3_advance_8 3 rfl rfl)
theorem dX3_advance_189 : decode cX3_advance 189 = .ok (.bipush 48, 2) := dk_16 48 (dk_at dksX3_advance_8 6 rfl rfl)
theorem dX3_advance_191 : decode cX3_advance 191 = .ok (.bipush 57, 2) := dk_16 57 (dk_at dksX3_advance_8 8 rfl rfl)
theorem dX3_advance_193 : decode cX3_advance 193 = .ok (.invokestatic 62, 3) := dk_184 0 62 (dk_at dksX3_advance_8 10 rfl rfl)
theorem dX3_advance_196 : decode cX3_advance 196 = .ok (.ifCond .eq 44, 3) := dk_153 0 44 (dk_at dksX3_advance_8 13 rfl rfl)
theorem dX3_advance_199 : decode cX3_advance 199 = .ok (.aload_n 0, 1) := dk_42 (dk_at dksX3_advance_8 16 rfl rfl)
theorem dX3_advance_200 : decode cX3_advance 200 = .ok (.ldc 82, 2) := dk_18 82 (dk_at dksX3_advance_8 17 rfl rfl)
theorem dX3_advance_202 : decode cX3_advance 202 = .ok (.bipush 10, 2) := dk_16 10 (dk_at dksX3_advance_8 19 rfl rfl)
theorem dX3_advance_204 : decode cX3_advance 204 = .ok (.aload_n 0, 1) := dk_42 (dk_at dksX3_advance_8 21 rfl rfl)
theorem dX3_advance_205 : decode cX3_advance 205 = .ok (.getfield 79, 3) := dk_180 0 79 (dk_at dksX3_advance_9 0 rfl rfl)
theorem dX3_advance_208 : decode cX3_advance 208 = .ok (.imul, 1) := dk_104 (dk_at dksX3_advance_9 3 rfl rfl)
theorem dX3_advance_209 : decode cX3_advance 209 = .ok (.aload_n 0, 1) := dk_42 (dk_at dksX3_advance_9 4 rfl rfl)
theorem dX3_advance_210 : decode cX3_advance 210 = .ok (.aload_n 0, 1) := dk_42 (dk_at dksX3_advance_9 5 rfl rfl)
theorem dX3_advance_211 : decode cX3_advance 211 = .ok (.getfield 52, 3) := dk_180 0 52 (dk_at dksX3_advance_9 6 rfl rfl)
theorem dX3_advance_214 : decode cX3_advance 214 = .ok (.invokevirtual 55, 3) := dk_182 0 55 (dk_at dksX3_advance_9 9 rfl rfl)
theorem dX3_advance_217 : decode cX3_advance 217 = .ok (.iadd, 1) := dk_96 (dk_at dksX3_advance_9 12 rfl rfl)
theorem dX3_advance_218 : decode cX3_advance 218 = .ok (.bipush 48, 2) := dk_16 48 (dk_at dksX3_advance_9 13 rfl rfl)
theorem dX3_advance_220 : decode cX3_advance 220 = .ok (.isub, 1) := dk_100 (dk_at dksX3_advance_9 15 rfl rfl)
theorem dX3_advance_221 : decode cX3_advance 221 = .ok (.invokestatic 83, 3) := dk_184 0 83 (dk_at dksX3_advance_9 16 rfl rfl)
theorem dX3_advance_224 : decode cX3_advance 224 = .ok (.putfield 79, 3) := dk_181 0 79 (dk_at dksX3_advance_9 19 rfl rfl)
theorem dX3_advance_227 : decode cX3_advance 227 = .ok (.aload_n 0, 1) := dk_42 (dk_at dksX3_advance_9 22 rfl rfl)
theorem dX3_advance_228 : decode cX3_advance 228 = .ok (.dup, 1) := dk_89 (dk_at dksX3_advance_9 23 rfl rfl)
theorem dX3_advance_229 : decode cX3_advance 229 = .ok (.getfield 52, 3) := dk_180 0 52 (dk_at dksX3_advance_10 0 rfl rfl)
theorem dX3_advance_232 : decode cX3_advance 232 = .ok (.iconst 1, 1) := dk_4 (dk_at dksX3_advance_10 3 rfl rfl)
theorem dX3_advance_233 : decode cX3_advance 233 = .ok (.iadd, 1) := dk_96 (dk_at dksX3_advance_10 4 rfl rfl)
theorem dX3_advance_234 : decode cX3_advance 234 = .ok (.putfield 52, 3) := dk_181 0 52 (dk_at dksX3_advance_10 5 rfl rfl)
theorem dX3_advance_237 : decode cX3_advance 237 = .ok (.goto (-56), 3) := dk_167 255 200 (dk_at dksX3_advance_10 8 rfl rfl)
theorem dX3_advance_240 : decode cX3_advance 240 = .ok (.aload_n 0, 1) := dk_42 (dk_at dksX3_advance_10 11 rfl rfl)
theorem dX3_advance_241 : decode cX3_advance 241 = .ok (.aload_n 0, 1) := dk_42 (dk_at dksX3_advance_10 12 rfl rfl)
theorem dX3_advance_242 : decode cX3_advance 242 = .ok (.getfield 52, 3) := dk_180 0 52 (dk_at dksX3_advance_10 13 rfl rfl)
theorem dX3_advance_245 : decode cX3_advance 245 = .ok (.aload_n 0, 1) := dk_42 (dk_at dksX3_advance_10 16 rfl rfl)
theorem dX3_advance_246 : decode cX3_advance 246 = .ok (.getfield 59, 3) := dk_180 0 59 (dk_at dksX3_advance_10 17 rfl rfl)
theorem dX3_advance_249 : decode cX3_advance 249 = .ok (.isub, 1) := dk_100 (dk_at dksX3_advance_10 20 rfl rfl)
theorem dX3_advance_250 : decode cX3_advance 250 = .ok (.iconst 3, 1) := dk_6 (dk_at dksX3_advance_10 21 rfl rfl)
theorem dX3_advance_251 : decode cX3_advance 251 = .ok (.if_icmp .le 8, 3) := dk_164 0 8 (dk_at dksX3_advance_11 0 rfl rfl)
theorem dX3_advance_254 : decode cX3_advance 254 = .ok (.ldc 73, 2) := dk_18 73 (dk_at dksX3_advance_11 3 rfl rfl)
theorem dX3_advance_256 : decode cX3_advance 256 = .ok (.goto 5, 3) := dk_167 0 5 (dk_at dksX3_advance_11 5 rfl rfl)
theorem dX3_advance_259 : decode cX3_advance 259 = .ok (.ldc 89, 2) := dk_18 89 (dk_at dksX3_advance_11 8 rfl rfl)
theorem dX3_advance_261 : decode cX3_advance 261 = .ok (.putfield 11, 3) := dk_181 0 11 (dk_at dksX3_advance_11 10 rfl rfl)
theorem dX3_advance_264 : decode cX3_advance 264 = .ok (.goto 30, 3) := dk_167 0 30 (dk_at dksX3_advance_11 13 rfl rfl)
theorem dX3_advance_267 : decode cX3_advance 267 = .ok (.aload_n 0, 1) := dk_42 (dk_at dksX3_advance_11 16 rfl rfl)
theorem dX3_advance_268 : decode cX3_advance 268 = .ok (.dup, 1) := dk_89 (dk_at dksX3_advance_11 17 rfl rfl)
theorem dX3_advance_269 : decode cX3_advance 269 = .ok (.getfield 52, 3) := dk_180 0 52 (dk_at dksX3_advance_11 18 rfl rfl)
theorem dX3_advance_272 : decode cX3_advance 272 = .ok (.iconst 1, 1) := dk_4 (dk_at dksX3_advance_11 21 rfl rfl)
theorem dX3_advance_273 : decode cX3_advance 273 = .ok (.iadd, 1) := dk_96 (dk_at dksX3_advance_11 22 rfl rfl)
theorem dX3_advance_274 : decode cX3_advance 274 = .ok (.putfield 52, 3) := dk_181 0 52 (dk_at dksX3_advance_12 0 rfl rfl)
theorem dX3_advance_277 : decode cX3_advance 277 = .ok (.aload_n 0, 1) := dk_42 (dk_at dksX3_advance_12 3 rfl rfl)
theorem dX3_advance_278 : decode cX3_advance 278 = .ok (.iload_n 1, 1) := dk_27 (dk_at dksX3_advance_12 4 rfl rfl)
theorem dX3_advance_279 : decode cX3_advance 279 = .ok (.bipush 59, 2) := dk_16 59 (dk_at dksX3_advance_12 5 rfl rfl)
theorem dX3_advance_281 : decode cX3_advance 281 = .ok (.if_icmp .ne 8, 3) := dk_160 0 8 (dk_at dksX3_advance_12 7 rfl rfl)
theorem dX3_advance_284 : decode cX3_advance 284 = .ok (.ldc 91, 2) := dk_18 91 (dk_at dksX3_advance_12 10 rfl rfl)
theorem dX3_advance_286 : decode cX3_advance 286 = .ok (.goto 5, 3) := dk_167 0 5 (dk_at dksX3_advance_12 12 rfl rfl)
theorem dX3_advance_289 : decode cX3_advance 289 = .ok (.ldc 73, 2) := dk_18 73 (dk_at dksX3_advance_12 15 rfl rfl)
theorem dX3_advance_291 : decode cX3_advance 291 = .ok (.putfield 11, 3) := dk_181 0 11 (dk_at dksX3_advance_12 17 rfl rfl)
theorem dX3_advance_294 : decode cX3_advance 294 = .ok (.return_, 1) := dk_177 (dk_at dksX3_advance_12 20 rfl rfl)
abbrev cX3_at : ByteArray := prog_9_method_2_code
def yX3_at : MethodName := ⟨RX3, "at", "(I)I"⟩
def dkwX3_at_0 : List UInt8 := [27, 42, 180, 0, 48, 162, 0, 16, 42, 180, 0, 44, 27, 51, 17, 0, 255, 126, 167, 0, 4, 2, 172]
abbrev dktX3_at_0 : List UInt8 := dkwX3_at_0 ++ []
theorem dksX3_at_0 : cX3_at.data.toList.drop 0 = dktX3_at_0 := by decide +kernel
theorem dX3_at_0 : decode cX3_at 0 = .ok (.iload_n 1, 1) := dk_27 (dk_at dksX3_at_0 0 rfl rfl)
theorem dX3_at_1 : decode cX3_at 1 = .ok (.aload_n 0, 1) := dk_42 (dk_at dksX3_at_0 1 rfl rfl)
theorem dX3_at_2 : decode cX3_at 2 = .ok (.getfield 48, 3) := dk_180 0 48 (dk_at dksX3_at_0 2 rfl rfl)
theorem dX3_at_5 : decode cX3_at 5 = .ok (.if_icmp .ge 16, 3) := dk_162 0 16 (dk_at dksX3_at_0 5 rfl rfl)
theorem dX3_at_8 : decode cX3_at 8 = .ok (.aload_n 0, 1) := dk_42 (dk_at dksX3_at_0 8 rfl rfl)
theorem dX3_at_9 : decode cX3_at 9 = .ok (.getfield 44, 3) := dk_180 0 44 (dk_at dksX3_at_0 9 rfl rfl)
theorem dX3_at_12 : decode cX3_at 12 = .ok (.iload_n 1, 1) := dk_27 (dk_at dksX3_at_0 12 rfl rfl)
theorem dX3_at_13 : decode cX3_at 13 = .ok (.baload, 1) := dk_51 (dk_at dksX3_at_0 13 rfl rfl)
theorem dX3_at_14 : decode cX3_at 14 = .ok (.sipush 255, 3) := dk_17 0 255 (dk_at dksX3_at_0 14 rfl rfl)
theorem dX3_at_17 : decode cX3_at 17 = .ok (.iand, 1) := dk_126 (dk_at dksX3_at_0 17 rfl rfl)
theorem dX3_at_18 : decode cX3_at 18 = .ok (.goto 4, 3) := dk_167 0 4 (dk_at dksX3_at_0 18 rfl rfl)
theorem dX3_at_21 : decode cX3_at 21 = .ok (.iconst (-1), 1) := dk_2 (dk_at dksX3_at_0 21 rfl rfl)
theorem dX3_at_22 : decode cX3_at 22 = .ok (.ireturn, 1) := dk_172 (dk_at dksX3_at_0 22 rfl rfl)
abbrev cX3_expect : ByteArray := prog_9_method_5_code
def yX3_expect : MethodName := ⟨RX3, "expect", "(Ljava/lang/String;)V"⟩
def dkwX3_expect_0 : List UInt8 := [42, 180, 0, 11, 43, 182, 0, 98, 154, 0, 9, 42, 4, 182, 0, 104, 191, 42, 182, 0, 108, 177]
abbrev dktX3_expect_0 : List UInt8 := dkwX3_expect_0 ++ []
theorem dksX3_expect_0 : cX3_expect.data.toList.drop 0 = dktX3_expect_0 := by decide +kernel
theorem dX3_expect_0 : decode cX3_expect 0 = .ok (.aload_n 0, 1) := dk_42 (dk_at dksX3_expect_0 0 rfl rfl)
theorem dX3_expect_1 : decode cX3_expect 1 = .ok (.getfield 11, 3) := dk_180 0 11 (dk_at dksX3_expect_0 1 rfl rfl)
theorem dX3_expect_4 : decode cX3_expect 4 = .ok (.aload_n 1, 1) := dk_43 (dk_at dksX3_expect_0 4 rfl rfl)
theorem dX3_expect_5 : decode cX3_expect 5 = .ok (.invokevirtual 98, 3) := dk_182 0 98 (dk_at dksX3_expect_0 5 rfl rfl)
theorem dX3_expect_8 : decode cX3_expect 8 = .ok (.ifCond .ne 9, 3) := dk_154 0 9 (dk_at dksX3_expect_0 8 rfl rfl)
theorem dX3_expect_11 : decode cX3_expect 11 = .ok (.aload_n 0, 1) := dk_42 (dk_at dksX3_expect_0 11 rfl rfl)
theorem dX3_expect_12 : decode cX3_expect 12 = .ok (.iconst 1, 1) := dk_4 (dk_at dksX3_expect_0 12 rfl rfl)
theorem dX3_expect_13 : decode cX3_expect 13 = .ok (.invokevirtual 104, 3) := dk_182 0 104 (dk_at dksX3_expect_0 13 rfl rfl)
theorem dX3_expect_16 : decode cX3_expect 16 = .ok (.athrow, 1) := dk_191 (dk_at dksX3_expect_0 16 rfl rfl)
theorem dX3_expect_17 : decode cX3_expect 17 = .ok (.aload_n 0, 1) := dk_42 (dk_at dksX3_expect_0 17 rfl rfl)
theorem dX3_expect_18 : decode cX3_expect 18 = .ok (.invokevirtual 108, 3) := dk_182 0 108 (dk_at dksX3_expect_0 18 rfl rfl)
theorem dX3_expect_21 : decode cX3_expect 21 = .ok (.return_, 1) := dk_177 (dk_at dksX3_expect_0 21 rfl rfl)
abbrev cX3_flaw : ByteArray := prog_9_method_4_code
def yX3_flaw : MethodName := ⟨RX3, "flaw", "(I)LEventWindows$Flaw;"⟩
def dkwX3_flaw_0 : List UInt8 := [187, 0, 93, 89, 27, 42, 180, 0, 59, 183, 0, 95, 176]
abbrev dktX3_flaw_0 : List UInt8 := dkwX3_flaw_0 ++ []
theorem dksX3_flaw_0 : cX3_flaw.data.toList.drop 0 = dktX3_flaw_0 := by decide +kernel
theorem dX3_flaw_0 : decode cX3_flaw 0 = .ok (.new 93, 3) := dk_187 0 93 (dk_at dksX3_flaw_0 0 rfl rfl)
theorem dX3_flaw_3 : decode cX3_flaw 3 = .ok (.dup, 1) := dk_89 (dk_at dksX3_flaw_0 3 rfl rfl)
theorem dX3_flaw_4 : decode cX3_flaw 4 = .ok (.iload_n 1, 1) := dk_27 (dk_at dksX3_flaw_0 4 rfl rfl)
theorem dX3_flaw_5 : decode cX3_flaw 5 = .ok (.aload_n 0, 1) := dk_42 (dk_at dksX3_flaw_0 5 rfl rfl)
theorem dX3_flaw_6 : decode cX3_flaw 6 = .ok (.getfield 59, 3) := dk_180 0 59 (dk_at dksX3_flaw_0 6 rfl rfl)
theorem dX3_flaw_9 : decode cX3_flaw 9 = .ok (.invokespecial 95, 3) := dk_183 0 95 (dk_at dksX3_flaw_0 9 rfl rfl)
theorem dX3_flaw_12 : decode cX3_flaw 12 = .ok (.areturn, 1) := dk_176 (dk_at dksX3_flaw_0 12 rfl rfl)
abbrev cX3_fresh : ByteArray := prog_9_method_8_code
def yX3_fresh : MethodName := ⟨RX3, "fresh", "()V"⟩
def dkwX3_fresh_3 : List UInt8 := [185, 0, 141, 2, 0, 87, 42, 182, 0, 108, 177]
abbrev dktX3_fresh_3 : List UInt8 := dkwX3_fresh_3 ++ []
def dkwX3_fresh_2 : List UInt8 := [185, 0, 125, 1, 0, 184, 0, 131, 182, 0, 137, 192, 0, 132, 76, 42, 180, 0, 27, 42, 180, 0, 11]
abbrev dktX3_fresh_2 : List UInt8 := dkwX3_fresh_2 ++ dktX3_fresh_3
def dkwX3_fresh_1 : List UInt8 := [153, 0, 9, 42, 6, 182, 0, 104, 191, 42, 180, 0, 20, 42, 180, 0, 11, 42, 180, 0, 27]
abbrev dktX3_fresh_1 : List UInt8 := dkwX3_fresh_1 ++ dktX3_fresh_2
def dkwX3_fresh_0 : List UInt8 := [42, 182, 0, 119, 154, 0, 9, 42, 4, 182, 0, 104, 191, 42, 180, 0, 20, 42, 180, 0, 11, 182, 0, 122]
abbrev dktX3_fresh_0 : List UInt8 := dkwX3_fresh_0 ++ dktX3_fresh_1
theorem dksX3_fresh_0 : cX3_fresh.data.toList.drop 0 = dktX3_fresh_0 := by decide +kernel
theorem dksX3_fresh_1 : cX3_fresh.data.toList.drop 24 = dktX3_fresh_1 := dk_seg dksX3_fresh_0 24 rfl rfl
theorem dksX3_fresh_2 : cX3_fresh.data.toList.drop 45 = dktX3_fresh_2 := dk_seg dksX3_fresh_1 21 rfl rfl
theorem dksX3_fresh_3 : cX3_fresh.data.toList.drop 68 = dktX3_fresh_3 := dk_seg dksX3_fresh_2 23 rfl rfl
theorem dX3_fresh_0 : decode cX3_fresh 0 = .ok (.aload_n 0, 1) := dk_42 (dk_at dksX3_fresh_0 0 rfl rfl)
theorem dX3_fresh_1 : decode cX3_fresh 1 = .ok (.invokevirtual 119, 3) := dk_182 0 119 (dk_at dksX3_fresh_0 1 rfl rfl)
theorem dX3_fresh_4 : decode cX3_fresh 4 = .ok (.ifCond .ne 9, 3) := dk_154 0 9 (dk_at dksX3_fresh_0 4 rfl rfl)
theorem dX3_fresh_7 : decode cX3_fresh 7 = .ok (.aload_n 0, 1) := dk_42 (dk_at dksX3_fresh_0 7 rfl rfl)
theorem dX3_fresh_8 : decode cX3_fresh 8 = .ok (.iconst 1, 1) := dk_4 (dk_at dksX3_fresh_0 8 rfl rfl)
theorem dX3_fresh_9 : decode cX3_fresh 9 = .ok (.invokevirtual 104, 3) := dk_182 0 104 (dk_at dksX3_fresh_0 9 rfl rfl)
theorem dX3_fresh_12 : decode cX3_fresh 12 = .ok (.athrow, 1) := dk_191 (dk_at dksX3_fresh_0 12 rfl rfl)
theorem dX3_fresh_13 : decode cX3_fresh 13 = .ok (.aload_n 0, 1) := dk_42 (dk_at dksX3_fresh_0 13 rfl rfl)
theorem dX3_fresh_14 : decode cX3_fresh 14 = .ok (.getfield 20, 3) := dk_180 0 20 (dk_at dksX3_fresh_0 14 rfl rfl)
theorem dX3_fresh_17 : decode cX3_fresh 17 = .ok (.aload_n 0, 1) := dk_42 (dk_at dksX3_fresh_0 17 rfl rfl)
theorem dX3_fresh_18 : decode cX3_fresh 18 = .ok (.getfield 11, 3) := dk_180 0 11 (dk_at dksX3_fresh_0 18 rfl rfl)
theorem dX3_fresh_21 : decode cX3_fresh 21 = .ok (.invokevirtual 122, 3) := dk_182 0 122 (dk_at dksX3_fresh_0 21 rfl rfl)
theorem dX3_fresh_24 : decode cX3_fresh 24 = .ok (.ifCond .eq 9, 3) := dk_153 0 9 (dk_at dksX3_fresh_1 0 rfl rfl)
theorem dX3_fresh_27 : decode cX3_fresh 27 = .ok (.aload_n 0, 1) := dk_42 (dk_at dksX3_fresh_1 3 rfl rfl)
theorem dX3_fresh_28 : decode cX3_fresh 28 = .ok (.iconst 3, 1) := dk_6 (dk_at dksX3_fresh_1 4 rfl rfl)
theorem dX3_fresh_29 : decode cX3_fresh 29 = .ok (.invokevirtual 104, 3) := dk_182 0 104 (dk_at dksX3_fresh_1 5 rfl rfl)
theorem dX3_fresh_32 : decode cX3_fresh 32 = .ok (.athrow, 1) := dk_191 (dk_at dksX3_fresh_1 8 rfl rfl)
theorem dX3_fresh_33 : decode cX3_fresh 33 = .ok (.aload_n 0, 1) := dk_42 (dk_at dksX3_fresh_1 9 rfl rfl)
theorem dX3_fresh_34 : decode cX3_fresh 34 = .ok (.getfield 20, 3) := dk_180 0 20 (dk_at dksX3_fresh_1 10 rfl rfl)
theorem dX3_fresh_37 : decode cX3_fresh 37 = .ok (.aload_n 0, 1) := dk_42 (dk_at dksX3_fresh_1 13 rfl rfl)
theorem dX3_fresh_38 : decode cX3_fresh 38 = .ok (.getfield 11, 3) := dk_180 0 11 (dk_at dksX3_fresh_1 14 rfl rfl)
theorem dX3_fresh_41 : decode cX3_fresh 41 = .ok (.aload_n 0, 1) := dk_42 (dk_at dksX3_fresh_1 17 rfl rfl)
theorem dX3_fresh_42 : decode cX3_fresh 42 = .ok (.getfield 27, 3) := dk_180 0 27 (dk_at dksX3_fresh_1 18 rfl rfl)
theorem dX3_fresh_45 : decode cX3_fresh 45 = .ok (.invokeinterface 125 1, 5) := by decide +kernel
theorem dX3_fresh_50 : decode cX3_fresh 50 = .ok (.invokestatic 131, 3) := dk_184 0 131 (dk_at dksX3_fresh_2 5 rfl rfl)
theorem dX3_fresh_53 : decode cX3_fresh 53 = .ok (.invokevirtual 137, 3) := dk_182 0 137 (dk_at dksX3_fresh_2 8 rfl rfl)
theorem dX3_fresh_56 : decode cX3_fresh 56 = .ok (.checkcast 132, 3) := dk_192 0 132 (dk_at dksX3_fresh_2 11 rfl rfl)
theorem dX3_fresh_59 : decode cX3_fresh 59 = .ok (.astore_n 1, 1) := dk_76 (dk_at dksX3_fresh_2 14 rfl rfl)
theorem dX3_fresh_60 : decode cX3_fresh 60 = .ok (.aload_n 0, 1) := dk_42 (dk_at dksX3_fresh_2 15 rfl rfl)
theorem dX3_fresh_61 : decode cX3_fresh 61 = .ok (.getfield 27, 3) := dk_180 0 27 (dk_at dksX3_fresh_2 16 rfl rfl)
theorem dX3_fresh_64 : decode cX3_fresh 64 = .ok (.aload_n 0, 1) := dk_42 (dk_at dksX3_fresh_2 19 rfl rfl)
theorem dX3_fresh_65 : decode cX3_fresh 65 = .ok (.getfield 11, 3) := dk_180 0 11 (dk_at dksX3_fresh_2 20 rfl rfl)
theorem dX3_fresh_68 : decode cX3_fresh 68 = .ok (.invokeinterface 141 2, 5) := by decide +kernel
theorem dX3_fresh_73 : decode cX3_fresh 73 = .ok (.pop, 1) := dk_87 (dk_at dksX3_fresh_3 5 rfl rfl)
theorem dX3_fresh_74 : decode cX3_fresh 74 = .ok (.aload_n 0, 1) := dk_42 (dk_at dksX3_fresh_3 6 rfl rfl)
theorem dX3_fresh_75 : decode cX3_fresh 75 = .ok (.invokevirtual 108, 3) := dk_182 0 108 (dk_at dksX3_fresh_3 7 rfl rfl)
theorem dX3_fresh_78 : decode cX3_fresh 78 = .ok (.return_, 1) := dk_177 (dk_at dksX3_fresh_3 10 rfl rfl)
abbrev cX3_isWord : ByteArray := prog_9_method_6_code
def yX3_isWord : MethodName := ⟨RX3, "isWord", "()Z"⟩
def dkwX3_isWord_1 : List UInt8 := [184, 0, 62, 153, 0, 7, 4, 167, 0, 4, 3, 172]
abbrev dktX3_isWord_1 : List UInt8 := dkwX3_isWord_1 ++ []
def dkwX3_isWord_0 : List UInt8 := [42, 180, 0, 11, 182, 0, 111, 154, 0, 25, 42, 180, 0, 11, 3, 182, 0, 115, 16, 97, 16, 122]
abbrev dktX3_isWord_0 : List UInt8 := dkwX3_isWord_0 ++ dktX3_isWord_1
theorem dksX3_isWord_0 : cX3_isWord.data.toList.drop 0 = dktX3_isWord_0 := by decide +kernel
theorem dksX3_isWord_1 : cX3_isWord.data.toList.drop 22 = dktX3_isWord_1 := dk_seg dksX3_isWord_0 22 rfl rfl
theorem dX3_isWord_0 : decode cX3_isWord 0 = .ok (.aload_n 0, 1) := dk_42 (dk_at dksX3_isWord_0 0 rfl rfl)
theorem dX3_isWord_1 : decode cX3_isWord 1 = .ok (.getfield 11, 3) := dk_180 0 11 (dk_at dksX3_isWord_0 1 rfl rfl)
theorem dX3_isWord_4 : decode cX3_isWord 4 = .ok (.invokevirtual 111, 3) := dk_182 0 111 (dk_at dksX3_isWord_0 4 rfl rfl)
theorem dX3_isWord_7 : decode cX3_isWord 7 = .ok (.ifCond .ne 25, 3) := dk_154 0 25 (dk_at dksX3_isWord_0 7 rfl rfl)
theorem dX3_isWord_10 : decode cX3_isWord 10 = .ok (.aload_n 0, 1) := dk_42 (dk_at dksX3_isWord_0 10 rfl rfl)
theorem dX3_isWord_11 : decode cX3_isWord 11 = .ok (.getfield 11, 3) := dk_180 0 11 (dk_at dksX3_isWord_0 11 rfl rfl)
theorem dX3_isWord_14 : decode cX3_isWord 14 = .ok (.iconst 0, 1) := dk_3 (dk_at dksX3_isWord_0 14 rfl rfl)
theorem dX3_isWord_15 : decode cX3_isWord 15 = .ok (.invokevirtual 115, 3) := dk_182 0 115 (dk_at dksX3_isWord_0 15 rfl rfl)
theorem dX3_isWord_18 : decode cX3_isWord 18 = .ok (.bipush 97, 2) := dk_16 97 (dk_at dksX3_isWord_0 18 rfl rfl)
theorem dX3_isWord_20 : decode cX3_isWord 20 = .ok (.bipush 122, 2) := dk_16 122 (dk_at dksX3_isWord_0 20 rfl rfl)
theorem dX3_isWord_22 : decode cX3_isWord 22 = .ok (.invokestatic 62, 3) := dk_184 0 62 (dk_at dksX3_isWord_1 0 rfl rfl)
theorem dX3_isWord_25 : decode cX3_isWord 25 = .ok (.ifCond .eq 7, 3) := dk_153 0 7 (dk_at dksX3_isWord_1 3 rfl rfl)
theorem dX3_isWord_28 : decode cX3_isWord 28 = .ok (.iconst 1, 1) := dk_4 (dk_at dksX3_isWord_1 6 rfl rfl)
theorem dX3_isWord_29 : decode cX3_isWord 29 = .ok (.goto 4, 3) := dk_167 0 4 (dk_at dksX3_isWord_1 7 rfl rfl)
theorem dX3_isWord_32 : decode cX3_isWord 32 = .ok (.iconst 0, 1) := dk_3 (dk_at dksX3_isWord_1 10 rfl rfl)
theorem dX3_isWord_33 : decode cX3_isWord 33 = .ok (.ireturn, 1) := dk_172 (dk_at dksX3_isWord_1 11 rfl rfl)
abbrev cX3_line : ByteArray := prog_9_method_11_code
def yX3_line : MethodName := ⟨RX3, "line", "()V"⟩
def dkwX3_line_13 : List UInt8 := [167, 0, 9, 42, 4, 182, 0, 104, 191, 177]
abbrev dktX3_line_13 : List UInt8 := dkwX3_line_13 ++ []
def dkwX3_line_12 : List UInt8 := [180, 0, 185, 4, 29, 120, 128, 181, 0, 185, 42, 180, 0, 41, 29, 42, 3, 17, 3, 231, 182, 0, 207, 79]
abbrev dktX3_line_12 : List UInt8 := dkwX3_line_12 ++ dktX3_line_13
def dkwX3_line_11 : List UInt8 := [182, 0, 207, 79, 167, 0, 53, 42, 182, 0, 108, 42, 42, 180, 0, 185, 4, 128, 182, 0, 205, 62, 42, 89]
abbrev dktX3_line_11 : List UInt8 := dkwX3_line_11 ++ dktX3_line_12
def dkwX3_line_10 : List UInt8 := [62, 42, 89, 180, 0, 209, 4, 29, 120, 128, 181, 0, 209, 42, 180, 0, 38, 29, 42, 3, 16, 99]
abbrev dktX3_line_10 : List UInt8 := dkwX3_line_10 ++ dktX3_line_11
def dkwX3_line_9 : List UInt8 := [17, 3, 231, 182, 0, 207, 79, 167, 0, 96, 42, 182, 0, 108, 42, 42, 180, 0, 209, 4, 128, 182, 0, 205]
abbrev dktX3_line_9 : List UInt8 := dkwX3_line_9 ++ dktX3_line_10
def dkwX3_line_8 : List UInt8 := [128, 182, 0, 205, 62, 42, 89, 180, 0, 180, 4, 29, 120, 128, 181, 0, 180, 42, 180, 0, 34, 29, 42, 3]
abbrev dktX3_line_8 : List UInt8 := dkwX3_line_8 ++ dktX3_line_9
def dkwX3_line_7 : List UInt8 := [42, 182, 0, 161, 167, 0, 147, 42, 182, 0, 203, 167, 0, 140, 42, 182, 0, 108, 42, 42, 180, 0, 180, 4]
abbrev dktX3_line_7 : List UInt8 := dkwX3_line_7 ++ dktX3_line_8
def dkwX3_line_6 : List UInt8 := [42, 180, 0, 27, 185, 0, 125, 1, 0, 16, 10, 160, 0, 9, 42, 7, 182, 0, 104, 191, 42, 182, 0, 108]
abbrev dktX3_line_6 : List UInt8 := dkwX3_line_6 ++ dktX3_line_7
def dkwX3_line_5 : List UInt8 := [170, 0, 0, 0, 0, 0, 0, 205, 0, 0, 0, 0, 0, 0, 0, 4, 0, 0, 0, 36, 0, 0, 0, 67, 0, 0, 0, 74, 0, 0, 0, 118, 0, 0, 0, 161]
abbrev dktX3_line_5 : List UInt8 := dkwX3_line_5 ++ dktX3_line_6
def dkwX3_line_4 : List UInt8 := [153, 0, 19, 6, 61, 167, 0, 14, 43, 18, 201, 182, 0, 98, 153, 0, 5, 7, 61, 28]
abbrev dktX3_line_4 : List UInt8 := dkwX3_line_4 ++ dktX3_line_5
def dkwX3_line_3 : List UInt8 := [61, 167, 0, 42, 43, 18, 197, 182, 0, 98, 153, 0, 33, 5, 61, 167, 0, 28, 43, 18, 199, 182, 0, 98]
abbrev dktX3_line_3 : List UInt8 := dkwX3_line_3 ++ dktX3_line_4
def dkwX3_line_2 : List UInt8 := [43, 18, 193, 182, 0, 98, 153, 0, 61, 3, 61, 167, 0, 56, 43, 18, 195, 182, 0, 98, 153, 0, 47, 4]
abbrev dktX3_line_2 : List UInt8 := dkwX3_line_2 ++ dktX3_line_3
def dkwX3_line_1 : List UInt8 := [171, 0, 0, 0, 116, 0, 0, 0, 5, 209, 11, 219, 240, 0, 0, 0, 63, 0, 1, 140, 21, 0, 0, 0, 77, 0, 55, 176, 167, 0, 0, 0, 105, 5, 176, 185, 131, 0, 0, 0, 91, 5, 198, 114, 154, 0, 0, 0, 49]
abbrev dktX3_line_1 : List UInt8 := dkwX3_line_1 ++ dktX3_line_2
def dkwX3_line_0 : List UInt8 := [42, 180, 0, 11, 76, 2, 61, 43, 182, 0, 190]
abbrev dktX3_line_0 : List UInt8 := dkwX3_line_0 ++ dktX3_line_1
theorem dksX3_line_0 : cX3_line.data.toList.drop 0 = dktX3_line_0 := by decide +kernel
theorem dksX3_line_1 : cX3_line.data.toList.drop 11 = dktX3_line_1 := dk_seg dksX3_line_0 11 rfl rfl
theorem dksX3_line_2 : cX3_line.data.toList.drop 60 = dktX3_line_2 := dk_seg dksX3_line_1 49 rfl rfl
theorem dksX3_line_3 : cX3_line.data.toList.drop 84 = dktX3_line_3 := dk_seg dksX3_line_2 24 rfl rfl
theorem dksX3_line_4 : cX3_line.data.toList.drop 108 = dktX3_line_4 := dk_seg dksX3_line_3 24 rfl rfl
theorem dksX3_line_5 : cX3_line.data.toList.drop 128 = dktX3_line_5 := dk_seg dksX3_line_4 20 rfl rfl
theorem dksX3_line_6 : cX3_line.data.toList.drop 164 = dktX3_line_6 := dk_seg dksX3_line_5 36 rfl rfl
theorem dksX3_line_7 : cX3_line.data.toList.drop 188 = dktX3_line_7 := dk_seg dksX3_line_6 24 rfl rfl
theorem dksX3_line_8 : cX3_line.data.toList.drop 212 = dktX3_line_8 := dk_seg dksX3_line_7 24 rfl rfl
theorem dksX3_line_9 : cX3_line.data.toList.drop 236 = dktX3_line_9 := dk_seg dksX3_line_8 24 rfl rfl
theorem dksX3_line_10 : cX3_line.data.toList.drop 260 = dktX3_line_10 := dk_seg dksX3_line_9 24 rfl rfl
theorem dksX3_line_11 : cX3_line.data.toList.drop 282 = dktX3_line_11 := dk_seg dksX3_line_10 22 rfl rfl
theorem dksX3_line_12 : cX3_line.data.toList.drop 306 = dktX3_line_12 := dk_seg dksX3_line_11 24 rfl rfl
theorem dksX3_line_13 : cX3_line.data.toList.drop 330 = dktX3_line_13 := dk_seg dksX3_line_12 24 rfl rfl
theorem dX3_line_0 : decode cX3_line 0 = .ok (.aload_n 0, 1) := dk_42 (dk_at dksX3_line_0 0 rfl rfl)
theorem dX3_line_1 : decode cX3_line 1 = .ok (.getfield 11, 3) := dk_180 0 11 (dk_at dksX3_line_0 1 rfl rfl)
theorem dX3_line_4 : decode cX3_line 4 = .ok (.astore_n 1, 1) := dk_76 (dk_at dksX3_line_0 4 rfl rfl)
theorem dX3_line_5 : decode cX3_line 5 = .ok (.iconst (-1), 1) := dk_2 (dk_at dksX3_line_0 5 rfl rfl)
theorem dX3_line_6 : decode cX3_line 6 = .ok (.istore_n 2, 1) := dk_61 (dk_at dksX3_line_0 6 rfl rfl)
theorem dX3_line_7 : decode cX3_line 7 = .ok (.aload_n 1, 1) := dk_43 (dk_at dksX3_line_0 7 rfl rfl)
theorem dX3_line_8 : decode cX3_line 8 = .ok (.invokevirtual 190, 3) := dk_182 0 190 (dk_at dksX3_line_0 8 rfl rfl)
theorem dX3_line_11 : decode cX3_line 11 = .ok (.lookupswitch 116 #[(-787751952, 63), (101397, 77), (3649703, 105), (95467907, 91), (96891546, 49)], 49) := by decide +kernel
theorem dX3_line_60 : decode cX3_line 60 = .ok (.aload_n 1, 1) := dk_43 (dk_at dksX3_line_2 0 rfl rfl)
theorem dX3_line_61 : decode cX3_line 61 = .ok (.ldc 193, 2) := dk_18 193 (dk_at dksX3_line_2 1 rfl rfl)
theorem dX3_line_63 : decode cX3_line 63 = .ok (.invokevirtual 98, 3) := dk_182 0 98 (dk_at dksX3_line_2 3 rfl rfl)
theorem dX3_line_66 : decode cX3_line 66 = .ok (.ifCond .eq 61, 3) := dk_153 0 61 (dk_at dksX3_line_2 6 rfl rfl)
theorem dX3_line_69 : decode cX3_line 69 = .ok (.iconst 0, 1) := dk_3 (dk_at dksX3_line_2 9 rfl rfl)
theorem dX3_line_70 : decode cX3_line 70 = .ok (.istore_n 2, 1) := dk_61 (dk_at dksX3_line_2 10 rfl rfl)
theorem dX3_line_71 : decode cX3_line 71 = .ok (.goto 56, 3) := dk_167 0 56 (dk_at dksX3_line_2 11 rfl rfl)
theorem dX3_line_74 : decode cX3_line 74 = .ok (.aload_n 1, 1) := dk_43 (dk_at dksX3_line_2 14 rfl rfl)
theorem dX3_line_75 : decode cX3_line 75 = .ok (.ldc 195, 2) := dk_18 195 (dk_at dksX3_line_2 15 rfl rfl)
theorem dX3_line_77 : decode cX3_line 77 = .ok (.invokevirtual 98, 3) := dk_182 0 98 (dk_at dksX3_line_2 17 rfl rfl)
theorem dX3_line_80 : decode cX3_line 80 = .ok (.ifCond .eq 47, 3) := dk_153 0 47 (dk_at dksX3_line_2 20 rfl rfl)
theorem dX3_line_83 : decode cX3_line 83 = .ok (.iconst 1, 1) := dk_4 (dk_at dksX3_line_2 23 rfl rfl)
theorem dX3_line_84 : decode cX3_line 84 = .ok (.istore_n 2, 1) := dk_61 (dk_at dksX3_line_3 0 rfl rfl)
theorem dX3_line_85 : decode cX3_line 85 = .ok (.goto 42, 3) := dk_167 0 42 (dk_at dksX3_line_3 1 rfl rfl)
theorem dX3_line_88 : decode cX3_line 88 = .ok (.aload_n 1, 1) := dk_43 (dk_at dksX3_line_3 4 rfl rfl)
theorem dX3_line_89 : decode cX3_line 89 = .ok (.ldc 197, 2) := dk_18 197 (dk_at dksX3_line_3 5 rfl rfl)
theorem dX3_line_91 : decode cX3_line 91 = .ok (.invokevirtual 98, 3) := dk_182 0 98 (dk_at dksX3_line_3 7 rfl rfl)
theorem dX3_line_94 : decode cX3_line 94 = .ok (.ifCond .eq 33, 3) := dk_153 0 33 (dk_at dksX3_line_3 10 rfl rfl)
theorem dX3_line_97 : decode cX3_line 97 = .ok (.iconst 2, 1) := dk_5 (dk_at dksX3_line_3 13 rfl rfl)
theorem dX3_line_98 : decode cX3_line 98 = .ok (.istore_n 2, 1) := dk_61 (dk_at dksX3_line_3 14 rfl rfl)
theorem dX3_line_99 : decode cX3_line 99 = .ok (.goto 28, 3) := dk_167 0 28 (dk_at dksX3_line_3 15 rfl rfl)
theorem dX3_line_102 : decode cX3_line 102 = .ok (.aload_n 1, 1) := dk_43 (dk_at dksX3_line_3 18 rfl rfl)
theorem dX3_line_103 : decode cX3_line 103 = .ok (.ldc 199, 2) := dk_18 199 (dk_at dksX3_line_3 19 rfl rfl)
theorem dX3_line_105 : decode cX3_line 105 = .ok (.invokevirtual 98, 3) := dk_182 0 98 (dk_at dksX3_line_3 21 rfl rfl)
theorem dX3_line_108 : decode cX3_line 108 = .ok (.ifCond .eq 19, 3) := dk_153 0 19 (dk_at dksX3_line_4 0 rfl rfl)
theorem dX3_line_111 : decode cX3_line 111 = .ok (.iconst 3, 1) := dk_6 (dk_at dksX3_line_4 3 rfl rfl)
theorem dX3_line_112 : decode cX3_line 112 = .ok (.istore_n 2, 1) := dk_61 (dk_at dksX3_line_4 4 rfl rfl)
theorem dX3_line_113 : decode cX3_line 113 = .ok (.goto 14, 3) := dk_167 0 14 (dk_at dksX3_line_4 5 rfl rfl)
theorem dX3_line_116 : decode cX3_line 116 = .ok (.aload_n 1, 1) := dk_43 (dk_at dksX3_line_4 8 rfl rfl)
theorem dX3_line_117 : decode cX3_line 117 = .ok (.ldc 201, 2) := dk_18 201 (dk_at dksX3_line_4 9 rfl rfl)
theorem dX3_line_119 : decode cX3_line 119 = .ok (.invokevirtual 98, 3) := dk_182 0 98 (dk_at dksX3_line_4 11 rfl rfl)
theorem dX3_line_122 : decode cX3_line 122 = .ok (.ifCond .eq 5, 3) := dk_153 0 5 (dk_at dksX3_line_4 14 rfl rfl)
theorem dX3_line_125 : decode cX3_line 125 = .ok (.iconst 4, 1) := dk_7 (dk_at dksX3_line_4 17 rfl rfl)
theorem dX3_line_126 : decode cX3_line 126 = .ok (.istore_n 2, 1) := dk_61 (dk_at dksX3_line_4 18 rfl rfl)
theorem dX3_line_127 : decode cX3_line 127 = .ok (.iload_n 2, 1) := dk_28 (dk_at dksX3_line_4 19 rfl rfl)
theorem dX3_line_128 : decode cX3_line 128 = .ok (.tableswitch 205 0 4 #[36, 67, 74, 118, 161], 36) := by decide +kernel
theorem dX3_line_164 : decode cX3_line 164 = .ok (.aload_n 0, 1) := dk_42 (dk_at dksX3_line_6 0 rfl rfl)
theorem dX3_line_165 : decode cX3_line 165 = .ok (.getfield 27, 3) := dk_180 0 27 (dk_at dksX3_line_6 1 rfl rfl)
theorem dX3_line_168 : decode cX3_line 168 = .ok (.invokeinterface 125 1, 5) := by decide +kernel
theorem dX3_line_173 : decode cX3_line 173 = .ok (.bipush 10, 2) := dk_16 10 (dk_at dksX3_line_6 9 rfl rfl)
theorem dX3_line_175 : decode cX3_line 175 = .ok (.if_icmp .ne 9, 3) := dk_160 0 9 (dk_at dksX3_line_6 11 rfl rfl)
theorem dX3_line_178 : decode cX3_line 178 = .ok (.aload_n 0, 1) := dk_42 (dk_at dksX3_line_6 14 rfl rfl)
theorem dX3_line_179 : decode cX3_line 179 = .ok (.iconst 4, 1) := dk_7 (dk_at dksX3_line_6 15 rfl rfl)
theorem dX3_line_180 : decode cX3_line 180 = .ok (.invokevirtual 104, 3) := dk_182 0 104 (dk_at dksX3_line_6 16 rfl rfl)
theorem dX3_line_183 : decode cX3_line 183 = .ok (.athrow, 1) := dk_191 (dk_at dksX3_line_6 19 rfl rfl)
theorem dX3_line_184 : decode cX3_line 184 = .ok (.aload_n 0, 1) := dk_42 (dk_at dksX3_line_6 20 rfl rfl)
theorem dX3_line_185 : decode cX3_line 185 = .ok (.invokevirtual 108, 3) := dk_182 0 108 (dk_at dksX3_line_6 21 rfl rfl)
theorem dX3_line_188 : decode cX3_line 188 = .ok (.aload_n 0, 1) := dk_42 (dk_at dksX3_line_7 0 rfl rfl)
theorem dX3_line_189 : decode cX3_line 189 = .ok (.invokevirtual 161, 3) := dk_182 0 161 (dk_at dksX3_line_7 1 rfl rfl)
theorem dX3_line_192 : decode cX3_line 192 = .ok (.goto 147, 3) := dk_167 0 147 (dk_at dksX3_line_7 4 rfl rfl)
theorem dX3_line_195 : decode cX3_line 195 = .ok (.aload_n 0, 1) := dk_42 (dk_at dksX3_line_7 7 rfl rfl)
theorem dX3_line_196 : decode cX3_line 196 = .ok (.invokevirtual 203, 3) := dk_182 0 203 (dk_at dksX3_line_7 8 rfl rfl)
theorem dX3_line_199 : decode cX3_line 199 = .ok (.goto 140, 3) := dk_167 0 140 (dk_at dksX3_line_7 11 rfl rfl)
theorem dX3_line_202 : decode cX3_line 202 = .ok (.aload_n 0, 1) := dk_42 (dk_at dksX3_line_7 14 rfl rfl)
theorem dX3_line_203 : decode cX3_line 203 = .ok (.invokevirtual 108, 3) := dk_182 0 108 (dk_at dksX3_line_7 15 rfl rfl)
theorem dX3_line_206 : decode cX3_line 206 = .ok (.aload_n 0, 1) := dk_42 (dk_at dksX3_line_7 18 rfl rfl)
theorem dX3_line_207 : decode cX3_line 207 = .ok (.aload_n 0, 1) := dk_42 (dk_at dksX3_line_7 19 rfl rfl)
theorem dX3_line_208 : decode cX3_line 208 = .ok (.getfield 180, 3) := dk_180 0 180 (dk_at dksX3_line_7 20 rfl rfl)
theorem dX3_line_211 : decode cX3_line 211 = .ok (.iconst 1, 1) := dk_4 (dk_at dksX3_line_7 23 rfl rfl)
theorem dX3_line_212 : decode cX3_line 212 = .ok (.ior, 1) := dk_128 (dk_at dksX3_line_8 0 rfl rfl)
theorem dX3_line_213 : decode cX3_line 213 = .ok (.invokevirtual 205, 3) := dk_182 0 205 (dk_at dksX3_line_8 1 rfl rfl)
theorem dX3_line_216 : decode cX3_line 216 = .ok (.istore_n 3, 1) := dk_62 (dk_at dksX3_line_8 4 rfl rfl)
theorem dX3_line_217 : decode cX3_line 217 = .ok (.aload_n 0, 1) := dk_42 (dk_at dksX3_line_8 5 rfl rfl)
theorem dX3_line_218 : decode cX3_line 218 = .ok (.dup, 1) := dk_89 (dk_at dksX3_line_8 6 rfl rfl)
theorem dX3_line_219 : decode cX3_line 219 = .ok (.getfield 180, 3) := dk_180 0 180 (dk_at dksX3_line_8 7 rfl rfl)
theorem dX3_line_222 : decode cX3_line 222 = .ok (.iconst 1, 1) := dk_4 (dk_at dksX3_line_8 10 rfl rfl)
theorem dX3_line_223 : decode cX3_line 223 = .ok (.iload_n 3, 1) := dk_29 (dk_at dksX3_line_8 11 rfl rfl)
theorem dX3_line_224 : decode cX3_line 224 = .ok (.ishl, 1) := dk_120 (dk_at dksX3_line_8 12 rfl rfl)
theorem dX3_line_225 : decode cX3_line 225 = .ok (.ior, 1) := dk_128 (dk_at dksX3_line_8 13 rfl rfl)
theorem dX3_line_226 : decode cX3_line 226 = .ok (.putfield 180, 3) := dk_181 0 180 (dk_at dksX3_line_8 14 rfl rfl)
theorem dX3_line_229 : decode cX3_line 229 = .ok (.aload_n 0, 1) := dk_42 (dk_at dksX3_line_8 17 rfl rfl)
theorem dX3_line_230 : decode cX3_line 230 = .ok (.getfield 34, 3) := dk_180 0 34 (dk_at dksX3_line_8 18 rfl rfl)
theorem dX3_line_233 : decode cX3_line 233 = .ok (.iload_n 3, 1) := dk_29 (dk_at dksX3_line_8 21 rfl rfl)
theorem dX3_line_234 : decode cX3_line 234 = .ok (.aload_n 0, 1) := dk_42 (dk_at dksX3_line_8 22 rfl rfl)
theorem dX3_line_235 : decode cX3_line 235 = .ok (.iconst 0, 1) := dk_3 (dk_at dksX3_line_8 23 rfl rfl)
theorem dX3_line_236 : decode cX3_line 236 = .ok (.sipush 999, 3) := dk_17 3 231 (dk_at dksX3_line_9 0 rfl rfl)
theorem dX3_line_239 : decode cX3_line 239 = .ok (.invokevirtual 207, 3) := dk_182 0 207 (dk_at dksX3_line_9 3 rfl rfl)
theorem dX3_line_242 : decode cX3_line 242 = .ok (.iastore, 1) := dk_79 (dk_at dksX3_line_9 6 rfl rfl)
theorem dX3_line_243 : decode cX3_line 243 = .ok (.goto 96, 3) := dk_167 0 96 (dk_at dksX3_line_9 7 rfl rfl)
theorem dX3_line_246 : decode cX3_line 246 = .ok (.aload_n 0, 1) := dk_42 (dk_at dksX3_line_9 10 rfl rfl)
theorem dX3_line_247 : decode cX3_line 247 = .ok (.invokevirtual 108, 3) := dk_182 0 108 (dk_at dksX3_line_9 11 rfl rfl)
theorem dX3_line_250 : decode cX3_line 250 = .ok (.aload_n 0, 1) := dk_42 (dk_at dksX3_line_9 14 rfl rfl)
theorem dX3_line_251 : decode cX3_line 251 = .ok (.aload_n 0, 1) := dk_42 (dk_at dksX3_line_9 15 rfl rfl)
theorem dX3_line_252 : decode cX3_line 252 = .ok (.getfield 209, 3) := dk_180 0 209 (dk_at dksX3_line_9 16 rfl rfl)
theorem dX3_line_255 : decode cX3_line 255 = .ok (.iconst 1, 1) := dk_4 (dk_at dksX3_line_9 19 rfl rfl)
theorem dX3_line_256 : decode cX3_line 256 = .ok (.ior, 1) := dk_128 (dk_at dksX3_line_9 20 rfl rfl)
theorem dX3_line_257 : decode cX3_line 257 = .ok (.invokevirtual 205, 3) := dk_182 0 205 (dk_at dksX3_line_9 21 rfl rfl)
theorem dX3_line_260 : decode cX3_line 260 = .ok (.istore_n 3, 1) := dk_62 (dk_at dksX3_line_10 0 rfl rfl)
theorem dX3_line_261 : decode cX3_line 261 = .ok (.aload_n 0, 1) := dk_42 (dk_at dksX3_line_10 1 rfl rfl)
theorem dX3_line_262 : decode cX3_line 262 = .ok (.dup, 1) := dk_89 (dk_at dksX3_line_10 2 rfl rfl)
theorem dX3_line_263 : decode cX3_line 263 = .ok (.getfield 209, 3) := dk_180 0 209 (dk_at dksX3_line_10 3 rfl rfl)
theorem dX3_line_266 : decode cX3_line 266 = .ok (.iconst 1, 1) := dk_4 (dk_at dksX3_line_10 6 rfl rfl)
theorem dX3_line_267 : decode cX3_line 267 = .ok (.iload_n 3, 1) := dk_29 (dk_at dksX3_line_10 7 rfl rfl)
theorem dX3_line_268 : decode cX3_line 268 = .ok (.ishl, 1) := dk_120 (dk_at dksX3_line_10 8 rfl rfl)
theorem dX3_line_269 : decode cX3_line 269 = .ok (.ior, 1) := dk_128 (dk_at dksX3_line_10 9 rfl rfl)
theorem dX3_line_270 : decode cX3_line 270 = .ok (.putfield 209, 3) := dk_181 0 209 (dk_at dksX3_line_10 10 rfl rfl)
theorem dX3_line_273 : decode cX3_line 273 = .ok (.aload_n 0, 1) := dk_42 (dk_at dksX3_line_10 13 rfl rfl)
theorem dX3_line_274 : decode cX3_line 274 = .ok (.getfield 38, 3) := dk_180 0 38 (dk_at dksX3_line_10 14 rfl rfl)
theorem dX3_line_277 : decode cX3_line 277 = .ok (.iload_n 3, 1) := dk_29 (dk_at dksX3_line_10 17 rfl rfl)
theorem dX3_line_278 : decode cX3_line 278 = .ok (.aload_n 0, 1) := dk_42 (dk_at dksX3_line_10 18 rfl rfl)
theorem dX3_line_279 : decode cX3_line 279 = .ok (.iconst 0, 1) := dk_3 (dk_at dksX3_line_10 19 rfl rfl)
theorem dX3_line_280 : decode cX3_line 280 = .ok (.bipush 99, 2) := dk_16 99 (dk_at dksX3_line_10 20 rfl rfl)
theorem dX3_line_282 : decode cX3_line 282 = .ok (.invokevirtual 207, 3) := dk_182 0 207 (dk_at dksX3_line_11 0 rfl rfl)
theorem dX3_line_285 : decode cX3_line 285 = .ok (.iastore, 1) := dk_79 (dk_at dksX3_line_11 3 rfl rfl)
theorem dX3_line_286 : decode cX3_line 286 = .ok (.goto 53, 3) := dk_167 0 53 (dk_at dksX3_line_11 4 rfl rfl)
theorem dX3_line_289 : decode cX3_line 289 = .ok (.aload_n 0, 1) := dk_42 (dk_at dksX3_line_11 7 rfl rfl)
theorem dX3_line_290 : decode cX3_line 290 = .ok (.invokevirtual 108, 3) := dk_182 0 108 (dk_at dksX3_line_11 8 rfl rfl)
theorem dX3_line_293 : decode cX3_line 293 = .ok (.aload_n 0, 1) := dk_42 (dk_at dksX3_line_11 11 rfl rfl)
theorem dX3_line_294 : decode cX3_line 294 = .ok (.aload_n 0, 1) := dk_42 (dk_at dksX3_line_11 12 rfl rfl)
theorem dX3_line_295 : decode cX3_line 295 = .ok (.getfield 185, 3) := dk_180 0 185 (dk_at dksX3_line_11 13 rfl rfl)
theorem dX3_line_298 : decode cX3_line 298 = .ok (.iconst 1, 1) := dk_4 (dk_at dksX3_line_11 16 rfl rfl)
theorem dX3_line_299 : decode cX3_line 299 = .ok (.ior, 1) := dk_128 (dk_at dksX3_line_11 17 rfl rfl)
theorem dX3_line_300 : decode cX3_line 300 = .ok (.invokevirtual 205, 3) := dk_182 0 205 (dk_at dksX3_line_11 18 rfl rfl)
theorem dX3_line_303 : decode cX3_line 303 = .ok (.istore_n 3, 1) := dk_62 (dk_at dksX3_line_11 21 rfl rfl)
theorem dX3_line_304 : decode cX3_line 304 = .ok (.aload_n 0, 1) := dk_42 (dk_at dksX3_line_11 22 rfl rfl)
theorem dX3_line_305 : decode cX3_line 305 = .ok (.dup, 1) := dk_89 (dk_at dksX3_line_11 23 rfl rfl)
theorem dX3_line_306 : decode cX3_line 306 = .ok (.getfield 185, 3) := dk_180 0 185 (dk_at dksX3_line_12 0 rfl rfl)
theorem dX3_line_309 : decode cX3_line 309 = .ok (.iconst 1, 1) := dk_4 (dk_at dksX3_line_12 3 rfl rfl)
theorem dX3_line_310 : decode cX3_line 310 = .ok (.iload_n 3, 1) := dk_29 (dk_at dksX3_line_12 4 rfl rfl)
theorem dX3_line_311 : decode cX3_line 311 = .ok (.ishl, 1) := dk_120 (dk_at dksX3_line_12 5 rfl rfl)
theorem dX3_line_312 : decode cX3_line 312 = .ok (.ior, 1) := dk_128 (dk_at dksX3_line_12 6 rfl rfl)
theorem dX3_line_313 : decode cX3_line 313 = .ok (.putfield 185, 3) := dk_181 0 185 (dk_at dksX3_line_12 7 rfl rfl)
theorem dX3_line_316 : decode cX3_line 316 = .ok (.aload_n 0, 1) := dk_42 (dk_at dksX3_line_12 10 rfl rfl)
theorem dX3_line_317 : decode cX3_line 317 = .ok (.getfield 41, 3) := dk_180 0 41 (dk_at dksX3_line_12 11 rfl rfl)
theorem dX3_line_320 : decode cX3_line 320 = .ok (.iload_n 3, 1) := dk_29 (dk_at dksX3_line_12 14 rfl rfl)
theorem dX3_line_321 : decode cX3_line 321 = .ok (.aload_n 0, 1) := dk_42 (dk_at dksX3_line_12 15 rfl rfl)
theorem dX3_line_322 : decode cX3_line 322 = .ok (.iconst 0, 1) := dk_3 (dk_at dksX3_line_12 16 rfl rfl)
theorem dX3_line_323 : decode cX3_line 323 = .ok (.sipush 999, 3) := dk_17 3 231 (dk_at dksX3_line_12 17 rfl rfl)
theorem dX3_line_326 : decode cX3_line 326 = .ok (.invokevirtual 207, 3) := dk_182 0 207 (dk_at dksX3_line_12 20 rfl rfl)
theorem dX3_line_329 : decode cX3_line 329 = .ok (.iastore, 1) := dk_79 (dk_at dksX3_line_12 23 rfl rfl)
theorem dX3_line_330 : decode cX3_line 330 = .ok (.goto 9, 3) := dk_167 0 9 (dk_at dksX3_line_13 0 rfl rfl)
theorem dX3_line_333 : decode cX3_line 333 = .ok (.aload_n 0, 1) := dk_42 (dk_at dksX3_line_13 3 rfl rfl)
theorem dX3_line_334 : decode cX3_line 334 = .ok (.iconst 1, 1) := dk_4 (dk_at dksX3_line_13 4 rfl rfl)
theorem dX3_line_335 : decode cX3_line 335 = .ok (.invokevirtual 104, 3) := dk_182 0 104 (dk_at dksX3_line_13 5 rfl rfl)
theorem dX3_line_338 : decode cX3_line 338 = .ok (.athrow, 1) := dk_191 (dk_at dksX3_line_13 8 rfl rfl)
theorem dX3_line_339 : decode cX3_line 339 = .ok (.return_, 1) := dk_177 (dk_at dksX3_line_13 9 rfl rfl)
abbrev cX3_window : ByteArray := prog_9_method_12_code
def yX3_window : MethodName := ⟨RX3, "window", "()V"⟩
def dkwX3_window_6 : List UInt8 := [183, 0, 218, 185, 0, 141, 2, 0, 87, 177]
abbrev dktX3_window_6 : List UInt8 := dkwX3_window_6 ++ []
def dkwX3_window_5 : List UInt8 := [180, 0, 214, 4, 96, 181, 0, 214, 42, 180, 0, 31, 187, 0, 216, 89, 27, 28, 29, 21, 4, 21, 5]
abbrev dktX3_window_5 : List UInt8 := dkwX3_window_5 ++ dktX3_window_6
def dkwX3_window_4 : List UInt8 := [160, 0, 9, 42, 7, 182, 0, 104, 191, 42, 182, 0, 108, 42, 4, 16, 99, 182, 0, 207, 54, 5, 42, 89]
abbrev dktX3_window_4 : List UInt8 := dkwX3_window_4 ++ dktX3_window_5
def dkwX3_window_3 : List UInt8 := [54, 4, 3, 54, 5, 42, 180, 0, 11, 18, 212, 182, 0, 98, 153, 0, 41, 42, 180, 0, 214, 16, 10]
abbrev dktX3_window_3 : List UInt8 := dkwX3_window_3 ++ dktX3_window_4
def dkwX3_window_2 : List UInt8 := [180, 0, 11, 18, 89, 182, 0, 98, 153, 0, 14, 42, 29, 17, 3, 231, 182, 0, 207, 167, 0, 4, 2]
abbrev dktX3_window_2 : List UInt8 := dkwX3_window_2 ++ dktX3_window_3
def dkwX3_window_1 : List UInt8 := [42, 3, 182, 0, 205, 60, 42, 4, 27, 120, 182, 0, 205, 61, 42, 3, 17, 3, 231, 182, 0, 207, 62, 42]
abbrev dktX3_window_1 : List UInt8 := dkwX3_window_1 ++ dktX3_window_2
def dkwX3_window_0 : List UInt8 := [42, 180, 0, 31, 185, 0, 125, 1, 0, 16, 20, 160, 0, 9, 42, 7, 182, 0, 104, 191, 42, 182, 0, 108]
abbrev dktX3_window_0 : List UInt8 := dkwX3_window_0 ++ dktX3_window_1
theorem dksX3_window_0 : cX3_window.data.toList.drop 0 = dktX3_window_0 := by decide +kernel
theorem dksX3_window_1 : cX3_window.data.toList.drop 24 = dktX3_window_1 := dk_seg dksX3_window_0 24 rfl rfl
theorem dksX3_window_2 : cX3_window.data.toList.drop 48 = dktX3_window_2 := dk_seg dksX3_window_1 24 rfl rfl
theorem dksX3_window_3 : cX3_window.data.toList.drop 71 = dktX3_window_3 := dk_seg dksX3_window_2 23 rfl rfl
theorem dksX3_window_4 : cX3_window.data.toList.drop 94 = dktX3_window_4 := dk_seg dksX3_window_3 23 rfl rfl
theorem dksX3_window_5 : cX3_window.data.toList.drop 118 = dktX3_window_5 := dk_seg dksX3_window_4 24 rfl rfl
theorem dksX3_window_6 : cX3_window.data.toList.drop 141 = dktX3_window_6 := dk_seg dksX3_window_5 23 rfl rfl
theorem dX3_window_0 : decode cX3_window 0 = .ok (.aload_n 0, 1) := dk_42 (dk_at dksX3_window_0 0 rfl rfl)
theorem dX3_window_1 : decode cX3_window 1 = .ok (.getfield 31, 3) := dk_180 0 31 (dk_at dksX3_window_0 1 rfl rfl)
theorem dX3_window_4 : decode cX3_window 4 = .ok (.invokeinterface 125 1, 5) := by decide +kernel
theorem dX3_window_9 : decode cX3_window 9 = .ok (.bipush 20, 2) := dk_16 20 (dk_at dksX3_window_0 9 rfl rfl)
theorem dX3_window_11 : decode cX3_window 11 = .ok (.if_icmp .ne 9, 3) := dk_160 0 9 (dk_at dksX3_window_0 11 rfl rfl)
theorem dX3_window_14 : decode cX3_window 14 = .ok (.aload_n 0, 1) := dk_42 (dk_at dksX3_window_0 14 rfl rfl)
theorem dX3_window_15 : decode cX3_window 15 = .ok (.iconst 4, 1) := dk_7 (dk_at dksX3_window_0 15 rfl rfl)
theorem dX3_window_16 : decode cX3_window 16 = .ok (.invokevirtual 104, 3) := dk_182 0 104 (dk_at dksX3_window_0 16 rfl rfl)
theorem dX3_window_19 : decode cX3_window 19 = .ok (.athrow, 1) := dk_191 (dk_at dksX3_window_0 19 rfl rfl)
theorem dX3_window_20 : decode cX3_window 20 = .ok (.aload_n 0, 1) := dk_42 (dk_at dksX3_window_0 20 rfl rfl)
theorem dX3_window_21 : decode cX3_window 21 = .ok (.invokevirtual 108, 3) := dk_182 0 108 (dk_at dksX3_window_0 21 rfl rfl)
theorem dX3_window_24 : decode cX3_window 24 = .ok (.aload_n 0, 1) := dk_42 (dk_at dksX3_window_1 0 rfl rfl)
theorem dX3_window_25 : decode cX3_window 25 = .ok (.iconst 0, 1) := dk_3 (dk_at dksX3_window_1 1 rfl rfl)
theorem dX3_window_26 : decode cX3_window 26 = .ok (.invokevirtual 205, 3) := dk_182 0 205 (dk_at dksX3_window_1 2 rfl rfl)
theorem dX3_window_29 : decode cX3_window 29 = .ok (.istore_n 1, 1) := dk_60 (dk_at dksX3_window_1 5 rfl rfl)
theorem dX3_window_30 : decode cX3_window 30 = .ok (.aload_n 0, 1) := dk_42 (dk_at dksX3_window_1 6 rfl rfl)
theorem dX3_window_31 : decode cX3_window 31 = .ok (.iconst 1, 1) := dk_4 (dk_at dksX3_window_1 7 rfl rfl)
theorem dX3_window_32 : decode cX3_window 32 = .ok (.iload_n 1, 1) := dk_27 (dk_at dksX3_window_1 8 rfl rfl)
theorem dX3_window_33 : decode cX3_window 33 = .ok (.ishl, 1) := dk_120 (dk_at dksX3_window_1 9 rfl rfl)
theorem dX3_window_34 : decode cX3_window 34 = .ok (.invokevirtual 205, 3) := dk_182 0 205 (dk_at dksX3_window_1 10 rfl rfl)
theorem dX3_window_37 : decode cX3_window 37 = .ok (.istore_n 2, 1) := dk_61 (dk_at dksX3_window_1 13 rfl rfl)
theorem dX3_window_38 : decode cX3_window 38 = .ok (.aload_n 0, 1) := dk_42 (dk_at dksX3_window_1 14 rfl rfl)
theorem dX3_window_39 : decode cX3_window 39 = .ok (.iconst 0, 1) := dk_3 (dk_at dksX3_window_1 15 rfl rfl)
theorem dX3_window_40 : decode cX3_window 40 = .ok (.sipush 999, 3) := dk_17 3 231 (dk_at dksX3_window_1 16 rfl rfl)
theorem dX3_window_43 : decode cX3_window 43 = .ok (.invokevirtual 207, 3) := dk_182 0 207 (dk_at dksX3_window_1 19 rfl rfl)
theorem dX3_window_46 : decode cX3_window 46 = .ok (.istore_n 3, 1) := dk_62 (dk_at dksX3_window_1 22 rfl rfl)
theorem dX3_window_47 : decode cX3_window 47 = .ok (.aload_n 0, 1) := dk_42 (dk_at dksX3_window_1 23 rfl rfl)
theorem dX3_window_48 : decode cX3_window 48 = .ok (.getfield 11, 3) := dk_180 0 11 (dk_at dksX3_window_2 0 rfl rfl)
theorem dX3_window_51 : decode cX3_window 51 = .ok (.ldc 89, 2) := dk_18 89 (dk_at dksX3_window_2 3 rfl rfl)
theorem dX3_window_53 : decode cX3_window 53 = .ok (.invokevirtual 98, 3) := dk_182 0 98 (dk_at dksX3_window_2 5 rfl rfl)
theorem dX3_window_56 : decode cX3_window 56 = .ok (.ifCond .eq 14, 3) := dk_153 0 14 (dk_at dksX3_window_2 8 rfl rfl)
theorem dX3_window_59 : decode cX3_window 59 = .ok (.aload_n 0, 1) := dk_42 (dk_at dksX3_window_2 11 rfl rfl)
theorem dX3_window_60 : decode cX3_window 60 = .ok (.iload_n 3, 1) := dk_29 (dk_at dksX3_window_2 12 rfl rfl)
theorem dX3_window_61 : decode cX3_window 61 = .ok (.sipush 999, 3) := dk_17 3 231 (dk_at dksX3_window_2 13 rfl rfl)
theorem dX3_window_64 : decode cX3_window 64 = .ok (.invokevirtual 207, 3) := dk_182 0 207 (dk_at dksX3_window_2 16 rfl rfl)
theorem dX3_window_67 : decode cX3_window 67 = .ok (.goto 4, 3) := dk_167 0 4 (dk_at dksX3_window_2 19 rfl rfl)
theorem dX3_window_70 : decode cX3_window 70 = .ok (.iconst (-1), 1) := dk_2 (dk_at dksX3_window_2 22 rfl rfl)
theorem dX3_window_71 : decode cX3_window 71 = .ok (.istore 4, 2) := dk_54 4 (dk_at dksX3_window_3 0 rfl rfl)
theorem dX3_window_73 : decode cX3_window 73 = .ok (.iconst 0, 1) := dk_3 (dk_at dksX3_window_3 2 rfl rfl)
theorem dX3_window_74 : decode cX3_window 74 = .ok (.istore 5, 2) := dk_54 5 (dk_at dksX3_window_3 3 rfl rfl)
theorem dX3_window_76 : decode cX3_window 76 = .ok (.aload_n 0, 1) := dk_42 (dk_at dksX3_window_3 5 rfl rfl)
theorem dX3_window_77 : decode cX3_window 77 = .ok (.getfield 11, 3) := dk_180 0 11 (dk_at dksX3_window_3 6 rfl rfl)
theorem dX3_window_80 : decode cX3_window 80 = .ok (.ldc 212, 2) := dk_18 212 (dk_at dksX3_window_3 9 rfl rfl)
theorem dX3_window_82 : decode cX3_window 82 = .ok (.invokevirtual 98, 3) := dk_182 0 98 (dk_at dksX3_window_3 11 rfl rfl)
theorem dX3_window_85 : decode cX3_window 85 = .ok (.ifCond .eq 41, 3) := dk_153 0 41 (dk_at dksX3_window_3 14 rfl rfl)
theorem dX3_window_88 : decode cX3_window 88 = .ok (.aload_n 0, 1) := dk_42 (dk_at dksX3_window_3 17 rfl rfl)
theorem dX3_window_89 : decode cX3_window 89 = .ok (.getfield 214, 3) := dk_180 0 214 (dk_at dksX3_window_3 18 rfl rfl)
theorem dX3_window_92 : decode cX3_window 92 = .ok (.bipush 10, 2) := dk_16 10 (dk_at dksX3_window_3 21 rfl rfl)
theorem dX3_window_94 : decode cX3_window 94 = .ok (.if_icmp .ne 9, 3) := dk_160 0 9 (dk_at dksX3_window_4 0 rfl rfl)
theorem dX3_window_97 : decode cX3_window 97 = .ok (.aload_n 0, 1) := dk_42 (dk_at dksX3_window_4 3 rfl rfl)
theorem dX3_window_98 : decode cX3_window 98 = .ok (.iconst 4, 1) := dk_7 (dk_at dksX3_window_4 4 rfl rfl)
theorem dX3_window_99 : decode cX3_window 99 = .ok (.invokevirtual 104, 3) := dk_182 0 104 (dk_at dksX3_window_4 5 rfl rfl)
theorem dX3_window_102 : decode cX3_window 102 = .ok (.athrow, 1) := dk_191 (dk_at dksX3_window_4 8 rfl rfl)
theorem dX3_window_103 : decode cX3_window 103 = .ok (.aload_n 0, 1) := dk_42 (dk_at dksX3_window_4 9 rfl rfl)
theorem dX3_window_104 : decode cX3_window 104 = .ok (.invokevirtual 108, 3) := dk_182 0 108 (dk_at dksX3_window_4 10 rfl rfl)
theorem dX3_window_107 : decode cX3_window 107 = .ok (.aload_n 0, 1) := dk_42 (dk_at dksX3_window_4 13 rfl rfl)
theorem dX3_window_108 : decode cX3_window 108 = .ok (.iconst 1, 1) := dk_4 (dk_at dksX3_window_4 14 rfl rfl)
theorem dX3_window_109 : decode cX3_window 109 = .ok (.bipush 99, 2) := dk_16 99 (dk_at dksX3_window_4 15 rfl rfl)
theorem dX3_window_111 : decode cX3_window 111 = .ok (.invokevirtual 207, 3) := dk_182 0 207 (dk_at dksX3_window_4 17 rfl rfl)
theorem dX3_window_114 : decode cX3_window 114 = .ok (.istore 5, 2) := dk_54 5 (dk_at dksX3_window_4 20 rfl rfl)
theorem dX3_window_116 : decode cX3_window 116 = .ok (.aload_n 0, 1) := dk_42 (dk_at dksX3_window_4 22 rfl rfl)
theorem dX3_window_117 : decode cX3_window 117 = .ok (.dup, 1) := dk_89 (dk_at dksX3_window_4 23 rfl rfl)
theorem dX3_window_118 : decode cX3_window 118 = .ok (.getfield 214, 3) := dk_180 0 214 (dk_at dksX3_window_5 0 rfl rfl)
theorem dX3_window_121 : decode cX3_window 121 = .ok (.iconst 1, 1) := dk_4 (dk_at dksX3_window_5 3 rfl rfl)
theorem dX3_window_122 : decode cX3_window 122 = .ok (.iadd, 1) := dk_96 (dk_at dksX3_window_5 4 rfl rfl)
theorem dX3_window_123 : decode cX3_window 123 = .ok (.putfield 214, 3) := dk_181 0 214 (dk_at dksX3_window_5 5 rfl rfl)
theorem dX3_window_126 : decode cX3_window 126 = .ok (.aload_n 0, 1) := dk_42 (dk_at dksX3_window_5 8 rfl rfl)
theorem dX3_window_127 : decode cX3_window 127 = .ok (.getfield 31, 3) := dk_180 0 31 (dk_at dksX3_window_5 9 rfl rfl)
theorem dX3_window_130 : decode cX3_window 130 = .ok (.new 216, 3) := dk_187 0 216 (dk_at dksX3_window_5 12 rfl rfl)
theorem dX3_window_133 : decode cX3_window 133 = .ok (.dup, 1) := dk_89 (dk_at dksX3_window_5 15 rfl rfl)
theorem dX3_window_134 : decode cX3_window 134 = .ok (.iload_n 1, 1) := dk_27 (dk_at dksX3_window_5 16 rfl rfl)
theorem dX3_window_135 : decode cX3_window 135 = .ok (.iload_n 2, 1) := dk_28 (dk_at dksX3_window_5 17 rfl rfl)
theorem dX3_window_136 : decode cX3_window 136 = .ok (.iload_n 3, 1) := dk_29 (dk_at dksX3_window_5 18 rfl rfl)
theorem dX3_window_137 : decode cX3_window 137 = .ok (.iload 4, 2) := dk_21 4 (dk_at dksX3_window_5 19 rfl rfl)
theorem dX3_window_139 : decode cX3_window 139 = .ok (.iload 5, 2) := dk_21 5 (dk_at dksX3_window_5 21 rfl rfl)
theorem dX3_window_141 : decode cX3_window 141 = .ok (.invokespecial 218, 3) := dk_183 0 218 (dk_at dksX3_window_6 0 rfl rfl)
theorem dX3_window_144 : decode cX3_window 144 = .ok (.invokeinterface 141 2, 5) := by decide +kernel
theorem dX3_window_149 : decode cX3_window 149 = .ok (.pop, 1) := dk_87 (dk_at dksX3_window_6 8 rfl rfl)
theorem dX3_window_150 : decode cX3_window 150 = .ok (.return_, 1) := dk_177 (dk_at dksX3_window_6 9 rfl rfl)
abbrev cX3_event : ByteArray := prog_9_method_9_code
def yX3_event : MethodName := ⟨RX3, "event", "(I)I"⟩
def dkwX3_event_2 : List UInt8 := [191, 42, 182, 0, 108, 44, 182, 0, 148, 172]
abbrev dktX3_event_2 : List UInt8 := dkwX3_event_2 ++ []
def dkwX3_event_1 : List UInt8 := [192, 0, 132, 77, 44, 198, 0, 14, 27, 44, 182, 0, 148, 184, 0, 151, 153, 0, 9, 42, 6, 182, 0, 104]
abbrev dktX3_event_1 : List UInt8 := dkwX3_event_1 ++ dktX3_event_2
def dkwX3_event_0 : List UInt8 := [42, 182, 0, 119, 154, 0, 9, 42, 4, 182, 0, 104, 191, 42, 180, 0, 20, 42, 180, 0, 11, 182, 0, 144]
abbrev dktX3_event_0 : List UInt8 := dkwX3_event_0 ++ dktX3_event_1
theorem dksX3_event_0 : cX3_event.data.toList.drop 0 = dktX3_event_0 := by decide +kernel
theorem dksX3_event_1 : cX3_event.data.toList.drop 24 = dktX3_event_1 := dk_seg dksX3_event_0 24 rfl rfl
theorem dksX3_event_2 : cX3_event.data.toList.drop 48 = dktX3_event_2 := dk_seg dksX3_event_1 24 rfl rfl
theorem dX3_event_0 : decode cX3_event 0 = .ok (.aload_n 0, 1) := dk_42 (dk_at dksX3_event_0 0 rfl rfl)
theorem dX3_event_1 : decode cX3_event 1 = .ok (.invokevirtual 119, 3) := dk_182 0 119 (dk_at dksX3_event_0 1 rfl rfl)
theorem dX3_event_4 : decode cX3_event 4 = .ok (.ifCond .ne 9, 3) := dk_154 0 9 (dk_at dksX3_event_0 4 rfl rfl)
theorem dX3_event_7 : decode cX3_event 7 = .ok (.aload_n 0, 1) := dk_42 (dk_at dksX3_event_0 7 rfl rfl)
theorem dX3_event_8 : decode cX3_event 8 = .ok (.iconst 1, 1) := dk_4 (dk_at dksX3_event_0 8 rfl rfl)
theorem dX3_event_9 : decode cX3_event 9 = .ok (.invokevirtual 104, 3) := dk_182 0 104 (dk_at dksX3_event_0 9 rfl rfl)
theorem dX3_event_12 : decode cX3_event 12 = .ok (.athrow, 1) := dk_191 (dk_at dksX3_event_0 12 rfl rfl)
theorem dX3_event_13 : decode cX3_event 13 = .ok (.aload_n 0, 1) := dk_42 (dk_at dksX3_event_0 13 rfl rfl)
theorem dX3_event_14 : decode cX3_event 14 = .ok (.getfield 20, 3) := dk_180 0 20 (dk_at dksX3_event_0 14 rfl rfl)
theorem dX3_event_17 : decode cX3_event 17 = .ok (.aload_n 0, 1) := dk_42 (dk_at dksX3_event_0 17 rfl rfl)
theorem dX3_event_18 : decode cX3_event 18 = .ok (.getfield 11, 3) := dk_180 0 11 (dk_at dksX3_event_0 18 rfl rfl)
theorem dX3_event_21 : decode cX3_event 21 = .ok (.invokevirtual 144, 3) := dk_182 0 144 (dk_at dksX3_event_0 21 rfl rfl)
theorem dX3_event_24 : decode cX3_event 24 = .ok (.checkcast 132, 3) := dk_192 0 132 (dk_at dksX3_event_1 0 rfl rfl)
theorem dX3_event_27 : decode cX3_event 27 = .ok (.astore_n 2, 1) := dk_77 (dk_at dksX3_event_1 3 rfl rfl)
theorem dX3_event_28 : decode cX3_event 28 = .ok (.aload_n 2, 1) := dk_44 (dk_at dksX3_event_1 4 rfl rfl)
theorem dX3_event_29 : decode cX3_event 29 = .ok (.ifnull 14, 3) := dk_198 0 14 (dk_at dksX3_event_1 5 rfl rfl)
theorem dX3_event_32 : decode cX3_event 32 = .ok (.iload_n 1, 1) := dk_27 (dk_at dksX3_event_1 8 rfl rfl)
theorem dX3_event_33 : decode cX3_event 33 = .ok (.aload_n 2, 1) := dk_44 (dk_at dksX3_event_1 9 rfl rfl)
theorem dX3_event_34 : decode cX3_event 34 = .ok (.invokevirtual 148, 3) := dk_182 0 148 (dk_at dksX3_event_1 10 rfl rfl)
theorem dX3_event_37 : decode cX3_event 37 = .ok (.invokestatic 151, 3) := dk_184 0 151 (dk_at dksX3_event_1 13 rfl rfl)
theorem dX3_event_40 : decode cX3_event 40 = .ok (.ifCond .eq 9, 3) := dk_153 0 9 (dk_at dksX3_event_1 16 rfl rfl)
theorem dX3_event_43 : decode cX3_event 43 = .ok (.aload_n 0, 1) := dk_42 (dk_at dksX3_event_1 19 rfl rfl)
theorem dX3_event_44 : decode cX3_event 44 = .ok (.iconst 3, 1) := dk_6 (dk_at dksX3_event_1 20 rfl rfl)
theorem dX3_event_45 : decode cX3_event 45 = .ok (.invokevirtual 104, 3) := dk_182 0 104 (dk_at dksX3_event_1 21 rfl rfl)
theorem dX3_event_48 : decode cX3_event 48 = .ok (.athrow, 1) := dk_191 (dk_at dksX3_event_2 0 rfl rfl)
theorem dX3_event_49 : decode cX3_event 49 = .ok (.aload_n 0, 1) := dk_42 (dk_at dksX3_event_2 1 rfl rfl)
theorem dX3_event_50 : decode cX3_event 50 = .ok (.invokevirtual 108, 3) := dk_182 0 108 (dk_at dksX3_event_2 2 rfl rfl)
theorem dX3_event_53 : decode cX3_event 53 = .ok (.aload_n 2, 1) := dk_44 (dk_at dksX3_event_2 5 rfl rfl)
theorem dX3_event_54 : decode cX3_event 54 = .ok (.invokevirtual 148, 3) := dk_182 0 148 (dk_at dksX3_event_2 6 rfl rfl)
theorem dX3_event_57 : decode cX3_event 57 = .ok (.ireturn, 1) := dk_172 (dk_at dksX3_event_2 9 rfl rfl)
abbrev cX3_number : ByteArray := prog_9_method_7_code
def yX3_number : MethodName := ⟨RX3, "number", "(II)I"⟩
def dkwX3_number_1 : List UInt8 := [184, 0, 62, 154, 0, 9, 42, 5, 182, 0, 104, 191, 42, 180, 0, 79, 62, 42, 182, 0, 108, 29, 172]
abbrev dktX3_number_1 : List UInt8 := dkwX3_number_1 ++ []
def dkwX3_number_0 : List UInt8 := [42, 180, 0, 11, 18, 89, 182, 0, 98, 154, 0, 9, 42, 4, 182, 0, 104, 191, 42, 180, 0, 79, 27, 28]
abbrev dktX3_number_0 : List UInt8 := dkwX3_number_0 ++ dktX3_number_1
theorem dksX3_number_0 : cX3_number.data.toList.drop 0 = dktX3_number_0 := by decide +kernel
theorem dksX3_number_1 : cX3_number.data.toList.drop 24 = dktX3_number_1 := dk_seg dksX3_number_0 24 rfl rfl
theorem dX3_number_0 : decode cX3_number 0 = .ok (.aload_n 0, 1) := dk_42 (dk_at dksX3_number_0 0 rfl rfl)
theorem dX3_number_1 : decode cX3_number 1 = .ok (.getfield 11, 3) := dk_180 0 11 (dk_at dksX3_number_0 1 rfl rfl)
theorem dX3_number_4 : decode cX3_number 4 = .ok (.ldc 89, 2) := dk_18 89 (dk_at dksX3_number_0 4 rfl rfl)
theorem dX3_number_6 : decode cX3_number 6 = .ok (.invokevirtual 98, 3) := dk_182 0 98 (dk_at dksX3_number_0 6 rfl rfl)
theorem dX3_number_9 : decode cX3_number 9 = .ok (.ifCond .ne 9, 3) := dk_154 0 9 (dk_at dksX3_number_0 9 rfl rfl)
theorem dX3_number_12 : decode cX3_number 12 = .ok (.aload_n 0, 1) := dk_42 (dk_at dksX3_number_0 12 rfl rfl)
theorem dX3_number_13 : decode cX3_number 13 = .ok (.iconst 1, 1) := dk_4 (dk_at dksX3_number_0 13 rfl rfl)
theorem dX3_number_14 : decode cX3_number 14 = .ok (.invokevirtual 104, 3) := dk_182 0 104 (dk_at dksX3_number_0 14 rfl rfl)
theorem dX3_number_17 : decode cX3_number 17 = .ok (.athrow, 1) := dk_191 (dk_at dksX3_number_0 17 rfl rfl)
theorem dX3_number_18 : decode cX3_number 18 = .ok (.aload_n 0, 1) := dk_42 (dk_at dksX3_number_0 18 rfl rfl)
theorem dX3_number_19 : decode cX3_number 19 = .ok (.getfield 79, 3) := dk_180 0 79 (dk_at dksX3_number_0 19 rfl rfl)
theorem dX3_number_22 : decode cX3_number 22 = .ok (.iload_n 1, 1) := dk_27 (dk_at dksX3_number_0 22 rfl rfl)
theorem dX3_number_23 : decode cX3_number 23 = .ok (.iload_n 2, 1) := dk_28 (dk_at dksX3_number_0 23 rfl rfl)
theorem dX3_number_24 : decode cX3_number 24 = .ok (.invokestatic 62, 3) := dk_184 0 62 (dk_at dksX3_number_1 0 rfl rfl)
theorem dX3_number_27 : decode cX3_number 27 = .ok (.ifCond .ne 9, 3) := dk_154 0 9 (dk_at dksX3_number_1 3 rfl rfl)
theorem dX3_number_30 : decode cX3_number 30 = .ok (.aload_n 0, 1) := dk_42 (dk_at dksX3_number_1 6 rfl rfl)
theorem dX3_number_31 : decode cX3_number 31 = .ok (.iconst 2, 1) := dk_5 (dk_at dksX3_number_1 7 rfl rfl)
theorem dX3_number_32 : decode cX3_number 32 = .ok (.invokevirtual 104, 3) := dk_182 0 104 (dk_at dksX3_number_1 8 rfl rfl)
theorem dX3_number_35 : decode cX3_number 35 = .ok (.athrow, 1) := dk_191 (dk_at dksX3_number_1 11 rfl rfl)
theorem dX3_number_36 : decode cX3_number 36 = .ok (.aload_n 0, 1) := dk_42 (dk_at dksX3_number_1 12 rfl rfl)
theorem dX3_number_37 : decode cX3_number 37 = .ok (.getfield 79, 3) := dk_180 0 79 (dk_at dksX3_number_1 13 rfl rfl)
theorem dX3_number_40 : decode cX3_number 40 = .ok (.istore_n 3, 1) := dk_62 (dk_at dksX3_number_1 16 rfl rfl)
theorem dX3_number_41 : decode cX3_number 41 = .ok (.aload_n 0, 1) := dk_42 (dk_at dksX3_number_1 17 rfl rfl)
theorem dX3_number_42 : decode cX3_number 42 = .ok (.invokevirtual 108, 3) := dk_182 0 108 (dk_at dksX3_number_1 18 rfl rfl)
theorem dX3_number_45 : decode cX3_number 45 = .ok (.iload_n 3, 1) := dk_29 (dk_at dksX3_number_1 21 rfl rfl)
theorem dX3_number_46 : decode cX3_number 46 = .ok (.ireturn, 1) := dk_172 (dk_at dksX3_number_1 22 rfl rfl)
abbrev cX4_init : ByteArray := prog_5_method_1_code
def yX4_init : MethodName := ⟨RX4, "<init>", "(II)V"⟩
def dkwX4_init_0 : List UInt8 := [42, 1, 1, 3, 3, 183, 0, 1, 42, 27, 181, 0, 7, 42, 28, 181, 0, 13, 177]
abbrev dktX4_init_0 : List UInt8 := dkwX4_init_0 ++ []
theorem dksX4_init_0 : cX4_init.data.toList.drop 0 = dktX4_init_0 := by decide +kernel
theorem dX4_init_0 : decode cX4_init 0 = .ok (.aload_n 0, 1) := dk_42 (dk_at dksX4_init_0 0 rfl rfl)
theorem dX4_init_1 : decode cX4_init 1 = .ok (.aconst_null, 1) := dk_1 (dk_at dksX4_init_0 1 rfl rfl)
theorem dX4_init_2 : decode cX4_init 2 = .ok (.aconst_null, 1) := dk_1 (dk_at dksX4_init_0 2 rfl rfl)
theorem dX4_init_3 : decode cX4_init 3 = .ok (.iconst 0, 1) := dk_3 (dk_at dksX4_init_0 3 rfl rfl)
theorem dX4_init_4 : decode cX4_init 4 = .ok (.iconst 0, 1) := dk_3 (dk_at dksX4_init_0 4 rfl rfl)
theorem dX4_init_5 : decode cX4_init 5 = .ok (.invokespecial 1, 3) := dk_183 0 1 (dk_at dksX4_init_0 5 rfl rfl)
theorem dX4_init_8 : decode cX4_init 8 = .ok (.aload_n 0, 1) := dk_42 (dk_at dksX4_init_0 8 rfl rfl)
theorem dX4_init_9 : decode cX4_init 9 = .ok (.iload_n 1, 1) := dk_27 (dk_at dksX4_init_0 9 rfl rfl)
theorem dX4_init_10 : decode cX4_init 10 = .ok (.putfield 7, 3) := dk_181 0 7 (dk_at dksX4_init_0 10 rfl rfl)
theorem dX4_init_13 : decode cX4_init 13 = .ok (.aload_n 0, 1) := dk_42 (dk_at dksX4_init_0 13 rfl rfl)
theorem dX4_init_14 : decode cX4_init 14 = .ok (.iload_n 2, 1) := dk_28 (dk_at dksX4_init_0 14 rfl rfl)
theorem dX4_init_15 : decode cX4_init 15 = .ok (.putfield 13, 3) := dk_181 0 13 (dk_at dksX4_init_0 15 rfl rfl)
theorem dX4_init_18 : decode cX4_init 18 = .ok (.return_, 1) := dk_177 (dk_at dksX4_init_0 18 rfl rfl)
abbrev cX5_init : ByteArray := prog_14_method_1_code
def yX5_init : MethodName := ⟨RX5, "<init>", "(IIIII)V"⟩
def dkwX5_init_1 : List UInt8 := [181, 0, 21, 42, 21, 5, 181, 0, 24, 177]
abbrev dktX5_init_1 : List UInt8 := dkwX5_init_1 ++ []
def dkwX5_init_0 : List UInt8 := [42, 183, 0, 3, 42, 27, 181, 0, 9, 42, 28, 181, 0, 15, 42, 29, 181, 0, 18, 42, 21, 4]
abbrev dktX5_init_0 : List UInt8 := dkwX5_init_0 ++ dktX5_init_1
theorem dksX5_init_0 : cX5_init.data.toList.drop 0 = dktX5_init_0 := by decide +kernel
theorem dksX5_init_1 : cX5_init.data.toList.drop 22 = dktX5_init_1 := dk_seg dksX5_init_0 22 rfl rfl
theorem dX5_init_0 : decode cX5_init 0 = .ok (.aload_n 0, 1) := dk_42 (dk_at dksX5_init_0 0 rfl rfl)
theorem dX5_init_1 : decode cX5_init 1 = .ok (.invokespecial 3, 3) := dk_183 0 3 (dk_at dksX5_init_0 1 rfl rfl)
theorem dX5_init_4 : decode cX5_init 4 = .ok (.aload_n 0, 1) := dk_42 (dk_at dksX5_init_0 4 rfl rfl)
theorem dX5_init_5 : decode cX5_init 5 = .ok (.iload_n 1, 1) := dk_27 (dk_at dksX5_init_0 5 rfl rfl)
theorem dX5_init_6 : decode cX5_init 6 = .ok (.putfield 9, 3) := dk_181 0 9 (dk_at dksX5_init_0 6 rfl rfl)
theorem dX5_init_9 : decode cX5_init 9 = .ok (.aload_n 0, 1) := dk_42 (dk_at dksX5_init_0 9 rfl rfl)
theorem dX5_init_10 : decode cX5_init 10 = .ok (.iload_n 2, 1) := dk_28 (dk_at dksX5_init_0 10 rfl rfl)
theorem dX5_init_11 : decode cX5_init 11 = .ok (.putfield 15, 3) := dk_181 0 15 (dk_at dksX5_init_0 11 rfl rfl)
theorem dX5_init_14 : decode cX5_init 14 = .ok (.aload_n 0, 1) := dk_42 (dk_at dksX5_init_0 14 rfl rfl)
theorem dX5_init_15 : decode cX5_init 15 = .ok (.iload_n 3, 1) := dk_29 (dk_at dksX5_init_0 15 rfl rfl)
theorem dX5_init_16 : decode cX5_init 16 = .ok (.putfield 18, 3) := dk_181 0 18 (dk_at dksX5_init_0 16 rfl rfl)
theorem dX5_init_19 : decode cX5_init 19 = .ok (.aload_n 0, 1) := dk_42 (dk_at dksX5_init_0 19 rfl rfl)
theorem dX5_init_20 : decode cX5_init 20 = .ok (.iload 4, 2) := dk_21 4 (dk_at dksX5_init_0 20 rfl rfl)
theorem dX5_init_22 : decode cX5_init 22 = .ok (.putfield 21, 3) := dk_181 0 21 (dk_at dksX5_init_1 0 rfl rfl)
theorem dX5_init_25 : decode cX5_init 25 = .ok (.aload_n 0, 1) := dk_42 (dk_at dksX5_init_1 3 rfl rfl)
theorem dX5_init_26 : decode cX5_init 26 = .ok (.iload 5, 2) := dk_21 5 (dk_at dksX5_init_1 4 rfl rfl)
theorem dX5_init_28 : decode cX5_init 28 = .ok (.putfield 24, 3) := dk_181 0 24 (dk_at dksX5_init_1 6 rfl rfl)
theorem dX5_init_31 : decode cX5_init 31 = .ok (.return_, 1) := dk_177 (dk_at dksX5_init_1 9 rfl rfl)
abbrev cX5_part : ByteArray := prog_14_method_7_code
def yX5_part : MethodName := ⟨RX5, "part", "(I)I"⟩
def dkwX5_part_4 : List UInt8 := [3, 172]
abbrev dktX5_part_4 : List UInt8 := dkwX5_part_4 ++ []
def dkwX5_part_3 : List UInt8 := [180, 0, 21, 167, 0, 22, 42, 180, 0, 24, 167, 0, 15, 42, 180, 0, 30, 153, 0, 7, 4, 167, 0, 4]
abbrev dktX5_part_3 : List UInt8 := dkwX5_part_3 ++ dktX5_part_4
def dkwX5_part_2 : List UInt8 := [42, 180, 0, 9, 167, 0, 43, 42, 180, 0, 15, 167, 0, 36, 42, 180, 0, 18, 167, 0, 29, 42]
abbrev dktX5_part_2 : List UInt8 := dkwX5_part_2 ++ dktX5_part_3
def dkwX5_part_1 : List UInt8 := [170, 0, 0, 0, 0, 0, 70, 0, 0, 0, 0, 0, 0, 0, 4, 0, 0, 0, 35, 0, 0, 0, 42, 0, 0, 0, 49, 0, 0, 0, 56, 0, 0, 0, 63]
abbrev dktX5_part_1 : List UInt8 := dkwX5_part_1 ++ dktX5_part_2
def dkwX5_part_0 : List UInt8 := [27]
abbrev dktX5_part_0 : List UInt8 := dkwX5_part_0 ++ dktX5_part_1
theorem dksX5_part_0 : cX5_part.data.toList.drop 0 = dktX5_part_0 := by decide +kernel
theorem dksX5_part_1 : cX5_part.data.toList.drop 1 = dktX5_part_1 := dk_seg dksX5_part_0 1 rfl rfl
theorem dksX5_part_2 : cX5_part.data.toList.drop 36 = dktX5_part_2 := dk_seg dksX5_part_1 35 rfl rfl
theorem dksX5_part_3 : cX5_part.data.toList.drop 58 = dktX5_part_3 := dk_seg dksX5_part_2 22 rfl rfl
theorem dksX5_part_4 : cX5_part.data.toList.drop 82 = dktX5_part_4 := dk_seg dksX5_part_3 24 rfl rfl
theorem dX5_part_0 : decode cX5_part 0 = .ok (.iload_n 1, 1) := dk_27 (dk_at dksX5_part_0 0 rfl rfl)
theorem dX5_part_1 : decode cX5_part 1 = .ok (.tableswitch 70 0 4 #[35, 42, 49, 56, 63], 35) := by decide +kernel
theorem dX5_part_36 : decode cX5_part 36 = .ok (.aload_n 0, 1) := dk_42 (dk_at dksX5_part_2 0 rfl rfl)
theorem dX5_part_37 : decode cX5_part 37 = .ok (.getfield 9, 3) := dk_180 0 9 (dk_at dksX5_part_2 1 rfl rfl)
theorem dX5_part_40 : decode cX5_part 40 = .ok (.goto 43, 3) := dk_167 0 43 (dk_at dksX5_part_2 4 rfl rfl)
theorem dX5_part_43 : decode cX5_part 43 = .ok (.aload_n 0, 1) := dk_42 (dk_at dksX5_part_2 7 rfl rfl)
theorem dX5_part_44 : decode cX5_part 44 = .ok (.getfield 15, 3) := dk_180 0 15 (dk_at dksX5_part_2 8 rfl rfl)
theorem dX5_part_47 : decode cX5_part 47 = .ok (.goto 36, 3) := dk_167 0 36 (dk_at dksX5_part_2 11 rfl rfl)
theorem dX5_part_50 : decode cX5_part 50 = .ok (.aload_n 0, 1) := dk_42 (dk_at dksX5_part_2 14 rfl rfl)
theorem dX5_part_51 : decode cX5_part 51 = .ok (.getfield 18, 3) := dk_180 0 18 (dk_at dksX5_part_2 15 rfl rfl)
theorem dX5_part_54 : decode cX5_part 54 = .ok (.goto 29, 3) := dk_167 0 29 (dk_at dksX5_part_2 18 rfl rfl)
theorem dX5_part_57 : decode cX5_part 57 = .ok (.aload_n 0, 1) := dk_42 (dk_at dksX5_part_2 21 rfl rfl)
theorem dX5_part_58 : decode cX5_part 58 = .ok (.getfield 21, 3) := dk_180 0 21 (dk_at dksX5_part_3 0 rfl rfl)
theorem dX5_part_61 : decode cX5_part 61 = .ok (.goto 22, 3) := dk_167 0 22 (dk_at dksX5_part_3 3 rfl rfl)
theorem dX5_part_64 : decode cX5_part 64 = .ok (.aload_n 0, 1) := dk_42 (dk_at dksX5_part_3 6 rfl rfl)
theorem dX5_part_65 : decode cX5_part 65 = .ok (.getfield 24, 3) := dk_180 0 24 (dk_at dksX5_part_3 7 rfl rfl)
theorem dX5_part_68 : decode cX5_part 68 = .ok (.goto 15, 3) := dk_167 0 15 (dk_at dksX5_part_3 10 rfl rfl)
theorem dX5_part_71 : decode cX5_part 71 = .ok (.aload_n 0, 1) := dk_42 (dk_at dksX5_part_3 13 rfl rfl)
theorem dX5_part_72 : decode cX5_part 72 = .ok (.getfield 30, 3) := dk_180 0 30 (dk_at dksX5_part_3 14 rfl rfl)
theorem dX5_part_75 : decode cX5_part 75 = .ok (.ifCond .eq 7, 3) := dk_153 0 7 (dk_at dksX5_part_3 17 rfl rfl)
theorem dX5_part_78 : decode cX5_part 78 = .ok (.iconst 1, 1) := dk_4 (dk_at dksX5_part_3 20 rfl rfl)
theorem dX5_part_79 : decode cX5_part 79 = .ok (.goto 4, 3) := dk_167 0 4 (dk_at dksX5_part_3 21 rfl rfl)
theorem dX5_part_82 : decode cX5_part 82 = .ok (.iconst 0, 1) := dk_3 (dk_at dksX5_part_4 0 rfl rfl)
theorem dX5_part_83 : decode cX5_part 83 = .ok (.ireturn, 1) := dk_172 (dk_at dksX5_part_4 1 rfl rfl)
abbrev cX5_lay : ByteArray := prog_14_method_5_code
def yX5_lay : MethodName := ⟨RX5, "lay", "(LEventWindows$Square;ZZ)V"⟩
def dkwX5_lay_2 : List UInt8 := [182, 0, 34, 177]
abbrev dktX5_lay_2 : List UInt8 := dkwX5_lay_2 ++ []
def dkwX5_lay_1 : List UInt8 := [180, 0, 21, 182, 0, 34, 29, 153, 0, 20, 43, 42, 180, 0, 15, 42, 180, 0, 9, 42, 180, 0, 18, 116]
abbrev dktX5_lay_1 : List UInt8 := dkwX5_lay_1 ++ dktX5_lay_2
def dkwX5_lay_0 : List UInt8 := [28, 153, 0, 27, 42, 180, 0, 21, 2, 159, 0, 19, 43, 42, 180, 0, 9, 42, 180, 0, 15, 42]
abbrev dktX5_lay_0 : List UInt8 := dkwX5_lay_0 ++ dktX5_lay_1
theorem dksX5_lay_0 : cX5_lay.data.toList.drop 0 = dktX5_lay_0 := by decide +kernel
theorem dksX5_lay_1 : cX5_lay.data.toList.drop 22 = dktX5_lay_1 := dk_seg dksX5_lay_0 22 rfl rfl
theorem dksX5_lay_2 : cX5_lay.data.toList.drop 46 = dktX5_lay_2 := dk_seg dksX5_lay_1 24 rfl rfl
theorem dX5_lay_0 : decode cX5_lay 0 = .ok (.iload_n 2, 1) := dk_28 (dk_at dksX5_lay_0 0 rfl rfl)
theorem dX5_lay_1 : decode cX5_lay 1 = .ok (.ifCond .eq 27, 3) := dk_153 0 27 (dk_at dksX5_lay_0 1 rfl rfl)
theorem dX5_lay_4 : decode cX5_lay 4 = .ok (.aload_n 0, 1) := dk_42 (dk_at dksX5_lay_0 4 rfl rfl)
theorem dX5_lay_5 : decode cX5_lay 5 = .ok (.getfield 21, 3) := dk_180 0 21 (dk_at dksX5_lay_0 5 rfl rfl)
theorem dX5_lay_8 : decode cX5_lay 8 = .ok (.iconst (-1), 1) := dk_2 (dk_at dksX5_lay_0 8 rfl rfl)
theorem dX5_lay_9 : decode cX5_lay 9 = .ok (.if_icmp .eq 19, 3) := dk_159 0 19 (dk_at dksX5_lay_0 9 rfl rfl)
theorem dX5_lay_12 : decode cX5_lay 12 = .ok (.aload_n 1, 1) := dk_43 (dk_at dksX5_lay_0 12 rfl rfl)
theorem dX5_lay_13 : decode cX5_lay 13 = .ok (.aload_n 0, 1) := dk_42 (dk_at dksX5_lay_0 13 rfl rfl)
theorem dX5_lay_14 : decode cX5_lay 14 = .ok (.getfield 9, 3) := dk_180 0 9 (dk_at dksX5_lay_0 14 rfl rfl)
theorem dX5_lay_17 : decode cX5_lay 17 = .ok (.aload_n 0, 1) := dk_42 (dk_at dksX5_lay_0 17 rfl rfl)
theorem dX5_lay_18 : decode cX5_lay 18 = .ok (.getfield 15, 3) := dk_180 0 15 (dk_at dksX5_lay_0 18 rfl rfl)
theorem dX5_lay_21 : decode cX5_lay 21 = .ok (.aload_n 0, 1) := dk_42 (dk_at dksX5_lay_0 21 rfl rfl)
theorem dX5_lay_22 : decode cX5_lay 22 = .ok (.getfield 21, 3) := dk_180 0 21 (dk_at dksX5_lay_1 0 rfl rfl)
theorem dX5_lay_25 : decode cX5_lay 25 = .ok (.invokevirtual 34, 3) := dk_182 0 34 (dk_at dksX5_lay_1 3 rfl rfl)
theorem dX5_lay_28 : decode cX5_lay 28 = .ok (.iload_n 3, 1) := dk_29 (dk_at dksX5_lay_1 6 rfl rfl)
theorem dX5_lay_29 : decode cX5_lay 29 = .ok (.ifCond .eq 20, 3) := dk_153 0 20 (dk_at dksX5_lay_1 7 rfl rfl)
theorem dX5_lay_32 : decode cX5_lay 32 = .ok (.aload_n 1, 1) := dk_43 (dk_at dksX5_lay_1 10 rfl rfl)
theorem dX5_lay_33 : decode cX5_lay 33 = .ok (.aload_n 0, 1) := dk_42 (dk_at dksX5_lay_1 11 rfl rfl)
theorem dX5_lay_34 : decode cX5_lay 34 = .ok (.getfield 15, 3) := dk_180 0 15 (dk_at dksX5_lay_1 12 rfl rfl)
theorem dX5_lay_37 : decode cX5_lay 37 = .ok (.aload_n 0, 1) := dk_42 (dk_at dksX5_lay_1 15 rfl rfl)
theorem dX5_lay_38 : decode cX5_lay 38 = .ok (.getfield 9, 3) := dk_180 0 9 (dk_at dksX5_lay_1 16 rfl rfl)
theorem dX5_lay_41 : decode cX5_lay 41 = .ok (.aload_n 0, 1) := dk_42 (dk_at dksX5_lay_1 19 rfl rfl)
theorem dX5_lay_42 : decode cX5_lay 42 = .ok (.getfield 18, 3) := dk_180 0 18 (dk_at dksX5_lay_1 20 rfl rfl)
theorem dX5_lay_45 : decode cX5_lay 45 = .ok (.ineg, 1) := dk_116 (dk_at dksX5_lay_1 23 rfl rfl)
theorem dX5_lay_46 : decode cX5_lay 46 = .ok (.invokevirtual 34, 3) := dk_182 0 34 (dk_at dksX5_lay_2 0 rfl rfl)
theorem dX5_lay_49 : decode cX5_lay 49 = .ok (.return_, 1) := dk_177 (dk_at dksX5_lay_2 3 rfl rfl)
abbrev cX5_hasBound : ByteArray := prog_14_method_4_code
def yX5_hasBound : MethodName := ⟨RX5, "hasBound", "(Z)Z"⟩
def dkwX5_hasBound_1 : List UInt8 := [172]
abbrev dktX5_hasBound_1 : List UInt8 := dkwX5_hasBound_1 ++ []
def dkwX5_hasBound_0 : List UInt8 := [42, 180, 0, 30, 154, 0, 19, 27, 154, 0, 11, 42, 180, 0, 21, 2, 159, 0, 7, 4, 167, 0, 4, 3]
abbrev dktX5_hasBound_0 : List UInt8 := dkwX5_hasBound_0 ++ dktX5_hasBound_1
theorem dksX5_hasBound_0 : cX5_hasBound.data.toList.drop 0 = dktX5_hasBound_0 := by decide +kernel
theorem dksX5_hasBound_1 : cX5_hasBound.data.toList.drop 24 = dktX5_hasBound_1 := dk_seg dksX5_hasBound_0 24 rfl rfl
theorem dX5_hasBound_0 : decode cX5_hasBound 0 = .ok (.aload_n 0, 1) := dk_42 (dk_at dksX5_hasBound_0 0 rfl rfl)
theorem dX5_hasBound_1 : decode cX5_hasBound 1 = .ok (.getfield 30, 3) := dk_180 0 30 (dk_at dksX5_hasBound_0 1 rfl rfl)
theorem dX5_hasBound_4 : decode cX5_hasBound 4 = .ok (.ifCond .ne 19, 3) := dk_154 0 19 (dk_at dksX5_hasBound_0 4 rfl rfl)
theorem dX5_hasBound_7 : decode cX5_hasBound 7 = .ok (.iload_n 1, 1) := dk_27 (dk_at dksX5_hasBound_0 7 rfl rfl)
theorem dX5_hasBound_8 : decode cX5_hasBound 8 = .ok (.ifCond .ne 11, 3) := dk_154 0 11 (dk_at dksX5_hasBound_0 8 rfl rfl)
theorem dX5_hasBound_11 : decode cX5_hasBound 11 = .ok (.aload_n 0, 1) := dk_42 (dk_at dksX5_hasBound_0 11 rfl rfl)
theorem dX5_hasBound_12 : decode cX5_hasBound 12 = .ok (.getfield 21, 3) := dk_180 0 21 (dk_at dksX5_hasBound_0 12 rfl rfl)
theorem dX5_hasBound_15 : decode cX5_hasBound 15 = .ok (.iconst (-1), 1) := dk_2 (dk_at dksX5_hasBound_0 15 rfl rfl)
theorem dX5_hasBound_16 : decode cX5_hasBound 16 = .ok (.if_icmp .eq 7, 3) := dk_159 0 7 (dk_at dksX5_hasBound_0 16 rfl rfl)
theorem dX5_hasBound_19 : decode cX5_hasBound 19 = .ok (.iconst 1, 1) := dk_4 (dk_at dksX5_hasBound_0 19 rfl rfl)
theorem dX5_hasBound_20 : decode cX5_hasBound 20 = .ok (.goto 4, 3) := dk_167 0 4 (dk_at dksX5_hasBound_0 20 rfl rfl)
theorem dX5_hasBound_23 : decode cX5_hasBound 23 = .ok (.iconst 0, 1) := dk_3 (dk_at dksX5_hasBound_0 23 rfl rfl)
theorem dX5_hasBound_24 : decode cX5_hasBound 24 = .ok (.ireturn, 1) := dk_172 (dk_at dksX5_hasBound_1 0 rfl rfl)
abbrev cX5_isSoft : ByteArray := prog_14_method_3_code
def yX5_isSoft : MethodName := ⟨RX5, "isSoft", "()Z"⟩
def dkwX5_isSoft_0 : List UInt8 := [42, 180, 0, 24, 158, 0, 14, 42, 180, 0, 30, 154, 0, 7, 4, 167, 0, 4, 3, 172]
abbrev dktX5_isSoft_0 : List UInt8 := dkwX5_isSoft_0 ++ []
theorem dksX5_isSoft_0 : cX5_isSoft.data.toList.drop 0 = dktX5_isSoft_0 := by decide +kernel
theorem dX5_isSoft_0 : decode cX5_isSoft 0 = .ok (.aload_n 0, 1) := dk_42 (dk_at dksX5_isSoft_0 0 rfl rfl)
theorem dX5_isSoft_1 : decode cX5_isSoft 1 = .ok (.getfield 24, 3) := dk_180 0 24 (dk_at dksX5_isSoft_0 1 rfl rfl)
theorem dX5_isSoft_4 : decode cX5_isSoft 4 = .ok (.ifCond .le 14, 3) := dk_158 0 14 (dk_at dksX5_isSoft_0 4 rfl rfl)
theorem dX5_isSoft_7 : decode cX5_isSoft 7 = .ok (.aload_n 0, 1) := dk_42 (dk_at dksX5_isSoft_0 7 rfl rfl)
theorem dX5_isSoft_8 : decode cX5_isSoft 8 = .ok (.getfield 30, 3) := dk_180 0 30 (dk_at dksX5_isSoft_0 8 rfl rfl)
theorem dX5_isSoft_11 : decode cX5_isSoft 11 = .ok (.ifCond .ne 7, 3) := dk_154 0 7 (dk_at dksX5_isSoft_0 11 rfl rfl)
theorem dX5_isSoft_14 : decode cX5_isSoft 14 = .ok (.iconst 1, 1) := dk_4 (dk_at dksX5_isSoft_0 14 rfl rfl)
theorem dX5_isSoft_15 : decode cX5_isSoft 15 = .ok (.goto 4, 3) := dk_167 0 4 (dk_at dksX5_isSoft_0 15 rfl rfl)
theorem dX5_isSoft_18 : decode cX5_isSoft 18 = .ok (.iconst 0, 1) := dk_3 (dk_at dksX5_isSoft_0 18 rfl rfl)
theorem dX5_isSoft_19 : decode cX5_isSoft 19 = .ok (.ireturn, 1) := dk_172 (dk_at dksX5_isSoft_0 19 rfl rfl)
abbrev cX5_copy : ByteArray := prog_14_method_2_code
def yX5_copy : MethodName := ⟨RX5, "copy", "()LEventWindows$Window;"⟩
def dkwX5_copy_1 : List UInt8 := [183, 0, 27, 76, 43, 42, 180, 0, 30, 181, 0, 30, 43, 176]
abbrev dktX5_copy_1 : List UInt8 := dkwX5_copy_1 ++ []
def dkwX5_copy_0 : List UInt8 := [187, 0, 10, 89, 42, 180, 0, 9, 42, 180, 0, 15, 42, 180, 0, 18, 42, 180, 0, 21, 42, 180, 0, 24]
abbrev dktX5_copy_0 : List UInt8 := dkwX5_copy_0 ++ dktX5_copy_1
theorem dksX5_copy_0 : cX5_copy.data.toList.drop 0 = dktX5_copy_0 := by decide +kernel
theorem dksX5_copy_1 : cX5_copy.data.toList.drop 24 = dktX5_copy_1 := dk_seg dksX5_copy_0 24 rfl rfl
theorem dX5_copy_0 : decode cX5_copy 0 = .ok (.new 10, 3) := dk_187 0 10 (dk_at dksX5_copy_0 0 rfl rfl)
theorem dX5_copy_3 : decode cX5_copy 3 = .ok (.dup, 1) := dk_89 (dk_at dksX5_copy_0 3 rfl rfl)
theorem dX5_copy_4 : decode cX5_copy 4 = .ok (.aload_n 0, 1) := dk_42 (dk_at dksX5_copy_0 4 rfl rfl)
theorem dX5_copy_5 : decode cX5_copy 5 = .ok (.getfield 9, 3) := dk_180 0 9 (dk_at dksX5_copy_0 5 rfl rfl)
theorem dX5_copy_8 : decode cX5_copy 8 = .ok (.aload_n 0, 1) := dk_42 (dk_at dksX5_copy_0 8 rfl rfl)
theorem dX5_copy_9 : decode cX5_copy 9 = .ok (.getfield 15, 3) := dk_180 0 15 (dk_at dksX5_copy_0 9 rfl rfl)
theorem dX5_copy_12 : decode cX5_copy 12 = .ok (.aload_n 0, 1) := dk_42 (dk_at dksX5_copy_0 12 rfl rfl)
theorem dX5_copy_13 : decode cX5_copy 13 = .ok (.getfield 18, 3) := dk_180 0 18 (dk_at dksX5_copy_0 13 rfl rfl)
theorem dX5_copy_16 : decode cX5_copy 16 = .ok (.aload_n 0, 1) := dk_42 (dk_at dksX5_copy_0 16 rfl rfl)
theorem dX5_copy_17 : decode cX5_copy 17 = .ok (.getfield 21, 3) := dk_180 0 21 (dk_at dksX5_copy_0 17 rfl rfl)
theorem dX5_copy_20 : decode cX5_copy 20 = .ok (.aload_n 0, 1) := dk_42 (dk_at dksX5_copy_0 20 rfl rfl)
theorem dX5_copy_21 : decode cX5_copy 21 = .ok (.getfield 24, 3) := dk_180 0 24 (dk_at dksX5_copy_0 21 rfl rfl)
theorem dX5_copy_24 : decode cX5_copy 24 = .ok (.invokespecial 27, 3) := dk_183 0 27 (dk_at dksX5_copy_1 0 rfl rfl)
theorem dX5_copy_27 : decode cX5_copy 27 = .ok (.astore_n 1, 1) := dk_76 (dk_at dksX5_copy_1 3 rfl rfl)
theorem dX5_copy_28 : decode cX5_copy 28 = .ok (.aload_n 1, 1) := dk_43 (dk_at dksX5_copy_1 4 rfl rfl)
theorem dX5_copy_29 : decode cX5_copy 29 = .ok (.aload_n 0, 1) := dk_42 (dk_at dksX5_copy_1 5 rfl rfl)
theorem dX5_copy_30 : decode cX5_copy 30 = .ok (.getfield 30, 3) := dk_180 0 30 (dk_at dksX5_copy_1 6 rfl rfl)
theorem dX5_copy_33 : decode cX5_copy 33 = .ok (.putfield 30, 3) := dk_181 0 30 (dk_at dksX5_copy_1 9 rfl rfl)
theorem dX5_copy_36 : decode cX5_copy 36 = .ok (.aload_n 1, 1) := dk_43 (dk_at dksX5_copy_1 12 rfl rfl)
theorem dX5_copy_37 : decode cX5_copy 37 = .ok (.areturn, 1) := dk_176 (dk_at dksX5_copy_1 13 rfl rfl)
abbrev cX5_tighten : ByteArray := prog_14_method_6_code
def yX5_tighten : MethodName := ⟨RX5, "tighten", "(LEventWindows$Square;)I"⟩
def dkwX5_tighten_3 : List UInt8 := [181, 0, 21, 132, 4, 1, 21, 4, 172]
abbrev dktX5_tighten_3 : List UInt8 := dkwX5_tighten_3 ++ []
def dkwX5_tighten_2 : List UInt8 := [181, 0, 18, 132, 4, 1, 29, 17, 3, 231, 163, 0, 19, 29, 42, 180, 0, 21, 159, 0, 11, 42, 29]
abbrev dktX5_tighten_2 : List UInt8 := dkwX5_tighten_2 ++ dktX5_tighten_3
def dkwX5_tighten_1 : List UInt8 := [182, 0, 40, 62, 3, 54, 4, 28, 17, 3, 231, 163, 0, 19, 28, 42, 180, 0, 18, 159, 0, 11, 42, 28]
abbrev dktX5_tighten_1 : List UInt8 := dkwX5_tighten_1 ++ dktX5_tighten_2
def dkwX5_tighten_0 : List UInt8 := [43, 42, 180, 0, 15, 42, 180, 0, 9, 182, 0, 40, 116, 61, 43, 42, 180, 0, 9, 42, 180, 0, 15]
abbrev dktX5_tighten_0 : List UInt8 := dkwX5_tighten_0 ++ dktX5_tighten_1
theorem dksX5_tighten_0 : cX5_tighten.data.toList.drop 0 = dktX5_tighten_0 := by decide +kernel
theorem dksX5_tighten_1 : cX5_tighten.data.toList.drop 23 = dktX5_tighten_1 := dk_seg dksX5_tighten_0 23 rfl rfl
theorem dksX5_tighten_2 : cX5_tighten.data.toList.drop 47 = dktX5_tighten_2 := dk_seg dksX5_tighten_1 24 rfl rfl
theorem dksX5_tighten_3 : cX5_tighten.data.toList.drop 70 = dktX5_tighten_3 := dk_seg dksX5_tighten_2 23 rfl rfl
theorem dX5_tighten_0 : decode cX5_tighten 0 = .ok (.aload_n 1, 1) := dk_43 (dk_at dksX5_tighten_0 0 rfl rfl)
theorem dX5_tighten_1 : decode cX5_tighten 1 = .ok (.aload_n 0, 1) := dk_42 (dk_at dksX5_tighten_0 1 rfl rfl)
theorem dX5_tighten_2 : decode cX5_tighten 2 = .ok (.getfield 15, 3) := dk_180 0 15 (dk_at dksX5_tighten_0 2 rfl rfl)
theorem dX5_tighten_5 : decode cX5_tighten 5 = .ok (.aload_n 0, 1) := dk_42 (dk_at dksX5_tighten_0 5 rfl rfl)
theorem dX5_tighten_6 : decode cX5_tighten 6 = .ok (.getfield 9, 3) := dk_180 0 9 (dk_at dksX5_tighten_0 6 rfl rfl)
theorem dX5_tighten_9 : decode cX5_tighten 9 = .ok (.invokevirtual 40, 3) := dk_182 0 40 (dk_at dksX5_tighten_0 9 rfl rfl)
theorem dX5_tighten_12 : decode cX5_tighten 12 = .ok (.ineg, 1) := dk_116 (dk_at dksX5_tighten_0 12 rfl rfl)
theorem dX5_tighten_13 : decode cX5_tighten 13 = .ok (.istore_n 2, 1) := dk_61 (dk_at dksX5_tighten_0 13 rfl rfl)
theorem dX5_tighten_14 : decode cX5_tighten 14 = .ok (.aload_n 1, 1) := dk_43 (dk_at dksX5_tighten_0 14 rfl rfl)
theorem dX5_tighten_15 : decode cX5_tighten 15 = .ok (.aload_n 0, 1) := dk_42 (dk_at dksX5_tighten_0 15 rfl rfl)
theorem dX5_tighten_16 : decode cX5_tighten 16 = .ok (.getfield 9, 3) := dk_180 0 9 (dk_at dksX5_tighten_0 16 rfl rfl)
theorem dX5_tighten_19 : decode cX5_tighten 19 = .ok (.aload_n 0, 1) := dk_42 (dk_at dksX5_tighten_0 19 rfl rfl)
theorem dX5_tighten_20 : decode cX5_tighten 20 = .ok (.getfield 15, 3) := dk_180 0 15 (dk_at dksX5_tighten_0 20 rfl rfl)
theorem dX5_tighten_23 : decode cX5_tighten 23 = .ok (.invokevirtual 40, 3) := dk_182 0 40 (dk_at dksX5_tighten_1 0 rfl rfl)
theorem dX5_tighten_26 : decode cX5_tighten 26 = .ok (.istore_n 3, 1) := dk_62 (dk_at dksX5_tighten_1 3 rfl rfl)
theorem dX5_tighten_27 : decode cX5_tighten 27 = .ok (.iconst 0, 1) := dk_3 (dk_at dksX5_tighten_1 4 rfl rfl)
theorem dX5_tighten_28 : decode cX5_tighten 28 = .ok (.istore 4, 2) := dk_54 4 (dk_at dksX5_tighten_1 5 rfl rfl)
theorem dX5_tighten_30 : decode cX5_tighten 30 = .ok (.iload_n 2, 1) := dk_28 (dk_at dksX5_tighten_1 7 rfl rfl)
theorem dX5_tighten_31 : decode cX5_tighten 31 = .ok (.sipush 999, 3) := dk_17 3 231 (dk_at dksX5_tighten_1 8 rfl rfl)
theorem dX5_tighten_34 : decode cX5_tighten 34 = .ok (.if_icmp .gt 19, 3) := dk_163 0 19 (dk_at dksX5_tighten_1 11 rfl rfl)
theorem dX5_tighten_37 : decode cX5_tighten 37 = .ok (.iload_n 2, 1) := dk_28 (dk_at dksX5_tighten_1 14 rfl rfl)
theorem dX5_tighten_38 : decode cX5_tighten 38 = .ok (.aload_n 0, 1) := dk_42 (dk_at dksX5_tighten_1 15 rfl rfl)
theorem dX5_tighten_39 : decode cX5_tighten 39 = .ok (.getfield 18, 3) := dk_180 0 18 (dk_at dksX5_tighten_1 16 rfl rfl)
theorem dX5_tighten_42 : decode cX5_tighten 42 = .ok (.if_icmp .eq 11, 3) := dk_159 0 11 (dk_at dksX5_tighten_1 19 rfl rfl)
theorem dX5_tighten_45 : decode cX5_tighten 45 = .ok (.aload_n 0, 1) := dk_42 (dk_at dksX5_tighten_1 22 rfl rfl)
theorem dX5_tighten_46 : decode cX5_tighten 46 = .ok (.iload_n 2, 1) := dk_28 (dk_at dksX5_tighten_1 23 rfl rfl)
theorem dX5_tighten_47 : decode cX5_tighten 47 = .ok (.putfield 18, 3) := dk_181 0 18 (dk_at dksX5_tighten_2 0 rfl rfl)
theorem dX5_tighten_50 : decode cX5_tighten 50 = .ok (.iinc 4 1, 3) := dk_132 4 1 (dk_at dksX5_tighten_2 3 rfl rfl)
theorem dX5_tighten_53 : decode cX5_tighten 53 = .ok (.iload_n 3, 1) := dk_29 (dk_at dksX5_tighten_2 6 rfl rfl)
theorem dX5_tighten_54 : decode cX5_tighten 54 = .ok (.sipush 999, 3) := dk_17 3 231 (dk_at dksX5_tighten_2 7 rfl rfl)
theorem dX5_tighten_57 : decode cX5_tighten 57 = .ok (.if_icmp .gt 19, 3) := dk_163 0 19 (dk_at dksX5_tighten_2 10 rfl rfl)
theorem dX5_tighten_60 : decode cX5_tighten 60 = .ok (.iload_n 3, 1) := dk_29 (dk_at dksX5_tighten_2 13 rfl rfl)
theorem dX5_tighten_61 : decode cX5_tighten 61 = .ok (.aload_n 0, 1) := dk_42 (dk_at dksX5_tighten_2 14 rfl rfl)
theorem dX5_tighten_62 : decode cX5_tighten 62 = .ok (.getfield 21, 3) := dk_180 0 21 (dk_at dksX5_tighten_2 15 rfl rfl)
theorem dX5_tighten_65 : decode cX5_tighten 65 = .ok (.if_icmp .eq 11, 3) := dk_159 0 11 (dk_at dksX5_tighten_2 18 rfl rfl)
theorem dX5_tighten_68 : decode cX5_tighten 68 = .ok (.aload_n 0, 1) := dk_42 (dk_at dksX5_tighten_2 21 rfl rfl)
theorem dX5_tighten_69 : decode cX5_tighten 69 = .ok (.iload_n 3, 1) := dk_29 (dk_at dksX5_tighten_2 22 rfl rfl)
theorem dX5_tighten_70 : decode cX5_tighten 70 = .ok (.putfield 21, 3) := dk_181 0 21 (dk_at dksX5_tighten_3 0 rfl rfl)
theorem dX5_tighten_73 : decode cX5_tighten 73 = .ok (.iinc 4 1, 3) := dk_132 4 1 (dk_at dksX5_tighten_3 3 rfl rfl)
theorem dX5_tighten_76 : decode cX5_tighten 76 = .ok (.iload 4, 2) := dk_21 4 (dk_at dksX5_tighten_3 6 rfl rfl)
theorem dX5_tighten_78 : decode cX5_tighten 78 = .ok (.ireturn, 1) := dk_172 (dk_at dksX5_tighten_3 8 rfl rfl)
abbrev cX6_events : ByteArray := prog_8_method_3_code
def yX6_events : MethodName := ⟨RX6, "events", "()I"⟩
def dkwX6_events_0 : List UInt8 := [42, 180, 0, 18, 190, 172]
abbrev dktX6_events_0 : List UInt8 := dkwX6_events_0 ++ []
theorem dksX6_events_0 : cX6_events.data.toList.drop 0 = dktX6_events_0 := by decide +kernel
theorem dX6_events_0 : decode cX6_events 0 = .ok (.aload_n 0, 1) := dk_42 (dk_at dksX6_events_0 0 rfl rfl)
theorem dX6_events_1 : decode cX6_events 1 = .ok (.getfield 18, 3) := dk_180 0 18 (dk_at dksX6_events_0 1 rfl rfl)
theorem dX6_events_4 : decode cX6_events 4 = .ok (.arraylength, 1) := dk_190 (dk_at dksX6_events_0 4 rfl rfl)
theorem dX6_events_5 : decode cX6_events 5 = .ok (.ireturn, 1) := dk_172 (dk_at dksX6_events_0 5 rfl rfl)
abbrev cX6_init : ByteArray := prog_8_method_1_code
def yX6_init : MethodName := ⟨RX6, "<init>", "([Ljava/lang/String;)V"⟩
def dkwX6_init_3 : List UInt8 := [28, 2, 79, 132, 2, 1, 167, 255, 225, 177]
abbrev dktX6_init_3 : List UInt8 := dkwX6_init_3 ++ []
def dkwX6_init_2 : List UInt8 := [43, 190, 162, 0, 31, 42, 180, 0, 22, 28, 28, 154, 0, 7, 3, 167, 0, 4, 2, 79, 42, 180, 0, 29]
abbrev dktX6_init_2 : List UInt8 := dkwX6_init_2 ++ dktX6_init_3
def dkwX6_init_1 : List UInt8 := [188, 10, 181, 0, 22, 42, 43, 190, 188, 10, 181, 0, 26, 42, 43, 190, 188, 10, 181, 0, 29, 3, 61, 28]
abbrev dktX6_init_1 : List UInt8 := dkwX6_init_1 ++ dktX6_init_2
def dkwX6_init_0 : List UInt8 := [42, 183, 0, 3, 42, 187, 0, 9, 89, 183, 0, 11, 181, 0, 12, 42, 43, 181, 0, 18, 42, 43, 190]
abbrev dktX6_init_0 : List UInt8 := dkwX6_init_0 ++ dktX6_init_1
theorem dksX6_init_0 : cX6_init.data.toList.drop 0 = dktX6_init_0 := by decide +kernel
theorem dksX6_init_1 : cX6_init.data.toList.drop 23 = dktX6_init_1 := dk_seg dksX6_init_0 23 rfl rfl
theorem dksX6_init_2 : cX6_init.data.toList.drop 47 = dktX6_init_2 := dk_seg dksX6_init_1 24 rfl rfl
theorem dksX6_init_3 : cX6_init.data.toList.drop 71 = dktX6_init_3 := dk_seg dksX6_init_2 24 rfl rfl
theorem dX6_init_0 : decode cX6_init 0 = .ok (.aload_n 0, 1) := dk_42 (dk_at dksX6_init_0 0 rfl rfl)
theorem dX6_init_1 : decode cX6_init 1 = .ok (.invokespecial 3, 3) := dk_183 0 3 (dk_at dksX6_init_0 1 rfl rfl)
theorem dX6_init_4 : decode cX6_init 4 = .ok (.aload_n 0, 1) := dk_42 (dk_at dksX6_init_0 4 rfl rfl)
theorem dX6_init_5 : decode cX6_init 5 = .ok (.new 9, 3) := dk_187 0 9 (dk_at dksX6_init_0 5 rfl rfl)
theorem dX6_init_8 : decode cX6_init 8 = .ok (.dup, 1) := dk_89 (dk_at dksX6_init_0 8 rfl rfl)
theorem dX6_init_9 : decode cX6_init 9 = .ok (.invokespecial 11, 3) := dk_183 0 11 (dk_at dksX6_init_0 9 rfl rfl)
theorem dX6_init_12 : decode cX6_init 12 = .ok (.putfield 12, 3) := dk_181 0 12 (dk_at dksX6_init_0 12 rfl rfl)
theorem dX6_init_15 : decode cX6_init 15 = .ok (.aload_n 0, 1) := dk_42 (dk_at dksX6_init_0 15 rfl rfl)
theorem dX6_init_16 : decode cX6_init 16 = .ok (.aload_n 1, 1) := dk_43 (dk_at dksX6_init_0 16 rfl rfl)
theorem dX6_init_17 : decode cX6_init 17 = .ok (.putfield 18, 3) := dk_181 0 18 (dk_at dksX6_init_0 17 rfl rfl)
theorem dX6_init_20 : decode cX6_init 20 = .ok (.aload_n 0, 1) := dk_42 (dk_at dksX6_init_0 20 rfl rfl)
theorem dX6_init_21 : decode cX6_init 21 = .ok (.aload_n 1, 1) := dk_43 (dk_at dksX6_init_0 21 rfl rfl)
theorem dX6_init_22 : decode cX6_init 22 = .ok (.arraylength, 1) := dk_190 (dk_at dksX6_init_0 22 rfl rfl)
theorem dX6_init_23 : decode cX6_init 23 = .ok (.newarray .int, 2) := dk_188_10 (dk_at dksX6_init_1 0 rfl rfl)
theorem dX6_init_25 : decode cX6_init 25 = .ok (.putfield 22, 3) := dk_181 0 22 (dk_at dksX6_init_1 2 rfl rfl)
theorem dX6_init_28 : decode cX6_init 28 = .ok (.aload_n 0, 1) := dk_42 (dk_at dksX6_init_1 5 rfl rfl)
theorem dX6_init_29 : decode cX6_init 29 = .ok (.aload_n 1, 1) := dk_43 (dk_at dksX6_init_1 6 rfl rfl)
theorem dX6_init_30 : decode cX6_init 30 = .ok (.arraylength, 1) := dk_190 (dk_at dksX6_init_1 7 rfl rfl)
theorem dX6_init_31 : decode cX6_init 31 = .ok (.newarray .int, 2) := dk_188_10 (dk_at dksX6_init_1 8 rfl rfl)
theorem dX6_init_33 : decode cX6_init 33 = .ok (.putfield 26, 3) := dk_181 0 26 (dk_at dksX6_init_1 10 rfl rfl)
theorem dX6_init_36 : decode cX6_init 36 = .ok (.aload_n 0, 1) := dk_42 (dk_at dksX6_init_1 13 rfl rfl)
theorem dX6_init_37 : decode cX6_init 37 = .ok (.aload_n 1, 1) := dk_43 (dk_at dksX6_init_1 14 rfl rfl)
theorem dX6_init_38 : decode cX6_init 38 = .ok (.arraylength, 1) := dk_190 (dk_at dksX6_init_1 15 rfl rfl)
theorem dX6_init_39 : decode cX6_init 39 = .ok (.newarray .int, 2) := dk_188_10 (dk_at dksX6_init_1 16 rfl rfl)
theorem dX6_init_41 : decode cX6_init 41 = .ok (.putfield 29, 3) := dk_181 0 29 (dk_at dksX6_init_1 18 rfl rfl)
theorem dX6_init_44 : decode cX6_init 44 = .ok (.iconst 0, 1) := dk_3 (dk_at dksX6_init_1 21 rfl rfl)
theorem dX6_init_45 : decode cX6_init 45 = .ok (.istore_n 2, 1) := dk_61 (dk_at dksX6_init_1 22 rfl rfl)
theorem dX6_init_46 : decode cX6_init 46 = .ok (.iload_n 2, 1) := dk_28 (dk_at dksX6_init_1 23 rfl rfl)
theorem dX6_init_47 : decode cX6_init 47 = .ok (.aload_n 1, 1) := dk_43 (dk_at dksX6_init_2 0 rfl rfl)
theorem dX6_init_48 : decode cX6_init 48 = .ok (.arraylength, 1) := dk_190 (dk_at dksX6_init_2 1 rfl rfl)
theorem dX6_init_49 : decode cX6_init 49 = .ok (.if_icmp .ge 31, 3) := dk_162 0 31 (dk_at dksX6_init_2 2 rfl rfl)
theorem dX6_init_52 : decode cX6_init 52 = .ok (.aload_n 0, 1) := dk_42 (dk_at dksX6_init_2 5 rfl rfl)
theorem dX6_init_53 : decode cX6_init 53 = .ok (.getfield 22, 3) := dk_180 0 22 (dk_at dksX6_init_2 6 rfl rfl)
theorem dX6_init_56 : decode cX6_init 56 = .ok (.iload_n 2, 1) := dk_28 (dk_at dksX6_init_2 9 rfl rfl)
theorem dX6_init_57 : decode cX6_init 57 = .ok (.iload_n 2, 1) := dk_28 (dk_at dksX6_init_2 10 rfl rfl)
theorem dX6_init_58 : decode cX6_init 58 = .ok (.ifCond .ne 7, 3) := dk_154 0 7 (dk_at dksX6_init_2 11 rfl rfl)
theorem dX6_init_61 : decode cX6_init 61 = .ok (.iconst 0, 1) := dk_3 (dk_at dksX6_init_2 14 rfl rfl)
theorem dX6_init_62 : decode cX6_init 62 = .ok (.goto 4, 3) := dk_167 0 4 (dk_at dksX6_init_2 15 rfl rfl)
theorem dX6_init_65 : decode cX6_init 65 = .ok (.iconst (-1), 1) := dk_2 (dk_at dksX6_init_2 18 rfl rfl)
theorem dX6_init_66 : decode cX6_init 66 = .ok (.iastore, 1) := dk_79 (dk_at dksX6_init_2 19 rfl rfl)
theorem dX6_init_67 : decode cX6_init 67 = .ok (.aload_n 0, 1) := dk_42 (dk_at dksX6_init_2 20 rfl rfl)
theorem dX6_init_68 : decode cX6_init 68 = .ok (.getfield 29, 3) := dk_180 0 29 (dk_at dksX6_init_2 21 rfl rfl)
theorem dX6_init_71 : decode cX6_init 71 = .ok (.iload_n 2, 1) := dk_28 (dk_at dksX6_init_3 0 rfl rfl)
theorem dX6_init_72 : decode cX6_init 72 = .ok (.iconst (-1), 1) := dk_2 (dk_at dksX6_init_3 1 rfl rfl)
theorem dX6_init_73 : decode cX6_init 73 = .ok (.iastore, 1) := dk_79 (dk_at dksX6_init_3 2 rfl rfl)
theorem dX6_init_74 : decode cX6_init 74 = .ok (.iinc 2 1, 3) := dk_132 2 1 (dk_at dksX6_init_3 3 rfl rfl)
theorem dX6_init_77 : decode cX6_init 77 = .ok (.goto (-31), 3) := dk_167 255 225 (dk_at dksX6_init_3 6 rfl rfl)
theorem dX6_init_80 : decode cX6_init 80 = .ok (.return_, 1) := dk_177 (dk_at dksX6_init_3 9 rfl rfl)
abbrev cX6_lay : ByteArray := prog_8_method_6_code
def yX6_lay : MethodName := ⟨RX6, "lay", "(LEventWindows$Square;II)LEventWindows$Square;"⟩
def dkwX6_lay_6 : List UInt8 := [46, 116, 182, 0, 89, 132, 4, 1, 167, 255, 203, 43, 182, 0, 93, 176]
abbrev dktX6_lay_6 : List UInt8 := dkwX6_lay_6 ++ []
def dkwX6_lay_5 : List UInt8 := [43, 3, 21, 4, 42, 180, 0, 22, 21, 4, 46, 182, 0, 89, 43, 21, 4, 3, 42, 180, 0, 22, 21, 4]
abbrev dktX6_lay_5 : List UInt8 := dkwX6_lay_5 ++ dktX6_lay_6
def dkwX6_lay_4 : List UInt8 := [4, 54, 4, 21, 4, 42, 182, 0, 82, 162, 0, 50, 42, 21, 4, 182, 0, 85, 153, 0, 6, 167, 0, 32]
abbrev dktX6_lay_4 : List UInt8 := dkwX6_lay_4 ++ dktX6_lay_5
def dkwX6_lay_3 : List UInt8 := [29, 5, 21, 4, 104, 4, 96, 159, 0, 7, 4, 167, 0, 4, 3, 182, 0, 78, 132, 4, 1, 167, 255, 172]
abbrev dktX6_lay_3 : List UInt8 := dkwX6_lay_3 ++ dktX6_lay_4
def dkwX6_lay_2 : List UInt8 := [21, 4, 184, 0, 74, 154, 0, 37, 25, 5, 43, 29, 5, 21, 4, 104, 159, 0, 7, 4, 167, 0, 4, 3]
abbrev dktX6_lay_2 : List UInt8 := dkwX6_lay_2 ++ dktX6_lay_3
def dkwX6_lay_1 : List UInt8 := [180, 0, 12, 21, 4, 185, 0, 41, 2, 0, 192, 0, 45, 58, 5, 25, 5, 180, 0, 70, 154, 0, 46, 28]
abbrev dktX6_lay_1 : List UInt8 := dkwX6_lay_1 ++ dktX6_lay_2
def dkwX6_lay_0 : List UInt8 := [43, 182, 0, 65, 3, 54, 4, 21, 4, 42, 180, 0, 12, 185, 0, 35, 1, 0, 162, 0, 76, 42]
abbrev dktX6_lay_0 : List UInt8 := dkwX6_lay_0 ++ dktX6_lay_1
theorem dksX6_lay_0 : cX6_lay.data.toList.drop 0 = dktX6_lay_0 := by decide +kernel
theorem dksX6_lay_1 : cX6_lay.data.toList.drop 22 = dktX6_lay_1 := dk_seg dksX6_lay_0 22 rfl rfl
theorem dksX6_lay_2 : cX6_lay.data.toList.drop 46 = dktX6_lay_2 := dk_seg dksX6_lay_1 24 rfl rfl
theorem dksX6_lay_3 : cX6_lay.data.toList.drop 70 = dktX6_lay_3 := dk_seg dksX6_lay_2 24 rfl rfl
theorem dksX6_lay_4 : cX6_lay.data.toList.drop 94 = dktX6_lay_4 := dk_seg dksX6_lay_3 24 rfl rfl
theorem dksX6_lay_5 : cX6_lay.data.toList.drop 118 = dktX6_lay_5 := dk_seg dksX6_lay_4 24 rfl rfl
theorem dksX6_lay_6 : cX6_lay.data.toList.drop 142 = dktX6_lay_6 := dk_seg dksX6_lay_5 24 rfl rfl
theorem dX6_lay_0 : decode cX6_lay 0 = .ok (.aload_n 1, 1) := dk_43 (dk_at dksX6_lay_0 0 rfl rfl)
theorem dX6_lay_1 : decode cX6_lay 1 = .ok (.invokevirtual 65, 3) := dk_182 0 65 (dk_at dksX6_lay_0 1 rfl rfl)
theorem dX6_lay_4 : decode cX6_lay 4 = .ok (.iconst 0, 1) := dk_3 (dk_at dksX6_lay_0 4 rfl rfl)
theorem dX6_lay_5 : decode cX6_lay 5 = .ok (.istore 4, 2) := dk_54 4 (dk_at dksX6_lay_0 5 rfl rfl)
theorem dX6_lay_7 : decode cX6_lay 7 = .ok (.iload 4, 2) := dk_21 4 (dk_at dksX6_lay_0 7 rfl rfl)
theorem dX6_lay_9 : decode cX6_lay 9 = .ok (.aload_n 0, 1) := dk_42 (dk_at dksX6_lay_0 9 rfl rfl)
theorem dX6_lay_10 : decode cX6_lay 10 = .ok (.getfield 12, 3) := dk_180 0 12 (dk_at dksX6_lay_0 10 rfl rfl)
theorem dX6_lay_13 : decode cX6_lay 13 = .ok (.invokeinterface 35 1, 5) := by decide +kernel
theorem dX6_lay_18 : decode cX6_lay 18 = .ok (.if_icmp .ge 76, 3) := dk_162 0 76 (dk_at dksX6_lay_0 18 rfl rfl)
theorem dX6_lay_21 : decode cX6_lay 21 = .ok (.aload_n 0, 1) := dk_42 (dk_at dksX6_lay_0 21 rfl rfl)
theorem dX6_lay_22 : decode cX6_lay 22 = .ok (.getfield 12, 3) := dk_180 0 12 (dk_at dksX6_lay_1 0 rfl rfl)
theorem dX6_lay_25 : decode cX6_lay 25 = .ok (.iload 4, 2) := dk_21 4 (dk_at dksX6_lay_1 3 rfl rfl)
theorem dX6_lay_27 : decode cX6_lay 27 = .ok (.invokeinterface 41 2, 5) := by decide +kernel
theorem dX6_lay_32 : decode cX6_lay 32 = .ok (.checkcast 45, 3) := dk_192 0 45 (dk_at dksX6_lay_1 10 rfl rfl)
theorem dX6_lay_35 : decode cX6_lay 35 = .ok (.astore 5, 2) := dk_58 5 (dk_at dksX6_lay_1 13 rfl rfl)
theorem dX6_lay_37 : decode cX6_lay 37 = .ok (.aload 5, 2) := dk_25 5 (dk_at dksX6_lay_1 15 rfl rfl)
theorem dX6_lay_39 : decode cX6_lay 39 = .ok (.getfield 70, 3) := dk_180 0 70 (dk_at dksX6_lay_1 17 rfl rfl)
theorem dX6_lay_42 : decode cX6_lay 42 = .ok (.ifCond .ne 46, 3) := dk_154 0 46 (dk_at dksX6_lay_1 20 rfl rfl)
theorem dX6_lay_45 : decode cX6_lay 45 = .ok (.iload_n 2, 1) := dk_28 (dk_at dksX6_lay_1 23 rfl rfl)
theorem dX6_lay_46 : decode cX6_lay 46 = .ok (.iload 4, 2) := dk_21 4 (dk_at dksX6_lay_2 0 rfl rfl)
theorem dX6_lay_48 : decode cX6_lay 48 = .ok (.invokestatic 74, 3) := dk_184 0 74 (dk_at dksX6_lay_2 2 rfl rfl)
theorem dX6_lay_51 : decode cX6_lay 51 = .ok (.ifCond .ne 37, 3) := dk_154 0 37 (dk_at dksX6_lay_2 5 rfl rfl)
theorem dX6_lay_54 : decode cX6_lay 54 = .ok (.aload 5, 2) := dk_25 5 (dk_at dksX6_lay_2 8 rfl rfl)
theorem dX6_lay_56 : decode cX6_lay 56 = .ok (.aload_n 1, 1) := dk_43 (dk_at dksX6_lay_2 10 rfl rfl)
theorem dX6_lay_57 : decode cX6_lay 57 = .ok (.iload_n 3, 1) := dk_29 (dk_at dksX6_lay_2 11 rfl rfl)
theorem dX6_lay_58 : decode cX6_lay 58 = .ok (.iconst 2, 1) := dk_5 (dk_at dksX6_lay_2 12 rfl rfl)
theorem dX6_lay_59 : decode cX6_lay 59 = .ok (.iload 4, 2) := dk_21 4 (dk_at dksX6_lay_2 13 rfl rfl)
theorem dX6_lay_61 : decode cX6_lay 61 = .ok (.imul, 1) := dk_104 (dk_at dksX6_lay_2 15 rfl rfl)
theorem dX6_lay_62 : decode cX6_lay 62 = .ok (.if_icmp .eq 7, 3) := dk_159 0 7 (dk_at dksX6_lay_2 16 rfl rfl)
theorem dX6_lay_65 : decode cX6_lay 65 = .ok (.iconst 1, 1) := dk_4 (dk_at dksX6_lay_2 19 rfl rfl)
theorem dX6_lay_66 : decode cX6_lay 66 = .ok (.goto 4, 3) := dk_167 0 4 (dk_at dksX6_lay_2 20 rfl rfl)
theorem dX6_lay_69 : decode cX6_lay 69 = .ok (.iconst 0, 1) := dk_3 (dk_at dksX6_lay_2 23 rfl rfl)
theorem dX6_lay_70 : decode cX6_lay 70 = .ok (.iload_n 3, 1) := dk_29 (dk_at dksX6_lay_3 0 rfl rfl)
theorem dX6_lay_71 : decode cX6_lay 71 = .ok (.iconst 2, 1) := dk_5 (dk_at dksX6_lay_3 1 rfl rfl)
theorem dX6_lay_72 : decode cX6_lay 72 = .ok (.iload 4, 2) := dk_21 4 (dk_at dksX6_lay_3 2 rfl rfl)
theorem dX6_lay_74 : decode cX6_lay 74 = .ok (.imul, 1) := dk_104 (dk_at dksX6_lay_3 4 rfl rfl)
theorem dX6_lay_75 : decode cX6_lay 75 = .ok (.iconst 1, 1) := dk_4 (dk_at dksX6_lay_3 5 rfl rfl)
theorem dX6_lay_76 : decode cX6_lay 76 = .ok (.iadd, 1) := dk_96 (dk_at dksX6_lay_3 6 rfl rfl)
theorem dX6_lay_77 : decode cX6_lay 77 = .ok (.if_icmp .eq 7, 3) := dk_159 0 7 (dk_at dksX6_lay_3 7 rfl rfl)
theorem dX6_lay_80 : decode cX6_lay 80 = .ok (.iconst 1, 1) := dk_4 (dk_at dksX6_lay_3 10 rfl rfl)
theorem dX6_lay_81 : decode cX6_lay 81 = .ok (.goto 4, 3) := dk_167 0 4 (dk_at dksX6_lay_3 11 rfl rfl)
theorem dX6_lay_84 : decode cX6_lay 84 = .ok (.iconst 0, 1) := dk_3 (dk_at dksX6_lay_3 14 rfl rfl)
theorem dX6_lay_85 : decode cX6_lay 85 = .ok (.invokevirtual 78, 3) := dk_182 0 78 (dk_at dksX6_lay_3 15 rfl rfl)
theorem dX6_lay_88 : decode cX6_lay 88 = .ok (.iinc 4 1, 3) := dk_132 4 1 (dk_at dksX6_lay_3 18 rfl rfl)
theorem dX6_lay_91 : decode cX6_lay 91 = .ok (.goto (-84), 3) := dk_167 255 172 (dk_at dksX6_lay_3 21 rfl rfl)
theorem dX6_lay_94 : decode cX6_lay 94 = .ok (.iconst 1, 1) := dk_4 (dk_at dksX6_lay_4 0 rfl rfl)
theorem dX6_lay_95 : decode cX6_lay 95 = .ok (.istore 4, 2) := dk_54 4 (dk_at dksX6_lay_4 1 rfl rfl)
theorem dX6_lay_97 : decode cX6_lay 97 = .ok (.iload 4, 2) := dk_21 4 (dk_at dksX6_lay_4 3 rfl rfl)
theorem dX6_lay_99 : decode cX6_lay 99 = .ok (.aload_n 0, 1) := dk_42 (dk_at dksX6_lay_4 5 rfl rfl)
theorem dX6_lay_100 : decode cX6_lay 100 = .ok (.invokevirtual 82, 3) := dk_182 0 82 (dk_at dksX6_lay_4 6 rfl rfl)
theorem dX6_lay_103 : decode cX6_lay 103 = .ok (.if_icmp .ge 50, 3) := dk_162 0 50 (dk_at dksX6_lay_4 9 rfl rfl)
theorem dX6_lay_106 : decode cX6_lay 106 = .ok (.aload_n 0, 1) := dk_42 (dk_at dksX6_lay_4 12 rfl rfl)
theorem dX6_lay_107 : decode cX6_lay 107 = .ok (.iload 4, 2) := dk_21 4 (dk_at dksX6_lay_4 13 rfl rfl)
theorem dX6_lay_109 : decode cX6_lay 109 = .ok (.invokevirtual 85, 3) := dk_182 0 85 (dk_at dksX6_lay_4 15 rfl rfl)
theorem dX6_lay_112 : decode cX6_lay 112 = .ok (.ifCond .eq 6, 3) := dk_153 0 6 (dk_at dksX6_lay_4 18 rfl rfl)
theorem dX6_lay_115 : decode cX6_lay 115 = .ok (.goto 32, 3) := dk_167 0 32 (dk_at dksX6_lay_4 21 rfl rfl)
theorem dX6_lay_118 : decode cX6_lay 118 = .ok (.aload_n 1, 1) := dk_43 (dk_at dksX6_lay_5 0 rfl rfl)
theorem dX6_lay_119 : decode cX6_lay 119 = .ok (.iconst 0, 1) := dk_3 (dk_at dksX6_lay_5 1 rfl rfl)
theorem dX6_lay_120 : decode cX6_lay 120 = .ok (.iload 4, 2) := dk_21 4 (dk_at dksX6_lay_5 2 rfl rfl)
theorem dX6_lay_122 : decode cX6_lay 122 = .ok (.aload_n 0, 1) := dk_42 (dk_at dksX6_lay_5 4 rfl rfl)
theorem dX6_lay_123 : decode cX6_lay 123 = .ok (.getfield 22, 3) := dk_180 0 22 (dk_at dksX6_lay_5 5 rfl rfl)
theorem dX6_lay_126 : decode cX6_lay 126 = .ok (.iload 4, 2) := dk_21 4 (dk_at dksX6_lay_5 8 rfl rfl)
theorem dX6_lay_128 : decode cX6_lay 128 = .ok (.iaload, 1) := dk_46 (dk_at dksX6_lay_5 10 rfl rfl)
theorem dX6_lay_129 : decode cX6_lay 129 = .ok (.invokevirtual 89, 3) := dk_182 0 89 (dk_at dksX6_lay_5 11 rfl rfl)
theorem dX6_lay_132 : decode cX6_lay 132 = .ok (.aload_n 1, 1) := dk_43 (dk_at dksX6_lay_5 14 rfl rfl)
theorem dX6_lay_133 : decode cX6_lay 133 = .ok (.iload 4, 2) := dk_21 4 (dk_at dksX6_lay_5 15 rfl rfl)
theorem dX6_lay_135 : decode cX6_lay 135 = .ok (.iconst 0, 1) := dk_3 (dk_at dksX6_lay_5 17 rfl rfl)
theorem dX6_lay_136 : decode cX6_lay 136 = .ok (.aload_n 0, 1) := dk_42 (dk_at dksX6_lay_5 18 rfl rfl)
theorem dX6_lay_137 : decode cX6_lay 137 = .ok (.getfield 22, 3) := dk_180 0 22 (dk_at dksX6_lay_5 19 rfl rfl)
theorem dX6_lay_140 : decode cX6_lay 140 = .ok (.iload 4, 2) := dk_21 4 (dk_at dksX6_lay_5 22 rfl rfl)
theorem dX6_lay_142 : decode cX6_lay 142 = .ok (.iaload, 1) := dk_46 (dk_at dksX6_lay_6 0 rfl rfl)
theorem dX6_lay_143 : decode cX6_lay 143 = .ok (.ineg, 1) := dk_116 (dk_at dksX6_lay_6 1 rfl rfl)
theorem dX6_lay_144 : decode cX6_lay 144 = .ok (.invokevirtual 89, 3) := dk_182 0 89 (dk_at dksX6_lay_6 2 rfl rfl)
theorem dX6_lay_147 : decode cX6_lay 147 = .ok (.iinc 4 1, 3) := dk_132 4 1 (dk_at dksX6_lay_6 5 rfl rfl)
theorem dX6_lay_150 : decode cX6_lay 150 = .ok (.goto (-53), 3) := dk_167 255 203 (dk_at dksX6_lay_6 8 rfl rfl)
theorem dX6_lay_153 : decode cX6_lay 153 = .ok (.aload_n 1, 1) := dk_43 (dk_at dksX6_lay_6 11 rfl rfl)
theorem dX6_lay_154 : decode cX6_lay 154 = .ok (.invokevirtual 93, 3) := dk_182 0 93 (dk_at dksX6_lay_6 12 rfl rfl)
theorem dX6_lay_157 : decode cX6_lay 157 = .ok (.areturn, 1) := dk_176 (dk_at dksX6_lay_6 15 rfl rfl)
abbrev cX6_isFree : ByteArray := prog_8_method_4_code
def yX6_isFree : MethodName := ⟨RX6, "isFree", "(I)Z"⟩
def dkwX6_isFree_0 : List UInt8 := [42, 180, 0, 22, 27, 46, 2, 160, 0, 7, 4, 167, 0, 4, 3, 172]
abbrev dktX6_isFree_0 : List UInt8 := dkwX6_isFree_0 ++ []
theorem dksX6_isFree_0 : cX6_isFree.data.toList.drop 0 = dktX6_isFree_0 := by decide +kernel
theorem dX6_isFree_0 : decode cX6_isFree 0 = .ok (.aload_n 0, 1) := dk_42 (dk_at dksX6_isFree_0 0 rfl rfl)
theorem dX6_isFree_1 : decode cX6_isFree 1 = .ok (.getfield 22, 3) := dk_180 0 22 (dk_at dksX6_isFree_0 1 rfl rfl)
theorem dX6_isFree_4 : decode cX6_isFree 4 = .ok (.iload_n 1, 1) := dk_27 (dk_at dksX6_isFree_0 4 rfl rfl)
theorem dX6_isFree_5 : decode cX6_isFree 5 = .ok (.iaload, 1) := dk_46 (dk_at dksX6_isFree_0 5 rfl rfl)
theorem dX6_isFree_6 : decode cX6_isFree 6 = .ok (.iconst (-1), 1) := dk_2 (dk_at dksX6_isFree_0 6 rfl rfl)
theorem dX6_isFree_7 : decode cX6_isFree 7 = .ok (.if_icmp .ne 7, 3) := dk_160 0 7 (dk_at dksX6_isFree_0 7 rfl rfl)
theorem dX6_isFree_10 : decode cX6_isFree 10 = .ok (.iconst 1, 1) := dk_4 (dk_at dksX6_isFree_0 10 rfl rfl)
theorem dX6_isFree_11 : decode cX6_isFree 11 = .ok (.goto 4, 3) := dk_167 0 4 (dk_at dksX6_isFree_0 11 rfl rfl)
theorem dX6_isFree_14 : decode cX6_isFree 14 = .ok (.iconst 0, 1) := dk_3 (dk_at dksX6_isFree_0 14 rfl rfl)
theorem dX6_isFree_15 : decode cX6_isFree 15 = .ok (.ireturn, 1) := dk_172 (dk_at dksX6_isFree_0 15 rfl rfl)
abbrev cX6_steps : ByteArray := prog_8_method_7_code
def yX6_steps : MethodName := ⟨RX6, "steps", "()Ljava/util/List;"⟩
def dkwX6_steps_11 : List UInt8 := [87, 132, 2, 1, 167, 255, 223, 43, 176]
abbrev dktX6_steps_11 : List UInt8 := dkwX6_steps_11 ++ []
def dkwX6_steps_10 : List UInt8 := [162, 0, 31, 43, 187, 0, 104, 89, 17, 1, 44, 28, 96, 28, 3, 3, 183, 0, 115, 185, 0, 51, 2, 0]
abbrev dktX6_steps_10 : List UInt8 := dkwX6_steps_10 ++ dktX6_steps_11
def dkwX6_steps_9 : List UInt8 := [116, 183, 0, 115, 185, 0, 51, 2, 0, 87, 132, 2, 1, 167, 255, 209, 4, 61, 28, 42, 182, 0, 82]
abbrev dktX6_steps_9 : List UInt8 := dkwX6_steps_9 ++ dktX6_steps_10
def dkwX6_steps_8 : List UInt8 := [182, 0, 85, 154, 0, 31, 43, 187, 0, 104, 89, 17, 0, 200, 28, 96, 28, 3, 42, 180, 0, 22, 28, 46]
abbrev dktX6_steps_8 : List UInt8 := dkwX6_steps_8 ++ dktX6_steps_9
def dkwX6_steps_7 : List UInt8 := [185, 0, 51, 2, 0, 87, 132, 2, 1, 167, 255, 211, 4, 61, 28, 42, 182, 0, 82, 162, 0, 45, 42, 28]
abbrev dktX6_steps_7 : List UInt8 := dkwX6_steps_7 ++ dktX6_steps_8
def dkwX6_steps_6 : List UInt8 := [154, 0, 29, 43, 187, 0, 104, 89, 16, 100, 28, 96, 3, 28, 42, 180, 0, 22, 28, 46, 183, 0, 115]
abbrev dktX6_steps_6 : List UInt8 := dkwX6_steps_6 ++ dktX6_steps_7
def dkwX6_steps_5 : List UInt8 := [87, 132, 2, 1, 167, 255, 149, 4, 61, 28, 42, 182, 0, 82, 162, 0, 43, 42, 28, 182, 0, 85]
abbrev dktX6_steps_5 : List UInt8 := dkwX6_steps_5 ++ dktX6_steps_6
def dkwX6_steps_4 : List UInt8 := [104, 4, 96, 45, 180, 0, 109, 45, 180, 0, 106, 45, 180, 0, 118, 116, 183, 0, 115, 185, 0, 51, 2, 0]
abbrev dktX6_steps_4 : List UInt8 := dkwX6_steps_4 ++ dktX6_steps_5
def dkwX6_steps_3 : List UInt8 := [183, 0, 115, 185, 0, 51, 2, 0, 87, 45, 4, 182, 0, 100, 153, 0, 35, 43, 187, 0, 104, 89, 5, 28]
abbrev dktX6_steps_3 : List UInt8 := dkwX6_steps_3 ++ dktX6_steps_4
def dkwX6_steps_2 : List UInt8 := [153, 0, 32, 43, 187, 0, 104, 89, 5, 28, 104, 45, 180, 0, 106, 45, 180, 0, 109, 45, 180, 0, 112]
abbrev dktX6_steps_2 : List UInt8 := dkwX6_steps_2 ++ dktX6_steps_3
def dkwX6_steps_1 : List UInt8 := [162, 0, 100, 42, 180, 0, 12, 28, 185, 0, 41, 2, 0, 192, 0, 45, 78, 45, 3, 182, 0, 100]
abbrev dktX6_steps_1 : List UInt8 := dkwX6_steps_1 ++ dktX6_steps_2
def dkwX6_steps_0 : List UInt8 := [187, 0, 9, 89, 16, 64, 183, 0, 97, 76, 3, 61, 28, 42, 180, 0, 12, 185, 0, 35, 1, 0]
abbrev dktX6_steps_0 : List UInt8 := dkwX6_steps_0 ++ dktX6_steps_1
theorem dksX6_steps_0 : cX6_steps.data.toList.drop 0 = dktX6_steps_0 := by decide +kernel
theorem dksX6_steps_1 : cX6_steps.data.toList.drop 22 = dktX6_steps_1 := dk_seg dksX6_steps_0 22 rfl rfl
theorem dksX6_steps_2 : cX6_steps.data.toList.drop 44 = dktX6_steps_2 := dk_seg dksX6_steps_1 22 rfl rfl
theorem dksX6_steps_3 : cX6_steps.data.toList.drop 67 = dktX6_steps_3 := dk_seg dksX6_steps_2 23 rfl rfl
theorem dksX6_steps_4 : cX6_steps.data.toList.drop 91 = dktX6_steps_4 := dk_seg dksX6_steps_3 24 rfl rfl
theorem dksX6_steps_5 : cX6_steps.data.toList.drop 115 = dktX6_steps_5 := dk_seg dksX6_steps_4 24 rfl rfl
theorem dksX6_steps_6 : cX6_steps.data.toList.drop 137 = dktX6_steps_6 := dk_seg dksX6_steps_5 22 rfl rfl
theorem dksX6_steps_7 : cX6_steps.data.toList.drop 160 = dktX6_steps_7 := dk_seg dksX6_steps_6 23 rfl rfl
theorem dksX6_steps_8 : cX6_steps.data.toList.drop 184 = dktX6_steps_8 := dk_seg dksX6_steps_7 24 rfl rfl
theorem dksX6_steps_9 : cX6_steps.data.toList.drop 208 = dktX6_steps_9 := dk_seg dksX6_steps_8 24 rfl rfl
theorem dksX6_steps_10 : cX6_steps.data.toList.drop 231 = dktX6_steps_10 := dk_seg dksX6_steps_9 23 rfl rfl
theorem dksX6_steps_11 : cX6_steps.data.toList.drop 255 = dktX6_steps_11 := dk_seg dksX6_steps_10 24 rfl rfl
theorem dX6_steps_0 : decode cX6_steps 0 = .ok (.new 9, 3) := dk_187 0 9 (dk_at dksX6_steps_0 0 rfl rfl)
theorem dX6_steps_3 : decode cX6_steps 3 = .ok (.dup, 1) := dk_89 (dk_at dksX6_steps_0 3 rfl rfl)
theorem dX6_steps_4 : decode cX6_steps 4 = .ok (.bipush 64, 2) := dk_16 64 (dk_at dksX6_steps_0 4 rfl rfl)
theorem dX6_steps_6 : decode cX6_steps 6 = .ok (.invokespecial 97, 3) := dk_183 0 97 (dk_at dksX6_steps_0 6 rfl rfl)
theorem dX6_steps_9 : decode cX6_steps 9 = .ok (.astore_n 1, 1) := dk_76 (dk_at dksX6_steps_0 9 rfl rfl)
theorem dX6_steps_10 : decode cX6_steps 10 = .ok (.iconst 0, 1) := dk_3 (dk_at dksX6_steps_0 10 rfl rfl)
theorem dX6_steps_11 : decode cX6_steps 11 = .ok (.istore_n 2, 1) := dk_61 (dk_at dksX6_steps_0 11 rfl rfl)
theorem dX6_steps_12 : decode cX6_steps 12 = .ok (.iload_n 2, 1) := dk_28 (dk_at dksX6_steps_0 12 rfl rfl)
theorem dX6_steps_13 : decode cX6_steps 13 = .ok (.aload_n 0, 1) := dk_42 (dk_at dksX6_steps_0 13 rfl rfl)
theorem dX6_steps_14 : decode cX6_steps 14 = .ok (.getfield 12, 3) := dk_180 0 12 (dk_at dksX6_steps_0 14 rfl rfl)
theorem dX6_steps_17 : decode cX6_steps 17 = .ok (.invokeinterface 35 1, 5) := by decide +kernel
theorem dX6_steps_22 : decode cX6_steps 22 = .ok (.if_icmp .ge 100, 3) := dk_162 0 100 (dk_at dksX6_steps_1 0 rfl rfl)
theorem dX6_steps_25 : decode cX6_steps 25 = .ok (.aload_n 0, 1) := dk_42 (dk_at dksX6_steps_1 3 rfl rfl)
theorem dX6_steps_26 : decode cX6_steps 26 = .ok (.getfield 12, 3) := dk_180 0 12 (dk_at dksX6_steps_1 4 rfl rfl)
theorem dX6_steps_29 : decode cX6_steps 29 = .ok (.iload_n 2, 1) := dk_28 (dk_at dksX6_steps_1 7 rfl rfl)
theorem dX6_steps_30 : decode cX6_steps 30 = .ok (.invokeinterface 41 2, 5) := by decide +kernel
theorem dX6_steps_35 : decode cX6_steps 35 = .ok (.checkcast 45, 3) := dk_192 0 45 (dk_at dksX6_steps_1 13 rfl rfl)
theorem dX6_steps_38 : decode cX6_steps 38 = .ok (.astore_n 3, 1) := dk_78 (dk_at dksX6_steps_1 16 rfl rfl)
theorem dX6_steps_39 : decode cX6_steps 39 = .ok (.aload_n 3, 1) := dk_45 (dk_at dksX6_steps_1 17 rfl rfl)
theorem dX6_steps_40 : decode cX6_steps 40 = .ok (.iconst 0, 1) := dk_3 (dk_at dksX6_steps_1 18 rfl rfl)
theorem dX6_steps_41 : decode cX6_steps 41 = .ok (.invokevirtual 100, 3) := dk_182 0 100 (dk_at dksX6_steps_1 19 rfl rfl)
theorem dX6_steps_44 : decode cX6_steps 44 = .ok (.ifCond .eq 32, 3) := dk_153 0 32 (dk_at dksX6_steps_2 0 rfl rfl)
theorem dX6_steps_47 : decode cX6_steps 47 = .ok (.aload_n 1, 1) := dk_43 (dk_at dksX6_steps_2 3 rfl rfl)
theorem dX6_steps_48 : decode cX6_steps 48 = .ok (.new 104, 3) := dk_187 0 104 (dk_at dksX6_steps_2 4 rfl rfl)
theorem dX6_steps_51 : decode cX6_steps 51 = .ok (.dup, 1) := dk_89 (dk_at dksX6_steps_2 7 rfl rfl)
theorem dX6_steps_52 : decode cX6_steps 52 = .ok (.iconst 2, 1) := dk_5 (dk_at dksX6_steps_2 8 rfl rfl)
theorem dX6_steps_53 : decode cX6_steps 53 = .ok (.iload_n 2, 1) := dk_28 (dk_at dksX6_steps_2 9 rfl rfl)
theorem dX6_steps_54 : decode cX6_steps 54 = .ok (.imul, 1) := dk_104 (dk_at dksX6_steps_2 10 rfl rfl)
theorem dX6_steps_55 : decode cX6_steps 55 = .ok (.aload_n 3, 1) := dk_45 (dk_at dksX6_steps_2 11 rfl rfl)
theorem dX6_steps_56 : decode cX6_steps 56 = .ok (.getfield 106, 3) := dk_180 0 106 (dk_at dksX6_steps_2 12 rfl rfl)
theorem dX6_steps_59 : decode cX6_steps 59 = .ok (.aload_n 3, 1) := dk_45 (dk_at dksX6_steps_2 15 rfl rfl)
theorem dX6_steps_60 : decode cX6_steps 60 = .ok (.getfield 109, 3) := dk_180 0 109 (dk_at dksX6_steps_2 16 rfl rfl)
theorem dX6_steps_63 : decode cX6_steps 63 = .ok (.aload_n 3, 1) := dk_45 (dk_at dksX6_steps_2 19 rfl rfl)
theorem dX6_steps_64 : decode cX6_steps 64 = .ok (.getfield 112, 3) := dk_180 0 112 (dk_at dksX6_steps_2 20 rfl rfl)
theorem dX6_steps_67 : decode cX6_steps 67 = .ok (.invokespecial 115, 3) := dk_183 0 115 (dk_at dksX6_steps_3 0 rfl rfl)
theorem dX6_steps_70 : decode cX6_steps 70 = .ok (.invokeinterface 51 2, 5) := by decide +kernel
theorem dX6_steps_75 : decode cX6_steps 75 = .ok (.pop, 1) := dk_87 (dk_at dksX6_steps_3 8 rfl rfl)
theorem dX6_steps_76 : decode cX6_steps 76 = .ok (.aload_n 3, 1) := dk_45 (dk_at dksX6_steps_3 9 rfl rfl)
theorem dX6_steps_77 : decode cX6_steps 77 = .ok (.iconst 1, 1) := dk_4 (dk_at dksX6_steps_3 10 rfl rfl)
theorem dX6_steps_78 : decode cX6_steps 78 = .ok (.invokevirtual 100, 3) := dk_182 0 100 (dk_at dksX6_steps_3 11 rfl rfl)
theorem dX6_steps_81 : decode cX6_steps 81 = .ok (.ifCond .eq 35, 3) := dk_153 0 35 (dk_at dksX6_steps_3 14 rfl rfl)
theorem dX6_steps_84 : decode cX6_steps 84 = .ok (.aload_n 1, 1) := dk_43 (dk_at dksX6_steps_3 17 rfl rfl)
theorem dX6_steps_85 : decode cX6_steps 85 = .ok (.new 104, 3) := dk_187 0 104 (dk_at dksX6_steps_3 18 rfl rfl)
theorem dX6_steps_88 : decode cX6_steps 88 = .ok (.dup, 1) := dk_89 (dk_at dksX6_steps_3 21 rfl rfl)
theorem dX6_steps_89 : decode cX6_steps 89 = .ok (.iconst 2, 1) := dk_5 (dk_at dksX6_steps_3 22 rfl rfl)
theorem dX6_steps_90 : decode cX6_steps 90 = .ok (.iload_n 2, 1) := dk_28 (dk_at dksX6_steps_3 23 rfl rfl)
theorem dX6_steps_91 : decode cX6_steps 91 = .ok (.imul, 1) := dk_104 (dk_at dksX6_steps_4 0 rfl rfl)
theorem dX6_steps_92 : decode cX6_steps 92 = .ok (.iconst 1, 1) := dk_4 (dk_at dksX6_steps_4 1 rfl rfl)
theorem dX6_steps_93 : decode cX6_steps 93 = .ok (.iadd, 1) := dk_96 (dk_at dksX6_steps_4 2 rfl rfl)
theorem dX6_steps_94 : decode cX6_steps 94 = .ok (.aload_n 3, 1) := dk_45 (dk_at dksX6_steps_4 3 rfl rfl)
theorem dX6_steps_95 : decode cX6_steps 95 = .ok (.getfield 109, 3) := dk_180 0 109 (dk_at dksX6_steps_4 4 rfl rfl)
theorem dX6_steps_98 : decode cX6_steps 98 = .ok (.aload_n 3, 1) := dk_45 (dk_at dksX6_steps_4 7 rfl rfl)
theorem dX6_steps_99 : decode cX6_steps 99 = .ok (.getfield 106, 3) := dk_180 0 106 (dk_at dksX6_steps_4 8 rfl rfl)
theorem dX6_steps_102 : decode cX6_steps 102 = .ok (.aload_n 3, 1) := dk_45 (dk_at dksX6_steps_4 11 rfl rfl)
theorem dX6_steps_103 : decode cX6_steps 103 = .ok (.getfield 118, 3) := dk_180 0 118 (dk_at dksX6_steps_4 12 rfl rfl)
theorem dX6_steps_106 : decode cX6_steps 106 = .ok (.ineg, 1) := dk_116 (dk_at dksX6_steps_4 15 rfl rfl)
theorem dX6_steps_107 : decode cX6_steps 107 = .ok (.invokespecial 115, 3) := dk_183 0 115 (dk_at dksX6_steps_4 16 rfl rfl)
theorem dX6_steps_110 : decode cX6_steps 110 = .ok (.invokeinterface 51 2, 5) := by decide +kernel
theorem dX6_steps_115 : decode cX6_steps 115 = .ok (.pop, 1) := dk_87 (dk_at dksX6_steps_5 0 rfl rfl)
theorem dX6_steps_116 : decode cX6_steps 116 = .ok (.iinc 2 1, 3) := dk_132 2 1 (dk_at dksX6_steps_5 1 rfl rfl)
theorem dX6_steps_119 : decode cX6_steps 119 = .ok (.goto (-107), 3) := dk_167 255 149 (dk_at dksX6_steps_5 4 rfl rfl)
theorem dX6_steps_122 : decode cX6_steps 122 = .ok (.iconst 1, 1) := dk_4 (dk_at dksX6_steps_5 7 rfl rfl)
theorem dX6_steps_123 : decode cX6_steps 123 = .ok (.istore_n 2, 1) := dk_61 (dk_at dksX6_steps_5 8 rfl rfl)
theorem dX6_steps_124 : decode cX6_steps 124 = .ok (.iload_n 2, 1) := dk_28 (dk_at dksX6_steps_5 9 rfl rfl)
theorem dX6_steps_125 : decode cX6_steps 125 = .ok (.aload_n 0, 1) := dk_42 (dk_at dksX6_steps_5 10 rfl rfl)
theorem dX6_steps_126 : decode cX6_steps 126 = .ok (.invokevirtual 82, 3) := dk_182 0 82 (dk_at dksX6_steps_5 11 rfl rfl)
theorem dX6_steps_129 : decode cX6_steps 129 = .ok (.if_icmp .ge 43, 3) := dk_162 0 43 (dk_at dksX6_steps_5 14 rfl rfl)
theorem dX6_steps_132 : decode cX6_steps 132 = .ok (.aload_n 0, 1) := dk_42 (dk_at dksX6_steps_5 17 rfl rfl)
theorem dX6_steps_133 : decode cX6_steps 133 = .ok (.iload_n 2, 1) := dk_28 (dk_at dksX6_steps_5 18 rfl rfl)
theorem dX6_steps_134 : decode cX6_steps 134 = .ok (.invokevirtual 85, 3) := dk_182 0 85 (dk_at dksX6_steps_5 19 rfl rfl)
theorem dX6_steps_137 : decode cX6_steps 137 = .ok (.ifCond .ne 29, 3) := dk_154 0 29 (dk_at dksX6_steps_6 0 rfl rfl)
theorem dX6_steps_140 : decode cX6_steps 140 = .ok (.aload_n 1, 1) := dk_43 (dk_at dksX6_steps_6 3 rfl rfl)
theorem dX6_steps_141 : decode cX6_steps 141 = .ok (.new 104, 3) := dk_187 0 104 (dk_at dksX6_steps_6 4 rfl rfl)
theorem dX6_steps_144 : decode cX6_steps 144 = .ok (.dup, 1) := dk_89 (dk_at dksX6_steps_6 7 rfl rfl)
theorem dX6_steps_145 : decode cX6_steps 145 = .ok (.bipush 100, 2) := dk_16 100 (dk_at dksX6_steps_6 8 rfl rfl)
theorem dX6_steps_147 : decode cX6_steps 147 = .ok (.iload_n 2, 1) := dk_28 (dk_at dksX6_steps_6 10 rfl rfl)
theorem dX6_steps_148 : decode cX6_steps 148 = .ok (.iadd, 1) := dk_96 (dk_at dksX6_steps_6 11 rfl rfl)
theorem dX6_steps_149 : decode cX6_steps 149 = .ok (.iconst 0, 1) := dk_3 (dk_at dksX6_steps_6 12 rfl rfl)
theorem dX6_steps_150 : decode cX6_steps 150 = .ok (.iload_n 2, 1) := dk_28 (dk_at dksX6_steps_6 13 rfl rfl)
theorem dX6_steps_151 : decode cX6_steps 151 = .ok (.aload_n 0, 1) := dk_42 (dk_at dksX6_steps_6 14 rfl rfl)
theorem dX6_steps_152 : decode cX6_steps 152 = .ok (.getfield 22, 3) := dk_180 0 22 (dk_at dksX6_steps_6 15 rfl rfl)
theorem dX6_steps_155 : decode cX6_steps 155 = .ok (.iload_n 2, 1) := dk_28 (dk_at dksX6_steps_6 18 rfl rfl)
theorem dX6_steps_156 : decode cX6_steps 156 = .ok (.iaload, 1) := dk_46 (dk_at dksX6_steps_6 19 rfl rfl)
theorem dX6_steps_157 : decode cX6_steps 157 = .ok (.invokespecial 115, 3) := dk_183 0 115 (dk_at dksX6_steps_6 20 rfl rfl)
theorem dX6_steps_160 : decode cX6_steps 160 = .ok (.invokeinterface 51 2, 5) := by decide +kernel
theorem dX6_steps_165 : decode cX6_steps 165 = .ok (.pop, 1) := dk_87 (dk_at dksX6_steps_7 5 rfl rfl)
theorem dX6_steps_166 : decode cX6_steps 166 = .ok (.iinc 2 1, 3) := dk_132 2 1 (dk_at dksX6_steps_7 6 rfl rfl)
theorem dX6_steps_169 : decode cX6_steps 169 = .ok (.goto (-45), 3) := dk_167 255 211 (dk_at dksX6_steps_7 9 rfl rfl)
theorem dX6_steps_172 : decode cX6_steps 172 = .ok (.iconst 1, 1) := dk_4 (dk_at dksX6_steps_7 12 rfl rfl)
theorem dX6_steps_173 : decode cX6_steps 173 = .ok (.istore_n 2, 1) := dk_61 (dk_at dksX6_steps_7 13 rfl rfl)
theorem dX6_steps_174 : decode cX6_steps 174 = .ok (.iload_n 2, 1) := dk_28 (dk_at dksX6_steps_7 14 rfl rfl)
theorem dX6_steps_175 : decode cX6_steps 175 = .ok (.aload_n 0, 1) := dk_42 (dk_at dksX6_steps_7 15 rfl rfl)
theorem dX6_steps_176 : decode cX6_steps 176 = .ok (.invokevirtual 82, 3) := dk_182 0 82 (dk_at dksX6_steps_7 16 rfl rfl)
theorem dX6_steps_179 : decode cX6_steps 179 = .ok (.if_icmp .ge 45, 3) := dk_162 0 45 (dk_at dksX6_steps_7 19 rfl rfl)
theorem dX6_steps_182 : decode cX6_steps 182 = .ok (.aload_n 0, 1) := dk_42 (dk_at dksX6_steps_7 22 rfl rfl)
theorem dX6_steps_183 : decode cX6_steps 183 = .ok (.iload_n 2, 1) := dk_28 (dk_at dksX6_steps_7 23 rfl rfl)
theorem dX6_steps_184 : decode cX6_steps 184 = .ok (.invokevirtual 85, 3) := dk_182 0 85 (dk_at dksX6_steps_8 0 rfl rfl)
theorem dX6_steps_187 : decode cX6_steps 187 = .ok (.ifCond .ne 31, 3) := dk_154 0 31 (dk_at dksX6_steps_8 3 rfl rfl)
theorem dX6_steps_190 : decode cX6_steps 190 = .ok (.aload_n 1, 1) := dk_43 (dk_at dksX6_steps_8 6 rfl rfl)
theorem dX6_steps_191 : decode cX6_steps 191 = .ok (.new 104, 3) := dk_187 0 104 (dk_at dksX6_steps_8 7 rfl rfl)
theorem dX6_steps_194 : decode cX6_steps 194 = .ok (.dup, 1) := dk_89 (dk_at dksX6_steps_8 10 rfl rfl)
theorem dX6_steps_195 : decode cX6_steps 195 = .ok (.sipush 200, 3) := dk_17 0 200 (dk_at dksX6_steps_8 11 rfl rfl)
theorem dX6_steps_198 : decode cX6_steps 198 = .ok (.iload_n 2, 1) := dk_28 (dk_at dksX6_steps_8 14 rfl rfl)
theorem dX6_steps_199 : decode cX6_steps 199 = .ok (.iadd, 1) := dk_96 (dk_at dksX6_steps_8 15 rfl rfl)
theorem dX6_steps_200 : decode cX6_steps 200 = .ok (.iload_n 2, 1) := dk_28 (dk_at dksX6_steps_8 16 rfl rfl)
theorem dX6_steps_201 : decode cX6_steps 201 = .ok (.iconst 0, 1) := dk_3 (dk_at dksX6_steps_8 17 rfl rfl)
theorem dX6_steps_202 : decode cX6_steps 202 = .ok (.aload_n 0, 1) := dk_42 (dk_at dksX6_steps_8 18 rfl rfl)
theorem dX6_steps_203 : decode cX6_steps 203 = .ok (.getfield 22, 3) := dk_180 0 22 (dk_at dksX6_steps_8 19 rfl rfl)
theorem dX6_steps_206 : decode cX6_steps 206 = .ok (.iload_n 2, 1) := dk_28 (dk_at dksX6_steps_8 22 rfl rfl)
theorem dX6_steps_207 : decode cX6_steps 207 = .ok (.iaload, 1) := dk_46 (dk_at dksX6_steps_8 23 rfl rfl)
theorem dX6_steps_208 : decode cX6_steps 208 = .ok (.ineg, 1) := dk_116 (dk_at dksX6_steps_9 0 rfl rfl)
theorem dX6_steps_209 : decode cX6_steps 209 = .ok (.invokespecial 115, 3) := dk_183 0 115 (dk_at dksX6_steps_9 1 rfl rfl)
theorem dX6_steps_212 : decode cX6_steps 212 = .ok (.invokeinterface 51 2, 5) := by decide +kernel
theorem dX6_steps_217 : decode cX6_steps 217 = .ok (.pop, 1) := dk_87 (dk_at dksX6_steps_9 9 rfl rfl)
theorem dX6_steps_218 : decode cX6_steps 218 = .ok (.iinc 2 1, 3) := dk_132 2 1 (dk_at dksX6_steps_9 10 rfl rfl)
theorem dX6_steps_221 : decode cX6_steps 221 = .ok (.goto (-47), 3) := dk_167 255 209 (dk_at dksX6_steps_9 13 rfl rfl)
theorem dX6_steps_224 : decode cX6_steps 224 = .ok (.iconst 1, 1) := dk_4 (dk_at dksX6_steps_9 16 rfl rfl)
theorem dX6_steps_225 : decode cX6_steps 225 = .ok (.istore_n 2, 1) := dk_61 (dk_at dksX6_steps_9 17 rfl rfl)
theorem dX6_steps_226 : decode cX6_steps 226 = .ok (.iload_n 2, 1) := dk_28 (dk_at dksX6_steps_9 18 rfl rfl)
theorem dX6_steps_227 : decode cX6_steps 227 = .ok (.aload_n 0, 1) := dk_42 (dk_at dksX6_steps_9 19 rfl rfl)
theorem dX6_steps_228 : decode cX6_steps 228 = .ok (.invokevirtual 82, 3) := dk_182 0 82 (dk_at dksX6_steps_9 20 rfl rfl)
theorem dX6_steps_231 : decode cX6_steps 231 = .ok (.if_icmp .ge 31, 3) := dk_162 0 31 (dk_at dksX6_steps_10 0 rfl rfl)
theorem dX6_steps_234 : decode cX6_steps 234 = .ok (.aload_n 1, 1) := dk_43 (dk_at dksX6_steps_10 3 rfl rfl)
theorem dX6_steps_235 : decode cX6_steps 235 = .ok (.new 104, 3) := dk_187 0 104 (dk_at dksX6_steps_10 4 rfl rfl)
theorem dX6_steps_238 : decode cX6_steps 238 = .ok (.dup, 1) := dk_89 (dk_at dksX6_steps_10 7 rfl rfl)
theorem dX6_steps_239 : decode cX6_steps 239 = .ok (.sipush 300, 3) := dk_17 1 44 (dk_at dksX6_steps_10 8 rfl rfl)
theorem dX6_steps_242 : decode cX6_steps 242 = .ok (.iload_n 2, 1) := dk_28 (dk_at dksX6_steps_10 11 rfl rfl)
theorem dX6_steps_243 : decode cX6_steps 243 = .ok (.iadd, 1) := dk_96 (dk_at dksX6_steps_10 12 rfl rfl)
theorem dX6_steps_244 : decode cX6_steps 244 = .ok (.iload_n 2, 1) := dk_28 (dk_at dksX6_steps_10 13 rfl rfl)
theorem dX6_steps_245 : decode cX6_steps 245 = .ok (.iconst 0, 1) := dk_3 (dk_at dksX6_steps_10 14 rfl rfl)
theorem dX6_steps_246 : decode cX6_steps 246 = .ok (.iconst 0, 1) := dk_3 (dk_at dksX6_steps_10 15 rfl rfl)
theorem dX6_steps_247 : decode cX6_steps 247 = .ok (.invokespecial 115, 3) := dk_183 0 115 (dk_at dksX6_steps_10 16 rfl rfl)
theorem dX6_steps_250 : decode cX6_steps 250 = .ok (.invokeinterface 51 2, 5) := by decide +kernel
theorem dX6_steps_255 : decode cX6_steps 255 = .ok (.pop, 1) := dk_87 (dk_at dksX6_steps_11 0 rfl rfl)
theorem dX6_steps_256 : decode cX6_steps 256 = .ok (.iinc 2 1, 3) := dk_132 2 1 (dk_at dksX6_steps_11 1 rfl rfl)
theorem dX6_steps_259 : decode cX6_steps 259 = .ok (.goto (-33), 3) := dk_167 255 223 (dk_at dksX6_steps_11 4 rfl rfl)
theorem dX6_steps_262 : decode cX6_steps 262 = .ok (.aload_n 1, 1) := dk_43 (dk_at dksX6_steps_11 7 rfl rfl)
theorem dX6_steps_263 : decode cX6_steps 263 = .ok (.areturn, 1) := dk_176 (dk_at dksX6_steps_11 8 rfl rfl)
abbrev cX6_part : ByteArray := prog_8_method_8_code
def yX6_part : MethodName := ⟨RX6, "part", "(I)I"⟩
def dkwX6_part_4 : List UInt8 := [128, 128, 61, 132, 4, 1, 167, 255, 173, 167, 255, 160, 28, 172]
abbrev dktX6_part_4 : List UInt8 := dkwX6_part_4 ++ []
def dkwX6_part_3 : List UInt8 := [180, 0, 109, 184, 0, 74, 153, 0, 21, 28, 4, 25, 5, 180, 0, 106, 120, 4, 25, 5, 180, 0, 109, 120]
abbrev dktX6_part_3 : List UInt8 := dkwX6_part_3 ++ dktX6_part_4
def dkwX6_part_2 : List UInt8 := [25, 5, 180, 0, 70, 154, 0, 45, 28, 25, 5, 180, 0, 106, 184, 0, 74, 154, 0, 15, 28, 25, 5]
abbrev dktX6_part_2 : List UInt8 := dkwX6_part_2 ++ dktX6_part_3
def dkwX6_part_1 : List UInt8 := [185, 0, 35, 1, 0, 162, 0, 75, 42, 180, 0, 12, 21, 4, 185, 0, 41, 2, 0, 192, 0, 45, 58, 5]
abbrev dktX6_part_1 : List UInt8 := dkwX6_part_1 ++ dktX6_part_2
def dkwX6_part_0 : List UInt8 := [4, 27, 120, 61, 3, 62, 29, 28, 159, 0, 97, 28, 62, 3, 54, 4, 21, 4, 42, 180, 0, 12]
abbrev dktX6_part_0 : List UInt8 := dkwX6_part_0 ++ dktX6_part_1
theorem dksX6_part_0 : cX6_part.data.toList.drop 0 = dktX6_part_0 := by decide +kernel
theorem dksX6_part_1 : cX6_part.data.toList.drop 22 = dktX6_part_1 := dk_seg dksX6_part_0 22 rfl rfl
theorem dksX6_part_2 : cX6_part.data.toList.drop 46 = dktX6_part_2 := dk_seg dksX6_part_1 24 rfl rfl
theorem dksX6_part_3 : cX6_part.data.toList.drop 69 = dktX6_part_3 := dk_seg dksX6_part_2 23 rfl rfl
theorem dksX6_part_4 : cX6_part.data.toList.drop 93 = dktX6_part_4 := dk_seg dksX6_part_3 24 rfl rfl
theorem dX6_part_0 : decode cX6_part 0 = .ok (.iconst 1, 1) := dk_4 (dk_at dksX6_part_0 0 rfl rfl)
theorem dX6_part_1 : decode cX6_part 1 = .ok (.iload_n 1, 1) := dk_27 (dk_at dksX6_part_0 1 rfl rfl)
theorem dX6_part_2 : decode cX6_part 2 = .ok (.ishl, 1) := dk_120 (dk_at dksX6_part_0 2 rfl rfl)
theorem dX6_part_3 : decode cX6_part 3 = .ok (.istore_n 2, 1) := dk_61 (dk_at dksX6_part_0 3 rfl rfl)
theorem dX6_part_4 : decode cX6_part 4 = .ok (.iconst 0, 1) := dk_3 (dk_at dksX6_part_0 4 rfl rfl)
theorem dX6_part_5 : decode cX6_part 5 = .ok (.istore_n 3, 1) := dk_62 (dk_at dksX6_part_0 5 rfl rfl)
theorem dX6_part_6 : decode cX6_part 6 = .ok (.iload_n 3, 1) := dk_29 (dk_at dksX6_part_0 6 rfl rfl)
theorem dX6_part_7 : decode cX6_part 7 = .ok (.iload_n 2, 1) := dk_28 (dk_at dksX6_part_0 7 rfl rfl)
theorem dX6_part_8 : decode cX6_part 8 = .ok (.if_icmp .eq 97, 3) := dk_159 0 97 (dk_at dksX6_part_0 8 rfl rfl)
theorem dX6_part_11 : decode cX6_part 11 = .ok (.iload_n 2, 1) := dk_28 (dk_at dksX6_part_0 11 rfl rfl)
theorem dX6_part_12 : decode cX6_part 12 = .ok (.istore_n 3, 1) := dk_62 (dk_at dksX6_part_0 12 rfl rfl)
theorem dX6_part_13 : decode cX6_part 13 = .ok (.iconst 0, 1) := dk_3 (dk_at dksX6_part_0 13 rfl rfl)
theorem dX6_part_14 : decode cX6_part 14 = .ok (.istore 4, 2) := dk_54 4 (dk_at dksX6_part_0 14 rfl rfl)
theorem dX6_part_16 : decode cX6_part 16 = .ok (.iload 4, 2) := dk_21 4 (dk_at dksX6_part_0 16 rfl rfl)
theorem dX6_part_18 : decode cX6_part 18 = .ok (.aload_n 0, 1) := dk_42 (dk_at dksX6_part_0 18 rfl rfl)
theorem dX6_part_19 : decode cX6_part 19 = .ok (.getfield 12, 3) := dk_180 0 12 (dk_at dksX6_part_0 19 rfl rfl)
theorem dX6_part_22 : decode cX6_part 22 = .ok (.invokeinterface 35 1, 5) := by decide +kernel
theorem dX6_part_27 : decode cX6_part 27 = .ok (.if_icmp .ge 75, 3) := dk_162 0 75 (dk_at dksX6_part_1 5 rfl rfl)
theorem dX6_part_30 : decode cX6_part 30 = .ok (.aload_n 0, 1) := dk_42 (dk_at dksX6_part_1 8 rfl rfl)
theorem dX6_part_31 : decode cX6_part 31 = .ok (.getfield 12, 3) := dk_180 0 12 (dk_at dksX6_part_1 9 rfl rfl)
theorem dX6_part_34 : decode cX6_part 34 = .ok (.iload 4, 2) := dk_21 4 (dk_at dksX6_part_1 12 rfl rfl)
theorem dX6_part_36 : decode cX6_part 36 = .ok (.invokeinterface 41 2, 5) := by decide +kernel
theorem dX6_part_41 : decode cX6_part 41 = .ok (.checkcast 45, 3) := dk_192 0 45 (dk_at dksX6_part_1 19 rfl rfl)
theorem dX6_part_44 : decode cX6_part 44 = .ok (.astore 5, 2) := dk_58 5 (dk_at dksX6_part_1 22 rfl rfl)
theorem dX6_part_46 : decode cX6_part 46 = .ok (.aload 5, 2) := dk_25 5 (dk_at dksX6_part_2 0 rfl rfl)
theorem dX6_part_48 : decode cX6_part 48 = .ok (.getfield 70, 3) := dk_180 0 70 (dk_at dksX6_part_2 2 rfl rfl)
theorem dX6_part_51 : decode cX6_part 51 = .ok (.ifCond .ne 45, 3) := dk_154 0 45 (dk_at dksX6_part_2 5 rfl rfl)
theorem dX6_part_54 : decode cX6_part 54 = .ok (.iload_n 2, 1) := dk_28 (dk_at dksX6_part_2 8 rfl rfl)
theorem dX6_part_55 : decode cX6_part 55 = .ok (.aload 5, 2) := dk_25 5 (dk_at dksX6_part_2 9 rfl rfl)
theorem dX6_part_57 : decode cX6_part 57 = .ok (.getfield 106, 3) := dk_180 0 106 (dk_at dksX6_part_2 11 rfl rfl)
theorem dX6_part_60 : decode cX6_part 60 = .ok (.invokestatic 74, 3) := dk_184 0 74 (dk_at dksX6_part_2 14 rfl rfl)
theorem dX6_part_63 : decode cX6_part 63 = .ok (.ifCond .ne 15, 3) := dk_154 0 15 (dk_at dksX6_part_2 17 rfl rfl)
theorem dX6_part_66 : decode cX6_part 66 = .ok (.iload_n 2, 1) := dk_28 (dk_at dksX6_part_2 20 rfl rfl)
theorem dX6_part_67 : decode cX6_part 67 = .ok (.aload 5, 2) := dk_25 5 (dk_at dksX6_part_2 21 rfl rfl)
theorem dX6_part_69 : decode cX6_part 69 = .ok (.getfield 109, 3) := dk_180 0 109 (dk_at dksX6_part_3 0 rfl rfl)
theorem dX6_part_72 : decode cX6_part 72 = .ok (.invokestatic 74, 3) := dk_184 0 74 (dk_at dksX6_part_3 3 rfl rfl)
theorem dX6_part_75 : decode cX6_part 75 = .ok (.ifCond .eq 21, 3) := dk_153 0 21 (dk_at dksX6_part_3 6 rfl rfl)
theorem dX6_part_78 : decode cX6_part 78 = .ok (.iload_n 2, 1) := dk_28 (dk_at dksX6_part_3 9 rfl rfl)
theorem dX6_part_79 : decode cX6_part 79 = .ok (.iconst 1, 1) := dk_4 (dk_at dksX6_part_3 10 rfl rfl)
theorem dX6_part_80 : decode cX6_part 80 = .ok (.aload 5, 2) := dk_25 5 (dk_at dksX6_part_3 11 rfl rfl)
theorem dX6_part_82 : decode cX6_part 82 = .ok (.getfield 106, 3) := dk_180 0 106 (dk_at dksX6_part_3 13 rfl rfl)
theorem dX6_part_85 : decode cX6_part 85 = .ok (.ishl, 1) := dk_120 (dk_at dksX6_part_3 16 rfl rfl)
theorem dX6_part_86 : decode cX6_part 86 = .ok (.iconst 1, 1) := dk_4 (dk_at dksX6_part_3 17 rfl rfl)
theorem dX6_part_87 : decode cX6_part 87 = .ok (.aload 5, 2) := dk_25 5 (dk_at dksX6_part_3 18 rfl rfl)
theorem dX6_part_89 : decode cX6_part 89 = .ok (.getfield 109, 3) := dk_180 0 109 (dk_at dksX6_part_3 20 rfl rfl)
theorem dX6_part_92 : decode cX6_part 92 = .ok (.ishl, 1) := dk_120 (dk_at dksX6_part_3 23 rfl rfl)
theorem dX6_part_93 : decode cX6_part 93 = .ok (.ior, 1) := dk_128 (dk_at dksX6_part_4 0 rfl rfl)
theorem dX6_part_94 : decode cX6_part 94 = .ok (.ior, 1) := dk_128 (dk_at dksX6_part_4 1 rfl rfl)
theorem dX6_part_95 : decode cX6_part 95 = .ok (.istore_n 2, 1) := dk_61 (dk_at dksX6_part_4 2 rfl rfl)
theorem dX6_part_96 : decode cX6_part 96 = .ok (.iinc 4 1, 3) := dk_132 4 1 (dk_at dksX6_part_4 3 rfl rfl)
theorem dX6_part_99 : decode cX6_part 99 = .ok (.goto (-83), 3) := dk_167 255 173 (dk_at dksX6_part_4 6 rfl rfl)
theorem dX6_part_102 : decode cX6_part 102 = .ok (.goto (-96), 3) := dk_167 255 160 (dk_at dksX6_part_4 9 rfl rfl)
theorem dX6_part_105 : decode cX6_part 105 = .ok (.iload_n 2, 1) := dk_28 (dk_at dksX6_part_4 12 rfl rfl)
theorem dX6_part_106 : decode cX6_part 106 = .ok (.ireturn, 1) := dk_172 (dk_at dksX6_part_4 13 rfl rfl)
abbrev cX6_copy : ByteArray := prog_8_method_2_code
def yX6_copy : MethodName := ⟨RX6, "copy", "()LEventWindows$Net;"⟩
def dkwX6_copy_4 : List UInt8 := [184, 0, 55, 42, 180, 0, 29, 3, 43, 180, 0, 29, 3, 42, 180, 0, 29, 190, 184, 0, 55, 43, 176]
abbrev dktX6_copy_4 : List UInt8 := dkwX6_copy_4 ++ []
def dkwX6_copy_3 : List UInt8 := [180, 0, 22, 190, 184, 0, 55, 42, 180, 0, 26, 3, 43, 180, 0, 26, 3, 42, 180, 0, 26, 190]
abbrev dktX6_copy_3 : List UInt8 := dkwX6_copy_3 ++ dktX6_copy_4
def dkwX6_copy_2 : List UInt8 := [185, 0, 51, 2, 0, 87, 132, 2, 1, 167, 255, 214, 42, 180, 0, 22, 3, 43, 180, 0, 22, 3, 42]
abbrev dktX6_copy_2 : List UInt8 := dkwX6_copy_2 ++ dktX6_copy_3
def dkwX6_copy_1 : List UInt8 := [162, 0, 35, 43, 180, 0, 12, 42, 180, 0, 12, 28, 185, 0, 41, 2, 0, 192, 0, 45, 182, 0, 47]
abbrev dktX6_copy_1 : List UInt8 := dkwX6_copy_1 ++ dktX6_copy_2
def dkwX6_copy_0 : List UInt8 := [187, 0, 13, 89, 42, 180, 0, 18, 183, 0, 32, 76, 3, 61, 28, 42, 180, 0, 12, 185, 0, 35, 1, 0]
abbrev dktX6_copy_0 : List UInt8 := dkwX6_copy_0 ++ dktX6_copy_1
theorem dksX6_copy_0 : cX6_copy.data.toList.drop 0 = dktX6_copy_0 := by decide +kernel
theorem dksX6_copy_1 : cX6_copy.data.toList.drop 24 = dktX6_copy_1 := dk_seg dksX6_copy_0 24 rfl rfl
theorem dksX6_copy_2 : cX6_copy.data.toList.drop 47 = dktX6_copy_2 := dk_seg dksX6_copy_1 23 rfl rfl
theorem dksX6_copy_3 : cX6_copy.data.toList.drop 70 = dktX6_copy_3 := dk_seg dksX6_copy_2 23 rfl rfl
theorem dksX6_copy_4 : cX6_copy.data.toList.drop 92 = dktX6_copy_4 := dk_seg dksX6_copy_3 22 rfl rfl
theorem dX6_copy_0 : decode cX6_copy 0 = .ok (.new 13, 3) := dk_187 0 13 (dk_at dksX6_copy_0 0 rfl rfl)
theorem dX6_copy_3 : decode cX6_copy 3 = .ok (.dup, 1) := dk_89 (dk_at dksX6_copy_0 3 rfl rfl)
theorem dX6_copy_4 : decode cX6_copy 4 = .ok (.aload_n 0, 1) := dk_42 (dk_at dksX6_copy_0 4 rfl rfl)
theorem dX6_copy_5 : decode cX6_copy 5 = .ok (.getfield 18, 3) := dk_180 0 18 (dk_at dksX6_copy_0 5 rfl rfl)
theorem dX6_copy_8 : decode cX6_copy 8 = .ok (.invokespecial 32, 3) := dk_183 0 32 (dk_at dksX6_copy_0 8 rfl rfl)
theorem dX6_copy_11 : decode cX6_copy 11 = .ok (.astore_n 1, 1) := dk_76 (dk_at dksX6_copy_0 11 rfl rfl)
theorem dX6_copy_12 : decode cX6_copy 12 = .ok (.iconst 0, 1) := dk_3 (dk_at dksX6_copy_0 12 rfl rfl)
theorem dX6_copy_13 : decode cX6_copy 13 = .ok (.istore_n 2, 1) := dk_61 (dk_at dksX6_copy_0 13 rfl rfl)
theorem dX6_copy_14 : decode cX6_copy 14 = .ok (.iload_n 2, 1) := dk_28 (dk_at dksX6_copy_0 14 rfl rfl)
theorem dX6_copy_15 : decode cX6_copy 15 = .ok (.aload_n 0, 1) := dk_42 (dk_at dksX6_copy_0 15 rfl rfl)
theorem dX6_copy_16 : decode cX6_copy 16 = .ok (.getfield 12, 3) := dk_180 0 12 (dk_at dksX6_copy_0 16 rfl rfl)
theorem dX6_copy_19 : decode cX6_copy 19 = .ok (.invokeinterface 35 1, 5) := by decide +kernel
theorem dX6_copy_24 : decode cX6_copy 24 = .ok (.if_icmp .ge 35, 3) := dk_162 0 35 (dk_at dksX6_copy_1 0 rfl rfl)
theorem dX6_copy_27 : decode cX6_copy 27 = .ok (.aload_n 1, 1) := dk_43 (dk_at dksX6_copy_1 3 rfl rfl)
theorem dX6_copy_28 : decode cX6_copy 28 = .ok (.getfield 12, 3) := dk_180 0 12 (dk_at dksX6_copy_1 4 rfl rfl)
theorem dX6_copy_31 : decode cX6_copy 31 = .ok (.aload_n 0, 1) := dk_42 (dk_at dksX6_copy_1 7 rfl rfl)
theorem dX6_copy_32 : decode cX6_copy 32 = .ok (.getfield 12, 3) := dk_180 0 12 (dk_at dksX6_copy_1 8 rfl rfl)
theorem dX6_copy_35 : decode cX6_copy 35 = .ok (.iload_n 2, 1) := dk_28 (dk_at dksX6_copy_1 11 rfl rfl)
theorem dX6_copy_36 : decode cX6_copy 36 = .ok (.invokeinterface 41 2, 5) := by decide +kernel
theorem dX6_copy_41 : decode cX6_copy 41 = .ok (.checkcast 45, 3) := dk_192 0 45 (dk_at dksX6_copy_1 17 rfl rfl)
theorem dX6_copy_44 : decode cX6_copy 44 = .ok (.invokevirtual 47, 3) := dk_182 0 47 (dk_at dksX6_copy_1 20 rfl rfl)
theorem dX6_copy_47 : decode cX6_copy 47 = .ok (.invokeinterface 51 2, 5) := by decide +kernel
theorem dX6_copy_52 : decode cX6_copy 52 = .ok (.pop, 1) := dk_87 (dk_at dksX6_copy_2 5 rfl rfl)
theorem dX6_copy_53 : decode cX6_copy 53 = .ok (.iinc 2 1, 3) := dk_132 2 1 (dk_at dksX6_copy_2 6 rfl rfl)
theorem dX6_copy_56 : decode cX6_copy 56 = .ok (.goto (-42), 3) := dk_167 255 214 (dk_at dksX6_copy_2 9 rfl rfl)
theorem dX6_copy_59 : decode cX6_copy 59 = .ok (.aload_n 0, 1) := dk_42 (dk_at dksX6_copy_2 12 rfl rfl)
theorem dX6_copy_60 : decode cX6_copy 60 = .ok (.getfield 22, 3) := dk_180 0 22 (dk_at dksX6_copy_2 13 rfl rfl)
theorem dX6_copy_63 : decode cX6_copy 63 = .ok (.iconst 0, 1) := dk_3 (dk_at dksX6_copy_2 16 rfl rfl)
theorem dX6_copy_64 : decode cX6_copy 64 = .ok (.aload_n 1, 1) := dk_43 (dk_at dksX6_copy_2 17 rfl rfl)
theorem dX6_copy_65 : decode cX6_copy 65 = .ok (.getfield 22, 3) := dk_180 0 22 (dk_at dksX6_copy_2 18 rfl rfl)
theorem dX6_copy_68 : decode cX6_copy 68 = .ok (.iconst 0, 1) := dk_3 (dk_at dksX6_copy_2 21 rfl rfl)
theorem dX6_copy_69 : decode cX6_copy 69 = .ok (.aload_n 0, 1) := dk_42 (dk_at dksX6_copy_2 22 rfl rfl)
theorem dX6_copy_70 : decode cX6_copy 70 = .ok (.getfield 22, 3) := dk_180 0 22 (dk_at dksX6_copy_3 0 rfl rfl)
theorem dX6_copy_73 : decode cX6_copy 73 = .ok (.arraylength, 1) := dk_190 (dk_at dksX6_copy_3 3 rfl rfl)
theorem dX6_copy_74 : decode cX6_copy 74 = .ok (.invokestatic 55, 3) := dk_184 0 55 (dk_at dksX6_copy_3 4 rfl rfl)
theorem dX6_copy_77 : decode cX6_copy 77 = .ok (.aload_n 0, 1) := dk_42 (dk_at dksX6_copy_3 7 rfl rfl)
theorem dX6_copy_78 : decode cX6_copy 78 = .ok (.getfield 26, 3) := dk_180 0 26 (dk_at dksX6_copy_3 8 rfl rfl)
theorem dX6_copy_81 : decode cX6_copy 81 = .ok (.iconst 0, 1) := dk_3 (dk_at dksX6_copy_3 11 rfl rfl)
theorem dX6_copy_82 : decode cX6_copy 82 = .ok (.aload_n 1, 1) := dk_43 (dk_at dksX6_copy_3 12 rfl rfl)
theorem dX6_copy_83 : decode cX6_copy 83 = .ok (.getfield 26, 3) := dk_180 0 26 (dk_at dksX6_copy_3 13 rfl rfl)
theorem dX6_copy_86 : decode cX6_copy 86 = .ok (.iconst 0, 1) := dk_3 (dk_at dksX6_copy_3 16 rfl rfl)
theorem dX6_copy_87 : decode cX6_copy 87 = .ok (.aload_n 0, 1) := dk_42 (dk_at dksX6_copy_3 17 rfl rfl)
theorem dX6_copy_88 : decode cX6_copy 88 = .ok (.getfield 26, 3) := dk_180 0 26 (dk_at dksX6_copy_3 18 rfl rfl)
theorem dX6_copy_91 : decode cX6_copy 91 = .ok (.arraylength, 1) := dk_190 (dk_at dksX6_copy_3 21 rfl rfl)
theorem dX6_copy_92 : decode cX6_copy 92 = .ok (.invokestatic 55, 3) := dk_184 0 55 (dk_at dksX6_copy_4 0 rfl rfl)
theorem dX6_copy_95 : decode cX6_copy 95 = .ok (.aload_n 0, 1) := dk_42 (dk_at dksX6_copy_4 3 rfl rfl)
theorem dX6_copy_96 : decode cX6_copy 96 = .ok (.getfield 29, 3) := dk_180 0 29 (dk_at dksX6_copy_4 4 rfl rfl)
theorem dX6_copy_99 : decode cX6_copy 99 = .ok (.iconst 0, 1) := dk_3 (dk_at dksX6_copy_4 7 rfl rfl)
theorem dX6_copy_100 : decode cX6_copy 100 = .ok (.aload_n 1, 1) := dk_43 (dk_at dksX6_copy_4 8 rfl rfl)
theorem dX6_copy_101 : decode cX6_copy 101 = .ok (.getfield 29, 3) := dk_180 0 29 (dk_at dksX6_copy_4 9 rfl rfl)
theorem dX6_copy_104 : decode cX6_copy 104 = .ok (.iconst 0, 1) := dk_3 (dk_at dksX6_copy_4 12 rfl rfl)
theorem dX6_copy_105 : decode cX6_copy 105 = .ok (.aload_n 0, 1) := dk_42 (dk_at dksX6_copy_4 13 rfl rfl)
theorem dX6_copy_106 : decode cX6_copy 106 = .ok (.getfield 29, 3) := dk_180 0 29 (dk_at dksX6_copy_4 14 rfl rfl)
theorem dX6_copy_109 : decode cX6_copy 109 = .ok (.arraylength, 1) := dk_190 (dk_at dksX6_copy_4 17 rfl rfl)
theorem dX6_copy_110 : decode cX6_copy 110 = .ok (.invokestatic 55, 3) := dk_184 0 55 (dk_at dksX6_copy_4 18 rfl rfl)
theorem dX6_copy_113 : decode cX6_copy 113 = .ok (.aload_n 1, 1) := dk_43 (dk_at dksX6_copy_4 21 rfl rfl)
theorem dX6_copy_114 : decode cX6_copy 114 = .ok (.areturn, 1) := dk_176 (dk_at dksX6_copy_4 22 rfl rfl)
abbrev cX6_soft : ByteArray := prog_8_method_5_code
def yX6_soft : MethodName := ⟨RX6, "soft", "()I"⟩
def dkwX6_soft_2 : List UInt8 := [167, 255, 213, 27, 172]
abbrev dktX6_soft_2 : List UInt8 := dkwX6_soft_2 ++ []
def dkwX6_soft_1 : List UInt8 := [185, 0, 41, 2, 0, 192, 0, 45, 180, 0, 61, 158, 0, 7, 4, 167, 0, 4, 3, 96, 60, 132, 2, 1]
abbrev dktX6_soft_1 : List UInt8 := dkwX6_soft_1 ++ dktX6_soft_2
def dkwX6_soft_0 : List UInt8 := [3, 60, 3, 61, 28, 42, 180, 0, 12, 185, 0, 35, 1, 0, 162, 0, 36, 27, 42, 180, 0, 12, 28]
abbrev dktX6_soft_0 : List UInt8 := dkwX6_soft_0 ++ dktX6_soft_1
theorem dksX6_soft_0 : cX6_soft.data.toList.drop 0 = dktX6_soft_0 := by decide +kernel
theorem dksX6_soft_1 : cX6_soft.data.toList.drop 23 = dktX6_soft_1 := dk_seg dksX6_soft_0 23 rfl rfl
theorem dksX6_soft_2 : cX6_soft.data.toList.drop 47 = dktX6_soft_2 := dk_seg dksX6_soft_1 24 rfl rfl
theorem dX6_soft_0 : decode cX6_soft 0 = .ok (.iconst 0, 1) := dk_3 (dk_at dksX6_soft_0 0 rfl rfl)
theorem dX6_soft_1 : decode cX6_soft 1 = .ok (.istore_n 1, 1) := dk_60 (dk_at dksX6_soft_0 1 rfl rfl)
theorem dX6_soft_2 : decode cX6_soft 2 = .ok (.iconst 0, 1) := dk_3 (dk_at dksX6_soft_0 2 rfl rfl)
theorem dX6_soft_3 : decode cX6_soft 3 = .ok (.istore_n 2, 1) := dk_61 (dk_at dksX6_soft_0 3 rfl rfl)
theorem dX6_soft_4 : decode cX6_soft 4 = .ok (.iload_n 2, 1) := dk_28 (dk_at dksX6_soft_0 4 rfl rfl)
theorem dX6_soft_5 : decode cX6_soft 5 = .ok (.aload_n 0, 1) := dk_42 (dk_at dksX6_soft_0 5 rfl rfl)
theorem dX6_soft_6 : decode cX6_soft 6 = .ok (.getfield 12, 3) := dk_180 0 12 (dk_at dksX6_soft_0 6 rfl rfl)
theorem dX6_soft_9 : decode cX6_soft 9 = .ok (.invokeinterface 35 1, 5) := by decide +kernel
theorem dX6_soft_14 : decode cX6_soft 14 = .ok (.if_icmp .ge 36, 3) := dk_162 0 36 (dk_at dksX6_soft_0 14 rfl rfl)
theorem dX6_soft_17 : decode cX6_soft 17 = .ok (.iload_n 1, 1) := dk_27 (dk_at dksX6_soft_0 17 rfl rfl)
theorem dX6_soft_18 : decode cX6_soft 18 = .ok (.aload_n 0, 1) := dk_42 (dk_at dksX6_soft_0 18 rfl rfl)
theorem dX6_soft_19 : decode cX6_soft 19 = .ok (.getfield 12, 3) := dk_180 0 12 (dk_at dksX6_soft_0 19 rfl rfl)
theorem dX6_soft_22 : decode cX6_soft 22 = .ok (.iload_n 2, 1) := dk_28 (dk_at dksX6_soft_0 22 rfl rfl)
theorem dX6_soft_23 : decode cX6_soft 23 = .ok (.invokeinterface 41 2, 5) := by decide +kernel
theorem dX6_soft_28 : decode cX6_soft 28 = .ok (.checkcast 45, 3) := dk_192 0 45 (dk_at dksX6_soft_1 5 rfl rfl)
theorem dX6_soft_31 : decode cX6_soft 31 = .ok (.getfield 61, 3) := dk_180 0 61 (dk_at dksX6_soft_1 8 rfl rfl)
theorem dX6_soft_34 : decode cX6_soft 34 = .ok (.ifCond .le 7, 3) := dk_158 0 7 (dk_at dksX6_soft_1 11 rfl rfl)
theorem dX6_soft_37 : decode cX6_soft 37 = .ok (.iconst 1, 1) := dk_4 (dk_at dksX6_soft_1 14 rfl rfl)
theorem dX6_soft_38 : decode cX6_soft 38 = .ok (.goto 4, 3) := dk_167 0 4 (dk_at dksX6_soft_1 15 rfl rfl)
theorem dX6_soft_41 : decode cX6_soft 41 = .ok (.iconst 0, 1) := dk_3 (dk_at dksX6_soft_1 18 rfl rfl)
theorem dX6_soft_42 : decode cX6_soft 42 = .ok (.iadd, 1) := dk_96 (dk_at dksX6_soft_1 19 rfl rfl)
theorem dX6_soft_43 : decode cX6_soft 43 = .ok (.istore_n 1, 1) := dk_60 (dk_at dksX6_soft_1 20 rfl rfl)
theorem dX6_soft_44 : decode cX6_soft 44 = .ok (.iinc 2 1, 3) := dk_132 2 1 (dk_at dksX6_soft_1 21 rfl rfl)
theorem dX6_soft_47 : decode cX6_soft 47 = .ok (.goto (-43), 3) := dk_167 255 213 (dk_at dksX6_soft_2 0 rfl rfl)
theorem dX6_soft_50 : decode cX6_soft 50 = .ok (.iload_n 1, 1) := dk_27 (dk_at dksX6_soft_2 3 rfl rfl)
theorem dX6_soft_51 : decode cX6_soft 51 = .ok (.ireturn, 1) := dk_172 (dk_at dksX6_soft_2 4 rfl rfl)
abbrev cX7_init : ByteArray := prog_11_method_1_code
def yX7_init : MethodName := ⟨RX7, "<init>", "(I)V"⟩
def dkwX7_init_0 : List UInt8 := [42, 183, 0, 3, 42, 27, 181, 0, 9, 42, 27, 27, 104, 188, 10, 181, 0, 15, 177]
abbrev dktX7_init_0 : List UInt8 := dkwX7_init_0 ++ []
theorem dksX7_init_0 : cX7_init.data.toList.drop 0 = dktX7_init_0 := by decide +kernel
theorem dX7_init_0 : decode cX7_init 0 = .ok (.aload_n 0, 1) := dk_42 (dk_at dksX7_init_0 0 rfl rfl)
theorem dX7_init_1 : decode cX7_init 1 = .ok (.invokespecial 3, 3) := dk_183 0 3 (dk_at dksX7_init_0 1 rfl rfl)
theorem dX7_init_4 : decode cX7_init 4 = .ok (.aload_n 0, 1) := dk_42 (dk_at dksX7_init_0 4 rfl rfl)
theorem dX7_init_5 : decode cX7_init 5 = .ok (.iload_n 1, 1) := dk_27 (dk_at dksX7_init_0 5 rfl rfl)
theorem dX7_init_6 : decode cX7_init 6 = .ok (.putfield 9, 3) := dk_181 0 9 (dk_at dksX7_init_0 6 rfl rfl)
theorem dX7_init_9 : decode cX7_init 9 = .ok (.aload_n 0, 1) := dk_42 (dk_at dksX7_init_0 9 rfl rfl)
theorem dX7_init_10 : decode cX7_init 10 = .ok (.iload_n 1, 1) := dk_27 (dk_at dksX7_init_0 10 rfl rfl)
theorem dX7_init_11 : decode cX7_init 11 = .ok (.iload_n 1, 1) := dk_27 (dk_at dksX7_init_0 11 rfl rfl)
theorem dX7_init_12 : decode cX7_init 12 = .ok (.imul, 1) := dk_104 (dk_at dksX7_init_0 12 rfl rfl)
theorem dX7_init_13 : decode cX7_init 13 = .ok (.newarray .int, 2) := dk_188_10 (dk_at dksX7_init_0 13 rfl rfl)
theorem dX7_init_15 : decode cX7_init 15 = .ok (.putfield 15, 3) := dk_181 0 15 (dk_at dksX7_init_0 15 rfl rfl)
theorem dX7_init_18 : decode cX7_init 18 = .ok (.return_, 1) := dk_177 (dk_at dksX7_init_0 18 rfl rfl)
abbrev cX7_clear : ByteArray := prog_11_method_2_code
def yX7_clear : MethodName := ⟨RX7, "clear", "()V"⟩
def dkwX7_clear_2 : List UInt8 := [96, 3, 79, 42, 180, 0, 15, 42, 180, 0, 9, 27, 104, 3, 79, 132, 1, 1, 167, 255, 219, 177]
abbrev dktX7_clear_2 : List UInt8 := dkwX7_clear_2 ++ []
def dkwX7_clear_1 : List UInt8 := [167, 255, 236, 3, 60, 27, 42, 180, 0, 9, 162, 0, 35, 42, 180, 0, 15, 42, 180, 0, 9, 27, 104, 27]
abbrev dktX7_clear_1 : List UInt8 := dkwX7_clear_1 ++ dktX7_clear_2
def dkwX7_clear_0 : List UInt8 := [3, 60, 27, 42, 180, 0, 15, 190, 162, 0, 17, 42, 180, 0, 15, 27, 18, 19, 79, 132, 1, 1]
abbrev dktX7_clear_0 : List UInt8 := dkwX7_clear_0 ++ dktX7_clear_1
theorem dksX7_clear_0 : cX7_clear.data.toList.drop 0 = dktX7_clear_0 := by decide +kernel
theorem dksX7_clear_1 : cX7_clear.data.toList.drop 22 = dktX7_clear_1 := dk_seg dksX7_clear_0 22 rfl rfl
theorem dksX7_clear_2 : cX7_clear.data.toList.drop 46 = dktX7_clear_2 := dk_seg dksX7_clear_1 24 rfl rfl
theorem dX7_clear_0 : decode cX7_clear 0 = .ok (.iconst 0, 1) := dk_3 (dk_at dksX7_clear_0 0 rfl rfl)
theorem dX7_clear_1 : decode cX7_clear 1 = .ok (.istore_n 1, 1) := dk_60 (dk_at dksX7_clear_0 1 rfl rfl)
theorem dX7_clear_2 : decode cX7_clear 2 = .ok (.iload_n 1, 1) := dk_27 (dk_at dksX7_clear_0 2 rfl rfl)
theorem dX7_clear_3 : decode cX7_clear 3 = .ok (.aload_n 0, 1) := dk_42 (dk_at dksX7_clear_0 3 rfl rfl)
theorem dX7_clear_4 : decode cX7_clear 4 = .ok (.getfield 15, 3) := dk_180 0 15 (dk_at dksX7_clear_0 4 rfl rfl)
theorem dX7_clear_7 : decode cX7_clear 7 = .ok (.arraylength, 1) := dk_190 (dk_at dksX7_clear_0 7 rfl rfl)
theorem dX7_clear_8 : decode cX7_clear 8 = .ok (.if_icmp .ge 17, 3) := dk_162 0 17 (dk_at dksX7_clear_0 8 rfl rfl)
theorem dX7_clear_11 : decode cX7_clear 11 = .ok (.aload_n 0, 1) := dk_42 (dk_at dksX7_clear_0 11 rfl rfl)
theorem dX7_clear_12 : decode cX7_clear 12 = .ok (.getfield 15, 3) := dk_180 0 15 (dk_at dksX7_clear_0 12 rfl rfl)
theorem dX7_clear_15 : decode cX7_clear 15 = .ok (.iload_n 1, 1) := dk_27 (dk_at dksX7_clear_0 15 rfl rfl)
theorem dX7_clear_16 : decode cX7_clear 16 = .ok (.ldc 19, 2) := dk_18 19 (dk_at dksX7_clear_0 16 rfl rfl)
theorem dX7_clear_18 : decode cX7_clear 18 = .ok (.iastore, 1) := dk_79 (dk_at dksX7_clear_0 18 rfl rfl)
theorem dX7_clear_19 : decode cX7_clear 19 = .ok (.iinc 1 1, 3) := dk_132 1 1 (dk_at dksX7_clear_0 19 rfl rfl)
theorem dX7_clear_22 : decode cX7_clear 22 = .ok (.goto (-20), 3) := dk_167 255 236 (dk_at dksX7_clear_1 0 rfl rfl)
theorem dX7_clear_25 : decode cX7_clear 25 = .ok (.iconst 0, 1) := dk_3 (dk_at dksX7_clear_1 3 rfl rfl)
theorem dX7_clear_26 : decode cX7_clear 26 = .ok (.istore_n 1, 1) := dk_60 (dk_at dksX7_clear_1 4 rfl rfl)
theorem dX7_clear_27 : decode cX7_clear 27 = .ok (.iload_n 1, 1) := dk_27 (dk_at dksX7_clear_1 5 rfl rfl)
theorem dX7_clear_28 : decode cX7_clear 28 = .ok (.aload_n 0, 1) := dk_42 (dk_at dksX7_clear_1 6 rfl rfl)
theorem dX7_clear_29 : decode cX7_clear 29 = .ok (.getfield 9, 3) := dk_180 0 9 (dk_at dksX7_clear_1 7 rfl rfl)
theorem dX7_clear_32 : decode cX7_clear 32 = .ok (.if_icmp .ge 35, 3) := dk_162 0 35 (dk_at dksX7_clear_1 10 rfl rfl)
theorem dX7_clear_35 : decode cX7_clear 35 = .ok (.aload_n 0, 1) := dk_42 (dk_at dksX7_clear_1 13 rfl rfl)
theorem dX7_clear_36 : decode cX7_clear 36 = .ok (.getfield 15, 3) := dk_180 0 15 (dk_at dksX7_clear_1 14 rfl rfl)
theorem dX7_clear_39 : decode cX7_clear 39 = .ok (.aload_n 0, 1) := dk_42 (dk_at dksX7_clear_1 17 rfl rfl)
theorem dX7_clear_40 : decode cX7_clear 40 = .ok (.getfield 9, 3) := dk_180 0 9 (dk_at dksX7_clear_1 18 rfl rfl)
theorem dX7_clear_43 : decode cX7_clear 43 = .ok (.iload_n 1, 1) := dk_27 (dk_at dksX7_clear_1 21 rfl rfl)
theorem dX7_clear_44 : decode cX7_clear 44 = .ok (.imul, 1) := dk_104 (dk_at dksX7_clear_1 22 rfl rfl)
theorem dX7_clear_45 : decode cX7_clear 45 = .ok (.iload_n 1, 1) := dk_27 (dk_at dksX7_clear_1 23 rfl rfl)
theorem dX7_clear_46 : decode cX7_clear 46 = .ok (.iadd, 1) := dk_96 (dk_at dksX7_clear_2 0 rfl rfl)
theorem dX7_clear_47 : decode cX7_clear 47 = .ok (.iconst 0, 1) := dk_3 (dk_at dksX7_clear_2 1 rfl rfl)
theorem dX7_clear_48 : decode cX7_clear 48 = .ok (.iastore, 1) := dk_79 (dk_at dksX7_clear_2 2 rfl rfl)
theorem dX7_clear_49 : decode cX7_clear 49 = .ok (.aload_n 0, 1) := dk_42 (dk_at dksX7_clear_2 3 rfl rfl)
theorem dX7_clear_50 : decode cX7_clear 50 = .ok (.getfield 15, 3) := dk_180 0 15 (dk_at dksX7_clear_2 4 rfl rfl)
theorem dX7_clear_53 : decode cX7_clear 53 = .ok (.aload_n 0, 1) := dk_42 (dk_at dksX7_clear_2 7 rfl rfl)
theorem dX7_clear_54 : decode cX7_clear 54 = .ok (.getfield 9, 3) := dk_180 0 9 (dk_at dksX7_clear_2 8 rfl rfl)
theorem dX7_clear_57 : decode cX7_clear 57 = .ok (.iload_n 1, 1) := dk_27 (dk_at dksX7_clear_2 11 rfl rfl)
theorem dX7_clear_58 : decode cX7_clear 58 = .ok (.imul, 1) := dk_104 (dk_at dksX7_clear_2 12 rfl rfl)
theorem dX7_clear_59 : decode cX7_clear 59 = .ok (.iconst 0, 1) := dk_3 (dk_at dksX7_clear_2 13 rfl rfl)
theorem dX7_clear_60 : decode cX7_clear 60 = .ok (.iastore, 1) := dk_79 (dk_at dksX7_clear_2 14 rfl rfl)
theorem dX7_clear_61 : decode cX7_clear 61 = .ok (.iinc 1 1, 3) := dk_132 1 1 (dk_at dksX7_clear_2 15 rfl rfl)
theorem dX7_clear_64 : decode cX7_clear 64 = .ok (.goto (-37), 3) := dk_167 255 219 (dk_at dksX7_clear_2 18 rfl rfl)
theorem dX7_clear_67 : decode cX7_clear 67 = .ok (.return_, 1) := dk_177 (dk_at dksX7_clear_2 21 rfl rfl)
abbrev cX7_step : ByteArray := prog_11_method_5_code
def yX7_step : MethodName := ⟨RX7, "step", "(III)V"⟩
def dkwX7_step_1 : List UInt8 := [46, 29, 18, 26, 184, 0, 27, 184, 0, 33, 79, 177]
abbrev dktX7_step_1 : List UInt8 := dkwX7_step_1 ++ []
def dkwX7_step_0 : List UInt8 := [42, 180, 0, 15, 42, 180, 0, 9, 27, 104, 28, 96, 42, 180, 0, 15, 42, 180, 0, 9, 27, 104, 28, 96]
abbrev dktX7_step_0 : List UInt8 := dkwX7_step_0 ++ dktX7_step_1
theorem dksX7_step_0 : cX7_step.data.toList.drop 0 = dktX7_step_0 := by decide +kernel
theorem dksX7_step_1 : cX7_step.data.toList.drop 24 = dktX7_step_1 := dk_seg dksX7_step_0 24 rfl rfl
theorem dX7_step_0 : decode cX7_step 0 = .ok (.aload_n 0, 1) := dk_42 (dk_at dksX7_step_0 0 rfl rfl)
theorem dX7_step_1 : decode cX7_step 1 = .ok (.getfield 15, 3) := dk_180 0 15 (dk_at dksX7_step_0 1 rfl rfl)
theorem dX7_step_4 : decode cX7_step 4 = .ok (.aload_n 0, 1) := dk_42 (dk_at dksX7_step_0 4 rfl rfl)
theorem dX7_step_5 : decode cX7_step 5 = .ok (.getfield 9, 3) := dk_180 0 9 (dk_at dksX7_step_0 5 rfl rfl)
theorem dX7_step_8 : decode cX7_step 8 = .ok (.iload_n 1, 1) := dk_27 (dk_at dksX7_step_0 8 rfl rfl)
theorem dX7_step_9 : decode cX7_step 9 = .ok (.imul, 1) := dk_104 (dk_at dksX7_step_0 9 rfl rfl)
theorem dX7_step_10 : decode cX7_step 10 = .ok (.iload_n 2, 1) := dk_28 (dk_at dksX7_step_0 10 rfl rfl)
theorem dX7_step_11 : decode cX7_step 11 = .ok (.iadd, 1) := dk_96 (dk_at dksX7_step_0 11 rfl rfl)
theorem dX7_step_12 : decode cX7_step 12 = .ok (.aload_n 0, 1) := dk_42 (dk_at dksX7_step_0 12 rfl rfl)
theorem dX7_step_13 : decode cX7_step 13 = .ok (.getfield 15, 3) := dk_180 0 15 (dk_at dksX7_step_0 13 rfl rfl)
theorem dX7_step_16 : decode cX7_step 16 = .ok (.aload_n 0, 1) := dk_42 (dk_at dksX7_step_0 16 rfl rfl)
theorem dX7_step_17 : decode cX7_step 17 = .ok (.getfield 9, 3) := dk_180 0 9 (dk_at dksX7_step_0 17 rfl rfl)
theorem dX7_step_20 : decode cX7_step 20 = .ok (.iload_n 1, 1) := dk_27 (dk_at dksX7_step_0 20 rfl rfl)
theorem dX7_step_21 : decode cX7_step 21 = .ok (.imul, 1) := dk_104 (dk_at dksX7_step_0 21 rfl rfl)
theorem dX7_step_22 : decode cX7_step 22 = .ok (.iload_n 2, 1) := dk_28 (dk_at dksX7_step_0 22 rfl rfl)
theorem dX7_step_23 : decode cX7_step 23 = .ok (.iadd, 1) := dk_96 (dk_at dksX7_step_0 23 rfl rfl)
theorem dX7_step_24 : decode cX7_step 24 = .ok (.iaload, 1) := dk_46 (dk_at dksX7_step_1 0 rfl rfl)
theorem dX7_step_25 : decode cX7_step 25 = .ok (.iload_n 3, 1) := dk_29 (dk_at dksX7_step_1 1 rfl rfl)
theorem dX7_step_26 : decode cX7_step 26 = .ok (.ldc 26, 2) := dk_18 26 (dk_at dksX7_step_1 2 rfl rfl)
theorem dX7_step_28 : decode cX7_step 28 = .ok (.invokestatic 27, 3) := dk_184 0 27 (dk_at dksX7_step_1 4 rfl rfl)
theorem dX7_step_31 : decode cX7_step 31 = .ok (.invokestatic 33, 3) := dk_184 0 33 (dk_at dksX7_step_1 7 rfl rfl)
theorem dX7_step_34 : decode cX7_step 34 = .ok (.iastore, 1) := dk_79 (dk_at dksX7_step_1 10 rfl rfl)
theorem dX7_step_35 : decode cX7_step 35 = .ok (.return_, 1) := dk_177 (dk_at dksX7_step_1 11 rfl rfl)
abbrev cX7_close : ByteArray := prog_11_method_6_code
def yX7_close : MethodName := ⟨RX7, "close", "()LEventWindows$Square;"⟩
def dkwX7_close_3 : List UInt8 := [182, 0, 39, 132, 3, 1, 167, 255, 215, 132, 2, 1, 167, 255, 185, 132, 1, 1, 167, 255, 169, 42, 176]
abbrev dktX7_close_3 : List UInt8 := dkwX7_close_3 ++ []
def dkwX7_close_2 : List UInt8 := [182, 0, 36, 18, 19, 159, 0, 22, 42, 28, 29, 42, 28, 27, 182, 0, 36, 42, 27, 29, 182, 0, 36, 96]
abbrev dktX7_close_2 : List UInt8 := dkwX7_close_2 ++ dktX7_close_3
def dkwX7_close_1 : List UInt8 := [182, 0, 36, 18, 19, 160, 0, 6, 167, 0, 49, 3, 62, 29, 42, 180, 0, 9, 162, 0, 39, 42, 27, 29]
abbrev dktX7_close_1 : List UInt8 := dkwX7_close_1 ++ dktX7_close_2
def dkwX7_close_0 : List UInt8 := [3, 60, 27, 42, 180, 0, 9, 162, 0, 85, 3, 61, 28, 42, 180, 0, 9, 162, 0, 69, 42, 28, 27]
abbrev dktX7_close_0 : List UInt8 := dkwX7_close_0 ++ dktX7_close_1
theorem dksX7_close_0 : cX7_close.data.toList.drop 0 = dktX7_close_0 := by decide +kernel
theorem dksX7_close_1 : cX7_close.data.toList.drop 23 = dktX7_close_1 := dk_seg dksX7_close_0 23 rfl rfl
theorem dksX7_close_2 : cX7_close.data.toList.drop 47 = dktX7_close_2 := dk_seg dksX7_close_1 24 rfl rfl
theorem dksX7_close_3 : cX7_close.data.toList.drop 71 = dktX7_close_3 := dk_seg dksX7_close_2 24 rfl rfl
theorem dX7_close_0 : decode cX7_close 0 = .ok (.iconst 0, 1) := dk_3 (dk_at dksX7_close_0 0 rfl rfl)
theorem dX7_close_1 : decode cX7_close 1 = .ok (.istore_n 1, 1) := dk_60 (dk_at dksX7_close_0 1 rfl rfl)
theorem dX7_close_2 : decode cX7_close 2 = .ok (.iload_n 1, 1) := dk_27 (dk_at dksX7_close_0 2 rfl rfl)
theorem dX7_close_3 : decode cX7_close 3 = .ok (.aload_n 0, 1) := dk_42 (dk_at dksX7_close_0 3 rfl rfl)
theorem dX7_close_4 : decode cX7_close 4 = .ok (.getfield 9, 3) := dk_180 0 9 (dk_at dksX7_close_0 4 rfl rfl)
theorem dX7_close_7 : decode cX7_close 7 = .ok (.if_icmp .ge 85, 3) := dk_162 0 85 (dk_at dksX7_close_0 7 rfl rfl)
theorem dX7_close_10 : decode cX7_close 10 = .ok (.iconst 0, 1) := dk_3 (dk_at dksX7_close_0 10 rfl rfl)
theorem dX7_close_11 : decode cX7_close 11 = .ok (.istore_n 2, 1) := dk_61 (dk_at dksX7_close_0 11 rfl rfl)
theorem dX7_close_12 : decode cX7_close 12 = .ok (.iload_n 2, 1) := dk_28 (dk_at dksX7_close_0 12 rfl rfl)
theorem dX7_close_13 : decode cX7_close 13 = .ok (.aload_n 0, 1) := dk_42 (dk_at dksX7_close_0 13 rfl rfl)
theorem dX7_close_14 : decode cX7_close 14 = .ok (.getfield 9, 3) := dk_180 0 9 (dk_at dksX7_close_0 14 rfl rfl)
theorem dX7_close_17 : decode cX7_close 17 = .ok (.if_icmp .ge 69, 3) := dk_162 0 69 (dk_at dksX7_close_0 17 rfl rfl)
theorem dX7_close_20 : decode cX7_close 20 = .ok (.aload_n 0, 1) := dk_42 (dk_at dksX7_close_0 20 rfl rfl)
theorem dX7_close_21 : decode cX7_close 21 = .ok (.iload_n 2, 1) := dk_28 (dk_at dksX7_close_0 21 rfl rfl)
theorem dX7_close_22 : decode cX7_close 22 = .ok (.iload_n 1, 1) := dk_27 (dk_at dksX7_close_0 22 rfl rfl)
theorem dX7_close_23 : decode cX7_close 23 = .ok (.invokevirtual 36, 3) := dk_182 0 36 (dk_at dksX7_close_1 0 rfl rfl)
theorem dX7_close_26 : decode cX7_close 26 = .ok (.ldc 19, 2) := dk_18 19 (dk_at dksX7_close_1 3 rfl rfl)
theorem dX7_close_28 : decode cX7_close 28 = .ok (.if_icmp .ne 6, 3) := dk_160 0 6 (dk_at dksX7_close_1 5 rfl rfl)
theorem dX7_close_31 : decode cX7_close 31 = .ok (.goto 49, 3) := dk_167 0 49 (dk_at dksX7_close_1 8 rfl rfl)
theorem dX7_close_34 : decode cX7_close 34 = .ok (.iconst 0, 1) := dk_3 (dk_at dksX7_close_1 11 rfl rfl)
theorem dX7_close_35 : decode cX7_close 35 = .ok (.istore_n 3, 1) := dk_62 (dk_at dksX7_close_1 12 rfl rfl)
theorem dX7_close_36 : decode cX7_close 36 = .ok (.iload_n 3, 1) := dk_29 (dk_at dksX7_close_1 13 rfl rfl)
theorem dX7_close_37 : decode cX7_close 37 = .ok (.aload_n 0, 1) := dk_42 (dk_at dksX7_close_1 14 rfl rfl)
theorem dX7_close_38 : decode cX7_close 38 = .ok (.getfield 9, 3) := dk_180 0 9 (dk_at dksX7_close_1 15 rfl rfl)
theorem dX7_close_41 : decode cX7_close 41 = .ok (.if_icmp .ge 39, 3) := dk_162 0 39 (dk_at dksX7_close_1 18 rfl rfl)
theorem dX7_close_44 : decode cX7_close 44 = .ok (.aload_n 0, 1) := dk_42 (dk_at dksX7_close_1 21 rfl rfl)
theorem dX7_close_45 : decode cX7_close 45 = .ok (.iload_n 1, 1) := dk_27 (dk_at dksX7_close_1 22 rfl rfl)
theorem dX7_close_46 : decode cX7_close 46 = .ok (.iload_n 3, 1) := dk_29 (dk_at dksX7_close_1 23 rfl rfl)
theorem dX7_close_47 : decode cX7_close 47 = .ok (.invokevirtual 36, 3) := dk_182 0 36 (dk_at dksX7_close_2 0 rfl rfl)
theorem dX7_close_50 : decode cX7_close 50 = .ok (.ldc 19, 2) := dk_18 19 (dk_at dksX7_close_2 3 rfl rfl)
theorem dX7_close_52 : decode cX7_close 52 = .ok (.if_icmp .eq 22, 3) := dk_159 0 22 (dk_at dksX7_close_2 5 rfl rfl)
theorem dX7_close_55 : decode cX7_close 55 = .ok (.aload_n 0, 1) := dk_42 (dk_at dksX7_close_2 8 rfl rfl)
theorem dX7_close_56 : decode cX7_close 56 = .ok (.iload_n 2, 1) := dk_28 (dk_at dksX7_close_2 9 rfl rfl)
theorem dX7_close_57 : decode cX7_close 57 = .ok (.iload_n 3, 1) := dk_29 (dk_at dksX7_close_2 10 rfl rfl)
theorem dX7_close_58 : decode cX7_close 58 = .ok (.aload_n 0, 1) := dk_42 (dk_at dksX7_close_2 11 rfl rfl)
theorem dX7_close_59 : decode cX7_close 59 = .ok (.iload_n 2, 1) := dk_28 (dk_at dksX7_close_2 12 rfl rfl)
theorem dX7_close_60 : decode cX7_close 60 = .ok (.iload_n 1, 1) := dk_27 (dk_at dksX7_close_2 13 rfl rfl)
theorem dX7_close_61 : decode cX7_close 61 = .ok (.invokevirtual 36, 3) := dk_182 0 36 (dk_at dksX7_close_2 14 rfl rfl)
theorem dX7_close_64 : decode cX7_close 64 = .ok (.aload_n 0, 1) := dk_42 (dk_at dksX7_close_2 17 rfl rfl)
theorem dX7_close_65 : decode cX7_close 65 = .ok (.iload_n 1, 1) := dk_27 (dk_at dksX7_close_2 18 rfl rfl)
theorem dX7_close_66 : decode cX7_close 66 = .ok (.iload_n 3, 1) := dk_29 (dk_at dksX7_close_2 19 rfl rfl)
theorem dX7_close_67 : decode cX7_close 67 = .ok (.invokevirtual 36, 3) := dk_182 0 36 (dk_at dksX7_close_2 20 rfl rfl)
theorem dX7_close_70 : decode cX7_close 70 = .ok (.iadd, 1) := dk_96 (dk_at dksX7_close_2 23 rfl rfl)
theorem dX7_close_71 : decode cX7_close 71 = .ok (.invokevirtual 39, 3) := dk_182 0 39 (dk_at dksX7_close_3 0 rfl rfl)
theorem dX7_close_74 : decode cX7_close 74 = .ok (.iinc 3 1, 3) := dk_132 3 1 (dk_at dksX7_close_3 3 rfl rfl)
theorem dX7_close_77 : decode cX7_close 77 = .ok (.goto (-41), 3) := dk_167 255 215 (dk_at dksX7_close_3 6 rfl rfl)
theorem dX7_close_80 : decode cX7_close 80 = .ok (.iinc 2 1, 3) := dk_132 2 1 (dk_at dksX7_close_3 9 rfl rfl)
theorem dX7_close_83 : decode cX7_close 83 = .ok (.goto (-71), 3) := dk_167 255 185 (dk_at dksX7_close_3 12 rfl rfl)
theorem dX7_close_86 : decode cX7_close 86 = .ok (.iinc 1 1, 3) := dk_132 1 1 (dk_at dksX7_close_3 15 rfl rfl)
theorem dX7_close_89 : decode cX7_close 89 = .ok (.goto (-87), 3) := dk_167 255 169 (dk_at dksX7_close_3 18 rfl rfl)
theorem dX7_close_92 : decode cX7_close 92 = .ok (.aload_n 0, 1) := dk_42 (dk_at dksX7_close_3 21 rfl rfl)
theorem dX7_close_93 : decode cX7_close 93 = .ok (.areturn, 1) := dk_176 (dk_at dksX7_close_3 22 rfl rfl)
abbrev cX7_sum : ByteArray := prog_11_method_4_code
def yX7_sum : MethodName := ⟨RX7, "sum", "(II)I"⟩
def dkwX7_sum_0 : List UInt8 := [42, 180, 0, 15, 42, 180, 0, 9, 27, 104, 28, 96, 46, 172]
abbrev dktX7_sum_0 : List UInt8 := dkwX7_sum_0 ++ []
theorem dksX7_sum_0 : cX7_sum.data.toList.drop 0 = dktX7_sum_0 := by decide +kernel
theorem dX7_sum_0 : decode cX7_sum 0 = .ok (.aload_n 0, 1) := dk_42 (dk_at dksX7_sum_0 0 rfl rfl)
theorem dX7_sum_1 : decode cX7_sum 1 = .ok (.getfield 15, 3) := dk_180 0 15 (dk_at dksX7_sum_0 1 rfl rfl)
theorem dX7_sum_4 : decode cX7_sum 4 = .ok (.aload_n 0, 1) := dk_42 (dk_at dksX7_sum_0 4 rfl rfl)
theorem dX7_sum_5 : decode cX7_sum 5 = .ok (.getfield 9, 3) := dk_180 0 9 (dk_at dksX7_sum_0 5 rfl rfl)
theorem dX7_sum_8 : decode cX7_sum 8 = .ok (.iload_n 1, 1) := dk_27 (dk_at dksX7_sum_0 8 rfl rfl)
theorem dX7_sum_9 : decode cX7_sum 9 = .ok (.imul, 1) := dk_104 (dk_at dksX7_sum_0 9 rfl rfl)
theorem dX7_sum_10 : decode cX7_sum 10 = .ok (.iload_n 2, 1) := dk_28 (dk_at dksX7_sum_0 10 rfl rfl)
theorem dX7_sum_11 : decode cX7_sum 11 = .ok (.iadd, 1) := dk_96 (dk_at dksX7_sum_0 11 rfl rfl)
theorem dX7_sum_12 : decode cX7_sum 12 = .ok (.iaload, 1) := dk_46 (dk_at dksX7_sum_0 12 rfl rfl)
theorem dX7_sum_13 : decode cX7_sum 13 = .ok (.ireturn, 1) := dk_172 (dk_at dksX7_sum_0 13 rfl rfl)
abbrev cX7_isSound : ByteArray := prog_11_method_7_code
def yX7_isSound : MethodName := ⟨RX7, "isSound", "()Z"⟩
def dkwX7_isSound_1 : List UInt8 := [167, 255, 234, 4, 172]
abbrev dktX7_isSound_1 : List UInt8 := dkwX7_isSound_1 ++ []
def dkwX7_isSound_0 : List UInt8 := [3, 60, 27, 42, 180, 0, 9, 162, 0, 20, 42, 27, 27, 182, 0, 36, 156, 0, 5, 3, 172, 132, 1, 1]
abbrev dktX7_isSound_0 : List UInt8 := dkwX7_isSound_0 ++ dktX7_isSound_1
theorem dksX7_isSound_0 : cX7_isSound.data.toList.drop 0 = dktX7_isSound_0 := by decide +kernel
theorem dksX7_isSound_1 : cX7_isSound.data.toList.drop 24 = dktX7_isSound_1 := dk_seg dksX7_isSound_0 24 rfl rfl
theorem dX7_isSound_0 : decode cX7_isSound 0 = .ok (.iconst 0, 1) := dk_3 (dk_at dksX7_isSound_0 0 rfl rfl)
theorem dX7_isSound_1 : decode cX7_isSound 1 = .ok (.istore_n 1, 1) := dk_60 (dk_at dksX7_isSound_0 1 rfl rfl)
theorem dX7_isSound_2 : decode cX7_isSound 2 = .ok (.iload_n 1, 1) := dk_27 (dk_at dksX7_isSound_0 2 rfl rfl)
theorem dX7_isSound_3 : decode cX7_isSound 3 = .ok (.aload_n 0, 1) := dk_42 (dk_at dksX7_isSound_0 3 rfl rfl)
theorem dX7_isSound_4 : decode cX7_isSound 4 = .ok (.getfield 9, 3) := dk_180 0 9 (dk_at dksX7_isSound_0 4 rfl rfl)
theorem dX7_isSound_7 : decode cX7_isSound 7 = .ok (.if_icmp .ge 20, 3) := dk_162 0 20 (dk_at dksX7_isSound_0 7 rfl rfl)
theorem dX7_isSound_10 : decode cX7_isSound 10 = .ok (.aload_n 0, 1) := dk_42 (dk_at dksX7_isSound_0 10 rfl rfl)
theorem dX7_isSound_11 : decode cX7_isSound 11 = .ok (.iload_n 1, 1) := dk_27 (dk_at dksX7_isSound_0 11 rfl rfl)
theorem dX7_isSound_12 : decode cX7_isSound 12 = .ok (.iload_n 1, 1) := dk_27 (dk_at dksX7_isSound_0 12 rfl rfl)
theorem dX7_isSound_13 : decode cX7_isSound 13 = .ok (.invokevirtual 36, 3) := dk_182 0 36 (dk_at dksX7_isSound_0 13 rfl rfl)
theorem dX7_isSound_16 : decode cX7_isSound 16 = .ok (.ifCond .ge 5, 3) := dk_156 0 5 (dk_at dksX7_isSound_0 16 rfl rfl)
theorem dX7_isSound_19 : decode cX7_isSound 19 = .ok (.iconst 0, 1) := dk_3 (dk_at dksX7_isSound_0 19 rfl rfl)
theorem dX7_isSound_20 : decode cX7_isSound 20 = .ok (.ireturn, 1) := dk_172 (dk_at dksX7_isSound_0 20 rfl rfl)
theorem dX7_isSound_21 : decode cX7_isSound 21 = .ok (.iinc 1 1, 3) := dk_132 1 1 (dk_at dksX7_isSound_0 21 rfl rfl)
theorem dX7_isSound_24 : decode cX7_isSound 24 = .ok (.goto (-22), 3) := dk_167 255 234 (dk_at dksX7_isSound_1 0 rfl rfl)
theorem dX7_isSound_27 : decode cX7_isSound 27 = .ok (.iconst 1, 1) := dk_4 (dk_at dksX7_isSound_1 3 rfl rfl)
theorem dX7_isSound_28 : decode cX7_isSound 28 = .ok (.ireturn, 1) := dk_172 (dk_at dksX7_isSound_1 4 rfl rfl)
abbrev cX7_earliest : ByteArray := prog_11_method_10_code
def yX7_earliest : MethodName := ⟨RX7, "earliest", "(I)I"⟩
def dkwX7_earliest_0 : List UInt8 := [42, 27, 3, 182, 0, 36, 116, 172]
abbrev dktX7_earliest_0 : List UInt8 := dkwX7_earliest_0 ++ []
theorem dksX7_earliest_0 : cX7_earliest.data.toList.drop 0 = dktX7_earliest_0 := by decide +kernel
theorem dX7_earliest_0 : decode cX7_earliest 0 = .ok (.aload_n 0, 1) := dk_42 (dk_at dksX7_earliest_0 0 rfl rfl)
theorem dX7_earliest_1 : decode cX7_earliest 1 = .ok (.iload_n 1, 1) := dk_27 (dk_at dksX7_earliest_0 1 rfl rfl)
theorem dX7_earliest_2 : decode cX7_earliest 2 = .ok (.iconst 0, 1) := dk_3 (dk_at dksX7_earliest_0 2 rfl rfl)
theorem dX7_earliest_3 : decode cX7_earliest 3 = .ok (.invokevirtual 36, 3) := dk_182 0 36 (dk_at dksX7_earliest_0 3 rfl rfl)
theorem dX7_earliest_6 : decode cX7_earliest 6 = .ok (.ineg, 1) := dk_116 (dk_at dksX7_earliest_0 6 rfl rfl)
theorem dX7_earliest_7 : decode cX7_earliest 7 = .ok (.ireturn, 1) := dk_172 (dk_at dksX7_earliest_0 7 rfl rfl)
abbrev cX7_latest : ByteArray := prog_11_method_11_code
def yX7_latest : MethodName := ⟨RX7, "latest", "(I)I"⟩
def dkwX7_latest_0 : List UInt8 := [42, 3, 27, 182, 0, 36, 172]
abbrev dktX7_latest_0 : List UInt8 := dkwX7_latest_0 ++ []
theorem dksX7_latest_0 : cX7_latest.data.toList.drop 0 = dktX7_latest_0 := by decide +kernel
theorem dX7_latest_0 : decode cX7_latest 0 = .ok (.aload_n 0, 1) := dk_42 (dk_at dksX7_latest_0 0 rfl rfl)
theorem dX7_latest_1 : decode cX7_latest 1 = .ok (.iconst 0, 1) := dk_3 (dk_at dksX7_latest_0 1 rfl rfl)
theorem dX7_latest_2 : decode cX7_latest 2 = .ok (.iload_n 1, 1) := dk_27 (dk_at dksX7_latest_0 2 rfl rfl)
theorem dX7_latest_3 : decode cX7_latest 3 = .ok (.invokevirtual 36, 3) := dk_182 0 36 (dk_at dksX7_latest_0 3 rfl rfl)
theorem dX7_latest_6 : decode cX7_latest 6 = .ok (.ireturn, 1) := dk_172 (dk_at dksX7_latest_0 6 rfl rfl)
abbrev cX7_slack : ByteArray := prog_11_method_13_code
def yX7_slack : MethodName := ⟨RX7, "slack", "(I)I"⟩
def dkwX7_slack_0 : List UInt8 := [42, 27, 182, 0, 50, 153, 0, 17, 42, 27, 182, 0, 46, 42, 27, 182, 0, 54, 100, 167, 0, 4, 2, 172]
abbrev dktX7_slack_0 : List UInt8 := dkwX7_slack_0 ++ []
theorem dksX7_slack_0 : cX7_slack.data.toList.drop 0 = dktX7_slack_0 := by decide +kernel
theorem dX7_slack_0 : decode cX7_slack 0 = .ok (.aload_n 0, 1) := dk_42 (dk_at dksX7_slack_0 0 rfl rfl)
theorem dX7_slack_1 : decode cX7_slack 1 = .ok (.iload_n 1, 1) := dk_27 (dk_at dksX7_slack_0 1 rfl rfl)
theorem dX7_slack_2 : decode cX7_slack 2 = .ok (.invokevirtual 50, 3) := dk_182 0 50 (dk_at dksX7_slack_0 2 rfl rfl)
theorem dX7_slack_5 : decode cX7_slack 5 = .ok (.ifCond .eq 17, 3) := dk_153 0 17 (dk_at dksX7_slack_0 5 rfl rfl)
theorem dX7_slack_8 : decode cX7_slack 8 = .ok (.aload_n 0, 1) := dk_42 (dk_at dksX7_slack_0 8 rfl rfl)
theorem dX7_slack_9 : decode cX7_slack 9 = .ok (.iload_n 1, 1) := dk_27 (dk_at dksX7_slack_0 9 rfl rfl)
theorem dX7_slack_10 : decode cX7_slack 10 = .ok (.invokevirtual 46, 3) := dk_182 0 46 (dk_at dksX7_slack_0 10 rfl rfl)
theorem dX7_slack_13 : decode cX7_slack 13 = .ok (.aload_n 0, 1) := dk_42 (dk_at dksX7_slack_0 13 rfl rfl)
theorem dX7_slack_14 : decode cX7_slack 14 = .ok (.iload_n 1, 1) := dk_27 (dk_at dksX7_slack_0 14 rfl rfl)
theorem dX7_slack_15 : decode cX7_slack 15 = .ok (.invokevirtual 54, 3) := dk_182 0 54 (dk_at dksX7_slack_0 15 rfl rfl)
theorem dX7_slack_18 : decode cX7_slack 18 = .ok (.isub, 1) := dk_100 (dk_at dksX7_slack_0 18 rfl rfl)
theorem dX7_slack_19 : decode cX7_slack 19 = .ok (.goto 4, 3) := dk_167 0 4 (dk_at dksX7_slack_0 19 rfl rfl)
theorem dX7_slack_22 : decode cX7_slack 22 = .ok (.iconst (-1), 1) := dk_2 (dk_at dksX7_slack_0 22 rfl rfl)
theorem dX7_slack_23 : decode cX7_slack 23 = .ok (.ireturn, 1) := dk_172 (dk_at dksX7_slack_0 23 rfl rfl)
abbrev cX7_hasLatest : ByteArray := prog_11_method_12_code
def yX7_hasLatest : MethodName := ⟨RX7, "hasLatest", "(I)Z"⟩
def dkwX7_hasLatest_0 : List UInt8 := [42, 27, 182, 0, 46, 18, 19, 159, 0, 7, 4, 167, 0, 4, 3, 172]
abbrev dktX7_hasLatest_0 : List UInt8 := dkwX7_hasLatest_0 ++ []
theorem dksX7_hasLatest_0 : cX7_hasLatest.data.toList.drop 0 = dktX7_hasLatest_0 := by decide +kernel
theorem dX7_hasLatest_0 : decode cX7_hasLatest 0 = .ok (.aload_n 0, 1) := dk_42 (dk_at dksX7_hasLatest_0 0 rfl rfl)
theorem dX7_hasLatest_1 : decode cX7_hasLatest 1 = .ok (.iload_n 1, 1) := dk_27 (dk_at dksX7_hasLatest_0 1 rfl rfl)
theorem dX7_hasLatest_2 : decode cX7_hasLatest 2 = .ok (.invokevirtual 46, 3) := dk_182 0 46 (dk_at dksX7_hasLatest_0 2 rfl rfl)
theorem dX7_hasLatest_5 : decode cX7_hasLatest 5 = .ok (.ldc 19, 2) := dk_18 19 (dk_at dksX7_hasLatest_0 5 rfl rfl)
theorem dX7_hasLatest_7 : decode cX7_hasLatest 7 = .ok (.if_icmp .eq 7, 3) := dk_159 0 7 (dk_at dksX7_hasLatest_0 7 rfl rfl)
theorem dX7_hasLatest_10 : decode cX7_hasLatest 10 = .ok (.iconst 1, 1) := dk_4 (dk_at dksX7_hasLatest_0 10 rfl rfl)
theorem dX7_hasLatest_11 : decode cX7_hasLatest 11 = .ok (.goto 4, 3) := dk_167 0 4 (dk_at dksX7_hasLatest_0 11 rfl rfl)
theorem dX7_hasLatest_14 : decode cX7_hasLatest 14 = .ok (.iconst 0, 1) := dk_3 (dk_at dksX7_hasLatest_0 14 rfl rfl)
theorem dX7_hasLatest_15 : decode cX7_hasLatest 15 = .ok (.ireturn, 1) := dk_172 (dk_at dksX7_hasLatest_0 15 rfl rfl)
abbrev cX7_isLike : ByteArray := prog_11_method_14_code
def yX7_isLike : MethodName := ⟨RX7, "isLike", "(LEventWindows$Square;)Z"⟩
def dkwX7_isLike_1 : List UInt8 := [159, 0, 5, 3, 172, 132, 2, 1, 167, 255, 227, 4, 172]
abbrev dktX7_isLike_1 : List UInt8 := dkwX7_isLike_1 ++ []
def dkwX7_isLike_0 : List UInt8 := [3, 61, 28, 42, 180, 0, 15, 190, 162, 0, 26, 42, 180, 0, 15, 28, 46, 43, 180, 0, 15, 28, 46]
abbrev dktX7_isLike_0 : List UInt8 := dkwX7_isLike_0 ++ dktX7_isLike_1
theorem dksX7_isLike_0 : cX7_isLike.data.toList.drop 0 = dktX7_isLike_0 := by decide +kernel
theorem dksX7_isLike_1 : cX7_isLike.data.toList.drop 23 = dktX7_isLike_1 := dk_seg dksX7_isLike_0 23 rfl rfl
theorem dX7_isLike_0 : decode cX7_isLike 0 = .ok (.iconst 0, 1) := dk_3 (dk_at dksX7_isLike_0 0 rfl rfl)
theorem dX7_isLike_1 : decode cX7_isLike 1 = .ok (.istore_n 2, 1) := dk_61 (dk_at dksX7_isLike_0 1 rfl rfl)
theorem dX7_isLike_2 : decode cX7_isLike 2 = .ok (.iload_n 2, 1) := dk_28 (dk_at dksX7_isLike_0 2 rfl rfl)
theorem dX7_isLike_3 : decode cX7_isLike 3 = .ok (.aload_n 0, 1) := dk_42 (dk_at dksX7_isLike_0 3 rfl rfl)
theorem dX7_isLike_4 : decode cX7_isLike 4 = .ok (.getfield 15, 3) := dk_180 0 15 (dk_at dksX7_isLike_0 4 rfl rfl)
theorem dX7_isLike_7 : decode cX7_isLike 7 = .ok (.arraylength, 1) := dk_190 (dk_at dksX7_isLike_0 7 rfl rfl)
theorem dX7_isLike_8 : decode cX7_isLike 8 = .ok (.if_icmp .ge 26, 3) := dk_162 0 26 (dk_at dksX7_isLike_0 8 rfl rfl)
theorem dX7_isLike_11 : decode cX7_isLike 11 = .ok (.aload_n 0, 1) := dk_42 (dk_at dksX7_isLike_0 11 rfl rfl)
theorem dX7_isLike_12 : decode cX7_isLike 12 = .ok (.getfield 15, 3) := dk_180 0 15 (dk_at dksX7_isLike_0 12 rfl rfl)
theorem dX7_isLike_15 : decode cX7_isLike 15 = .ok (.iload_n 2, 1) := dk_28 (dk_at dksX7_isLike_0 15 rfl rfl)
theorem dX7_isLike_16 : decode cX7_isLike 16 = .ok (.iaload, 1) := dk_46 (dk_at dksX7_isLike_0 16 rfl rfl)
theorem dX7_isLike_17 : decode cX7_isLike 17 = .ok (.aload_n 1, 1) := dk_43 (dk_at dksX7_isLike_0 17 rfl rfl)
theorem dX7_isLike_18 : decode cX7_isLike 18 = .ok (.getfield 15, 3) := dk_180 0 15 (dk_at dksX7_isLike_0 18 rfl rfl)
theorem dX7_isLike_21 : decode cX7_isLike 21 = .ok (.iload_n 2, 1) := dk_28 (dk_at dksX7_isLike_0 21 rfl rfl)
theorem dX7_isLike_22 : decode cX7_isLike 22 = .ok (.iaload, 1) := dk_46 (dk_at dksX7_isLike_0 22 rfl rfl)
theorem dX7_isLike_23 : decode cX7_isLike 23 = .ok (.if_icmp .eq 5, 3) := dk_159 0 5 (dk_at dksX7_isLike_1 0 rfl rfl)
theorem dX7_isLike_26 : decode cX7_isLike 26 = .ok (.iconst 0, 1) := dk_3 (dk_at dksX7_isLike_1 3 rfl rfl)
theorem dX7_isLike_27 : decode cX7_isLike 27 = .ok (.ireturn, 1) := dk_172 (dk_at dksX7_isLike_1 4 rfl rfl)
theorem dX7_isLike_28 : decode cX7_isLike 28 = .ok (.iinc 2 1, 3) := dk_132 2 1 (dk_at dksX7_isLike_1 5 rfl rfl)
theorem dX7_isLike_31 : decode cX7_isLike 31 = .ok (.goto (-29), 3) := dk_167 255 227 (dk_at dksX7_isLike_1 8 rfl rfl)
theorem dX7_isLike_34 : decode cX7_isLike 34 = .ok (.iconst 1, 1) := dk_4 (dk_at dksX7_isLike_1 11 rfl rfl)
theorem dX7_isLike_35 : decode cX7_isLike 35 = .ok (.ireturn, 1) := dk_172 (dk_at dksX7_isLike_1 12 rfl rfl)
abbrev cX7_copies : ByteArray := prog_11_method_3_code
def yX7_copies : MethodName := ⟨RX7, "copies", "(LEventWindows$Square;)V"⟩
def dkwX7_copies_0 : List UInt8 := [43, 180, 0, 15, 3, 42, 180, 0, 15, 3, 42, 180, 0, 15, 190, 184, 0, 20, 177]
abbrev dktX7_copies_0 : List UInt8 := dkwX7_copies_0 ++ []
theorem dksX7_copies_0 : cX7_copies.data.toList.drop 0 = dktX7_copies_0 := by decide +kernel
theorem dX7_copies_0 : decode cX7_copies 0 = .ok (.aload_n 1, 1) := dk_43 (dk_at dksX7_copies_0 0 rfl rfl)
theorem dX7_copies_1 : decode cX7_copies 1 = .ok (.getfield 15, 3) := dk_180 0 15 (dk_at dksX7_copies_0 1 rfl rfl)
theorem dX7_copies_4 : decode cX7_copies 4 = .ok (.iconst 0, 1) := dk_3 (dk_at dksX7_copies_0 4 rfl rfl)
theorem dX7_copies_5 : decode cX7_copies 5 = .ok (.aload_n 0, 1) := dk_42 (dk_at dksX7_copies_0 5 rfl rfl)
theorem dX7_copies_6 : decode cX7_copies 6 = .ok (.getfield 15, 3) := dk_180 0 15 (dk_at dksX7_copies_0 6 rfl rfl)
theorem dX7_copies_9 : decode cX7_copies 9 = .ok (.iconst 0, 1) := dk_3 (dk_at dksX7_copies_0 9 rfl rfl)
theorem dX7_copies_10 : decode cX7_copies 10 = .ok (.aload_n 0, 1) := dk_42 (dk_at dksX7_copies_0 10 rfl rfl)
theorem dX7_copies_11 : decode cX7_copies 11 = .ok (.getfield 15, 3) := dk_180 0 15 (dk_at dksX7_copies_0 11 rfl rfl)
theorem dX7_copies_14 : decode cX7_copies 14 = .ok (.arraylength, 1) := dk_190 (dk_at dksX7_copies_0 14 rfl rfl)
theorem dX7_copies_15 : decode cX7_copies 15 = .ok (.invokestatic 20, 3) := dk_184 0 20 (dk_at dksX7_copies_0 15 rfl rfl)
theorem dX7_copies_18 : decode cX7_copies 18 = .ok (.return_, 1) := dk_177 (dk_at dksX7_copies_0 18 rfl rfl)
abbrev cX7_fix : ByteArray := prog_11_method_9_code
def yX7_fix : MethodName := ⟨RX7, "fix", "(II)V"⟩
def dkwX7_fix_0 : List UInt8 := [42, 3, 27, 28, 182, 0, 43, 42, 27, 3, 28, 116, 182, 0, 43, 177]
abbrev dktX7_fix_0 : List UInt8 := dkwX7_fix_0 ++ []
theorem dksX7_fix_0 : cX7_fix.data.toList.drop 0 = dktX7_fix_0 := by decide +kernel
theorem dX7_fix_0 : decode cX7_fix 0 = .ok (.aload_n 0, 1) := dk_42 (dk_at dksX7_fix_0 0 rfl rfl)
theorem dX7_fix_1 : decode cX7_fix 1 = .ok (.iconst 0, 1) := dk_3 (dk_at dksX7_fix_0 1 rfl rfl)
theorem dX7_fix_2 : decode cX7_fix 2 = .ok (.iload_n 1, 1) := dk_27 (dk_at dksX7_fix_0 2 rfl rfl)
theorem dX7_fix_3 : decode cX7_fix 3 = .ok (.iload_n 2, 1) := dk_28 (dk_at dksX7_fix_0 3 rfl rfl)
theorem dX7_fix_4 : decode cX7_fix 4 = .ok (.invokevirtual 43, 3) := dk_182 0 43 (dk_at dksX7_fix_0 4 rfl rfl)
theorem dX7_fix_7 : decode cX7_fix 7 = .ok (.aload_n 0, 1) := dk_42 (dk_at dksX7_fix_0 7 rfl rfl)
theorem dX7_fix_8 : decode cX7_fix 8 = .ok (.iload_n 1, 1) := dk_27 (dk_at dksX7_fix_0 8 rfl rfl)
theorem dX7_fix_9 : decode cX7_fix 9 = .ok (.iconst 0, 1) := dk_3 (dk_at dksX7_fix_0 9 rfl rfl)
theorem dX7_fix_10 : decode cX7_fix 10 = .ok (.iload_n 2, 1) := dk_28 (dk_at dksX7_fix_0 10 rfl rfl)
theorem dX7_fix_11 : decode cX7_fix 11 = .ok (.ineg, 1) := dk_116 (dk_at dksX7_fix_0 11 rfl rfl)
theorem dX7_fix_12 : decode cX7_fix 12 = .ok (.invokevirtual 43, 3) := dk_182 0 43 (dk_at dksX7_fix_0 12 rfl rfl)
theorem dX7_fix_15 : decode cX7_fix 15 = .ok (.return_, 1) := dk_177 (dk_at dksX7_fix_0 15 rfl rfl)
abbrev cX7_joins : ByteArray := prog_11_method_8_code
def yX7_joins : MethodName := ⟨RX7, "joins", "(III)V"⟩
def dkwX7_joins_3 : List UInt8 := [96, 182, 0, 39, 132, 5, 1, 167, 255, 207, 132, 4, 1, 167, 255, 174, 177]
abbrev dktX7_joins_3 : List UInt8 := dkwX7_joins_3 ++ []
def dkwX7_joins_2 : List UInt8 := [159, 0, 28, 42, 21, 4, 21, 5, 42, 21, 4, 27, 182, 0, 36, 29, 96, 42, 28, 21, 5, 182, 0, 36]
abbrev dktX7_joins_2 : List UInt8 := dkwX7_joins_2 ++ dktX7_joins_3
def dkwX7_joins_1 : List UInt8 := [167, 0, 58, 3, 54, 5, 21, 5, 42, 180, 0, 9, 162, 0, 46, 42, 28, 21, 5, 182, 0, 36, 18, 19]
abbrev dktX7_joins_1 : List UInt8 := dkwX7_joins_1 ++ dktX7_joins_2
def dkwX7_joins_0 : List UInt8 := [3, 54, 4, 21, 4, 42, 180, 0, 9, 162, 0, 79, 42, 21, 4, 27, 182, 0, 36, 18, 19, 160, 0, 6]
abbrev dktX7_joins_0 : List UInt8 := dkwX7_joins_0 ++ dktX7_joins_1
theorem dksX7_joins_0 : cX7_joins.data.toList.drop 0 = dktX7_joins_0 := by decide +kernel
theorem dksX7_joins_1 : cX7_joins.data.toList.drop 24 = dktX7_joins_1 := dk_seg dksX7_joins_0 24 rfl rfl
theorem dksX7_joins_2 : cX7_joins.data.toList.drop 48 = dktX7_joins_2 := dk_seg dksX7_joins_1 24 rfl rfl
theorem dksX7_joins_3 : cX7_joins.data.toList.drop 72 = dktX7_joins_3 := dk_seg dksX7_joins_2 24 rfl rfl
theorem dX7_joins_0 : decode cX7_joins 0 = .ok (.iconst 0, 1) := dk_3 (dk_at dksX7_joins_0 0 rfl rfl)
theorem dX7_joins_1 : decode cX7_joins 1 = .ok (.istore 4, 2) := dk_54 4 (dk_at dksX7_joins_0 1 rfl rfl)
theorem dX7_joins_3 : decode cX7_joins 3 = .ok (.iload 4, 2) := dk_21 4 (dk_at dksX7_joins_0 3 rfl rfl)
theorem dX7_joins_5 : decode cX7_joins 5 = .ok (.aload_n 0, 1) := dk_42 (dk_at dksX7_joins_0 5 rfl rfl)
theorem dX7_joins_6 : decode cX7_joins 6 = .ok (.getfield 9, 3) := dk_180 0 9 (dk_at dksX7_joins_0 6 rfl rfl)
theorem dX7_joins_9 : decode cX7_joins 9 = .ok (.if_icmp .ge 79, 3) := dk_162 0 79 (dk_at dksX7_joins_0 9 rfl rfl)
theorem dX7_joins_12 : decode cX7_joins 12 = .ok (.aload_n 0, 1) := dk_42 (dk_at dksX7_joins_0 12 rfl rfl)
theorem dX7_joins_13 : decode cX7_joins 13 = .ok (.iload 4, 2) := dk_21 4 (dk_at dksX7_joins_0 13 rfl rfl)
theorem dX7_joins_15 : decode cX7_joins 15 = .ok (.iload_n 1, 1) := dk_27 (dk_at dksX7_joins_0 15 rfl rfl)
theorem dX7_joins_16 : decode cX7_joins 16 = .ok (.invokevirtual 36, 3) := dk_182 0 36 (dk_at dksX7_joins_0 16 rfl rfl)
theorem dX7_joins_19 : decode cX7_joins 19 = .ok (.ldc 19, 2) := dk_18 19 (dk_at dksX7_joins_0 19 rfl rfl)
theorem dX7_joins_21 : decode cX7_joins 21 = .ok (.if_icmp .ne 6, 3) := dk_160 0 6 (dk_at dksX7_joins_0 21 rfl rfl)
theorem dX7_joins_24 : decode cX7_joins 24 = .ok (.goto 58, 3) := dk_167 0 58 (dk_at dksX7_joins_1 0 rfl rfl)
theorem dX7_joins_27 : decode cX7_joins 27 = .ok (.iconst 0, 1) := dk_3 (dk_at dksX7_joins_1 3 rfl rfl)
theorem dX7_joins_28 : decode cX7_joins 28 = .ok (.istore 5, 2) := dk_54 5 (dk_at dksX7_joins_1 4 rfl rfl)
theorem dX7_joins_30 : decode cX7_joins 30 = .ok (.iload 5, 2) := dk_21 5 (dk_at dksX7_joins_1 6 rfl rfl)
theorem dX7_joins_32 : decode cX7_joins 32 = .ok (.aload_n 0, 1) := dk_42 (dk_at dksX7_joins_1 8 rfl rfl)
theorem dX7_joins_33 : decode cX7_joins 33 = .ok (.getfield 9, 3) := dk_180 0 9 (dk_at dksX7_joins_1 9 rfl rfl)
theorem dX7_joins_36 : decode cX7_joins 36 = .ok (.if_icmp .ge 46, 3) := dk_162 0 46 (dk_at dksX7_joins_1 12 rfl rfl)
theorem dX7_joins_39 : decode cX7_joins 39 = .ok (.aload_n 0, 1) := dk_42 (dk_at dksX7_joins_1 15 rfl rfl)
theorem dX7_joins_40 : decode cX7_joins 40 = .ok (.iload_n 2, 1) := dk_28 (dk_at dksX7_joins_1 16 rfl rfl)
theorem dX7_joins_41 : decode cX7_joins 41 = .ok (.iload 5, 2) := dk_21 5 (dk_at dksX7_joins_1 17 rfl rfl)
theorem dX7_joins_43 : decode cX7_joins 43 = .ok (.invokevirtual 36, 3) := dk_182 0 36 (dk_at dksX7_joins_1 19 rfl rfl)
theorem dX7_joins_46 : decode cX7_joins 46 = .ok (.ldc 19, 2) := dk_18 19 (dk_at dksX7_joins_1 22 rfl rfl)
theorem dX7_joins_48 : decode cX7_joins 48 = .ok (.if_icmp .eq 28, 3) := dk_159 0 28 (dk_at dksX7_joins_2 0 rfl rfl)
theorem dX7_joins_51 : decode cX7_joins 51 = .ok (.aload_n 0, 1) := dk_42 (dk_at dksX7_joins_2 3 rfl rfl)
theorem dX7_joins_52 : decode cX7_joins 52 = .ok (.iload 4, 2) := dk_21 4 (dk_at dksX7_joins_2 4 rfl rfl)
theorem dX7_joins_54 : decode cX7_joins 54 = .ok (.iload 5, 2) := dk_21 5 (dk_at dksX7_joins_2 6 rfl rfl)
theorem dX7_joins_56 : decode cX7_joins 56 = .ok (.aload_n 0, 1) := dk_42 (dk_at dksX7_joins_2 8 rfl rfl)
theorem dX7_joins_57 : decode cX7_joins 57 = .ok (.iload 4, 2) := dk_21 4 (dk_at dksX7_joins_2 9 rfl rfl)
theorem dX7_joins_59 : decode cX7_joins 59 = .ok (.iload_n 1, 1) := dk_27 (dk_at dksX7_joins_2 11 rfl rfl)
theorem dX7_joins_60 : decode cX7_joins 60 = .ok (.invokevirtual 36, 3) := dk_182 0 36 (dk_at dksX7_joins_2 12 rfl rfl)
theorem dX7_joins_63 : decode cX7_joins 63 = .ok (.iload_n 3, 1) := dk_29 (dk_at dksX7_joins_2 15 rfl rfl)
theorem dX7_joins_64 : decode cX7_joins 64 = .ok (.iadd, 1) := dk_96 (dk_at dksX7_joins_2 16 rfl rfl)
theorem dX7_joins_65 : decode cX7_joins 65 = .ok (.aload_n 0, 1) := dk_42 (dk_at dksX7_joins_2 17 rfl rfl)
theorem dX7_joins_66 : decode cX7_joins 66 = .ok (.iload_n 2, 1) := dk_28 (dk_at dksX7_joins_2 18 rfl rfl)
theorem dX7_joins_67 : decode cX7_joins 67 = .ok (.iload 5, 2) := dk_21 5 (dk_at dksX7_joins_2 19 rfl rfl)
theorem dX7_joins_69 : decode cX7_joins 69 = .ok (.invokevirtual 36, 3) := dk_182 0 36 (dk_at dksX7_joins_2 21 rfl rfl)
theorem dX7_joins_72 : decode cX7_joins 72 = .ok (.iadd, 1) := dk_96 (dk_at dksX7_joins_3 0 rfl rfl)
theorem dX7_joins_73 : decode cX7_joins 73 = .ok (.invokevirtual 39, 3) := dk_182 0 39 (dk_at dksX7_joins_3 1 rfl rfl)
theorem dX7_joins_76 : decode cX7_joins 76 = .ok (.iinc 5 1, 3) := dk_132 5 1 (dk_at dksX7_joins_3 4 rfl rfl)
theorem dX7_joins_79 : decode cX7_joins 79 = .ok (.goto (-49), 3) := dk_167 255 207 (dk_at dksX7_joins_3 7 rfl rfl)
theorem dX7_joins_82 : decode cX7_joins 82 = .ok (.iinc 4 1, 3) := dk_132 4 1 (dk_at dksX7_joins_3 10 rfl rfl)
theorem dX7_joins_85 : decode cX7_joins 85 = .ok (.goto (-82), 3) := dk_167 255 174 (dk_at dksX7_joins_3 13 rfl rfl)
theorem dX7_joins_88 : decode cX7_joins 88 = .ok (.return_, 1) := dk_177 (dk_at dksX7_joins_3 16 rfl rfl)
abbrev cX8_init : ByteArray := prog_10_method_1_code
def yX8_init : MethodName := ⟨RX8, "<init>", "(I)V"⟩
def dkwX8_init_1 : List UInt8 := [27, 188, 10, 181, 0, 24, 177]
abbrev dktX8_init_1 : List UInt8 := dkwX8_init_1 ++ []
def dkwX8_init_0 : List UInt8 := [42, 183, 0, 3, 42, 187, 0, 9, 89, 27, 183, 0, 11, 181, 0, 14, 42, 27, 188, 10, 181, 0, 20, 42]
abbrev dktX8_init_0 : List UInt8 := dkwX8_init_0 ++ dktX8_init_1
theorem dksX8_init_0 : cX8_init.data.toList.drop 0 = dktX8_init_0 := by decide +kernel
theorem dksX8_init_1 : cX8_init.data.toList.drop 24 = dktX8_init_1 := dk_seg dksX8_init_0 24 rfl rfl
theorem dX8_init_0 : decode cX8_init 0 = .ok (.aload_n 0, 1) := dk_42 (dk_at dksX8_init_0 0 rfl rfl)
theorem dX8_init_1 : decode cX8_init 1 = .ok (.invokespecial 3, 3) := dk_183 0 3 (dk_at dksX8_init_0 1 rfl rfl)
theorem dX8_init_4 : decode cX8_init 4 = .ok (.aload_n 0, 1) := dk_42 (dk_at dksX8_init_0 4 rfl rfl)
theorem dX8_init_5 : decode cX8_init 5 = .ok (.new 9, 3) := dk_187 0 9 (dk_at dksX8_init_0 5 rfl rfl)
theorem dX8_init_8 : decode cX8_init 8 = .ok (.dup, 1) := dk_89 (dk_at dksX8_init_0 8 rfl rfl)
theorem dX8_init_9 : decode cX8_init 9 = .ok (.iload_n 1, 1) := dk_27 (dk_at dksX8_init_0 9 rfl rfl)
theorem dX8_init_10 : decode cX8_init 10 = .ok (.invokespecial 11, 3) := dk_183 0 11 (dk_at dksX8_init_0 10 rfl rfl)
theorem dX8_init_13 : decode cX8_init 13 = .ok (.putfield 14, 3) := dk_181 0 14 (dk_at dksX8_init_0 13 rfl rfl)
theorem dX8_init_16 : decode cX8_init 16 = .ok (.aload_n 0, 1) := dk_42 (dk_at dksX8_init_0 16 rfl rfl)
theorem dX8_init_17 : decode cX8_init 17 = .ok (.iload_n 1, 1) := dk_27 (dk_at dksX8_init_0 17 rfl rfl)
theorem dX8_init_18 : decode cX8_init 18 = .ok (.newarray .int, 2) := dk_188_10 (dk_at dksX8_init_0 18 rfl rfl)
theorem dX8_init_20 : decode cX8_init 20 = .ok (.putfield 20, 3) := dk_181 0 20 (dk_at dksX8_init_0 20 rfl rfl)
theorem dX8_init_23 : decode cX8_init 23 = .ok (.aload_n 0, 1) := dk_42 (dk_at dksX8_init_0 23 rfl rfl)
theorem dX8_init_24 : decode cX8_init 24 = .ok (.iload_n 1, 1) := dk_27 (dk_at dksX8_init_1 0 rfl rfl)
theorem dX8_init_25 : decode cX8_init 25 = .ok (.newarray .int, 2) := dk_188_10 (dk_at dksX8_init_1 1 rfl rfl)
theorem dX8_init_27 : decode cX8_init 27 = .ok (.putfield 24, 3) := dk_181 0 24 (dk_at dksX8_init_1 3 rfl rfl)
theorem dX8_init_30 : decode cX8_init 30 = .ok (.return_, 1) := dk_177 (dk_at dksX8_init_1 6 rfl rfl)
abbrev cX8_goes : ByteArray := prog_10_method_5_code
def yX8_goes : MethodName := ⟨RX8, "goes", "(LEventWindows$Net;LEventWindows$Square;III)LEventWindows$Run;"⟩
def dkwX8_goes_8 : List UInt8 := [182, 0, 73, 54, 6, 167, 255, 158, 42, 176]
abbrev dktX8_goes_8 : List UInt8 := dkwX8_goes_8 ++ []
def dkwX8_goes_7 : List UInt8 := [167, 0, 31, 42, 21, 6, 21, 7, 182, 0, 69, 42, 180, 0, 14, 21, 6, 21, 7, 182, 0, 87, 42]
abbrev dktX8_goes_7 : List UInt8 := dkwX8_goes_7 ++ dktX8_goes_8
def dkwX8_goes_6 : List UInt8 := [54, 7, 21, 7, 42, 180, 0, 14, 21, 6, 182, 0, 39, 164, 0, 12, 42, 21, 6, 181, 0, 58]
abbrev dktX8_goes_6 : List UInt8 := dkwX8_goes_6 ++ dktX8_goes_7
def dkwX8_goes_5 : List UInt8 := [182, 0, 80, 21, 6, 21, 4, 160, 0, 8, 21, 5, 167, 0, 10, 43, 180, 0, 84, 21, 6, 46, 96]
abbrev dktX8_goes_5 : List UInt8 := dkwX8_goes_5 ++ dktX8_goes_6
def dkwX8_goes_4 : List UInt8 := [159, 0, 98, 42, 180, 0, 58, 2, 160, 0, 90, 42, 21, 6, 29, 43, 180, 0, 77, 21, 6, 46]
abbrev dktX8_goes_4 : List UInt8 := dkwX8_goes_4 ++ dktX8_goes_5
def dkwX8_goes_3 : List UInt8 := [180, 0, 66, 21, 6, 46, 182, 0, 69, 132, 6, 1, 167, 255, 221, 42, 182, 0, 73, 54, 6, 21, 6, 2]
abbrev dktX8_goes_3 : List UInt8 := dkwX8_goes_3 ++ dktX8_goes_4
def dkwX8_goes_2 : List UInt8 := [21, 6, 42, 180, 0, 20, 190, 162, 0, 31, 43, 21, 6, 182, 0, 61, 154, 0, 16, 42, 21, 6, 43]
abbrev dktX8_goes_2 : List UInt8 := dkwX8_goes_2 ++ dktX8_goes_3
def dkwX8_goes_1 : List UInt8 := [180, 0, 20, 190, 162, 0, 17, 42, 180, 0, 20, 21, 6, 2, 79, 132, 6, 1, 167, 255, 235, 3, 54, 6]
abbrev dktX8_goes_1 : List UInt8 := dkwX8_goes_1 ++ dktX8_goes_2
def dkwX8_goes_0 : List UInt8 := [42, 180, 0, 14, 44, 182, 0, 54, 42, 3, 181, 0, 27, 42, 2, 181, 0, 58, 3, 54, 6, 21, 6, 42]
abbrev dktX8_goes_0 : List UInt8 := dkwX8_goes_0 ++ dktX8_goes_1
theorem dksX8_goes_0 : cX8_goes.data.toList.drop 0 = dktX8_goes_0 := by decide +kernel
theorem dksX8_goes_1 : cX8_goes.data.toList.drop 24 = dktX8_goes_1 := dk_seg dksX8_goes_0 24 rfl rfl
theorem dksX8_goes_2 : cX8_goes.data.toList.drop 48 = dktX8_goes_2 := dk_seg dksX8_goes_1 24 rfl rfl
theorem dksX8_goes_3 : cX8_goes.data.toList.drop 71 = dktX8_goes_3 := dk_seg dksX8_goes_2 23 rfl rfl
theorem dksX8_goes_4 : cX8_goes.data.toList.drop 95 = dktX8_goes_4 := dk_seg dksX8_goes_3 24 rfl rfl
theorem dksX8_goes_5 : cX8_goes.data.toList.drop 117 = dktX8_goes_5 := dk_seg dksX8_goes_4 22 rfl rfl
theorem dksX8_goes_6 : cX8_goes.data.toList.drop 140 = dktX8_goes_6 := dk_seg dksX8_goes_5 23 rfl rfl
theorem dksX8_goes_7 : cX8_goes.data.toList.drop 162 = dktX8_goes_7 := dk_seg dksX8_goes_6 22 rfl rfl
theorem dksX8_goes_8 : cX8_goes.data.toList.drop 185 = dktX8_goes_8 := dk_seg dksX8_goes_7 23 rfl rfl
theorem dX8_goes_0 : decode cX8_goes 0 = .ok (.aload_n 0, 1) := dk_42 (dk_at dksX8_goes_0 0 rfl rfl)
theorem dX8_goes_1 : decode cX8_goes 1 = .ok (.getfield 14, 3) := dk_180 0 14 (dk_at dksX8_goes_0 1 rfl rfl)
theorem dX8_goes_4 : decode cX8_goes 4 = .ok (.aload_n 2, 1) := dk_44 (dk_at dksX8_goes_0 4 rfl rfl)
theorem dX8_goes_5 : decode cX8_goes 5 = .ok (.invokevirtual 54, 3) := dk_182 0 54 (dk_at dksX8_goes_0 5 rfl rfl)
theorem dX8_goes_8 : decode cX8_goes 8 = .ok (.aload_n 0, 1) := dk_42 (dk_at dksX8_goes_0 8 rfl rfl)
theorem dX8_goes_9 : decode cX8_goes 9 = .ok (.iconst 0, 1) := dk_3 (dk_at dksX8_goes_0 9 rfl rfl)
theorem dX8_goes_10 : decode cX8_goes 10 = .ok (.putfield 27, 3) := dk_181 0 27 (dk_at dksX8_goes_0 10 rfl rfl)
theorem dX8_goes_13 : decode cX8_goes 13 = .ok (.aload_n 0, 1) := dk_42 (dk_at dksX8_goes_0 13 rfl rfl)
theorem dX8_goes_14 : decode cX8_goes 14 = .ok (.iconst (-1), 1) := dk_2 (dk_at dksX8_goes_0 14 rfl rfl)
theorem dX8_goes_15 : decode cX8_goes 15 = .ok (.putfield 58, 3) := dk_181 0 58 (dk_at dksX8_goes_0 15 rfl rfl)
theorem dX8_goes_18 : decode cX8_goes 18 = .ok (.iconst 0, 1) := dk_3 (dk_at dksX8_goes_0 18 rfl rfl)
theorem dX8_goes_19 : decode cX8_goes 19 = .ok (.istore 6, 2) := dk_54 6 (dk_at dksX8_goes_0 19 rfl rfl)
theorem dX8_goes_21 : decode cX8_goes 21 = .ok (.iload 6, 2) := dk_21 6 (dk_at dksX8_goes_0 21 rfl rfl)
theorem dX8_goes_23 : decode cX8_goes 23 = .ok (.aload_n 0, 1) := dk_42 (dk_at dksX8_goes_0 23 rfl rfl)
theorem dX8_goes_24 : decode cX8_goes 24 = .ok (.getfield 20, 3) := dk_180 0 20 (dk_at dksX8_goes_1 0 rfl rfl)
theorem dX8_goes_27 : decode cX8_goes 27 = .ok (.arraylength, 1) := dk_190 (dk_at dksX8_goes_1 3 rfl rfl)
theorem dX8_goes_28 : decode cX8_goes 28 = .ok (.if_icmp .ge 17, 3) := dk_162 0 17 (dk_at dksX8_goes_1 4 rfl rfl)
theorem dX8_goes_31 : decode cX8_goes 31 = .ok (.aload_n 0, 1) := dk_42 (dk_at dksX8_goes_1 7 rfl rfl)
theorem dX8_goes_32 : decode cX8_goes 32 = .ok (.getfield 20, 3) := dk_180 0 20 (dk_at dksX8_goes_1 8 rfl rfl)
theorem dX8_goes_35 : decode cX8_goes 35 = .ok (.iload 6, 2) := dk_21 6 (dk_at dksX8_goes_1 11 rfl rfl)
theorem dX8_goes_37 : decode cX8_goes 37 = .ok (.iconst (-1), 1) := dk_2 (dk_at dksX8_goes_1 13 rfl rfl)
theorem dX8_goes_38 : decode cX8_goes 38 = .ok (.iastore, 1) := dk_79 (dk_at dksX8_goes_1 14 rfl rfl)
theorem dX8_goes_39 : decode cX8_goes 39 = .ok (.iinc 6 1, 3) := dk_132 6 1 (dk_at dksX8_goes_1 15 rfl rfl)
theorem dX8_goes_42 : decode cX8_goes 42 = .ok (.goto (-21), 3) := dk_167 255 235 (dk_at dksX8_goes_1 18 rfl rfl)
theorem dX8_goes_45 : decode cX8_goes 45 = .ok (.iconst 0, 1) := dk_3 (dk_at dksX8_goes_1 21 rfl rfl)
theorem dX8_goes_46 : decode cX8_goes 46 = .ok (.istore 6, 2) := dk_54 6 (dk_at dksX8_goes_1 22 rfl rfl)
theorem dX8_goes_48 : decode cX8_goes 48 = .ok (.iload 6, 2) := dk_21 6 (dk_at dksX8_goes_2 0 rfl rfl)
theorem dX8_goes_50 : decode cX8_goes 50 = .ok (.aload_n 0, 1) := dk_42 (dk_at dksX8_goes_2 2 rfl rfl)
theorem dX8_goes_51 : decode cX8_goes 51 = .ok (.getfield 20, 3) := dk_180 0 20 (dk_at dksX8_goes_2 3 rfl rfl)
theorem dX8_goes_54 : decode cX8_goes 54 = .ok (.arraylength, 1) := dk_190 (dk_at dksX8_goes_2 6 rfl rfl)
theorem dX8_goes_55 : decode cX8_goes 55 = .ok (.if_icmp .ge 31, 3) := dk_162 0 31 (dk_at dksX8_goes_2 7 rfl rfl)
theorem dX8_goes_58 : decode cX8_goes 58 = .ok (.aload_n 1, 1) := dk_43 (dk_at dksX8_goes_2 10 rfl rfl)
theorem dX8_goes_59 : decode cX8_goes 59 = .ok (.iload 6, 2) := dk_21 6 (dk_at dksX8_goes_2 11 rfl rfl)
theorem dX8_goes_61 : decode cX8_goes 61 = .ok (.invokevirtual 61, 3) := dk_182 0 61 (dk_at dksX8_goes_2 13 rfl rfl)
theorem dX8_goes_64 : decode cX8_goes 64 = .ok (.ifCond .ne 16, 3) := dk_154 0 16 (dk_at dksX8_goes_2 16 rfl rfl)
theorem dX8_goes_67 : decode cX8_goes 67 = .ok (.aload_n 0, 1) := dk_42 (dk_at dksX8_goes_2 19 rfl rfl)
theorem dX8_goes_68 : decode cX8_goes 68 = .ok (.iload 6, 2) := dk_21 6 (dk_at dksX8_goes_2 20 rfl rfl)
theorem dX8_goes_70 : decode cX8_goes 70 = .ok (.aload_n 1, 1) := dk_43 (dk_at dksX8_goes_2 22 rfl rfl)
theorem dX8_goes_71 : decode cX8_goes 71 = .ok (.getfield 66, 3) := dk_180 0 66 (dk_at dksX8_goes_3 0 rfl rfl)
theorem dX8_goes_74 : decode cX8_goes 74 = .ok (.iload 6, 2) := dk_21 6 (dk_at dksX8_goes_3 3 rfl rfl)
theorem dX8_goes_76 : decode cX8_goes 76 = .ok (.iaload, 1) := dk_46 (dk_at dksX8_goes_3 5 rfl rfl)
theorem dX8_goes_77 : decode cX8_goes 77 = .ok (.invokevirtual 69, 3) := dk_182 0 69 (dk_at dksX8_goes_3 6 rfl rfl)
theorem dX8_goes_80 : decode cX8_goes 80 = .ok (.iinc 6 1, 3) := dk_132 6 1 (dk_at dksX8_goes_3 9 rfl rfl)
theorem dX8_goes_83 : decode cX8_goes 83 = .ok (.goto (-35), 3) := dk_167 255 221 (dk_at dksX8_goes_3 12 rfl rfl)
theorem dX8_goes_86 : decode cX8_goes 86 = .ok (.aload_n 0, 1) := dk_42 (dk_at dksX8_goes_3 15 rfl rfl)
theorem dX8_goes_87 : decode cX8_goes 87 = .ok (.invokevirtual 73, 3) := dk_182 0 73 (dk_at dksX8_goes_3 16 rfl rfl)
theorem dX8_goes_90 : decode cX8_goes 90 = .ok (.istore 6, 2) := dk_54 6 (dk_at dksX8_goes_3 19 rfl rfl)
theorem dX8_goes_92 : decode cX8_goes 92 = .ok (.iload 6, 2) := dk_21 6 (dk_at dksX8_goes_3 21 rfl rfl)
theorem dX8_goes_94 : decode cX8_goes 94 = .ok (.iconst (-1), 1) := dk_2 (dk_at dksX8_goes_3 23 rfl rfl)
theorem dX8_goes_95 : decode cX8_goes 95 = .ok (.if_icmp .eq 98, 3) := dk_159 0 98 (dk_at dksX8_goes_4 0 rfl rfl)
theorem dX8_goes_98 : decode cX8_goes 98 = .ok (.aload_n 0, 1) := dk_42 (dk_at dksX8_goes_4 3 rfl rfl)
theorem dX8_goes_99 : decode cX8_goes 99 = .ok (.getfield 58, 3) := dk_180 0 58 (dk_at dksX8_goes_4 4 rfl rfl)
theorem dX8_goes_102 : decode cX8_goes 102 = .ok (.iconst (-1), 1) := dk_2 (dk_at dksX8_goes_4 7 rfl rfl)
theorem dX8_goes_103 : decode cX8_goes 103 = .ok (.if_icmp .ne 90, 3) := dk_160 0 90 (dk_at dksX8_goes_4 8 rfl rfl)
theorem dX8_goes_106 : decode cX8_goes 106 = .ok (.aload_n 0, 1) := dk_42 (dk_at dksX8_goes_4 11 rfl rfl)
theorem dX8_goes_107 : decode cX8_goes 107 = .ok (.iload 6, 2) := dk_21 6 (dk_at dksX8_goes_4 12 rfl rfl)
theorem dX8_goes_109 : decode cX8_goes 109 = .ok (.iload_n 3, 1) := dk_29 (dk_at dksX8_goes_4 14 rfl rfl)
theorem dX8_goes_110 : decode cX8_goes 110 = .ok (.aload_n 1, 1) := dk_43 (dk_at dksX8_goes_4 15 rfl rfl)
theorem dX8_goes_111 : decode cX8_goes 111 = .ok (.getfield 77, 3) := dk_180 0 77 (dk_at dksX8_goes_4 16 rfl rfl)
theorem dX8_goes_114 : decode cX8_goes 114 = .ok (.iload 6, 2) := dk_21 6 (dk_at dksX8_goes_4 19 rfl rfl)
theorem dX8_goes_116 : decode cX8_goes 116 = .ok (.iaload, 1) := dk_46 (dk_at dksX8_goes_4 21 rfl rfl)
theorem dX8_goes_117 : decode cX8_goes 117 = .ok (.invokevirtual 80, 3) := dk_182 0 80 (dk_at dksX8_goes_5 0 rfl rfl)
theorem dX8_goes_120 : decode cX8_goes 120 = .ok (.iload 6, 2) := dk_21 6 (dk_at dksX8_goes_5 3 rfl rfl)
theorem dX8_goes_122 : decode cX8_goes 122 = .ok (.iload 4, 2) := dk_21 4 (dk_at dksX8_goes_5 5 rfl rfl)
theorem dX8_goes_124 : decode cX8_goes 124 = .ok (.if_icmp .ne 8, 3) := dk_160 0 8 (dk_at dksX8_goes_5 7 rfl rfl)
theorem dX8_goes_127 : decode cX8_goes 127 = .ok (.iload 5, 2) := dk_21 5 (dk_at dksX8_goes_5 10 rfl rfl)
theorem dX8_goes_129 : decode cX8_goes 129 = .ok (.goto 10, 3) := dk_167 0 10 (dk_at dksX8_goes_5 12 rfl rfl)
theorem dX8_goes_132 : decode cX8_goes 132 = .ok (.aload_n 1, 1) := dk_43 (dk_at dksX8_goes_5 15 rfl rfl)
theorem dX8_goes_133 : decode cX8_goes 133 = .ok (.getfield 84, 3) := dk_180 0 84 (dk_at dksX8_goes_5 16 rfl rfl)
theorem dX8_goes_136 : decode cX8_goes 136 = .ok (.iload 6, 2) := dk_21 6 (dk_at dksX8_goes_5 19 rfl rfl)
theorem dX8_goes_138 : decode cX8_goes 138 = .ok (.iaload, 1) := dk_46 (dk_at dksX8_goes_5 21 rfl rfl)
theorem dX8_goes_139 : decode cX8_goes 139 = .ok (.iadd, 1) := dk_96 (dk_at dksX8_goes_5 22 rfl rfl)
theorem dX8_goes_140 : decode cX8_goes 140 = .ok (.istore 7, 2) := dk_54 7 (dk_at dksX8_goes_6 0 rfl rfl)
theorem dX8_goes_142 : decode cX8_goes 142 = .ok (.iload 7, 2) := dk_21 7 (dk_at dksX8_goes_6 2 rfl rfl)
theorem dX8_goes_144 : decode cX8_goes 144 = .ok (.aload_n 0, 1) := dk_42 (dk_at dksX8_goes_6 4 rfl rfl)
theorem dX8_goes_145 : decode cX8_goes 145 = .ok (.getfield 14, 3) := dk_180 0 14 (dk_at dksX8_goes_6 5 rfl rfl)
theorem dX8_goes_148 : decode cX8_goes 148 = .ok (.iload 6, 2) := dk_21 6 (dk_at dksX8_goes_6 8 rfl rfl)
theorem dX8_goes_150 : decode cX8_goes 150 = .ok (.invokevirtual 39, 3) := dk_182 0 39 (dk_at dksX8_goes_6 10 rfl rfl)
theorem dX8_goes_153 : decode cX8_goes 153 = .ok (.if_icmp .le 12, 3) := dk_164 0 12 (dk_at dksX8_goes_6 13 rfl rfl)
theorem dX8_goes_156 : decode cX8_goes 156 = .ok (.aload_n 0, 1) := dk_42 (dk_at dksX8_goes_6 16 rfl rfl)
theorem dX8_goes_157 : decode cX8_goes 157 = .ok (.iload 6, 2) := dk_21 6 (dk_at dksX8_goes_6 17 rfl rfl)
theorem dX8_goes_159 : decode cX8_goes 159 = .ok (.putfield 58, 3) := dk_181 0 58 (dk_at dksX8_goes_6 19 rfl rfl)
theorem dX8_goes_162 : decode cX8_goes 162 = .ok (.goto 31, 3) := dk_167 0 31 (dk_at dksX8_goes_7 0 rfl rfl)
theorem dX8_goes_165 : decode cX8_goes 165 = .ok (.aload_n 0, 1) := dk_42 (dk_at dksX8_goes_7 3 rfl rfl)
theorem dX8_goes_166 : decode cX8_goes 166 = .ok (.iload 6, 2) := dk_21 6 (dk_at dksX8_goes_7 4 rfl rfl)
theorem dX8_goes_168 : decode cX8_goes 168 = .ok (.iload 7, 2) := dk_21 7 (dk_at dksX8_goes_7 6 rfl rfl)
theorem dX8_goes_170 : decode cX8_goes 170 = .ok (.invokevirtual 69, 3) := dk_182 0 69 (dk_at dksX8_goes_7 8 rfl rfl)
theorem dX8_goes_173 : decode cX8_goes 173 = .ok (.aload_n 0, 1) := dk_42 (dk_at dksX8_goes_7 11 rfl rfl)
theorem dX8_goes_174 : decode cX8_goes 174 = .ok (.getfield 14, 3) := dk_180 0 14 (dk_at dksX8_goes_7 12 rfl rfl)
theorem dX8_goes_177 : decode cX8_goes 177 = .ok (.iload 6, 2) := dk_21 6 (dk_at dksX8_goes_7 15 rfl rfl)
theorem dX8_goes_179 : decode cX8_goes 179 = .ok (.iload 7, 2) := dk_21 7 (dk_at dksX8_goes_7 17 rfl rfl)
theorem dX8_goes_181 : decode cX8_goes 181 = .ok (.invokevirtual 87, 3) := dk_182 0 87 (dk_at dksX8_goes_7 19 rfl rfl)
theorem dX8_goes_184 : decode cX8_goes 184 = .ok (.aload_n 0, 1) := dk_42 (dk_at dksX8_goes_7 22 rfl rfl)
theorem dX8_goes_185 : decode cX8_goes 185 = .ok (.invokevirtual 73, 3) := dk_182 0 73 (dk_at dksX8_goes_8 0 rfl rfl)
theorem dX8_goes_188 : decode cX8_goes 188 = .ok (.istore 6, 2) := dk_54 6 (dk_at dksX8_goes_8 3 rfl rfl)
theorem dX8_goes_190 : decode cX8_goes 190 = .ok (.goto (-98), 3) := dk_167 255 158 (dk_at dksX8_goes_8 5 rfl rfl)
theorem dX8_goes_193 : decode cX8_goes 193 = .ok (.aload_n 0, 1) := dk_42 (dk_at dksX8_goes_8 8 rfl rfl)
theorem dX8_goes_194 : decode cX8_goes 194 = .ok (.areturn, 1) := dk_176 (dk_at dksX8_goes_8 9 rfl rfl)
abbrev cX8_gives : ByteArray := prog_10_method_2_code
def yX8_gives : MethodName := ⟨RX8, "gives", "(II)V"⟩
def dkwX8_gives_1 : List UInt8 := [181, 0, 27, 177]
abbrev dktX8_gives_1 : List UInt8 := dkwX8_gives_1 ++ []
def dkwX8_gives_0 : List UInt8 := [42, 180, 0, 20, 27, 28, 79, 42, 180, 0, 24, 42, 180, 0, 27, 27, 79, 42, 89, 180, 0, 27, 4, 96]
abbrev dktX8_gives_0 : List UInt8 := dkwX8_gives_0 ++ dktX8_gives_1
theorem dksX8_gives_0 : cX8_gives.data.toList.drop 0 = dktX8_gives_0 := by decide +kernel
theorem dksX8_gives_1 : cX8_gives.data.toList.drop 24 = dktX8_gives_1 := dk_seg dksX8_gives_0 24 rfl rfl
theorem dX8_gives_0 : decode cX8_gives 0 = .ok (.aload_n 0, 1) := dk_42 (dk_at dksX8_gives_0 0 rfl rfl)
theorem dX8_gives_1 : decode cX8_gives 1 = .ok (.getfield 20, 3) := dk_180 0 20 (dk_at dksX8_gives_0 1 rfl rfl)
theorem dX8_gives_4 : decode cX8_gives 4 = .ok (.iload_n 1, 1) := dk_27 (dk_at dksX8_gives_0 4 rfl rfl)
theorem dX8_gives_5 : decode cX8_gives 5 = .ok (.iload_n 2, 1) := dk_28 (dk_at dksX8_gives_0 5 rfl rfl)
theorem dX8_gives_6 : decode cX8_gives 6 = .ok (.iastore, 1) := dk_79 (dk_at dksX8_gives_0 6 rfl rfl)
theorem dX8_gives_7 : decode cX8_gives 7 = .ok (.aload_n 0, 1) := dk_42 (dk_at dksX8_gives_0 7 rfl rfl)
theorem dX8_gives_8 : decode cX8_gives 8 = .ok (.getfield 24, 3) := dk_180 0 24 (dk_at dksX8_gives_0 8 rfl rfl)
theorem dX8_gives_11 : decode cX8_gives 11 = .ok (.aload_n 0, 1) := dk_42 (dk_at dksX8_gives_0 11 rfl rfl)
theorem dX8_gives_12 : decode cX8_gives 12 = .ok (.getfield 27, 3) := dk_180 0 27 (dk_at dksX8_gives_0 12 rfl rfl)
theorem dX8_gives_15 : decode cX8_gives 15 = .ok (.iload_n 1, 1) := dk_27 (dk_at dksX8_gives_0 15 rfl rfl)
theorem dX8_gives_16 : decode cX8_gives 16 = .ok (.iastore, 1) := dk_79 (dk_at dksX8_gives_0 16 rfl rfl)
theorem dX8_gives_17 : decode cX8_gives 17 = .ok (.aload_n 0, 1) := dk_42 (dk_at dksX8_gives_0 17 rfl rfl)
theorem dX8_gives_18 : decode cX8_gives 18 = .ok (.dup, 1) := dk_89 (dk_at dksX8_gives_0 18 rfl rfl)
theorem dX8_gives_19 : decode cX8_gives 19 = .ok (.getfield 27, 3) := dk_180 0 27 (dk_at dksX8_gives_0 19 rfl rfl)
theorem dX8_gives_22 : decode cX8_gives 22 = .ok (.iconst 1, 1) := dk_4 (dk_at dksX8_gives_0 22 rfl rfl)
theorem dX8_gives_23 : decode cX8_gives 23 = .ok (.iadd, 1) := dk_96 (dk_at dksX8_gives_0 23 rfl rfl)
theorem dX8_gives_24 : decode cX8_gives 24 = .ok (.putfield 27, 3) := dk_181 0 27 (dk_at dksX8_gives_1 0 rfl rfl)
theorem dX8_gives_27 : decode cX8_gives 27 = .ok (.return_, 1) := dk_177 (dk_at dksX8_gives_1 3 rfl rfl)
abbrev cX8_next : ByteArray := prog_10_method_3_code
def yX8_next : MethodName := ⟨RX8, "next", "()I"⟩
def dkwX8_next_2 : List UInt8 := [60, 132, 2, 1, 167, 255, 208, 27, 172]
abbrev dktX8_next_2 : List UInt8 := dkwX8_next_2 ++ []
def dkwX8_next_1 : List UInt8 := [2, 159, 0, 22, 42, 180, 0, 14, 28, 182, 0, 31, 42, 180, 0, 14, 27, 182, 0, 31, 162, 0, 5, 28]
abbrev dktX8_next_1 : List UInt8 := dkwX8_next_1 ++ dktX8_next_2
def dkwX8_next_0 : List UInt8 := [2, 60, 3, 61, 28, 42, 180, 0, 20, 190, 162, 0, 45, 42, 180, 0, 20, 28, 46, 2, 160, 0, 29, 27]
abbrev dktX8_next_0 : List UInt8 := dkwX8_next_0 ++ dktX8_next_1
theorem dksX8_next_0 : cX8_next.data.toList.drop 0 = dktX8_next_0 := by decide +kernel
theorem dksX8_next_1 : cX8_next.data.toList.drop 24 = dktX8_next_1 := dk_seg dksX8_next_0 24 rfl rfl
theorem dksX8_next_2 : cX8_next.data.toList.drop 48 = dktX8_next_2 := dk_seg dksX8_next_1 24 rfl rfl
theorem dX8_next_0 : decode cX8_next 0 = .ok (.iconst (-1), 1) := dk_2 (dk_at dksX8_next_0 0 rfl rfl)
theorem dX8_next_1 : decode cX8_next 1 = .ok (.istore_n 1, 1) := dk_60 (dk_at dksX8_next_0 1 rfl rfl)
theorem dX8_next_2 : decode cX8_next 2 = .ok (.iconst 0, 1) := dk_3 (dk_at dksX8_next_0 2 rfl rfl)
theorem dX8_next_3 : decode cX8_next 3 = .ok (.istore_n 2, 1) := dk_61 (dk_at dksX8_next_0 3 rfl rfl)
theorem dX8_next_4 : decode cX8_next 4 = .ok (.iload_n 2, 1) := dk_28 (dk_at dksX8_next_0 4 rfl rfl)
theorem dX8_next_5 : decode cX8_next 5 = .ok (.aload_n 0, 1) := dk_42 (dk_at dksX8_next_0 5 rfl rfl)
theorem dX8_next_6 : decode cX8_next 6 = .ok (.getfield 20, 3) := dk_180 0 20 (dk_at dksX8_next_0 6 rfl rfl)
theorem dX8_next_9 : decode cX8_next 9 = .ok (.arraylength, 1) := dk_190 (dk_at dksX8_next_0 9 rfl rfl)
theorem dX8_next_10 : decode cX8_next 10 = .ok (.if_icmp .ge 45, 3) := dk_162 0 45 (dk_at dksX8_next_0 10 rfl rfl)
theorem dX8_next_13 : decode cX8_next 13 = .ok (.aload_n 0, 1) := dk_42 (dk_at dksX8_next_0 13 rfl rfl)
theorem dX8_next_14 : decode cX8_next 14 = .ok (.getfield 20, 3) := dk_180 0 20 (dk_at dksX8_next_0 14 rfl rfl)
theorem dX8_next_17 : decode cX8_next 17 = .ok (.iload_n 2, 1) := dk_28 (dk_at dksX8_next_0 17 rfl rfl)
theorem dX8_next_18 : decode cX8_next 18 = .ok (.iaload, 1) := dk_46 (dk_at dksX8_next_0 18 rfl rfl)
theorem dX8_next_19 : decode cX8_next 19 = .ok (.iconst (-1), 1) := dk_2 (dk_at dksX8_next_0 19 rfl rfl)
theorem dX8_next_20 : decode cX8_next 20 = .ok (.if_icmp .ne 29, 3) := dk_160 0 29 (dk_at dksX8_next_0 20 rfl rfl)
theorem dX8_next_23 : decode cX8_next 23 = .ok (.iload_n 1, 1) := dk_27 (dk_at dksX8_next_0 23 rfl rfl)
theorem dX8_next_24 : decode cX8_next 24 = .ok (.iconst (-1), 1) := dk_2 (dk_at dksX8_next_1 0 rfl rfl)
theorem dX8_next_25 : decode cX8_next 25 = .ok (.if_icmp .eq 22, 3) := dk_159 0 22 (dk_at dksX8_next_1 1 rfl rfl)
theorem dX8_next_28 : decode cX8_next 28 = .ok (.aload_n 0, 1) := dk_42 (dk_at dksX8_next_1 4 rfl rfl)
theorem dX8_next_29 : decode cX8_next 29 = .ok (.getfield 14, 3) := dk_180 0 14 (dk_at dksX8_next_1 5 rfl rfl)
theorem dX8_next_32 : decode cX8_next 32 = .ok (.iload_n 2, 1) := dk_28 (dk_at dksX8_next_1 8 rfl rfl)
theorem dX8_next_33 : decode cX8_next 33 = .ok (.invokevirtual 31, 3) := dk_182 0 31 (dk_at dksX8_next_1 9 rfl rfl)
theorem dX8_next_36 : decode cX8_next 36 = .ok (.aload_n 0, 1) := dk_42 (dk_at dksX8_next_1 12 rfl rfl)
theorem dX8_next_37 : decode cX8_next 37 = .ok (.getfield 14, 3) := dk_180 0 14 (dk_at dksX8_next_1 13 rfl rfl)
theorem dX8_next_40 : decode cX8_next 40 = .ok (.iload_n 1, 1) := dk_27 (dk_at dksX8_next_1 16 rfl rfl)
theorem dX8_next_41 : decode cX8_next 41 = .ok (.invokevirtual 31, 3) := dk_182 0 31 (dk_at dksX8_next_1 17 rfl rfl)
theorem dX8_next_44 : decode cX8_next 44 = .ok (.if_icmp .ge 5, 3) := dk_162 0 5 (dk_at dksX8_next_1 20 rfl rfl)
theorem dX8_next_47 : decode cX8_next 47 = .ok (.iload_n 2, 1) := dk_28 (dk_at dksX8_next_1 23 rfl rfl)
theorem dX8_next_48 : decode cX8_next 48 = .ok (.istore_n 1, 1) := dk_60 (dk_at dksX8_next_2 0 rfl rfl)
theorem dX8_next_49 : decode cX8_next 49 = .ok (.iinc 2 1, 3) := dk_132 2 1 (dk_at dksX8_next_2 1 rfl rfl)
theorem dX8_next_52 : decode cX8_next 52 = .ok (.goto (-48), 3) := dk_167 255 208 (dk_at dksX8_next_2 4 rfl rfl)
theorem dX8_next_55 : decode cX8_next 55 = .ok (.iload_n 1, 1) := dk_27 (dk_at dksX8_next_2 7 rfl rfl)
theorem dX8_next_56 : decode cX8_next 56 = .ok (.ireturn, 1) := dk_172 (dk_at dksX8_next_2 8 rfl rfl)
abbrev cX8_planned : ByteArray := prog_10_method_4_code
def yX8_planned : MethodName := ⟨RX8, "planned", "(III)I"⟩
def dkwX8_planned_5 : List UInt8 := [180, 0, 14, 27, 182, 0, 39, 184, 0, 45, 184, 0, 51, 172]
abbrev dktX8_planned_5 : List UInt8 := dkwX8_planned_5 ++ []
def dkwX8_planned_4 : List UInt8 := [180, 0, 14, 27, 182, 0, 42, 5, 108, 96, 167, 0, 25, 21, 4, 167, 0, 20, 21, 4, 29, 42]
abbrev dktX8_planned_4 : List UInt8 := dkwX8_planned_4 ++ dktX8_planned_5
def dkwX8_planned_3 : List UInt8 := [167, 0, 57, 21, 4, 167, 0, 52, 42, 180, 0, 14, 27, 182, 0, 35, 153, 0, 19, 21, 4, 42]
abbrev dktX8_planned_3 : List UInt8 := dkwX8_planned_3 ++ dktX8_planned_4
def dkwX8_planned_2 : List UInt8 := [21, 4, 167, 0, 79, 42, 180, 0, 14, 27, 182, 0, 35, 153, 0, 14, 42, 180, 0, 14, 27, 182, 0, 39]
abbrev dktX8_planned_2 : List UInt8 := dkwX8_planned_2 ++ dktX8_planned_3
def dkwX8_planned_1 : List UInt8 := [170, 0, 0, 0, 89, 0, 0, 0, 0, 0, 0, 0, 2, 0, 0, 0, 25, 0, 0, 0, 30, 0, 0, 0, 57]
abbrev dktX8_planned_1 : List UInt8 := dkwX8_planned_1 ++ dktX8_planned_2
def dkwX8_planned_0 : List UInt8 := [42, 180, 0, 14, 27, 182, 0, 31, 54, 4, 28]
abbrev dktX8_planned_0 : List UInt8 := dkwX8_planned_0 ++ dktX8_planned_1
theorem dksX8_planned_0 : cX8_planned.data.toList.drop 0 = dktX8_planned_0 := by decide +kernel
theorem dksX8_planned_1 : cX8_planned.data.toList.drop 11 = dktX8_planned_1 := dk_seg dksX8_planned_0 11 rfl rfl
theorem dksX8_planned_2 : cX8_planned.data.toList.drop 36 = dktX8_planned_2 := dk_seg dksX8_planned_1 25 rfl rfl
theorem dksX8_planned_3 : cX8_planned.data.toList.drop 60 = dktX8_planned_3 := dk_seg dksX8_planned_2 24 rfl rfl
theorem dksX8_planned_4 : cX8_planned.data.toList.drop 82 = dktX8_planned_4 := dk_seg dksX8_planned_3 22 rfl rfl
theorem dksX8_planned_5 : cX8_planned.data.toList.drop 104 = dktX8_planned_5 := dk_seg dksX8_planned_4 22 rfl rfl
theorem dX8_planned_0 : decode cX8_planned 0 = .ok (.aload_n 0, 1) := dk_42 (dk_at dksX8_planned_0 0 rfl rfl)
theorem dX8_planned_1 : decode cX8_planned 1 = .ok (.getfield 14, 3) := dk_180 0 14 (dk_at dksX8_planned_0 1 rfl rfl)
theorem dX8_planned_4 : decode cX8_planned 4 = .ok (.iload_n 1, 1) := dk_27 (dk_at dksX8_planned_0 4 rfl rfl)
theorem dX8_planned_5 : decode cX8_planned 5 = .ok (.invokevirtual 31, 3) := dk_182 0 31 (dk_at dksX8_planned_0 5 rfl rfl)
theorem dX8_planned_8 : decode cX8_planned 8 = .ok (.istore 4, 2) := dk_54 4 (dk_at dksX8_planned_0 8 rfl rfl)
theorem dX8_planned_10 : decode cX8_planned 10 = .ok (.iload_n 2, 1) := dk_28 (dk_at dksX8_planned_0 10 rfl rfl)
theorem dX8_planned_11 : decode cX8_planned 11 = .ok (.tableswitch 89 0 2 #[25, 30, 57], 25) := by decide +kernel
theorem dX8_planned_36 : decode cX8_planned 36 = .ok (.iload 4, 2) := dk_21 4 (dk_at dksX8_planned_2 0 rfl rfl)
theorem dX8_planned_38 : decode cX8_planned 38 = .ok (.goto 79, 3) := dk_167 0 79 (dk_at dksX8_planned_2 2 rfl rfl)
theorem dX8_planned_41 : decode cX8_planned 41 = .ok (.aload_n 0, 1) := dk_42 (dk_at dksX8_planned_2 5 rfl rfl)
theorem dX8_planned_42 : decode cX8_planned 42 = .ok (.getfield 14, 3) := dk_180 0 14 (dk_at dksX8_planned_2 6 rfl rfl)
theorem dX8_planned_45 : decode cX8_planned 45 = .ok (.iload_n 1, 1) := dk_27 (dk_at dksX8_planned_2 9 rfl rfl)
theorem dX8_planned_46 : decode cX8_planned 46 = .ok (.invokevirtual 35, 3) := dk_182 0 35 (dk_at dksX8_planned_2 10 rfl rfl)
theorem dX8_planned_49 : decode cX8_planned 49 = .ok (.ifCond .eq 14, 3) := dk_153 0 14 (dk_at dksX8_planned_2 13 rfl rfl)
theorem dX8_planned_52 : decode cX8_planned 52 = .ok (.aload_n 0, 1) := dk_42 (dk_at dksX8_planned_2 16 rfl rfl)
theorem dX8_planned_53 : decode cX8_planned 53 = .ok (.getfield 14, 3) := dk_180 0 14 (dk_at dksX8_planned_2 17 rfl rfl)
theorem dX8_planned_56 : decode cX8_planned 56 = .ok (.iload_n 1, 1) := dk_27 (dk_at dksX8_planned_2 20 rfl rfl)
theorem dX8_planned_57 : decode cX8_planned 57 = .ok (.invokevirtual 39, 3) := dk_182 0 39 (dk_at dksX8_planned_2 21 rfl rfl)
theorem dX8_planned_60 : decode cX8_planned 60 = .ok (.goto 57, 3) := dk_167 0 57 (dk_at dksX8_planned_3 0 rfl rfl)
theorem dX8_planned_63 : decode cX8_planned 63 = .ok (.iload 4, 2) := dk_21 4 (dk_at dksX8_planned_3 3 rfl rfl)
theorem dX8_planned_65 : decode cX8_planned 65 = .ok (.goto 52, 3) := dk_167 0 52 (dk_at dksX8_planned_3 5 rfl rfl)
theorem dX8_planned_68 : decode cX8_planned 68 = .ok (.aload_n 0, 1) := dk_42 (dk_at dksX8_planned_3 8 rfl rfl)
theorem dX8_planned_69 : decode cX8_planned 69 = .ok (.getfield 14, 3) := dk_180 0 14 (dk_at dksX8_planned_3 9 rfl rfl)
theorem dX8_planned_72 : decode cX8_planned 72 = .ok (.iload_n 1, 1) := dk_27 (dk_at dksX8_planned_3 12 rfl rfl)
theorem dX8_planned_73 : decode cX8_planned 73 = .ok (.invokevirtual 35, 3) := dk_182 0 35 (dk_at dksX8_planned_3 13 rfl rfl)
theorem dX8_planned_76 : decode cX8_planned 76 = .ok (.ifCond .eq 19, 3) := dk_153 0 19 (dk_at dksX8_planned_3 16 rfl rfl)
theorem dX8_planned_79 : decode cX8_planned 79 = .ok (.iload 4, 2) := dk_21 4 (dk_at dksX8_planned_3 19 rfl rfl)
theorem dX8_planned_81 : decode cX8_planned 81 = .ok (.aload_n 0, 1) := dk_42 (dk_at dksX8_planned_3 21 rfl rfl)
theorem dX8_planned_82 : decode cX8_planned 82 = .ok (.getfield 14, 3) := dk_180 0 14 (dk_at dksX8_planned_4 0 rfl rfl)
theorem dX8_planned_85 : decode cX8_planned 85 = .ok (.iload_n 1, 1) := dk_27 (dk_at dksX8_planned_4 3 rfl rfl)
theorem dX8_planned_86 : decode cX8_planned 86 = .ok (.invokevirtual 42, 3) := dk_182 0 42 (dk_at dksX8_planned_4 4 rfl rfl)
theorem dX8_planned_89 : decode cX8_planned 89 = .ok (.iconst 2, 1) := dk_5 (dk_at dksX8_planned_4 7 rfl rfl)
theorem dX8_planned_90 : decode cX8_planned 90 = .ok (.idiv, 1) := dk_108 (dk_at dksX8_planned_4 8 rfl rfl)
theorem dX8_planned_91 : decode cX8_planned 91 = .ok (.iadd, 1) := dk_96 (dk_at dksX8_planned_4 9 rfl rfl)
theorem dX8_planned_92 : decode cX8_planned 92 = .ok (.goto 25, 3) := dk_167 0 25 (dk_at dksX8_planned_4 10 rfl rfl)
theorem dX8_planned_95 : decode cX8_planned 95 = .ok (.iload 4, 2) := dk_21 4 (dk_at dksX8_planned_4 13 rfl rfl)
theorem dX8_planned_97 : decode cX8_planned 97 = .ok (.goto 20, 3) := dk_167 0 20 (dk_at dksX8_planned_4 15 rfl rfl)
theorem dX8_planned_100 : decode cX8_planned 100 = .ok (.iload 4, 2) := dk_21 4 (dk_at dksX8_planned_4 18 rfl rfl)
theorem dX8_planned_102 : decode cX8_planned 102 = .ok (.iload_n 3, 1) := dk_29 (dk_at dksX8_planned_4 20 rfl rfl)
theorem dX8_planned_103 : decode cX8_planned 103 = .ok (.aload_n 0, 1) := dk_42 (dk_at dksX8_planned_4 21 rfl rfl)
theorem dX8_planned_104 : decode cX8_planned 104 = .ok (.getfield 14, 3) := dk_180 0 14 (dk_at dksX8_planned_5 0 rfl rfl)
theorem dX8_planned_107 : decode cX8_planned 107 = .ok (.iload_n 1, 1) := dk_27 (dk_at dksX8_planned_5 3 rfl rfl)
theorem dX8_planned_108 : decode cX8_planned 108 = .ok (.invokevirtual 39, 3) := dk_182 0 39 (dk_at dksX8_planned_5 4 rfl rfl)
theorem dX8_planned_111 : decode cX8_planned 111 = .ok (.invokestatic 45, 3) := dk_184 0 45 (dk_at dksX8_planned_5 7 rfl rfl)
theorem dX8_planned_114 : decode cX8_planned 114 = .ok (.invokestatic 51, 3) := dk_184 0 51 (dk_at dksX8_planned_5 10 rfl rfl)
theorem dX8_planned_117 : decode cX8_planned 117 = .ok (.ireturn, 1) := dk_172 (dk_at dksX8_planned_5 13 rfl rfl)
abbrev cX9_init : ByteArray := prog_13_method_1_code
def yX9_init : MethodName := ⟨RX9, "<init>", "(LEventWindows$Net;Ljava/util/List;)V"⟩
def dkwX9_init_1 : List UInt8 := [42, 180, 0, 21, 104, 188, 10, 181, 0, 24, 177]
abbrev dktX9_init_1 : List UInt8 := dkwX9_init_1 ++ []
def dkwX9_init_0 : List UInt8 := [42, 183, 0, 3, 42, 44, 181, 0, 9, 42, 43, 182, 0, 15, 181, 0, 21, 42, 42, 180, 0, 21, 4, 96]
abbrev dktX9_init_0 : List UInt8 := dkwX9_init_0 ++ dktX9_init_1
theorem dksX9_init_0 : cX9_init.data.toList.drop 0 = dktX9_init_0 := by decide +kernel
theorem dksX9_init_1 : cX9_init.data.toList.drop 24 = dktX9_init_1 := dk_seg dksX9_init_0 24 rfl rfl
theorem dX9_init_0 : decode cX9_init 0 = .ok (.aload_n 0, 1) := dk_42 (dk_at dksX9_init_0 0 rfl rfl)
theorem dX9_init_1 : decode cX9_init 1 = .ok (.invokespecial 3, 3) := dk_183 0 3 (dk_at dksX9_init_0 1 rfl rfl)
theorem dX9_init_4 : decode cX9_init 4 = .ok (.aload_n 0, 1) := dk_42 (dk_at dksX9_init_0 4 rfl rfl)
theorem dX9_init_5 : decode cX9_init 5 = .ok (.aload_n 2, 1) := dk_44 (dk_at dksX9_init_0 5 rfl rfl)
theorem dX9_init_6 : decode cX9_init 6 = .ok (.putfield 9, 3) := dk_181 0 9 (dk_at dksX9_init_0 6 rfl rfl)
theorem dX9_init_9 : decode cX9_init 9 = .ok (.aload_n 0, 1) := dk_42 (dk_at dksX9_init_0 9 rfl rfl)
theorem dX9_init_10 : decode cX9_init 10 = .ok (.aload_n 1, 1) := dk_43 (dk_at dksX9_init_0 10 rfl rfl)
theorem dX9_init_11 : decode cX9_init 11 = .ok (.invokevirtual 15, 3) := dk_182 0 15 (dk_at dksX9_init_0 11 rfl rfl)
theorem dX9_init_14 : decode cX9_init 14 = .ok (.putfield 21, 3) := dk_181 0 21 (dk_at dksX9_init_0 14 rfl rfl)
theorem dX9_init_17 : decode cX9_init 17 = .ok (.aload_n 0, 1) := dk_42 (dk_at dksX9_init_0 17 rfl rfl)
theorem dX9_init_18 : decode cX9_init 18 = .ok (.aload_n 0, 1) := dk_42 (dk_at dksX9_init_0 18 rfl rfl)
theorem dX9_init_19 : decode cX9_init 19 = .ok (.getfield 21, 3) := dk_180 0 21 (dk_at dksX9_init_0 19 rfl rfl)
theorem dX9_init_22 : decode cX9_init 22 = .ok (.iconst 1, 1) := dk_4 (dk_at dksX9_init_0 22 rfl rfl)
theorem dX9_init_23 : decode cX9_init 23 = .ok (.iadd, 1) := dk_96 (dk_at dksX9_init_0 23 rfl rfl)
theorem dX9_init_24 : decode cX9_init 24 = .ok (.aload_n 0, 1) := dk_42 (dk_at dksX9_init_1 0 rfl rfl)
theorem dX9_init_25 : decode cX9_init 25 = .ok (.getfield 21, 3) := dk_180 0 21 (dk_at dksX9_init_1 1 rfl rfl)
theorem dX9_init_28 : decode cX9_init 28 = .ok (.imul, 1) := dk_104 (dk_at dksX9_init_1 4 rfl rfl)
theorem dX9_init_29 : decode cX9_init 29 = .ok (.newarray .int, 2) := dk_188_10 (dk_at dksX9_init_1 5 rfl rfl)
theorem dX9_init_31 : decode cX9_init 31 = .ok (.putfield 24, 3) := dk_181 0 24 (dk_at dksX9_init_1 7 rfl rfl)
theorem dX9_init_34 : decode cX9_init 34 = .ok (.return_, 1) := dk_177 (dk_at dksX9_init_1 10 rfl rfl)
abbrev cX9_to : ByteArray := prog_13_method_3_code
def yX9_to : MethodName := ⟨RX9, "to", "(I)V"⟩
def dkwX9_to_7 : List UInt8 := [132, 3, 1, 167, 255, 165, 132, 2, 1, 167, 255, 118, 177]
abbrev dktX9_to_7 : List UInt8 := dkwX9_to_7 ++ []
def dkwX9_to_6 : List UInt8 := [180, 0, 24, 21, 6, 42, 180, 0, 24, 21, 6, 46, 25, 4, 180, 0, 50, 21, 5, 96, 184, 0, 52, 79]
abbrev dktX9_to_6 : List UInt8 := dkwX9_to_6 ++ dktX9_to_7
def dkwX9_to_5 : List UInt8 := [42, 180, 0, 21, 28, 104, 25, 4, 180, 0, 47, 96, 54, 6, 21, 5, 18, 28, 159, 0, 28, 42]
abbrev dktX9_to_5 : List UInt8 := dkwX9_to_5 ++ dktX9_to_6
def dkwX9_to_4 : List UInt8 := [185, 0, 34, 2, 0, 192, 0, 38, 58, 4, 42, 28, 4, 100, 25, 4, 180, 0, 40, 182, 0, 43, 54, 5]
abbrev dktX9_to_4 : List UInt8 := dkwX9_to_4 ++ dktX9_to_5
def dkwX9_to_3 : List UInt8 := [167, 255, 230, 3, 62, 29, 42, 180, 0, 9, 185, 0, 29, 1, 0, 162, 0, 84, 42, 180, 0, 9, 29]
abbrev dktX9_to_3 : List UInt8 := dkwX9_to_3 ++ dktX9_to_4
def dkwX9_to_2 : List UInt8 := [180, 0, 21, 162, 0, 24, 42, 180, 0, 24, 42, 180, 0, 21, 28, 104, 29, 96, 18, 28, 79, 132, 3, 1]
abbrev dktX9_to_2 : List UInt8 := dkwX9_to_2 ++ dktX9_to_3
def dkwX9_to_1 : List UInt8 := [18, 28, 79, 132, 2, 1, 167, 255, 228, 4, 61, 28, 42, 180, 0, 21, 163, 0, 136, 3, 62, 29, 42]
abbrev dktX9_to_1 : List UInt8 := dkwX9_to_1 ++ dktX9_to_2
def dkwX9_to_0 : List UInt8 := [3, 61, 28, 42, 180, 0, 21, 162, 0, 26, 42, 180, 0, 24, 28, 28, 27, 160, 0, 7, 3, 167, 0, 5]
abbrev dktX9_to_0 : List UInt8 := dkwX9_to_0 ++ dktX9_to_1
theorem dksX9_to_0 : cX9_to.data.toList.drop 0 = dktX9_to_0 := by decide +kernel
theorem dksX9_to_1 : cX9_to.data.toList.drop 24 = dktX9_to_1 := dk_seg dksX9_to_0 24 rfl rfl
theorem dksX9_to_2 : cX9_to.data.toList.drop 47 = dktX9_to_2 := dk_seg dksX9_to_1 23 rfl rfl
theorem dksX9_to_3 : cX9_to.data.toList.drop 71 = dktX9_to_3 := dk_seg dksX9_to_2 24 rfl rfl
theorem dksX9_to_4 : cX9_to.data.toList.drop 94 = dktX9_to_4 := dk_seg dksX9_to_3 23 rfl rfl
theorem dksX9_to_5 : cX9_to.data.toList.drop 118 = dktX9_to_5 := dk_seg dksX9_to_4 24 rfl rfl
theorem dksX9_to_6 : cX9_to.data.toList.drop 140 = dktX9_to_6 := dk_seg dksX9_to_5 22 rfl rfl
theorem dksX9_to_7 : cX9_to.data.toList.drop 164 = dktX9_to_7 := dk_seg dksX9_to_6 24 rfl rfl
theorem dX9_to_0 : decode cX9_to 0 = .ok (.iconst 0, 1) := dk_3 (dk_at dksX9_to_0 0 rfl rfl)
theorem dX9_to_1 : decode cX9_to 1 = .ok (.istore_n 2, 1) := dk_61 (dk_at dksX9_to_0 1 rfl rfl)
theorem dX9_to_2 : decode cX9_to 2 = .ok (.iload_n 2, 1) := dk_28 (dk_at dksX9_to_0 2 rfl rfl)
theorem dX9_to_3 : decode cX9_to 3 = .ok (.aload_n 0, 1) := dk_42 (dk_at dksX9_to_0 3 rfl rfl)
theorem dX9_to_4 : decode cX9_to 4 = .ok (.getfield 21, 3) := dk_180 0 21 (dk_at dksX9_to_0 4 rfl rfl)
theorem dX9_to_7 : decode cX9_to 7 = .ok (.if_icmp .ge 26, 3) := dk_162 0 26 (dk_at dksX9_to_0 7 rfl rfl)
theorem dX9_to_10 : decode cX9_to 10 = .ok (.aload_n 0, 1) := dk_42 (dk_at dksX9_to_0 10 rfl rfl)
theorem dX9_to_11 : decode cX9_to 11 = .ok (.getfield 24, 3) := dk_180 0 24 (dk_at dksX9_to_0 11 rfl rfl)
theorem dX9_to_14 : decode cX9_to 14 = .ok (.iload_n 2, 1) := dk_28 (dk_at dksX9_to_0 14 rfl rfl)
theorem dX9_to_15 : decode cX9_to 15 = .ok (.iload_n 2, 1) := dk_28 (dk_at dksX9_to_0 15 rfl rfl)
theorem dX9_to_16 : decode cX9_to 16 = .ok (.iload_n 1, 1) := dk_27 (dk_at dksX9_to_0 16 rfl rfl)
theorem dX9_to_17 : decode cX9_to 17 = .ok (.if_icmp .ne 7, 3) := dk_160 0 7 (dk_at dksX9_to_0 17 rfl rfl)
theorem dX9_to_20 : decode cX9_to 20 = .ok (.iconst 0, 1) := dk_3 (dk_at dksX9_to_0 20 rfl rfl)
theorem dX9_to_21 : decode cX9_to 21 = .ok (.goto 5, 3) := dk_167 0 5 (dk_at dksX9_to_0 21 rfl rfl)
theorem dX9_to_24 : decode cX9_to 24 = .ok (.ldc 28, 2) := dk_18 28 (dk_at dksX9_to_1 0 rfl rfl)
theorem dX9_to_26 : decode cX9_to 26 = .ok (.iastore, 1) := dk_79 (dk_at dksX9_to_1 2 rfl rfl)
theorem dX9_to_27 : decode cX9_to 27 = .ok (.iinc 2 1, 3) := dk_132 2 1 (dk_at dksX9_to_1 3 rfl rfl)
theorem dX9_to_30 : decode cX9_to 30 = .ok (.goto (-28), 3) := dk_167 255 228 (dk_at dksX9_to_1 6 rfl rfl)
theorem dX9_to_33 : decode cX9_to 33 = .ok (.iconst 1, 1) := dk_4 (dk_at dksX9_to_1 9 rfl rfl)
theorem dX9_to_34 : decode cX9_to 34 = .ok (.istore_n 2, 1) := dk_61 (dk_at dksX9_to_1 10 rfl rfl)
theorem dX9_to_35 : decode cX9_to 35 = .ok (.iload_n 2, 1) := dk_28 (dk_at dksX9_to_1 11 rfl rfl)
theorem dX9_to_36 : decode cX9_to 36 = .ok (.aload_n 0, 1) := dk_42 (dk_at dksX9_to_1 12 rfl rfl)
theorem dX9_to_37 : decode cX9_to 37 = .ok (.getfield 21, 3) := dk_180 0 21 (dk_at dksX9_to_1 13 rfl rfl)
theorem dX9_to_40 : decode cX9_to 40 = .ok (.if_icmp .gt 136, 3) := dk_163 0 136 (dk_at dksX9_to_1 16 rfl rfl)
theorem dX9_to_43 : decode cX9_to 43 = .ok (.iconst 0, 1) := dk_3 (dk_at dksX9_to_1 19 rfl rfl)
theorem dX9_to_44 : decode cX9_to 44 = .ok (.istore_n 3, 1) := dk_62 (dk_at dksX9_to_1 20 rfl rfl)
theorem dX9_to_45 : decode cX9_to 45 = .ok (.iload_n 3, 1) := dk_29 (dk_at dksX9_to_1 21 rfl rfl)
theorem dX9_to_46 : decode cX9_to 46 = .ok (.aload_n 0, 1) := dk_42 (dk_at dksX9_to_1 22 rfl rfl)
theorem dX9_to_47 : decode cX9_to 47 = .ok (.getfield 21, 3) := dk_180 0 21 (dk_at dksX9_to_2 0 rfl rfl)
theorem dX9_to_50 : decode cX9_to 50 = .ok (.if_icmp .ge 24, 3) := dk_162 0 24 (dk_at dksX9_to_2 3 rfl rfl)
theorem dX9_to_53 : decode cX9_to 53 = .ok (.aload_n 0, 1) := dk_42 (dk_at dksX9_to_2 6 rfl rfl)
theorem dX9_to_54 : decode cX9_to 54 = .ok (.getfield 24, 3) := dk_180 0 24 (dk_at dksX9_to_2 7 rfl rfl)
theorem dX9_to_57 : decode cX9_to 57 = .ok (.aload_n 0, 1) := dk_42 (dk_at dksX9_to_2 10 rfl rfl)
theorem dX9_to_58 : decode cX9_to 58 = .ok (.getfield 21, 3) := dk_180 0 21 (dk_at dksX9_to_2 11 rfl rfl)
theorem dX9_to_61 : decode cX9_to 61 = .ok (.iload_n 2, 1) := dk_28 (dk_at dksX9_to_2 14 rfl rfl)
theorem dX9_to_62 : decode cX9_to 62 = .ok (.imul, 1) := dk_104 (dk_at dksX9_to_2 15 rfl rfl)
theorem dX9_to_63 : decode cX9_to 63 = .ok (.iload_n 3, 1) := dk_29 (dk_at dksX9_to_2 16 rfl rfl)
theorem dX9_to_64 : decode cX9_to 64 = .ok (.iadd, 1) := dk_96 (dk_at dksX9_to_2 17 rfl rfl)
theorem dX9_to_65 : decode cX9_to 65 = .ok (.ldc 28, 2) := dk_18 28 (dk_at dksX9_to_2 18 rfl rfl)
theorem dX9_to_67 : decode cX9_to 67 = .ok (.iastore, 1) := dk_79 (dk_at dksX9_to_2 20 rfl rfl)
theorem dX9_to_68 : decode cX9_to 68 = .ok (.iinc 3 1, 3) := dk_132 3 1 (dk_at dksX9_to_2 21 rfl rfl)
theorem dX9_to_71 : decode cX9_to 71 = .ok (.goto (-26), 3) := dk_167 255 230 (dk_at dksX9_to_3 0 rfl rfl)
theorem dX9_to_74 : decode cX9_to 74 = .ok (.iconst 0, 1) := dk_3 (dk_at dksX9_to_3 3 rfl rfl)
theorem dX9_to_75 : decode cX9_to 75 = .ok (.istore_n 3, 1) := dk_62 (dk_at dksX9_to_3 4 rfl rfl)
theorem dX9_to_76 : decode cX9_to 76 = .ok (.iload_n 3, 1) := dk_29 (dk_at dksX9_to_3 5 rfl rfl)
theorem dX9_to_77 : decode cX9_to 77 = .ok (.aload_n 0, 1) := dk_42 (dk_at dksX9_to_3 6 rfl rfl)
theorem dX9_to_78 : decode cX9_to 78 = .ok (.getfield 9, 3) := dk_180 0 9 (dk_at dksX9_to_3 7 rfl rfl)
theorem dX9_to_81 : decode cX9_to 81 = .ok (.invokeinterface 29 1, 5) := by decide +kernel
theorem dX9_to_86 : decode cX9_to 86 = .ok (.if_icmp .ge 84, 3) := dk_162 0 84 (dk_at dksX9_to_3 15 rfl rfl)
theorem dX9_to_89 : decode cX9_to 89 = .ok (.aload_n 0, 1) := dk_42 (dk_at dksX9_to_3 18 rfl rfl)
theorem dX9_to_90 : decode cX9_to 90 = .ok (.getfield 9, 3) := dk_180 0 9 (dk_at dksX9_to_3 19 rfl rfl)
theorem dX9_to_93 : decode cX9_to 93 = .ok (.iload_n 3, 1) := dk_29 (dk_at dksX9_to_3 22 rfl rfl)
theorem dX9_to_94 : decode cX9_to 94 = .ok (.invokeinterface 34 2, 5) := by decide +kernel
theorem dX9_to_99 : decode cX9_to 99 = .ok (.checkcast 38, 3) := dk_192 0 38 (dk_at dksX9_to_4 5 rfl rfl)
theorem dX9_to_102 : decode cX9_to 102 = .ok (.astore 4, 2) := dk_58 4 (dk_at dksX9_to_4 8 rfl rfl)
theorem dX9_to_104 : decode cX9_to 104 = .ok (.aload_n 0, 1) := dk_42 (dk_at dksX9_to_4 10 rfl rfl)
theorem dX9_to_105 : decode cX9_to 105 = .ok (.iload_n 2, 1) := dk_28 (dk_at dksX9_to_4 11 rfl rfl)
theorem dX9_to_106 : decode cX9_to 106 = .ok (.iconst 1, 1) := dk_4 (dk_at dksX9_to_4 12 rfl rfl)
theorem dX9_to_107 : decode cX9_to 107 = .ok (.isub, 1) := dk_100 (dk_at dksX9_to_4 13 rfl rfl)
theorem dX9_to_108 : decode cX9_to 108 = .ok (.aload 4, 2) := dk_25 4 (dk_at dksX9_to_4 14 rfl rfl)
theorem dX9_to_110 : decode cX9_to 110 = .ok (.getfield 40, 3) := dk_180 0 40 (dk_at dksX9_to_4 16 rfl rfl)
theorem dX9_to_113 : decode cX9_to 113 = .ok (.invokevirtual 43, 3) := dk_182 0 43 (dk_at dksX9_to_4 19 rfl rfl)
theorem dX9_to_116 : decode cX9_to 116 = .ok (.istore 5, 2) := dk_54 5 (dk_at dksX9_to_4 22 rfl rfl)
theorem dX9_to_118 : decode cX9_to 118 = .ok (.aload_n 0, 1) := dk_42 (dk_at dksX9_to_5 0 rfl rfl)
theorem dX9_to_119 : decode cX9_to 119 = .ok (.getfield 21, 3) := dk_180 0 21 (dk_at dksX9_to_5 1 rfl rfl)
theorem dX9_to_122 : decode cX9_to 122 = .ok (.iload_n 2, 1) := dk_28 (dk_at dksX9_to_5 4 rfl rfl)
theorem dX9_to_123 : decode cX9_to 123 = .ok (.imul, 1) := dk_104 (dk_at dksX9_to_5 5 rfl rfl)
theorem dX9_to_124 : decode cX9_to 124 = .ok (.aload 4, 2) := dk_25 4 (dk_at dksX9_to_5 6 rfl rfl)
theorem dX9_to_126 : decode cX9_to 126 = .ok (.getfield 47, 3) := dk_180 0 47 (dk_at dksX9_to_5 8 rfl rfl)
theorem dX9_to_129 : decode cX9_to 129 = .ok (.iadd, 1) := dk_96 (dk_at dksX9_to_5 11 rfl rfl)
theorem dX9_to_130 : decode cX9_to 130 = .ok (.istore 6, 2) := dk_54 6 (dk_at dksX9_to_5 12 rfl rfl)
theorem dX9_to_132 : decode cX9_to 132 = .ok (.iload 5, 2) := dk_21 5 (dk_at dksX9_to_5 14 rfl rfl)
theorem dX9_to_134 : decode cX9_to 134 = .ok (.ldc 28, 2) := dk_18 28 (dk_at dksX9_to_5 16 rfl rfl)
theorem dX9_to_136 : decode cX9_to 136 = .ok (.if_icmp .eq 28, 3) := dk_159 0 28 (dk_at dksX9_to_5 18 rfl rfl)
theorem dX9_to_139 : decode cX9_to 139 = .ok (.aload_n 0, 1) := dk_42 (dk_at dksX9_to_5 21 rfl rfl)
theorem dX9_to_140 : decode cX9_to 140 = .ok (.getfield 24, 3) := dk_180 0 24 (dk_at dksX9_to_6 0 rfl rfl)
theorem dX9_to_143 : decode cX9_to 143 = .ok (.iload 6, 2) := dk_21 6 (dk_at dksX9_to_6 3 rfl rfl)
theorem dX9_to_145 : decode cX9_to 145 = .ok (.aload_n 0, 1) := dk_42 (dk_at dksX9_to_6 5 rfl rfl)
theorem dX9_to_146 : decode cX9_to 146 = .ok (.getfield 24, 3) := dk_180 0 24 (dk_at dksX9_to_6 6 rfl rfl)
theorem dX9_to_149 : decode cX9_to 149 = .ok (.iload 6, 2) := dk_21 6 (dk_at dksX9_to_6 9 rfl rfl)
theorem dX9_to_151 : decode cX9_to 151 = .ok (.iaload, 1) := dk_46 (dk_at dksX9_to_6 11 rfl rfl)
theorem dX9_to_152 : decode cX9_to 152 = .ok (.aload 4, 2) := dk_25 4 (dk_at dksX9_to_6 12 rfl rfl)
theorem dX9_to_154 : decode cX9_to 154 = .ok (.getfield 50, 3) := dk_180 0 50 (dk_at dksX9_to_6 14 rfl rfl)
theorem dX9_to_157 : decode cX9_to 157 = .ok (.iload 5, 2) := dk_21 5 (dk_at dksX9_to_6 17 rfl rfl)
theorem dX9_to_159 : decode cX9_to 159 = .ok (.iadd, 1) := dk_96 (dk_at dksX9_to_6 19 rfl rfl)
theorem dX9_to_160 : decode cX9_to 160 = .ok (.invokestatic 52, 3) := dk_184 0 52 (dk_at dksX9_to_6 20 rfl rfl)
theorem dX9_to_163 : decode cX9_to 163 = .ok (.iastore, 1) := dk_79 (dk_at dksX9_to_6 23 rfl rfl)
theorem dX9_to_164 : decode cX9_to 164 = .ok (.iinc 3 1, 3) := dk_132 3 1 (dk_at dksX9_to_7 0 rfl rfl)
theorem dX9_to_167 : decode cX9_to 167 = .ok (.goto (-91), 3) := dk_167 255 165 (dk_at dksX9_to_7 3 rfl rfl)
theorem dX9_to_170 : decode cX9_to 170 = .ok (.iinc 2 1, 3) := dk_132 2 1 (dk_at dksX9_to_7 6 rfl rfl)
theorem dX9_to_173 : decode cX9_to 173 = .ok (.goto (-138), 3) := dk_167 255 118 (dk_at dksX9_to_7 9 rfl rfl)
theorem dX9_to_176 : decode cX9_to 176 = .ok (.return_, 1) := dk_177 (dk_at dksX9_to_7 12 rfl rfl)
abbrev cX9_sum : ByteArray := prog_13_method_2_code
def yX9_sum : MethodName := ⟨RX9, "sum", "(II)I"⟩
def dkwX9_sum_0 : List UInt8 := [42, 180, 0, 24, 42, 180, 0, 21, 27, 104, 28, 96, 46, 172]
abbrev dktX9_sum_0 : List UInt8 := dkwX9_sum_0 ++ []
theorem dksX9_sum_0 : cX9_sum.data.toList.drop 0 = dktX9_sum_0 := by decide +kernel
theorem dX9_sum_0 : decode cX9_sum 0 = .ok (.aload_n 0, 1) := dk_42 (dk_at dksX9_sum_0 0 rfl rfl)
theorem dX9_sum_1 : decode cX9_sum 1 = .ok (.getfield 24, 3) := dk_180 0 24 (dk_at dksX9_sum_0 1 rfl rfl)
theorem dX9_sum_4 : decode cX9_sum 4 = .ok (.aload_n 0, 1) := dk_42 (dk_at dksX9_sum_0 4 rfl rfl)
theorem dX9_sum_5 : decode cX9_sum 5 = .ok (.getfield 21, 3) := dk_180 0 21 (dk_at dksX9_sum_0 5 rfl rfl)
theorem dX9_sum_8 : decode cX9_sum 8 = .ok (.iload_n 1, 1) := dk_27 (dk_at dksX9_sum_0 8 rfl rfl)
theorem dX9_sum_9 : decode cX9_sum 9 = .ok (.imul, 1) := dk_104 (dk_at dksX9_sum_0 9 rfl rfl)
theorem dX9_sum_10 : decode cX9_sum 10 = .ok (.iload_n 2, 1) := dk_28 (dk_at dksX9_sum_0 10 rfl rfl)
theorem dX9_sum_11 : decode cX9_sum 11 = .ok (.iadd, 1) := dk_96 (dk_at dksX9_sum_0 11 rfl rfl)
theorem dX9_sum_12 : decode cX9_sum 12 = .ok (.iaload, 1) := dk_46 (dk_at dksX9_sum_0 12 rfl rfl)
theorem dX9_sum_13 : decode cX9_sum 13 = .ok (.ireturn, 1) := dk_172 (dk_at dksX9_sum_0 13 rfl rfl)
abbrev cX9_row : ByteArray := prog_13_method_4_code
def yX9_row : MethodName := ⟨RX9, "row", "(II)Ljava/util/List;"⟩
def dkwX9_row_6 : List UInt8 := [132, 5, 255, 167, 255, 130, 45, 176]
abbrev dktX9_row_6 : List UInt8 := dkwX9_row_6 ++ []
def dkwX9_row_5 : List UInt8 := [58, 6, 132, 7, 1, 167, 255, 163, 45, 25, 6, 185, 0, 62, 2, 0, 87, 25, 6, 180, 0, 40, 54, 4]
abbrev dktX9_row_5 : List UInt8 := dkwX9_row_5 ++ dktX9_row_6
def dkwX9_row_4 : List UInt8 := [159, 0, 26, 25, 8, 180, 0, 50, 21, 9, 96, 42, 21, 5, 21, 4, 182, 0, 43, 160, 0, 7, 25, 8]
abbrev dktX9_row_4 : List UInt8 := dkwX9_row_4 ++ dktX9_row_5
def dkwX9_row_3 : List UInt8 := [180, 0, 40, 182, 0, 43, 54, 9, 25, 8, 180, 0, 47, 21, 4, 160, 0, 33, 21, 9, 18, 28]
abbrev dktX9_row_3 : List UInt8 := dkwX9_row_3 ++ dktX9_row_4
def dkwX9_row_2 : List UInt8 := [180, 0, 9, 21, 7, 185, 0, 34, 2, 0, 192, 0, 38, 58, 8, 42, 21, 5, 4, 100, 25, 8]
abbrev dktX9_row_2 : List UInt8 := dkwX9_row_2 ++ dktX9_row_3
def dkwX9_row_1 : List UInt8 := [54, 7, 21, 7, 42, 180, 0, 9, 185, 0, 29, 1, 0, 162, 0, 85, 25, 6, 199, 0, 80, 42]
abbrev dktX9_row_1 : List UInt8 := dkwX9_row_1 ++ dktX9_row_2
def dkwX9_row_0 : List UInt8 := [187, 0, 57, 89, 27, 183, 0, 59, 78, 28, 54, 4, 27, 54, 5, 21, 5, 158, 0, 127, 1, 58, 6, 3]
abbrev dktX9_row_0 : List UInt8 := dkwX9_row_0 ++ dktX9_row_1
theorem dksX9_row_0 : cX9_row.data.toList.drop 0 = dktX9_row_0 := by decide +kernel
theorem dksX9_row_1 : cX9_row.data.toList.drop 24 = dktX9_row_1 := dk_seg dksX9_row_0 24 rfl rfl
theorem dksX9_row_2 : cX9_row.data.toList.drop 46 = dktX9_row_2 := dk_seg dksX9_row_1 22 rfl rfl
theorem dksX9_row_3 : cX9_row.data.toList.drop 68 = dktX9_row_3 := dk_seg dksX9_row_2 22 rfl rfl
theorem dksX9_row_4 : cX9_row.data.toList.drop 90 = dktX9_row_4 := dk_seg dksX9_row_3 22 rfl rfl
theorem dksX9_row_5 : cX9_row.data.toList.drop 114 = dktX9_row_5 := dk_seg dksX9_row_4 24 rfl rfl
theorem dksX9_row_6 : cX9_row.data.toList.drop 138 = dktX9_row_6 := dk_seg dksX9_row_5 24 rfl rfl
theorem dX9_row_0 : decode cX9_row 0 = .ok (.new 57, 3) := dk_187 0 57 (dk_at dksX9_row_0 0 rfl rfl)
theorem dX9_row_3 : decode cX9_row 3 = .ok (.dup, 1) := dk_89 (dk_at dksX9_row_0 3 rfl rfl)
theorem dX9_row_4 : decode cX9_row 4 = .ok (.iload_n 1, 1) := dk_27 (dk_at dksX9_row_0 4 rfl rfl)
theorem dX9_row_5 : decode cX9_row 5 = .ok (.invokespecial 59, 3) := dk_183 0 59 (dk_at dksX9_row_0 5 rfl rfl)
theorem dX9_row_8 : decode cX9_row 8 = .ok (.astore_n 3, 1) := dk_78 (dk_at dksX9_row_0 8 rfl rfl)
theorem dX9_row_9 : decode cX9_row 9 = .ok (.iload_n 2, 1) := dk_28 (dk_at dksX9_row_0 9 rfl rfl)
theorem dX9_row_10 : decode cX9_row 10 = .ok (.istore 4, 2) := dk_54 4 (dk_at dksX9_row_0 10 rfl rfl)
theorem dX9_row_12 : decode cX9_row 12 = .ok (.iload_n 1, 1) := dk_27 (dk_at dksX9_row_0 12 rfl rfl)
theorem dX9_row_13 : decode cX9_row 13 = .ok (.istore 5, 2) := dk_54 5 (dk_at dksX9_row_0 13 rfl rfl)
theorem dX9_row_15 : decode cX9_row 15 = .ok (.iload 5, 2) := dk_21 5 (dk_at dksX9_row_0 15 rfl rfl)
theorem dX9_row_17 : decode cX9_row 17 = .ok (.ifCond .le 127, 3) := dk_158 0 127 (dk_at dksX9_row_0 17 rfl rfl)
theorem dX9_row_20 : decode cX9_row 20 = .ok (.aconst_null, 1) := dk_1 (dk_at dksX9_row_0 20 rfl rfl)
theorem dX9_row_21 : decode cX9_row 21 = .ok (.astore 6, 2) := dk_58 6 (dk_at dksX9_row_0 21 rfl rfl)
theorem dX9_row_23 : decode cX9_row 23 = .ok (.iconst 0, 1) := dk_3 (dk_at dksX9_row_0 23 rfl rfl)
theorem dX9_row_24 : decode cX9_row 24 = .ok (.istore 7, 2) := dk_54 7 (dk_at dksX9_row_1 0 rfl rfl)
theorem dX9_row_26 : decode cX9_row 26 = .ok (.iload 7, 2) := dk_21 7 (dk_at dksX9_row_1 2 rfl rfl)
theorem dX9_row_28 : decode cX9_row 28 = .ok (.aload_n 0, 1) := dk_42 (dk_at dksX9_row_1 4 rfl rfl)
theorem dX9_row_29 : decode cX9_row 29 = .ok (.getfield 9, 3) := dk_180 0 9 (dk_at dksX9_row_1 5 rfl rfl)
theorem dX9_row_32 : decode cX9_row 32 = .ok (.invokeinterface 29 1, 5) := by decide +kernel
theorem dX9_row_37 : decode cX9_row 37 = .ok (.if_icmp .ge 85, 3) := dk_162 0 85 (dk_at dksX9_row_1 13 rfl rfl)
theorem dX9_row_40 : decode cX9_row 40 = .ok (.aload 6, 2) := dk_25 6 (dk_at dksX9_row_1 16 rfl rfl)
theorem dX9_row_42 : decode cX9_row 42 = .ok (.ifnonnull 80, 3) := dk_199 0 80 (dk_at dksX9_row_1 18 rfl rfl)
theorem dX9_row_45 : decode cX9_row 45 = .ok (.aload_n 0, 1) := dk_42 (dk_at dksX9_row_1 21 rfl rfl)
theorem dX9_row_46 : decode cX9_row 46 = .ok (.getfield 9, 3) := dk_180 0 9 (dk_at dksX9_row_2 0 rfl rfl)
theorem dX9_row_49 : decode cX9_row 49 = .ok (.iload 7, 2) := dk_21 7 (dk_at dksX9_row_2 3 rfl rfl)
theorem dX9_row_51 : decode cX9_row 51 = .ok (.invokeinterface 34 2, 5) := by decide +kernel
theorem dX9_row_56 : decode cX9_row 56 = .ok (.checkcast 38, 3) := dk_192 0 38 (dk_at dksX9_row_2 10 rfl rfl)
theorem dX9_row_59 : decode cX9_row 59 = .ok (.astore 8, 2) := dk_58 8 (dk_at dksX9_row_2 13 rfl rfl)
theorem dX9_row_61 : decode cX9_row 61 = .ok (.aload_n 0, 1) := dk_42 (dk_at dksX9_row_2 15 rfl rfl)
theorem dX9_row_62 : decode cX9_row 62 = .ok (.iload 5, 2) := dk_21 5 (dk_at dksX9_row_2 16 rfl rfl)
theorem dX9_row_64 : decode cX9_row 64 = .ok (.iconst 1, 1) := dk_4 (dk_at dksX9_row_2 18 rfl rfl)
theorem dX9_row_65 : decode cX9_row 65 = .ok (.isub, 1) := dk_100 (dk_at dksX9_row_2 19 rfl rfl)
theorem dX9_row_66 : decode cX9_row 66 = .ok (.aload 8, 2) := dk_25 8 (dk_at dksX9_row_2 20 rfl rfl)
theorem dX9_row_68 : decode cX9_row 68 = .ok (.getfield 40, 3) := dk_180 0 40 (dk_at dksX9_row_3 0 rfl rfl)
theorem dX9_row_71 : decode cX9_row 71 = .ok (.invokevirtual 43, 3) := dk_182 0 43 (dk_at dksX9_row_3 3 rfl rfl)
theorem dX9_row_74 : decode cX9_row 74 = .ok (.istore 9, 2) := dk_54 9 (dk_at dksX9_row_3 6 rfl rfl)
theorem dX9_row_76 : decode cX9_row 76 = .ok (.aload 8, 2) := dk_25 8 (dk_at dksX9_row_3 8 rfl rfl)
theorem dX9_row_78 : decode cX9_row 78 = .ok (.getfield 47, 3) := dk_180 0 47 (dk_at dksX9_row_3 10 rfl rfl)
theorem dX9_row_81 : decode cX9_row 81 = .ok (.iload 4, 2) := dk_21 4 (dk_at dksX9_row_3 13 rfl rfl)
theorem dX9_row_83 : decode cX9_row 83 = .ok (.if_icmp .ne 33, 3) := dk_160 0 33 (dk_at dksX9_row_3 15 rfl rfl)
theorem dX9_row_86 : decode cX9_row 86 = .ok (.iload 9, 2) := dk_21 9 (dk_at dksX9_row_3 18 rfl rfl)
theorem dX9_row_88 : decode cX9_row 88 = .ok (.ldc 28, 2) := dk_18 28 (dk_at dksX9_row_3 20 rfl rfl)
theorem dX9_row_90 : decode cX9_row 90 = .ok (.if_icmp .eq 26, 3) := dk_159 0 26 (dk_at dksX9_row_4 0 rfl rfl)
theorem dX9_row_93 : decode cX9_row 93 = .ok (.aload 8, 2) := dk_25 8 (dk_at dksX9_row_4 3 rfl rfl)
theorem dX9_row_95 : decode cX9_row 95 = .ok (.getfield 50, 3) := dk_180 0 50 (dk_at dksX9_row_4 5 rfl rfl)
theorem dX9_row_98 : decode cX9_row 98 = .ok (.iload 9, 2) := dk_21 9 (dk_at dksX9_row_4 8 rfl rfl)
theorem dX9_row_100 : decode cX9_row 100 = .ok (.iadd, 1) := dk_96 (dk_at dksX9_row_4 10 rfl rfl)
theorem dX9_row_101 : decode cX9_row 101 = .ok (.aload_n 0, 1) := dk_42 (dk_at dksX9_row_4 11 rfl rfl)
theorem dX9_row_102 : decode cX9_row 102 = .ok (.iload 5, 2) := dk_21 5 (dk_at dksX9_row_4 12 rfl rfl)
theorem dX9_row_104 : decode cX9_row 104 = .ok (.iload 4, 2) := dk_21 4 (dk_at dksX9_row_4 14 rfl rfl)
theorem dX9_row_106 : decode cX9_row 106 = .ok (.invokevirtual 43, 3) := dk_182 0 43 (dk_at dksX9_row_4 16 rfl rfl)
theorem dX9_row_109 : decode cX9_row 109 = .ok (.if_icmp .ne 7, 3) := dk_160 0 7 (dk_at dksX9_row_4 19 rfl rfl)
theorem dX9_row_112 : decode cX9_row 112 = .ok (.aload 8, 2) := dk_25 8 (dk_at dksX9_row_4 22 rfl rfl)
theorem dX9_row_114 : decode cX9_row 114 = .ok (.astore 6, 2) := dk_58 6 (dk_at dksX9_row_5 0 rfl rfl)
theorem dX9_row_116 : decode cX9_row 116 = .ok (.iinc 7 1, 3) := dk_132 7 1 (dk_at dksX9_row_5 2 rfl rfl)
theorem dX9_row_119 : decode cX9_row 119 = .ok (.goto (-93), 3) := dk_167 255 163 (dk_at dksX9_row_5 5 rfl rfl)
theorem dX9_row_122 : decode cX9_row 122 = .ok (.aload_n 3, 1) := dk_45 (dk_at dksX9_row_5 8 rfl rfl)
theorem dX9_row_123 : decode cX9_row 123 = .ok (.aload 6, 2) := dk_25 6 (dk_at dksX9_row_5 9 rfl rfl)
theorem dX9_row_125 : decode cX9_row 125 = .ok (.invokeinterface 62 2, 5) := by decide +kernel
theorem dX9_row_130 : decode cX9_row 130 = .ok (.pop, 1) := dk_87 (dk_at dksX9_row_5 16 rfl rfl)
theorem dX9_row_131 : decode cX9_row 131 = .ok (.aload 6, 2) := dk_25 6 (dk_at dksX9_row_5 17 rfl rfl)
theorem dX9_row_133 : decode cX9_row 133 = .ok (.getfield 40, 3) := dk_180 0 40 (dk_at dksX9_row_5 19 rfl rfl)
theorem dX9_row_136 : decode cX9_row 136 = .ok (.istore 4, 2) := dk_54 4 (dk_at dksX9_row_5 22 rfl rfl)
theorem dX9_row_138 : decode cX9_row 138 = .ok (.iinc 5 (-1), 3) := dk_132 5 255 (dk_at dksX9_row_6 0 rfl rfl)
theorem dX9_row_141 : decode cX9_row 141 = .ok (.goto (-126), 3) := dk_167 255 130 (dk_at dksX9_row_6 3 rfl rfl)
theorem dX9_row_144 : decode cX9_row 144 = .ok (.aload_n 3, 1) := dk_45 (dk_at dksX9_row_6 6 rfl rfl)
theorem dX9_row_145 : decode cX9_row 145 = .ok (.areturn, 1) := dk_176 (dk_at dksX9_row_6 7 rfl rfl)
abbrev cX9_fewest : ByteArray := prog_13_method_5_code
def yX9_fewest : MethodName := ⟨RX9, "fewest", "(II)I"⟩
def dkwX9_fewest_1 : List UInt8 := [132, 3, 1, 167, 255, 233, 2, 172]
abbrev dktX9_fewest_1 : List UInt8 := dkwX9_fewest_1 ++ []
def dkwX9_fewest_0 : List UInt8 := [3, 62, 29, 42, 180, 0, 21, 163, 0, 21, 42, 29, 27, 182, 0, 43, 28, 160, 0, 5, 29, 172]
abbrev dktX9_fewest_0 : List UInt8 := dkwX9_fewest_0 ++ dktX9_fewest_1
theorem dksX9_fewest_0 : cX9_fewest.data.toList.drop 0 = dktX9_fewest_0 := by decide +kernel
theorem dksX9_fewest_1 : cX9_fewest.data.toList.drop 22 = dktX9_fewest_1 := dk_seg dksX9_fewest_0 22 rfl rfl
theorem dX9_fewest_0 : decode cX9_fewest 0 = .ok (.iconst 0, 1) := dk_3 (dk_at dksX9_fewest_0 0 rfl rfl)
theorem dX9_fewest_1 : decode cX9_fewest 1 = .ok (.istore_n 3, 1) := dk_62 (dk_at dksX9_fewest_0 1 rfl rfl)
theorem dX9_fewest_2 : decode cX9_fewest 2 = .ok (.iload_n 3, 1) := dk_29 (dk_at dksX9_fewest_0 2 rfl rfl)
theorem dX9_fewest_3 : decode cX9_fewest 3 = .ok (.aload_n 0, 1) := dk_42 (dk_at dksX9_fewest_0 3 rfl rfl)
theorem dX9_fewest_4 : decode cX9_fewest 4 = .ok (.getfield 21, 3) := dk_180 0 21 (dk_at dksX9_fewest_0 4 rfl rfl)
theorem dX9_fewest_7 : decode cX9_fewest 7 = .ok (.if_icmp .gt 21, 3) := dk_163 0 21 (dk_at dksX9_fewest_0 7 rfl rfl)
theorem dX9_fewest_10 : decode cX9_fewest 10 = .ok (.aload_n 0, 1) := dk_42 (dk_at dksX9_fewest_0 10 rfl rfl)
theorem dX9_fewest_11 : decode cX9_fewest 11 = .ok (.iload_n 3, 1) := dk_29 (dk_at dksX9_fewest_0 11 rfl rfl)
theorem dX9_fewest_12 : decode cX9_fewest 12 = .ok (.iload_n 1, 1) := dk_27 (dk_at dksX9_fewest_0 12 rfl rfl)
theorem dX9_fewest_13 : decode cX9_fewest 13 = .ok (.invokevirtual 43, 3) := dk_182 0 43 (dk_at dksX9_fewest_0 13 rfl rfl)
theorem dX9_fewest_16 : decode cX9_fewest 16 = .ok (.iload_n 2, 1) := dk_28 (dk_at dksX9_fewest_0 16 rfl rfl)
theorem dX9_fewest_17 : decode cX9_fewest 17 = .ok (.if_icmp .ne 5, 3) := dk_160 0 5 (dk_at dksX9_fewest_0 17 rfl rfl)
theorem dX9_fewest_20 : decode cX9_fewest 20 = .ok (.iload_n 3, 1) := dk_29 (dk_at dksX9_fewest_0 20 rfl rfl)
theorem dX9_fewest_21 : decode cX9_fewest 21 = .ok (.ireturn, 1) := dk_172 (dk_at dksX9_fewest_0 21 rfl rfl)
theorem dX9_fewest_22 : decode cX9_fewest 22 = .ok (.iinc 3 1, 3) := dk_132 3 1 (dk_at dksX9_fewest_1 0 rfl rfl)
theorem dX9_fewest_25 : decode cX9_fewest 25 = .ok (.goto (-23), 3) := dk_167 255 233 (dk_at dksX9_fewest_1 3 rfl rfl)
theorem dX9_fewest_28 : decode cX9_fewest 28 = .ok (.iconst (-1), 1) := dk_2 (dk_at dksX9_fewest_1 6 rfl rfl)
theorem dX9_fewest_29 : decode cX9_fewest 29 = .ok (.ireturn, 1) := dk_172 (dk_at dksX9_fewest_1 7 rfl rfl)
abbrev cX10_init : ByteArray := prog_12_method_1_code
def yX10_init : MethodName := ⟨RX10, "<init>", "(IIII)V"⟩
def dkwX10_init_1 : List UInt8 := [181, 0, 19, 177]
abbrev dktX10_init_1 : List UInt8 := dkwX10_init_1 ++ []
def dkwX10_init_0 : List UInt8 := [42, 183, 0, 1, 42, 27, 181, 0, 7, 42, 28, 181, 0, 13, 42, 29, 181, 0, 16, 42, 21, 4]
abbrev dktX10_init_0 : List UInt8 := dkwX10_init_0 ++ dktX10_init_1
theorem dksX10_init_0 : cX10_init.data.toList.drop 0 = dktX10_init_0 := by decide +kernel
theorem dksX10_init_1 : cX10_init.data.toList.drop 22 = dktX10_init_1 := dk_seg dksX10_init_0 22 rfl rfl
theorem dX10_init_0 : decode cX10_init 0 = .ok (.aload_n 0, 1) := dk_42 (dk_at dksX10_init_0 0 rfl rfl)
theorem dX10_init_1 : decode cX10_init 1 = .ok (.invokespecial 1, 3) := dk_183 0 1 (dk_at dksX10_init_0 1 rfl rfl)
theorem dX10_init_4 : decode cX10_init 4 = .ok (.aload_n 0, 1) := dk_42 (dk_at dksX10_init_0 4 rfl rfl)
theorem dX10_init_5 : decode cX10_init 5 = .ok (.iload_n 1, 1) := dk_27 (dk_at dksX10_init_0 5 rfl rfl)
theorem dX10_init_6 : decode cX10_init 6 = .ok (.putfield 7, 3) := dk_181 0 7 (dk_at dksX10_init_0 6 rfl rfl)
theorem dX10_init_9 : decode cX10_init 9 = .ok (.aload_n 0, 1) := dk_42 (dk_at dksX10_init_0 9 rfl rfl)
theorem dX10_init_10 : decode cX10_init 10 = .ok (.iload_n 2, 1) := dk_28 (dk_at dksX10_init_0 10 rfl rfl)
theorem dX10_init_11 : decode cX10_init 11 = .ok (.putfield 13, 3) := dk_181 0 13 (dk_at dksX10_init_0 11 rfl rfl)
theorem dX10_init_14 : decode cX10_init 14 = .ok (.aload_n 0, 1) := dk_42 (dk_at dksX10_init_0 14 rfl rfl)
theorem dX10_init_15 : decode cX10_init 15 = .ok (.iload_n 3, 1) := dk_29 (dk_at dksX10_init_0 15 rfl rfl)
theorem dX10_init_16 : decode cX10_init 16 = .ok (.putfield 16, 3) := dk_181 0 16 (dk_at dksX10_init_0 16 rfl rfl)
theorem dX10_init_19 : decode cX10_init 19 = .ok (.aload_n 0, 1) := dk_42 (dk_at dksX10_init_0 19 rfl rfl)
theorem dX10_init_20 : decode cX10_init 20 = .ok (.iload 4, 2) := dk_21 4 (dk_at dksX10_init_0 20 rfl rfl)
theorem dX10_init_22 : decode cX10_init 22 = .ok (.putfield 19, 3) := dk_181 0 19 (dk_at dksX10_init_1 0 rfl rfl)
theorem dX10_init_25 : decode cX10_init 25 = .ok (.return_, 1) := dk_177 (dk_at dksX10_init_1 3 rfl rfl)
abbrev cX11_compareTo : ByteArray := prog_6_method_3_code
def yX11_compareTo : MethodName := ⟨RX11, "compareTo", "(Ljava/lang/Object;)I"⟩
def dkwX11_compareTo_0 : List UInt8 := [42, 43, 192, 0, 8, 182, 0, 25, 172]
abbrev dktX11_compareTo_0 : List UInt8 := dkwX11_compareTo_0 ++ []
theorem dksX11_compareTo_0 : cX11_compareTo.data.toList.drop 0 = dktX11_compareTo_0 := by decide +kernel
theorem dX11_compareTo_0 : decode cX11_compareTo 0 = .ok (.aload_n 0, 1) := dk_42 (dk_at dksX11_compareTo_0 0 rfl rfl)
theorem dX11_compareTo_1 : decode cX11_compareTo 1 = .ok (.aload_n 1, 1) := dk_43 (dk_at dksX11_compareTo_0 1 rfl rfl)
theorem dX11_compareTo_2 : decode cX11_compareTo 2 = .ok (.checkcast 8, 3) := dk_192 0 8 (dk_at dksX11_compareTo_0 2 rfl rfl)
theorem dX11_compareTo_5 : decode cX11_compareTo 5 = .ok (.invokevirtual 25, 3) := dk_182 0 25 (dk_at dksX11_compareTo_0 5 rfl rfl)
theorem dX11_compareTo_8 : decode cX11_compareTo 8 = .ok (.ireturn, 1) := dk_172 (dk_at dksX11_compareTo_0 8 rfl rfl)
abbrev cX11_compareTo_2 : ByteArray := prog_6_method_2_code
def yX11_compareTo_2 : MethodName := ⟨RX11, "compareTo", "(LEventWindows$Mend;)I"⟩
def dkwX11_compareTo_2_1 : List UInt8 := [167, 0, 14, 42, 180, 0, 7, 43, 180, 0, 7, 184, 0, 19, 172]
abbrev dktX11_compareTo_2_1 : List UInt8 := dkwX11_compareTo_2_1 ++ []
def dkwX11_compareTo_2_0 : List UInt8 := [42, 180, 0, 16, 43, 180, 0, 16, 159, 0, 17, 42, 180, 0, 16, 43, 180, 0, 16, 184, 0, 19]
abbrev dktX11_compareTo_2_0 : List UInt8 := dkwX11_compareTo_2_0 ++ dktX11_compareTo_2_1
theorem dksX11_compareTo_2_0 : cX11_compareTo_2.data.toList.drop 0 = dktX11_compareTo_2_0 := by decide +kernel
theorem dksX11_compareTo_2_1 : cX11_compareTo_2.data.toList.drop 22 = dktX11_compareTo_2_1 := dk_seg dksX11_compareTo_2_0 22 rfl rfl
theorem dX11_compareTo_2_0 : decode cX11_compareTo_2 0 = .ok (.aload_n 0, 1) := dk_42 (dk_at dksX11_compareTo_2_0 0 rfl rfl)
theorem dX11_compareTo_2_1 : decode cX11_compareTo_2 1 = .ok (.getfield 16, 3) := dk_180 0 16 (dk_at dksX11_compareTo_2_0 1 rfl rfl)
theorem dX11_compareTo_2_4 : decode cX11_compareTo_2 4 = .ok (.aload_n 1, 1) := dk_43 (dk_at dksX11_compareTo_2_0 4 rfl rfl)
theorem dX11_compareTo_2_5 : decode cX11_compareTo_2 5 = .ok (.getfield 16, 3) := dk_180 0 16 (dk_at dksX11_compareTo_2_0 5 rfl rfl)
theorem dX11_compareTo_2_8 : decode cX11_compareTo_2 8 = .ok (.if_icmp .eq 17, 3) := dk_159 0 17 (dk_at dksX11_compareTo_2_0 8 rfl rfl)
theorem dX11_compareTo_2_11 : decode cX11_compareTo_2 11 = .ok (.aload_n 0, 1) := dk_42 (dk_at dksX11_compareTo_2_0 11 rfl rfl)
theorem dX11_compareTo_2_12 : decode cX11_compareTo_2 12 = .ok (.getfield 16, 3) := dk_180 0 16 (dk_at dksX11_compareTo_2_0 12 rfl rfl)
theorem dX11_compareTo_2_15 : decode cX11_compareTo_2 15 = .ok (.aload_n 1, 1) := dk_43 (dk_at dksX11_compareTo_2_0 15 rfl rfl)
theorem dX11_compareTo_2_16 : decode cX11_compareTo_2 16 = .ok (.getfield 16, 3) := dk_180 0 16 (dk_at dksX11_compareTo_2_0 16 rfl rfl)
theorem dX11_compareTo_2_19 : decode cX11_compareTo_2 19 = .ok (.invokestatic 19, 3) := dk_184 0 19 (dk_at dksX11_compareTo_2_0 19 rfl rfl)
theorem dX11_compareTo_2_22 : decode cX11_compareTo_2 22 = .ok (.goto 14, 3) := dk_167 0 14 (dk_at dksX11_compareTo_2_1 0 rfl rfl)
theorem dX11_compareTo_2_25 : decode cX11_compareTo_2 25 = .ok (.aload_n 0, 1) := dk_42 (dk_at dksX11_compareTo_2_1 3 rfl rfl)
theorem dX11_compareTo_2_26 : decode cX11_compareTo_2 26 = .ok (.getfield 7, 3) := dk_180 0 7 (dk_at dksX11_compareTo_2_1 4 rfl rfl)
theorem dX11_compareTo_2_29 : decode cX11_compareTo_2 29 = .ok (.aload_n 1, 1) := dk_43 (dk_at dksX11_compareTo_2_1 7 rfl rfl)
theorem dX11_compareTo_2_30 : decode cX11_compareTo_2 30 = .ok (.getfield 7, 3) := dk_180 0 7 (dk_at dksX11_compareTo_2_1 8 rfl rfl)
theorem dX11_compareTo_2_33 : decode cX11_compareTo_2 33 = .ok (.invokestatic 19, 3) := dk_184 0 19 (dk_at dksX11_compareTo_2_1 11 rfl rfl)
theorem dX11_compareTo_2_36 : decode cX11_compareTo_2 36 = .ok (.ireturn, 1) := dk_172 (dk_at dksX11_compareTo_2_1 14 rfl rfl)
abbrev cX11_init : ByteArray := prog_6_method_1_code
def yX11_init : MethodName := ⟨RX11, "<init>", "(III)V"⟩
def dkwX11_init_0 : List UInt8 := [42, 183, 0, 1, 42, 27, 181, 0, 7, 42, 28, 181, 0, 13, 42, 29, 181, 0, 16, 177]
abbrev dktX11_init_0 : List UInt8 := dkwX11_init_0 ++ []
theorem dksX11_init_0 : cX11_init.data.toList.drop 0 = dktX11_init_0 := by decide +kernel
theorem dX11_init_0 : decode cX11_init 0 = .ok (.aload_n 0, 1) := dk_42 (dk_at dksX11_init_0 0 rfl rfl)
theorem dX11_init_1 : decode cX11_init 1 = .ok (.invokespecial 1, 3) := dk_183 0 1 (dk_at dksX11_init_0 1 rfl rfl)
theorem dX11_init_4 : decode cX11_init 4 = .ok (.aload_n 0, 1) := dk_42 (dk_at dksX11_init_0 4 rfl rfl)
theorem dX11_init_5 : decode cX11_init 5 = .ok (.iload_n 1, 1) := dk_27 (dk_at dksX11_init_0 5 rfl rfl)
theorem dX11_init_6 : decode cX11_init 6 = .ok (.putfield 7, 3) := dk_181 0 7 (dk_at dksX11_init_0 6 rfl rfl)
theorem dX11_init_9 : decode cX11_init 9 = .ok (.aload_n 0, 1) := dk_42 (dk_at dksX11_init_0 9 rfl rfl)
theorem dX11_init_10 : decode cX11_init 10 = .ok (.iload_n 2, 1) := dk_28 (dk_at dksX11_init_0 10 rfl rfl)
theorem dX11_init_11 : decode cX11_init 11 = .ok (.putfield 13, 3) := dk_181 0 13 (dk_at dksX11_init_0 11 rfl rfl)
theorem dX11_init_14 : decode cX11_init 14 = .ok (.aload_n 0, 1) := dk_42 (dk_at dksX11_init_0 14 rfl rfl)
theorem dX11_init_15 : decode cX11_init 15 = .ok (.iload_n 3, 1) := dk_29 (dk_at dksX11_init_0 15 rfl rfl)
theorem dX11_init_16 : decode cX11_init 16 = .ok (.putfield 16, 3) := dk_181 0 16 (dk_at dksX11_init_0 16 rfl rfl)
theorem dX11_init_19 : decode cX11_init 19 = .ok (.return_, 1) := dk_177 (dk_at dksX11_init_0 19 rfl rfl)
abbrev cX12_init : ByteArray := prog_3_method_1_code
def yX12_init : MethodName := ⟨RX12, "<init>", "(Ljava/util/Comparator;)V"⟩
def dkwX12_init_0 : List UInt8 := [42, 183, 0, 1, 42, 43, 181, 0, 7, 177]
abbrev dktX12_init_0 : List UInt8 := dkwX12_init_0 ++ []
theorem dksX12_init_0 : cX12_init.data.toList.drop 0 = dktX12_init_0 := by decide +kernel
theorem dX12_init_0 : decode cX12_init 0 = .ok (.aload_n 0, 1) := dk_42 (dk_at dksX12_init_0 0 rfl rfl)
theorem dX12_init_1 : decode cX12_init 1 = .ok (.invokespecial 1, 3) := dk_183 0 1 (dk_at dksX12_init_0 1 rfl rfl)
theorem dX12_init_4 : decode cX12_init 4 = .ok (.aload_n 0, 1) := dk_42 (dk_at dksX12_init_0 4 rfl rfl)
theorem dX12_init_5 : decode cX12_init 5 = .ok (.aload_n 1, 1) := dk_43 (dk_at dksX12_init_0 5 rfl rfl)
theorem dX12_init_6 : decode cX12_init 6 = .ok (.putfield 7, 3) := dk_181 0 7 (dk_at dksX12_init_0 6 rfl rfl)
theorem dX12_init_9 : decode cX12_init 9 = .ok (.return_, 1) := dk_177 (dk_at dksX12_init_0 9 rfl rfl)
abbrev cX12_offerAll : ByteArray := prog_3_method_3_code
def yX12_offerAll : MethodName := ⟨RX12, "offerAll", "(Ljava/util/List;)V"⟩
def dkwX12_offerAll_1 : List UInt8 := [132, 2, 1, 167, 255, 232, 177]
abbrev dktX12_offerAll_1 : List UInt8 := dkwX12_offerAll_1 ++ []
def dkwX12_offerAll_0 : List UInt8 := [3, 61, 28, 43, 185, 0, 23, 1, 0, 162, 0, 20, 42, 43, 28, 185, 0, 29, 2, 0, 182, 0, 33]
abbrev dktX12_offerAll_0 : List UInt8 := dkwX12_offerAll_0 ++ dktX12_offerAll_1
theorem dksX12_offerAll_0 : cX12_offerAll.data.toList.drop 0 = dktX12_offerAll_0 := by decide +kernel
theorem dksX12_offerAll_1 : cX12_offerAll.data.toList.drop 23 = dktX12_offerAll_1 := dk_seg dksX12_offerAll_0 23 rfl rfl
theorem dX12_offerAll_0 : decode cX12_offerAll 0 = .ok (.iconst 0, 1) := dk_3 (dk_at dksX12_offerAll_0 0 rfl rfl)
theorem dX12_offerAll_1 : decode cX12_offerAll 1 = .ok (.istore_n 2, 1) := dk_61 (dk_at dksX12_offerAll_0 1 rfl rfl)
theorem dX12_offerAll_2 : decode cX12_offerAll 2 = .ok (.iload_n 2, 1) := dk_28 (dk_at dksX12_offerAll_0 2 rfl rfl)
theorem dX12_offerAll_3 : decode cX12_offerAll 3 = .ok (.aload_n 1, 1) := dk_43 (dk_at dksX12_offerAll_0 3 rfl rfl)
theorem dX12_offerAll_4 : decode cX12_offerAll 4 = .ok (.invokeinterface 23 1, 5) := by decide +kernel
theorem dX12_offerAll_9 : decode cX12_offerAll 9 = .ok (.if_icmp .ge 20, 3) := dk_162 0 20 (dk_at dksX12_offerAll_0 9 rfl rfl)
theorem dX12_offerAll_12 : decode cX12_offerAll 12 = .ok (.aload_n 0, 1) := dk_42 (dk_at dksX12_offerAll_0 12 rfl rfl)
theorem dX12_offerAll_13 : decode cX12_offerAll 13 = .ok (.aload_n 1, 1) := dk_43 (dk_at dksX12_offerAll_0 13 rfl rfl)
theorem dX12_offerAll_14 : decode cX12_offerAll 14 = .ok (.iload_n 2, 1) := dk_28 (dk_at dksX12_offerAll_0 14 rfl rfl)
theorem dX12_offerAll_15 : decode cX12_offerAll 15 = .ok (.invokeinterface 29 2, 5) := by decide +kernel
theorem dX12_offerAll_20 : decode cX12_offerAll 20 = .ok (.invokevirtual 33, 3) := dk_182 0 33 (dk_at dksX12_offerAll_0 20 rfl rfl)
theorem dX12_offerAll_23 : decode cX12_offerAll 23 = .ok (.iinc 2 1, 3) := dk_132 2 1 (dk_at dksX12_offerAll_1 0 rfl rfl)
theorem dX12_offerAll_26 : decode cX12_offerAll 26 = .ok (.goto (-24), 3) := dk_167 255 232 (dk_at dksX12_offerAll_1 3 rfl rfl)
theorem dX12_offerAll_29 : decode cX12_offerAll 29 = .ok (.return_, 1) := dk_177 (dk_at dksX12_offerAll_1 6 rfl rfl)
abbrev cX12_offer : ByteArray := prog_3_method_2_code
def yX12_offer : MethodName := ⟨RX12, "offer", "(Ljava/lang/Object;)V"⟩
def dkwX12_offer_1 : List UInt8 := [42, 43, 181, 0, 13, 177]
abbrev dktX12_offer_1 : List UInt8 := dkwX12_offer_1 ++ []
def dkwX12_offer_0 : List UInt8 := [42, 180, 0, 13, 198, 0, 20, 42, 180, 0, 7, 43, 42, 180, 0, 13, 185, 0, 17, 3, 0, 156, 0, 8]
abbrev dktX12_offer_0 : List UInt8 := dkwX12_offer_0 ++ dktX12_offer_1
theorem dksX12_offer_0 : cX12_offer.data.toList.drop 0 = dktX12_offer_0 := by decide +kernel
theorem dksX12_offer_1 : cX12_offer.data.toList.drop 24 = dktX12_offer_1 := dk_seg dksX12_offer_0 24 rfl rfl
theorem dX12_offer_0 : decode cX12_offer 0 = .ok (.aload_n 0, 1) := dk_42 (dk_at dksX12_offer_0 0 rfl rfl)
theorem dX12_offer_1 : decode cX12_offer 1 = .ok (.getfield 13, 3) := dk_180 0 13 (dk_at dksX12_offer_0 1 rfl rfl)
theorem dX12_offer_4 : decode cX12_offer 4 = .ok (.ifnull 20, 3) := dk_198 0 20 (dk_at dksX12_offer_0 4 rfl rfl)
theorem dX12_offer_7 : decode cX12_offer 7 = .ok (.aload_n 0, 1) := dk_42 (dk_at dksX12_offer_0 7 rfl rfl)
theorem dX12_offer_8 : decode cX12_offer 8 = .ok (.getfield 7, 3) := dk_180 0 7 (dk_at dksX12_offer_0 8 rfl rfl)
theorem dX12_offer_11 : decode cX12_offer 11 = .ok (.aload_n 1, 1) := dk_43 (dk_at dksX12_offer_0 11 rfl rfl)
theorem dX12_offer_12 : decode cX12_offer 12 = .ok (.aload_n 0, 1) := dk_42 (dk_at dksX12_offer_0 12 rfl rfl)
theorem dX12_offer_13 : decode cX12_offer 13 = .ok (.getfield 13, 3) := dk_180 0 13 (dk_at dksX12_offer_0 13 rfl rfl)
theorem dX12_offer_16 : decode cX12_offer 16 = .ok (.invokeinterface 17 3, 5) := by decide +kernel
theorem dX12_offer_21 : decode cX12_offer 21 = .ok (.ifCond .ge 8, 3) := dk_156 0 8 (dk_at dksX12_offer_0 21 rfl rfl)
theorem dX12_offer_24 : decode cX12_offer 24 = .ok (.aload_n 0, 1) := dk_42 (dk_at dksX12_offer_1 0 rfl rfl)
theorem dX12_offer_25 : decode cX12_offer 25 = .ok (.aload_n 1, 1) := dk_43 (dk_at dksX12_offer_1 1 rfl rfl)
theorem dX12_offer_26 : decode cX12_offer 26 = .ok (.putfield 13, 3) := dk_181 0 13 (dk_at dksX12_offer_1 2 rfl rfl)
theorem dX12_offer_29 : decode cX12_offer 29 = .ok (.return_, 1) := dk_177 (dk_at dksX12_offer_1 5 rfl rfl)
abbrev cX12_first : ByteArray := prog_3_method_4_code
def yX12_first : MethodName := ⟨RX12, "first", "()Ljava/lang/Object;"⟩
theorem dX12_first_0 : decode cX12_first 0 = .ok (.aload_n 0, 1) := by decide +kernel
theorem dX12_first_1 : decode cX12_first 1 = .ok (.getfield 13, 3) := by decide +kernel
theorem dX12_first_4 : decode cX12_first 4 = .ok (.areturn, 1) := by decide +kernel
abbrev cX13_compare : ByteArray := prog_7_method_3_code
def yX13_compare : MethodName := ⟨RX13, "compare", "(Ljava/lang/Object;Ljava/lang/Object;)I"⟩
def dkwX13_compare_0 : List UInt8 := [42, 43, 192, 0, 8, 44, 192, 0, 8, 182, 0, 13, 172]
abbrev dktX13_compare_0 : List UInt8 := dkwX13_compare_0 ++ []
theorem dksX13_compare_0 : cX13_compare.data.toList.drop 0 = dktX13_compare_0 := by decide +kernel
theorem dX13_compare_0 : decode cX13_compare 0 = .ok (.aload_n 0, 1) := dk_42 (dk_at dksX13_compare_0 0 rfl rfl)
theorem dX13_compare_1 : decode cX13_compare 1 = .ok (.aload_n 1, 1) := dk_43 (dk_at dksX13_compare_0 1 rfl rfl)
theorem dX13_compare_2 : decode cX13_compare 2 = .ok (.checkcast 8, 3) := dk_192 0 8 (dk_at dksX13_compare_0 2 rfl rfl)
theorem dX13_compare_5 : decode cX13_compare 5 = .ok (.aload_n 2, 1) := dk_44 (dk_at dksX13_compare_0 5 rfl rfl)
theorem dX13_compare_6 : decode cX13_compare 6 = .ok (.checkcast 8, 3) := dk_192 0 8 (dk_at dksX13_compare_0 6 rfl rfl)
theorem dX13_compare_9 : decode cX13_compare 9 = .ok (.invokevirtual 13, 3) := dk_182 0 13 (dk_at dksX13_compare_0 9 rfl rfl)
theorem dX13_compare_12 : decode cX13_compare 12 = .ok (.ireturn, 1) := dk_172 (dk_at dksX13_compare_0 12 rfl rfl)
abbrev cX13_compare_2 : ByteArray := prog_7_method_2_code
def yX13_compare_2 : MethodName := ⟨RX13, "compare", "(Ljava/lang/Comparable;Ljava/lang/Comparable;)I"⟩
def dkwX13_compare_2_0 : List UInt8 := [43, 44, 185, 0, 7, 2, 0, 172]
abbrev dktX13_compare_2_0 : List UInt8 := dkwX13_compare_2_0 ++ []
theorem dksX13_compare_2_0 : cX13_compare_2.data.toList.drop 0 = dktX13_compare_2_0 := by decide +kernel
theorem dX13_compare_2_0 : decode cX13_compare_2 0 = .ok (.aload_n 1, 1) := dk_43 (dk_at dksX13_compare_2_0 0 rfl rfl)
theorem dX13_compare_2_1 : decode cX13_compare_2 1 = .ok (.aload_n 2, 1) := dk_44 (dk_at dksX13_compare_2_0 1 rfl rfl)
theorem dX13_compare_2_2 : decode cX13_compare_2 2 = .ok (.invokeinterface 7 2, 5) := by decide +kernel
theorem dX13_compare_2_7 : decode cX13_compare_2 7 = .ok (.ireturn, 1) := dk_172 (dk_at dksX13_compare_2_0 7 rfl rfl)
abbrev cX13_init : ByteArray := prog_7_method_1_code
def yX13_init : MethodName := ⟨RX13, "<init>", "()V"⟩
theorem dX13_init_0 : decode cX13_init 0 = .ok (.aload_n 0, 1) := by decide +kernel
theorem dX13_init_1 : decode cX13_init 1 = .ok (.invokespecial 1, 3) := by decide +kernel
theorem dX13_init_4 : decode cX13_init 4 = .ok (.return_, 1) := by decide +kernel
abbrev cX14_compare : ByteArray := prog_2_method_3_code
def yX14_compare : MethodName := ⟨RX14, "compare", "(Ljava/lang/Object;Ljava/lang/Object;)I"⟩
def dkwX14_compare_0 : List UInt8 := [42, 43, 192, 0, 8, 44, 192, 0, 8, 182, 0, 25, 172]
abbrev dktX14_compare_0 : List UInt8 := dkwX14_compare_0 ++ []
theorem dksX14_compare_0 : cX14_compare.data.toList.drop 0 = dktX14_compare_0 := by decide +kernel
theorem dX14_compare_0 : decode cX14_compare 0 = .ok (.aload_n 0, 1) := dk_42 (dk_at dksX14_compare_0 0 rfl rfl)
theorem dX14_compare_1 : decode cX14_compare 1 = .ok (.aload_n 1, 1) := dk_43 (dk_at dksX14_compare_0 1 rfl rfl)
theorem dX14_compare_2 : decode cX14_compare 2 = .ok (.checkcast 8, 3) := dk_192 0 8 (dk_at dksX14_compare_0 2 rfl rfl)
theorem dX14_compare_5 : decode cX14_compare 5 = .ok (.aload_n 2, 1) := dk_44 (dk_at dksX14_compare_0 5 rfl rfl)
theorem dX14_compare_6 : decode cX14_compare 6 = .ok (.checkcast 8, 3) := dk_192 0 8 (dk_at dksX14_compare_0 6 rfl rfl)
theorem dX14_compare_9 : decode cX14_compare 9 = .ok (.invokevirtual 25, 3) := dk_182 0 25 (dk_at dksX14_compare_0 9 rfl rfl)
theorem dX14_compare_12 : decode cX14_compare 12 = .ok (.ireturn, 1) := dk_172 (dk_at dksX14_compare_0 12 rfl rfl)
abbrev cX14_compare_2 : ByteArray := prog_2_method_2_code
def yX14_compare_2 : MethodName := ⟨RX14, "compare", "(LEventWindows$Drop;LEventWindows$Drop;)I"⟩
def dkwX14_compare_2_2 : List UInt8 := [180, 0, 22, 44, 180, 0, 22, 184, 0, 13, 172]
abbrev dktX14_compare_2_2 : List UInt8 := dkwX14_compare_2_2 ++ []
def dkwX14_compare_2_1 : List UInt8 := [180, 0, 19, 44, 180, 0, 19, 159, 0, 15, 43, 180, 0, 19, 44, 180, 0, 19, 184, 0, 13, 172, 43]
abbrev dktX14_compare_2_1 : List UInt8 := dkwX14_compare_2_1 ++ dktX14_compare_2_2
def dkwX14_compare_2_0 : List UInt8 := [43, 180, 0, 7, 44, 180, 0, 7, 159, 0, 15, 43, 180, 0, 7, 44, 180, 0, 7, 184, 0, 13, 172, 43]
abbrev dktX14_compare_2_0 : List UInt8 := dkwX14_compare_2_0 ++ dktX14_compare_2_1
theorem dksX14_compare_2_0 : cX14_compare_2.data.toList.drop 0 = dktX14_compare_2_0 := by decide +kernel
theorem dksX14_compare_2_1 : cX14_compare_2.data.toList.drop 24 = dktX14_compare_2_1 := dk_seg dksX14_compare_2_0 24 rfl rfl
theorem dksX14_compare_2_2 : cX14_compare_2.data.toList.drop 47 = dktX14_compare_2_2 := dk_seg dksX14_compare_2_1 23 rfl rfl
theorem dX14_compare_2_0 : decode cX14_compare_2 0 = .ok (.aload_n 1, 1) := dk_43 (dk_at dksX14_compare_2_0 0 rfl rfl)
theorem dX14_compare_2_1 : decode cX14_compare_2 1 = .ok (.getfield 7, 3) := dk_180 0 7 (dk_at dksX14_compare_2_0 1 rfl rfl)
theorem dX14_compare_2_4 : decode cX14_compare_2 4 = .ok (.aload_n 2, 1) := dk_44 (dk_at dksX14_compare_2_0 4 rfl rfl)
theorem dX14_compare_2_5 : decode cX14_compare_2 5 = .ok (.getfield 7, 3) := dk_180 0 7 (dk_at dksX14_compare_2_0 5 rfl rfl)
theorem dX14_compare_2_8 : decode cX14_compare_2 8 = .ok (.if_icmp .eq 15, 3) := dk_159 0 15 (dk_at dksX14_compare_2_0 8 rfl rfl)
theorem dX14_compare_2_11 : decode cX14_compare_2 11 = .ok (.aload_n 1, 1) := dk_43 (dk_at dksX14_compare_2_0 11 rfl rfl)
theorem dX14_compare_2_12 : decode cX14_compare_2 12 = .ok (.getfield 7, 3) := dk_180 0 7 (dk_at dksX14_compare_2_0 12 rfl rfl)
theorem dX14_compare_2_15 : decode cX14_compare_2 15 = .ok (.aload_n 2, 1) := dk_44 (dk_at dksX14_compare_2_0 15 rfl rfl)
theorem dX14_compare_2_16 : decode cX14_compare_2 16 = .ok (.getfield 7, 3) := dk_180 0 7 (dk_at dksX14_compare_2_0 16 rfl rfl)
theorem dX14_compare_2_19 : decode cX14_compare_2 19 = .ok (.invokestatic 13, 3) := dk_184 0 13 (dk_at dksX14_compare_2_0 19 rfl rfl)
theorem dX14_compare_2_22 : decode cX14_compare_2 22 = .ok (.ireturn, 1) := dk_172 (dk_at dksX14_compare_2_0 22 rfl rfl)
theorem dX14_compare_2_23 : decode cX14_compare_2 23 = .ok (.aload_n 1, 1) := dk_43 (dk_at dksX14_compare_2_0 23 rfl rfl)
theorem dX14_compare_2_24 : decode cX14_compare_2 24 = .ok (.getfield 19, 3) := dk_180 0 19 (dk_at dksX14_compare_2_1 0 rfl rfl)
theorem dX14_compare_2_27 : decode cX14_compare_2 27 = .ok (.aload_n 2, 1) := dk_44 (dk_at dksX14_compare_2_1 3 rfl rfl)
theorem dX14_compare_2_28 : decode cX14_compare_2 28 = .ok (.getfield 19, 3) := dk_180 0 19 (dk_at dksX14_compare_2_1 4 rfl rfl)
theorem dX14_compare_2_31 : decode cX14_compare_2 31 = .ok (.if_icmp .eq 15, 3) := dk_159 0 15 (dk_at dksX14_compare_2_1 7 rfl rfl)
theorem dX14_compare_2_34 : decode cX14_compare_2 34 = .ok (.aload_n 1, 1) := dk_43 (dk_at dksX14_compare_2_1 10 rfl rfl)
theorem dX14_compare_2_35 : decode cX14_compare_2 35 = .ok (.getfield 19, 3) := dk_180 0 19 (dk_at dksX14_compare_2_1 11 rfl rfl)
theorem dX14_compare_2_38 : decode cX14_compare_2 38 = .ok (.aload_n 2, 1) := dk_44 (dk_at dksX14_compare_2_1 14 rfl rfl)
theorem dX14_compare_2_39 : decode cX14_compare_2 39 = .ok (.getfield 19, 3) := dk_180 0 19 (dk_at dksX14_compare_2_1 15 rfl rfl)
theorem dX14_compare_2_42 : decode cX14_compare_2 42 = .ok (.invokestatic 13, 3) := dk_184 0 13 (dk_at dksX14_compare_2_1 18 rfl rfl)
theorem dX14_compare_2_45 : decode cX14_compare_2 45 = .ok (.ireturn, 1) := dk_172 (dk_at dksX14_compare_2_1 21 rfl rfl)
theorem dX14_compare_2_46 : decode cX14_compare_2 46 = .ok (.aload_n 1, 1) := dk_43 (dk_at dksX14_compare_2_1 22 rfl rfl)
theorem dX14_compare_2_47 : decode cX14_compare_2 47 = .ok (.getfield 22, 3) := dk_180 0 22 (dk_at dksX14_compare_2_2 0 rfl rfl)
theorem dX14_compare_2_50 : decode cX14_compare_2 50 = .ok (.aload_n 2, 1) := dk_44 (dk_at dksX14_compare_2_2 3 rfl rfl)
theorem dX14_compare_2_51 : decode cX14_compare_2 51 = .ok (.getfield 22, 3) := dk_180 0 22 (dk_at dksX14_compare_2_2 4 rfl rfl)
theorem dX14_compare_2_54 : decode cX14_compare_2 54 = .ok (.invokestatic 13, 3) := dk_184 0 13 (dk_at dksX14_compare_2_2 7 rfl rfl)
theorem dX14_compare_2_57 : decode cX14_compare_2 57 = .ok (.ireturn, 1) := dk_172 (dk_at dksX14_compare_2_2 10 rfl rfl)
abbrev cX14_init : ByteArray := prog_2_method_1_code
def yX14_init : MethodName := ⟨RX14, "<init>", "()V"⟩
theorem dX14_init_0 : decode cX14_init 0 = .ok (.aload_n 0, 1) := by decide +kernel
theorem dX14_init_1 : decode cX14_init 1 = .ok (.invokespecial 1, 3) := by decide +kernel
theorem dX14_init_4 : decode cX14_init 4 = .ok (.return_, 1) := by decide +kernel
abbrev cX15_init : ByteArray := prog_4_method_1_code
def yX15_init : MethodName := ⟨RX15, "<init>", "(IIII)V"⟩
def dkwX15_init_1 : List UInt8 := [181, 0, 19, 177]
abbrev dktX15_init_1 : List UInt8 := dkwX15_init_1 ++ []
def dkwX15_init_0 : List UInt8 := [42, 183, 0, 1, 42, 27, 181, 0, 7, 42, 28, 181, 0, 13, 42, 29, 181, 0, 16, 42, 21, 4]
abbrev dktX15_init_0 : List UInt8 := dkwX15_init_0 ++ dktX15_init_1
theorem dksX15_init_0 : cX15_init.data.toList.drop 0 = dktX15_init_0 := by decide +kernel
theorem dksX15_init_1 : cX15_init.data.toList.drop 22 = dktX15_init_1 := dk_seg dksX15_init_0 22 rfl rfl
theorem dX15_init_0 : decode cX15_init 0 = .ok (.aload_n 0, 1) := dk_42 (dk_at dksX15_init_0 0 rfl rfl)
theorem dX15_init_1 : decode cX15_init 1 = .ok (.invokespecial 1, 3) := dk_183 0 1 (dk_at dksX15_init_0 1 rfl rfl)
theorem dX15_init_4 : decode cX15_init 4 = .ok (.aload_n 0, 1) := dk_42 (dk_at dksX15_init_0 4 rfl rfl)
theorem dX15_init_5 : decode cX15_init 5 = .ok (.iload_n 1, 1) := dk_27 (dk_at dksX15_init_0 5 rfl rfl)
theorem dX15_init_6 : decode cX15_init 6 = .ok (.putfield 7, 3) := dk_181 0 7 (dk_at dksX15_init_0 6 rfl rfl)
theorem dX15_init_9 : decode cX15_init 9 = .ok (.aload_n 0, 1) := dk_42 (dk_at dksX15_init_0 9 rfl rfl)
theorem dX15_init_10 : decode cX15_init 10 = .ok (.iload_n 2, 1) := dk_28 (dk_at dksX15_init_0 10 rfl rfl)
theorem dX15_init_11 : decode cX15_init 11 = .ok (.putfield 13, 3) := dk_181 0 13 (dk_at dksX15_init_0 11 rfl rfl)
theorem dX15_init_14 : decode cX15_init 14 = .ok (.aload_n 0, 1) := dk_42 (dk_at dksX15_init_0 14 rfl rfl)
theorem dX15_init_15 : decode cX15_init 15 = .ok (.iload_n 3, 1) := dk_29 (dk_at dksX15_init_0 15 rfl rfl)
theorem dX15_init_16 : decode cX15_init 16 = .ok (.putfield 16, 3) := dk_181 0 16 (dk_at dksX15_init_0 16 rfl rfl)
theorem dX15_init_19 : decode cX15_init 19 = .ok (.aload_n 0, 1) := dk_42 (dk_at dksX15_init_0 19 rfl rfl)
theorem dX15_init_20 : decode cX15_init 20 = .ok (.iload 4, 2) := dk_21 4 (dk_at dksX15_init_0 20 rfl rfl)
theorem dX15_init_22 : decode cX15_init 22 = .ok (.putfield 19, 3) := dk_181 0 19 (dk_at dksX15_init_1 0 rfl rfl)
theorem dX15_init_25 : decode cX15_init 25 = .ok (.return_, 1) := dk_177 (dk_at dksX15_init_1 3 rfl rfl)
abbrev cX15_with : ByteArray := prog_4_method_2_code
def yX15_with : MethodName := ⟨RX15, "with", "(II)LEventWindows$Drop;"⟩
def dkwX15_with_1 : List UInt8 := [27, 183, 0, 22, 176]
abbrev dktX15_with_1 : List UInt8 := dkwX15_with_1 ++ []
def dkwX15_with_0 : List UInt8 := [187, 0, 8, 89, 42, 180, 0, 7, 4, 27, 120, 128, 42, 180, 0, 13, 28, 96, 42, 180, 0, 16, 4, 96]
abbrev dktX15_with_0 : List UInt8 := dkwX15_with_0 ++ dktX15_with_1
theorem dksX15_with_0 : cX15_with.data.toList.drop 0 = dktX15_with_0 := by decide +kernel
theorem dksX15_with_1 : cX15_with.data.toList.drop 24 = dktX15_with_1 := dk_seg dksX15_with_0 24 rfl rfl
theorem dX15_with_0 : decode cX15_with 0 = .ok (.new 8, 3) := dk_187 0 8 (dk_at dksX15_with_0 0 rfl rfl)
theorem dX15_with_3 : decode cX15_with 3 = .ok (.dup, 1) := dk_89 (dk_at dksX15_with_0 3 rfl rfl)
theorem dX15_with_4 : decode cX15_with 4 = .ok (.aload_n 0, 1) := dk_42 (dk_at dksX15_with_0 4 rfl rfl)
theorem dX15_with_5 : decode cX15_with 5 = .ok (.getfield 7, 3) := dk_180 0 7 (dk_at dksX15_with_0 5 rfl rfl)
theorem dX15_with_8 : decode cX15_with 8 = .ok (.iconst 1, 1) := dk_4 (dk_at dksX15_with_0 8 rfl rfl)
theorem dX15_with_9 : decode cX15_with 9 = .ok (.iload_n 1, 1) := dk_27 (dk_at dksX15_with_0 9 rfl rfl)
theorem dX15_with_10 : decode cX15_with 10 = .ok (.ishl, 1) := dk_120 (dk_at dksX15_with_0 10 rfl rfl)
theorem dX15_with_11 : decode cX15_with 11 = .ok (.ior, 1) := dk_128 (dk_at dksX15_with_0 11 rfl rfl)
theorem dX15_with_12 : decode cX15_with 12 = .ok (.aload_n 0, 1) := dk_42 (dk_at dksX15_with_0 12 rfl rfl)
theorem dX15_with_13 : decode cX15_with 13 = .ok (.getfield 13, 3) := dk_180 0 13 (dk_at dksX15_with_0 13 rfl rfl)
theorem dX15_with_16 : decode cX15_with 16 = .ok (.iload_n 2, 1) := dk_28 (dk_at dksX15_with_0 16 rfl rfl)
theorem dX15_with_17 : decode cX15_with 17 = .ok (.iadd, 1) := dk_96 (dk_at dksX15_with_0 17 rfl rfl)
theorem dX15_with_18 : decode cX15_with 18 = .ok (.aload_n 0, 1) := dk_42 (dk_at dksX15_with_0 18 rfl rfl)
theorem dX15_with_19 : decode cX15_with 19 = .ok (.getfield 16, 3) := dk_180 0 16 (dk_at dksX15_with_0 19 rfl rfl)
theorem dX15_with_22 : decode cX15_with 22 = .ok (.iconst 1, 1) := dk_4 (dk_at dksX15_with_0 22 rfl rfl)
theorem dX15_with_23 : decode cX15_with 23 = .ok (.iadd, 1) := dk_96 (dk_at dksX15_with_0 23 rfl rfl)
theorem dX15_with_24 : decode cX15_with 24 = .ok (.iload_n 1, 1) := dk_27 (dk_at dksX15_with_1 0 rfl rfl)
theorem dX15_with_25 : decode cX15_with 25 = .ok (.invokespecial 22, 3) := dk_183 0 22 (dk_at dksX15_with_1 1 rfl rfl)
theorem dX15_with_28 : decode cX15_with 28 = .ok (.areturn, 1) := dk_176 (dk_at dksX15_with_1 4 rfl rfl)
