/-! code of X1 -/
set_option maxRecDepth 100000
abbrev cX1_init : ByteArray := prog_1_method_4_code
def yX1_init : MethodName := ⟨RX1, "<init>", "()V"⟩
def dkwX1_init_2 : List UInt8 := [181, 0, 67, 177]
abbrev dktX1_init_2 : List UInt8 := dkwX1_init_2 ++ []
def dkwX1_init_1 : List UInt8 := [183, 0, 55, 181, 0, 56, 42, 5, 189, 0, 4, 181, 0, 60, 42, 187, 0, 64, 89, 183, 0, 66]
abbrev dktX1_init_1 : List UInt8 := dkwX1_init_1 ++ dktX1_init_2
def dkwX1_init_0 : List UInt8 := [42, 183, 0, 40, 42, 17, 2, 188, 188, 8, 181, 0, 45, 42, 2, 181, 0, 49, 42, 187, 0, 53, 89]
abbrev dktX1_init_0 : List UInt8 := dkwX1_init_0 ++ dktX1_init_1
theorem dksX1_init_0 : cX1_init.data.toList.drop 0 = dktX1_init_0 := by decide +kernel
theorem dksX1_init_1 : cX1_init.data.toList.drop 23 = dktX1_init_1 := dk_seg dksX1_init_0 23 rfl rfl
theorem dksX1_init_2 : cX1_init.data.toList.drop 45 = dktX1_init_2 := dk_seg dksX1_init_1 22 rfl rfl
theorem dX1_init_0 : decode cX1_init 0 = .ok (.aload_n 0, 1) := dk_42 (dk_at dksX1_init_0 0 rfl rfl)
theorem dX1_init_1 : decode cX1_init 1 = .ok (.invokespecial 40, 3) := dk_183 0 40 (dk_at dksX1_init_0 1 rfl rfl)
theorem dX1_init_4 : decode cX1_init 4 = .ok (.aload_n 0, 1) := dk_42 (dk_at dksX1_init_0 4 rfl rfl)
theorem dX1_init_5 : decode cX1_init 5 = .ok (.sipush 700, 3) := dk_17 2 188 (dk_at dksX1_init_0 5 rfl rfl)
theorem dX1_init_8 : decode cX1_init 8 = .ok (.newarray .byte, 2) := dk_188_8 (dk_at dksX1_init_0 8 rfl rfl)
theorem dX1_init_10 : decode cX1_init 10 = .ok (.putfield 45, 3) := dk_181 0 45 (dk_at dksX1_init_0 10 rfl rfl)
theorem dX1_init_13 : decode cX1_init 13 = .ok (.aload_n 0, 1) := dk_42 (dk_at dksX1_init_0 13 rfl rfl)
theorem dX1_init_14 : decode cX1_init 14 = .ok (.iconst (-1), 1) := dk_2 (dk_at dksX1_init_0 14 rfl rfl)
theorem dX1_init_15 : decode cX1_init 15 = .ok (.putfield 49, 3) := dk_181 0 49 (dk_at dksX1_init_0 15 rfl rfl)
theorem dX1_init_18 : decode cX1_init 18 = .ok (.aload_n 0, 1) := dk_42 (dk_at dksX1_init_0 18 rfl rfl)
theorem dX1_init_19 : decode cX1_init 19 = .ok (.new 53, 3) := dk_187 0 53 (dk_at dksX1_init_0 19 rfl rfl)
theorem dX1_init_22 : decode cX1_init 22 = .ok (.dup, 1) := dk_89 (dk_at dksX1_init_0 22 rfl rfl)
theorem dX1_init_23 : decode cX1_init 23 = .ok (.invokespecial 55, 3) := dk_183 0 55 (dk_at dksX1_init_1 0 rfl rfl)
theorem dX1_init_26 : decode cX1_init 26 = .ok (.putfield 56, 3) := dk_181 0 56 (dk_at dksX1_init_1 3 rfl rfl)
theorem dX1_init_29 : decode cX1_init 29 = .ok (.aload_n 0, 1) := dk_42 (dk_at dksX1_init_1 6 rfl rfl)
theorem dX1_init_30 : decode cX1_init 30 = .ok (.iconst 2, 1) := dk_5 (dk_at dksX1_init_1 7 rfl rfl)
theorem dX1_init_31 : decode cX1_init 31 = .ok (.anewarray 4, 3) := dk_189 0 4 (dk_at dksX1_init_1 8 rfl rfl)
theorem dX1_init_34 : decode cX1_init 34 = .ok (.putfield 60, 3) := dk_181 0 60 (dk_at dksX1_init_1 11 rfl rfl)
theorem dX1_init_37 : decode cX1_init 37 = .ok (.aload_n 0, 1) := dk_42 (dk_at dksX1_init_1 14 rfl rfl)
theorem dX1_init_38 : decode cX1_init 38 = .ok (.new 64, 3) := dk_187 0 64 (dk_at dksX1_init_1 15 rfl rfl)
theorem dX1_init_41 : decode cX1_init 41 = .ok (.dup, 1) := dk_89 (dk_at dksX1_init_1 18 rfl rfl)
theorem dX1_init_42 : decode cX1_init 42 = .ok (.invokespecial 66, 3) := dk_183 0 66 (dk_at dksX1_init_1 19 rfl rfl)
theorem dX1_init_45 : decode cX1_init 45 = .ok (.putfield 67, 3) := dk_181 0 67 (dk_at dksX1_init_2 0 rfl rfl)
theorem dX1_init_48 : decode cX1_init 48 = .ok (.return_, 1) := dk_177 (dk_at dksX1_init_2 3 rfl rfl)
abbrev cX1_append : ByteArray := prog_1_method_17_code
def yX1_append : MethodName := ⟨RX1, "append", "(IIIII)I"⟩
def dkwX1_append_4 : List UInt8 := [96, 181, 0, 145, 132, 10, 248, 167, 255, 223, 132, 8, 1, 167, 255, 199, 42, 180, 0, 145, 172]
abbrev dktX1_append_4 : List UInt8 := dkwX1_append_4 ++ []
def dkwX1_append_3 : List UInt8 := [155, 0, 34, 42, 180, 0, 45, 42, 180, 0, 145, 21, 9, 21, 10, 122, 145, 84, 42, 89, 180, 0, 145, 4]
abbrev dktX1_append_3 : List UInt8 := dkwX1_append_3 ++ dktX1_append_4
def dkwX1_append_2 : List UInt8 := [54, 8, 21, 8, 21, 7, 162, 0, 56, 25, 6, 21, 8, 46, 54, 9, 16, 24, 54, 10, 21, 10]
abbrev dktX1_append_2 : List UInt8 := dkwX1_append_2 ++ dktX1_append_3
def dkwX1_append_1 : List UInt8 := [28, 79, 89, 5, 29, 79, 89, 6, 21, 4, 79, 89, 7, 21, 5, 79, 58, 6, 25, 6, 190, 54, 7, 3]
abbrev dktX1_append_1 : List UInt8 := dkwX1_append_1 ++ dktX1_append_2
def dkwX1_append_0 : List UInt8 := [42, 180, 0, 145, 16, 20, 96, 17, 2, 188, 164, 0, 5, 2, 172, 8, 188, 10, 89, 3, 27, 79, 89, 4]
abbrev dktX1_append_0 : List UInt8 := dkwX1_append_0 ++ dktX1_append_1
theorem dksX1_append_0 : cX1_append.data.toList.drop 0 = dktX1_append_0 := by decide +kernel
theorem dksX1_append_1 : cX1_append.data.toList.drop 24 = dktX1_append_1 := dk_seg dksX1_append_0 24 rfl rfl
theorem dksX1_append_2 : cX1_append.data.toList.drop 48 = dktX1_append_2 := dk_seg dksX1_append_1 24 rfl rfl
theorem dksX1_append_3 : cX1_append.data.toList.drop 70 = dktX1_append_3 := dk_seg dksX1_append_2 22 rfl rfl
theorem dksX1_append_4 : cX1_append.data.toList.drop 94 = dktX1_append_4 := dk_seg dksX1_append_3 24 rfl rfl
theorem dX1_append_0 : decode cX1_append 0 = .ok (.aload_n 0, 1) := dk_42 (dk_at dksX1_append_0 0 rfl rfl)
theorem dX1_append_1 : decode cX1_append 1 = .ok (.getfield 145, 3) := dk_180 0 145 (dk_at dksX1_append_0 1 rfl rfl)
theorem dX1_append_4 : decode cX1_append 4 = .ok (.bipush 20, 2) := dk_16 20 (dk_at dksX1_append_0 4 rfl rfl)
theorem dX1_append_6 : decode cX1_append 6 = .ok (.iadd, 1) := dk_96 (dk_at dksX1_append_0 6 rfl rfl)
theorem dX1_append_7 : decode cX1_append 7 = .ok (.sipush 700, 3) := dk_17 2 188 (dk_at dksX1_append_0 7 rfl rfl)
theorem dX1_append_10 : decode cX1_append 10 = .ok (.if_icmp .le 5, 3) := dk_164 0 5 (dk_at dksX1_append_0 10 rfl rfl)
theorem dX1_append_13 : decode cX1_append 13 = .ok (.iconst (-1), 1) := dk_2 (dk_at dksX1_append_0 13 rfl rfl)
theorem dX1_append_14 : decode cX1_append 14 = .ok (.ireturn, 1) := dk_172 (dk_at dksX1_append_0 14 rfl rfl)
theorem dX1_append_15 : decode cX1_append 15 = .ok (.iconst 5, 1) := dk_8 (dk_at dksX1_append_0 15 rfl rfl)
theorem dX1_append_16 : decode cX1_append 16 = .ok (.newarray .int, 2) := dk_188_10 (dk_at dksX1_append_0 16 rfl rfl)
theorem dX1_append_18 : decode cX1_append 18 = .ok (.dup, 1) := dk_89 (dk_at dksX1_append_0 18 rfl rfl)
theorem dX1_append_19 : decode cX1_append 19 = .ok (.iconst 0, 1) := dk_3 (dk_at dksX1_append_0 19 rfl rfl)
theorem dX1_append_20 : decode cX1_append 20 = .ok (.iload_n 1, 1) := dk_27 (dk_at dksX1_append_0 20 rfl rfl)
theorem dX1_append_21 : decode cX1_append 21 = .ok (.iastore, 1) := dk_79 (dk_at dksX1_append_0 21 rfl rfl)
theorem dX1_append_22 : decode cX1_append 22 = .ok (.dup, 1) := dk_89 (dk_at dksX1_append_0 22 rfl rfl)
theorem dX1_append_23 : decode cX1_append 23 = .ok (.iconst 1, 1) := dk_4 (dk_at dksX1_append_0 23 rfl rfl)
theorem dX1_append_24 : decode cX1_append 24 = .ok (.iload_n 2, 1) := dk_28 (dk_at dksX1_append_1 0 rfl rfl)
theorem dX1_append_25 : decode cX1_append 25 = .ok (.iastore, 1) := dk_79 (dk_at dksX1_append_1 1 rfl rfl)
theorem dX1_append_26 : decode cX1_append 26 = .ok (.dup, 1) := dk_89 (dk_at dksX1_append_1 2 rfl rfl)
theorem dX1_append_27 : decode cX1_append 27 = .ok (.iconst 2, 1) := dk_5 (dk_at dksX1_append_1 3 rfl rfl)
theorem dX1_append_28 : decode cX1_append 28 = .ok (.iload_n 3, 1) := dk_29 (dk_at dksX1_append_1 4 rfl rfl)
theorem dX1_append_29 : decode cX1_append 29 = .ok (.iastore, 1) := dk_79 (dk_at dksX1_append_1 5 rfl rfl)
theorem dX1_append_30 : decode cX1_append 30 = .ok (.dup, 1) := dk_89 (dk_at dksX1_append_1 6 rfl rfl)
theorem dX1_append_31 : decode cX1_append 31 = .ok (.iconst 3, 1) := dk_6 (dk_at dksX1_append_1 7 rfl rfl)
theorem dX1_append_32 : decode cX1_append 32 = .ok (.iload 4, 2) := dk_21 4 (dk_at dksX1_append_1 8 rfl rfl)
theorem dX1_append_34 : decode cX1_append 34 = .ok (.iastore, 1) := dk_79 (dk_at dksX1_append_1 10 rfl rfl)
theorem dX1_append_35 : decode cX1_append 35 = .ok (.dup, 1) := dk_89 (dk_at dksX1_append_1 11 rfl rfl)
theorem dX1_append_36 : decode cX1_append 36 = .ok (.iconst 4, 1) := dk_7 (dk_at dksX1_append_1 12 rfl rfl)
theorem dX1_append_37 : decode cX1_append 37 = .ok (.iload 5, 2) := dk_21 5 (dk_at dksX1_append_1 13 rfl rfl)
theorem dX1_append_39 : decode cX1_append 39 = .ok (.iastore, 1) := dk_79 (dk_at dksX1_append_1 15 rfl rfl)
theorem dX1_append_40 : decode cX1_append 40 = .ok (.astore 6, 2) := dk_58 6 (dk_at dksX1_append_1 16 rfl rfl)
theorem dX1_append_42 : decode cX1_append 42 = .ok (.aload 6, 2) := dk_25 6 (dk_at dksX1_append_1 18 rfl rfl)
theorem dX1_append_44 : decode cX1_append 44 = .ok (.arraylength, 1) := dk_190 (dk_at dksX1_append_1 20 rfl rfl)
theorem dX1_append_45 : decode cX1_append 45 = .ok (.istore 7, 2) := dk_54 7 (dk_at dksX1_append_1 21 rfl rfl)
theorem dX1_append_47 : decode cX1_append 47 = .ok (.iconst 0, 1) := dk_3 (dk_at dksX1_append_1 23 rfl rfl)
theorem dX1_append_48 : decode cX1_append 48 = .ok (.istore 8, 2) := dk_54 8 (dk_at dksX1_append_2 0 rfl rfl)
theorem dX1_append_50 : decode cX1_append 50 = .ok (.iload 8, 2) := dk_21 8 (dk_at dksX1_append_2 2 rfl rfl)
theorem dX1_append_52 : decode cX1_append 52 = .ok (.iload 7, 2) := dk_21 7 (dk_at dksX1_append_2 4 rfl rfl)
theorem dX1_append_54 : decode cX1_append 54 = .ok (.if_icmp .ge 56, 3) := dk_162 0 56 (dk_at dksX1_append_2 6 rfl rfl)
theorem dX1_append_57 : decode cX1_append 57 = .ok (.aload 6, 2) := dk_25 6 (dk_at dksX1_append_2 9 rfl rfl)
theorem dX1_append_59 : decode cX1_append 59 = .ok (.iload 8, 2) := dk_21 8 (dk_at dksX1_append_2 11 rfl rfl)
theorem dX1_append_61 : decode cX1_append 61 = .ok (.iaload, 1) := dk_46 (dk_at dksX1_append_2 13 rfl rfl)
theorem dX1_append_62 : decode cX1_append 62 = .ok (.istore 9, 2) := dk_54 9 (dk_at dksX1_append_2 14 rfl rfl)
theorem dX1_append_64 : decode cX1_append 64 = .ok (.bipush 24, 2) := dk_16 24 (dk_at dksX1_append_2 16 rfl rfl)
theorem dX1_append_66 : decode cX1_append 66 = .ok (.istore 10, 2) := dk_54 10 (dk_at dksX1_append_2 18 rfl rfl)
theorem dX1_append_68 : decode cX1_append 68 = .ok (.iload 10, 2) := dk_21 10 (dk_at dksX1_append_2 20 rfl rfl)
theorem dX1_append_70 : decode cX1_append 70 = .ok (.ifCond .lt 34, 3) := dk_155 0 34 (dk_at dksX1_append_3 0 rfl rfl)
theorem dX1_append_73 : decode cX1_append 73 = .ok (.aload_n 0, 1) := dk_42 (dk_at dksX1_append_3 3 rfl rfl)
theorem dX1_append_74 : decode cX1_append 74 = .ok (.getfield 45, 3) := dk_180 0 45 (dk_at dksX1_append_3 4 rfl rfl)
theorem dX1_append_77 : decode cX1_append 77 = .ok (.aload_n 0, 1) := dk_42 (dk_at dksX1_append_3 7 rfl rfl)
theorem dX1_append_78 : decode cX1_append 78 = .ok (.getfield 145, 3) := dk_180 0 145 (dk_at dksX1_append_3 8 rfl rfl)
theorem dX1_append_81 : decode cX1_append 81 = .ok (.iload 9, 2) := dk_21 9 (dk_at dksX1_append_3 11 rfl rfl)
theorem dX1_append_83 : decode cX1_append 83 = .ok (.iload 10, 2) := dk_21 10 (dk_at dksX1_append_3 13 rfl rfl)
theorem dX1_append_85 : decode cX1_append 85 = .ok (.ishr, 1) := dk_122 (dk_at dksX1_append_3 15 rfl rfl)
theorem dX1_append_86 : decode cX1_append 86 = .ok (.i2b, 1) := dk_145 (dk_at dksX1_append_3 16 rfl rfl)
theorem dX1_append_87 : decode cX1_append 87 = .ok (.bastore, 1) := dk_84 (dk_at dksX1_append_3 17 rfl rfl)
theorem dX1_append_88 : decode cX1_append 88 = .ok (.aload_n 0, 1) := dk_42 (dk_at dksX1_append_3 18 rfl rfl)
theorem dX1_append_89 : decode cX1_append 89 = .ok (.dup, 1) := dk_89 (dk_at dksX1_append_3 19 rfl rfl)
theorem dX1_append_90 : decode cX1_append 90 = .ok (.getfield 145, 3) := dk_180 0 145 (dk_at dksX1_append_3 20 rfl rfl)
theorem dX1_append_93 : decode cX1_append 93 = .ok (.iconst 1, 1) := dk_4 (dk_at dksX1_append_3 23 rfl rfl)
theorem dX1_append_94 : decode cX1_append 94 = .ok (.iadd, 1) := dk_96 (dk_at dksX1_append_4 0 rfl rfl)
theorem dX1_append_95 : decode cX1_append 95 = .ok (.putfield 145, 3) := dk_181 0 145 (dk_at dksX1_append_4 1 rfl rfl)
theorem dX1_append_98 : decode cX1_append 98 = .ok (.iinc 10 (-8), 3) := dk_132 10 248 (dk_at dksX1_append_4 4 rfl rfl)
theorem dX1_append_101 : decode cX1_append 101 = .ok (.goto (-33), 3) := dk_167 255 223 (dk_at dksX1_append_4 7 rfl rfl)
theorem dX1_append_104 : decode cX1_append 104 = .ok (.iinc 8 1, 3) := dk_132 8 1 (dk_at dksX1_append_4 10 rfl rfl)
theorem dX1_append_107 : decode cX1_append 107 = .ok (.goto (-57), 3) := dk_167 255 199 (dk_at dksX1_append_4 13 rfl rfl)
theorem dX1_append_110 : decode cX1_append 110 = .ok (.aload_n 0, 1) := dk_42 (dk_at dksX1_append_4 16 rfl rfl)
theorem dX1_append_111 : decode cX1_append 111 = .ok (.getfield 145, 3) := dk_180 0 145 (dk_at dksX1_append_4 17 rfl rfl)
theorem dX1_append_114 : decode cX1_append 114 = .ok (.ireturn, 1) := dk_172 (dk_at dksX1_append_4 20 rfl rfl)
abbrev cX1_parseError : ByteArray := prog_1_method_19_code
def yX1_parseError : MethodName := ⟨RX1, "parseError", "()I"⟩
theorem dX1_parseError_0 : decode cX1_parseError 0 = .ok (.aload_n 0, 1) := by decide +kernel
theorem dX1_parseError_1 : decode cX1_parseError 1 = .ok (.getfield 148, 3) := by decide +kernel
theorem dX1_parseError_4 : decode cX1_parseError 4 = .ok (.ireturn, 1) := by decide +kernel
abbrev cX1_errorPosition : ByteArray := prog_1_method_20_code
def yX1_errorPosition : MethodName := ⟨RX1, "errorPosition", "()I"⟩
theorem dX1_errorPosition_0 : decode cX1_errorPosition 0 = .ok (.aload_n 0, 1) := by decide +kernel
theorem dX1_errorPosition_1 : decode cX1_errorPosition 1 = .ok (.getfield 49, 3) := by decide +kernel
theorem dX1_errorPosition_4 : decode cX1_errorPosition 4 = .ok (.ireturn, 1) := by decide +kernel
abbrev cX1_buffered : ByteArray := prog_1_method_21_code
def yX1_buffered : MethodName := ⟨RX1, "buffered", "()I"⟩
theorem dX1_buffered_0 : decode cX1_buffered 0 = .ok (.aload_n 0, 1) := by decide +kernel
theorem dX1_buffered_1 : decode cX1_buffered 1 = .ok (.getfield 145, 3) := by decide +kernel
theorem dX1_buffered_4 : decode cX1_buffered 4 = .ok (.ireturn, 1) := by decide +kernel
abbrev cX1_events : ByteArray := prog_1_method_22_code
def yX1_events : MethodName := ⟨RX1, "events", "()I"⟩
def dkwX1_events_0 : List UInt8 := [42, 180, 0, 84, 199, 0, 7, 3, 167, 0, 10, 42, 180, 0, 84, 182, 0, 13, 172]
abbrev dktX1_events_0 : List UInt8 := dkwX1_events_0 ++ []
theorem dksX1_events_0 : cX1_events.data.toList.drop 0 = dktX1_events_0 := by decide +kernel
theorem dX1_events_0 : decode cX1_events 0 = .ok (.aload_n 0, 1) := dk_42 (dk_at dksX1_events_0 0 rfl rfl)
theorem dX1_events_1 : decode cX1_events 1 = .ok (.getfield 84, 3) := dk_180 0 84 (dk_at dksX1_events_0 1 rfl rfl)
theorem dX1_events_4 : decode cX1_events 4 = .ok (.ifnonnull 7, 3) := dk_199 0 7 (dk_at dksX1_events_0 4 rfl rfl)
theorem dX1_events_7 : decode cX1_events 7 = .ok (.iconst 0, 1) := dk_3 (dk_at dksX1_events_0 7 rfl rfl)
theorem dX1_events_8 : decode cX1_events 8 = .ok (.goto 10, 3) := dk_167 0 10 (dk_at dksX1_events_0 8 rfl rfl)
theorem dX1_events_11 : decode cX1_events 11 = .ok (.aload_n 0, 1) := dk_42 (dk_at dksX1_events_0 11 rfl rfl)
theorem dX1_events_12 : decode cX1_events 12 = .ok (.getfield 84, 3) := dk_180 0 84 (dk_at dksX1_events_0 12 rfl rfl)
theorem dX1_events_15 : decode cX1_events 15 = .ok (.invokevirtual 13, 3) := dk_182 0 13 (dk_at dksX1_events_0 15 rfl rfl)
theorem dX1_events_18 : decode cX1_events 18 = .ok (.ireturn, 1) := dk_172 (dk_at dksX1_events_0 18 rfl rfl)
abbrev cX1_windows : ByteArray := prog_1_method_23_code
def yX1_windows : MethodName := ⟨RX1, "windows", "()I"⟩
def dkwX1_windows_0 : List UInt8 := [42, 180, 0, 84, 199, 0, 7, 3, 167, 0, 15, 42, 180, 0, 84, 180, 0, 117, 185, 0, 121, 1, 0, 172]
abbrev dktX1_windows_0 : List UInt8 := dkwX1_windows_0 ++ []
theorem dksX1_windows_0 : cX1_windows.data.toList.drop 0 = dktX1_windows_0 := by decide +kernel
theorem dX1_windows_0 : decode cX1_windows 0 = .ok (.aload_n 0, 1) := dk_42 (dk_at dksX1_windows_0 0 rfl rfl)
theorem dX1_windows_1 : decode cX1_windows 1 = .ok (.getfield 84, 3) := dk_180 0 84 (dk_at dksX1_windows_0 1 rfl rfl)
theorem dX1_windows_4 : decode cX1_windows 4 = .ok (.ifnonnull 7, 3) := dk_199 0 7 (dk_at dksX1_windows_0 4 rfl rfl)
theorem dX1_windows_7 : decode cX1_windows 7 = .ok (.iconst 0, 1) := dk_3 (dk_at dksX1_windows_0 7 rfl rfl)
theorem dX1_windows_8 : decode cX1_windows 8 = .ok (.goto 15, 3) := dk_167 0 15 (dk_at dksX1_windows_0 8 rfl rfl)
theorem dX1_windows_11 : decode cX1_windows 11 = .ok (.aload_n 0, 1) := dk_42 (dk_at dksX1_windows_0 11 rfl rfl)
theorem dX1_windows_12 : decode cX1_windows 12 = .ok (.getfield 84, 3) := dk_180 0 84 (dk_at dksX1_windows_0 12 rfl rfl)
theorem dX1_windows_15 : decode cX1_windows 15 = .ok (.getfield 117, 3) := dk_180 0 117 (dk_at dksX1_windows_0 15 rfl rfl)
theorem dX1_windows_18 : decode cX1_windows 18 = .ok (.invokeinterface 121 1, 5) := by decide +kernel
theorem dX1_windows_23 : decode cX1_windows 23 = .ok (.ireturn, 1) := dk_172 (dk_at dksX1_windows_0 23 rfl rfl)
abbrev cX1_undoable : ByteArray := prog_1_method_85_code
def yX1_undoable : MethodName := ⟨RX1, "undoable", "()I"⟩
def dkwX1_undoable_0 : List UInt8 := [42, 180, 0, 56, 182, 1, 149, 172]
abbrev dktX1_undoable_0 : List UInt8 := dkwX1_undoable_0 ++ []
theorem dksX1_undoable_0 : cX1_undoable.data.toList.drop 0 = dktX1_undoable_0 := by decide +kernel
theorem dX1_undoable_0 : decode cX1_undoable 0 = .ok (.aload_n 0, 1) := dk_42 (dk_at dksX1_undoable_0 0 rfl rfl)
theorem dX1_undoable_1 : decode cX1_undoable 1 = .ok (.getfield 56, 3) := dk_180 0 56 (dk_at dksX1_undoable_0 1 rfl rfl)
theorem dX1_undoable_4 : decode cX1_undoable 4 = .ok (.invokevirtual 405, 3) := dk_182 1 149 (dk_at dksX1_undoable_0 4 rfl rfl)
theorem dX1_undoable_7 : decode cX1_undoable 7 = .ok (.ireturn, 1) := dk_172 (dk_at dksX1_undoable_0 7 rfl rfl)
abbrev cX1_load : ByteArray := prog_1_method_18_code
def yX1_load : MethodName := ⟨RX1, "load", "(I)I"⟩
def dkwX1_load_6 : List UInt8 := [42, 44, 180, 0, 178, 181, 0, 49, 187, 0, 71, 89, 183, 0, 73, 191, 78, 42, 3, 181, 0, 145, 45, 191]
abbrev dktX1_load_6 : List UInt8 := dkwX1_load_6 ++ []
def dkwX1_load_5 : List UInt8 := [42, 180, 0, 84, 182, 0, 13, 61, 42, 3, 181, 0, 145, 28, 172, 77, 42, 44, 180, 0, 175, 181, 0, 148]
abbrev dktX1_load_5 : List UInt8 := dkwX1_load_5 ++ dktX1_load_6
def dkwX1_load_4 : List UInt8 := [183, 0, 162, 181, 0, 163, 42, 187, 0, 166, 89, 42, 180, 0, 84, 182, 0, 13, 183, 0, 168, 181, 0, 169]
abbrev dktX1_load_4 : List UInt8 := dkwX1_load_4 ++ dktX1_load_5
def dkwX1_load_3 : List UInt8 := [180, 0, 84, 182, 0, 13, 183, 0, 162, 181, 0, 92, 42, 187, 0, 101, 89, 42, 180, 0, 84, 182, 0, 13]
abbrev dktX1_load_3 : List UInt8 := dkwX1_load_3 ++ dktX1_load_4
def dkwX1_load_2 : List UInt8 := [28, 5, 162, 0, 16, 42, 180, 0, 60, 28, 1, 83, 132, 2, 1, 167, 255, 241, 42, 187, 0, 101, 89, 42]
abbrev dktX1_load_2 : List UInt8 := dkwX1_load_2 ++ dktX1_load_3
def dkwX1_load_1 : List UInt8 := [89, 42, 180, 0, 45, 27, 183, 0, 153, 182, 0, 156, 181, 0, 84, 42, 180, 0, 56, 182, 0, 159, 3, 61]
abbrev dktX1_load_1 : List UInt8 := dkwX1_load_1 ++ dktX1_load_2
def dkwX1_load_0 : List UInt8 := [27, 42, 180, 0, 145, 4, 96, 184, 0, 113, 42, 3, 181, 0, 148, 42, 2, 181, 0, 49, 42, 187, 0, 151]
abbrev dktX1_load_0 : List UInt8 := dkwX1_load_0 ++ dktX1_load_1
theorem dksX1_load_0 : cX1_load.data.toList.drop 0 = dktX1_load_0 := by decide +kernel
theorem dksX1_load_1 : cX1_load.data.toList.drop 24 = dktX1_load_1 := dk_seg dksX1_load_0 24 rfl rfl
theorem dksX1_load_2 : cX1_load.data.toList.drop 48 = dktX1_load_2 := dk_seg dksX1_load_1 24 rfl rfl
theorem dksX1_load_3 : cX1_load.data.toList.drop 72 = dktX1_load_3 := dk_seg dksX1_load_2 24 rfl rfl
theorem dksX1_load_4 : cX1_load.data.toList.drop 96 = dktX1_load_4 := dk_seg dksX1_load_3 24 rfl rfl
theorem dksX1_load_5 : cX1_load.data.toList.drop 120 = dktX1_load_5 := dk_seg dksX1_load_4 24 rfl rfl
theorem dksX1_load_6 : cX1_load.data.toList.drop 144 = dktX1_load_6 := dk_seg dksX1_load_5 24 rfl rfl
theorem dX1_load_0 : decode cX1_load 0 = .ok (.iload_n 1, 1) := dk_27 (dk_at dksX1_load_0 0 rfl rfl)
theorem dX1_load_1 : decode cX1_load 1 = .ok (.aload_n 0, 1) := dk_42 (dk_at dksX1_load_0 1 rfl rfl)
theorem dX1_load_2 : decode cX1_load 2 = .ok (.getfield 145, 3) := dk_180 0 145 (dk_at dksX1_load_0 2 rfl rfl)
theorem dX1_load_5 : decode cX1_load 5 = .ok (.iconst 1, 1) := dk_4 (dk_at dksX1_load_0 5 rfl rfl)
theorem dX1_load_6 : decode cX1_load 6 = .ok (.iadd, 1) := dk_96 (dk_at dksX1_load_0 6 rfl rfl)
theorem dX1_load_7 : decode cX1_load 7 = .ok (.invokestatic 113, 3) := dk_184 0 113 (dk_at dksX1_load_0 7 rfl rfl)
theorem dX1_load_10 : decode cX1_load 10 = .ok (.aload_n 0, 1) := dk_42 (dk_at dksX1_load_0 10 rfl rfl)
theorem dX1_load_11 : decode cX1_load 11 = .ok (.iconst 0, 1) := dk_3 (dk_at dksX1_load_0 11 rfl rfl)
theorem dX1_load_12 : decode cX1_load 12 = .ok (.putfield 148, 3) := dk_181 0 148 (dk_at dksX1_load_0 12 rfl rfl)
theorem dX1_load_15 : decode cX1_load 15 = .ok (.aload_n 0, 1) := dk_42 (dk_at dksX1_load_0 15 rfl rfl)
theorem dX1_load_16 : decode cX1_load 16 = .ok (.iconst (-1), 1) := dk_2 (dk_at dksX1_load_0 16 rfl rfl)
theorem dX1_load_17 : decode cX1_load 17 = .ok (.putfield 49, 3) := dk_181 0 49 (dk_at dksX1_load_0 17 rfl rfl)
theorem dX1_load_20 : decode cX1_load 20 = .ok (.aload_n 0, 1) := dk_42 (dk_at dksX1_load_0 20 rfl rfl)
theorem dX1_load_21 : decode cX1_load 21 = .ok (.new 151, 3) := dk_187 0 151 (dk_at dksX1_load_0 21 rfl rfl)
theorem dX1_load_24 : decode cX1_load 24 = .ok (.dup, 1) := dk_89 (dk_at dksX1_load_1 0 rfl rfl)
theorem dX1_load_25 : decode cX1_load 25 = .ok (.aload_n 0, 1) := dk_42 (dk_at dksX1_load_1 1 rfl rfl)
theorem dX1_load_26 : decode cX1_load 26 = .ok (.getfield 45, 3) := dk_180 0 45 (dk_at dksX1_load_1 2 rfl rfl)
theorem dX1_load_29 : decode cX1_load 29 = .ok (.iload_n 1, 1) := dk_27 (dk_at dksX1_load_1 5 rfl rfl)
theorem dX1_load_30 : decode cX1_load 30 = .ok (.invokespecial 153, 3) := dk_183 0 153 (dk_at dksX1_load_1 6 rfl rfl)
theorem dX1_load_33 : decode cX1_load 33 = .ok (.invokevirtual 156, 3) := dk_182 0 156 (dk_at dksX1_load_1 9 rfl rfl)
theorem dX1_load_36 : decode cX1_load 36 = .ok (.putfield 84, 3) := dk_181 0 84 (dk_at dksX1_load_1 12 rfl rfl)
theorem dX1_load_39 : decode cX1_load 39 = .ok (.aload_n 0, 1) := dk_42 (dk_at dksX1_load_1 15 rfl rfl)
theorem dX1_load_40 : decode cX1_load 40 = .ok (.getfield 56, 3) := dk_180 0 56 (dk_at dksX1_load_1 16 rfl rfl)
theorem dX1_load_43 : decode cX1_load 43 = .ok (.invokevirtual 159, 3) := dk_182 0 159 (dk_at dksX1_load_1 19 rfl rfl)
theorem dX1_load_46 : decode cX1_load 46 = .ok (.iconst 0, 1) := dk_3 (dk_at dksX1_load_1 22 rfl rfl)
theorem dX1_load_47 : decode cX1_load 47 = .ok (.istore_n 2, 1) := dk_61 (dk_at dksX1_load_1 23 rfl rfl)
theorem dX1_load_48 : decode cX1_load 48 = .ok (.iload_n 2, 1) := dk_28 (dk_at dksX1_load_2 0 rfl rfl)
theorem dX1_load_49 : decode cX1_load 49 = .ok (.iconst 2, 1) := dk_5 (dk_at dksX1_load_2 1 rfl rfl)
theorem dX1_load_50 : decode cX1_load 50 = .ok (.if_icmp .ge 16, 3) := dk_162 0 16 (dk_at dksX1_load_2 2 rfl rfl)
theorem dX1_load_53 : decode cX1_load 53 = .ok (.aload_n 0, 1) := dk_42 (dk_at dksX1_load_2 5 rfl rfl)
theorem dX1_load_54 : decode cX1_load 54 = .ok (.getfield 60, 3) := dk_180 0 60 (dk_at dksX1_load_2 6 rfl rfl)
theorem dX1_load_57 : decode cX1_load 57 = .ok (.iload_n 2, 1) := dk_28 (dk_at dksX1_load_2 9 rfl rfl)
theorem dX1_load_58 : decode cX1_load 58 = .ok (.aconst_null, 1) := dk_1 (dk_at dksX1_load_2 10 rfl rfl)
theorem dX1_load_59 : decode cX1_load 59 = .ok (.aastore, 1) := dk_83 (dk_at dksX1_load_2 11 rfl rfl)
theorem dX1_load_60 : decode cX1_load 60 = .ok (.iinc 2 1, 3) := dk_132 2 1 (dk_at dksX1_load_2 12 rfl rfl)
theorem dX1_load_63 : decode cX1_load 63 = .ok (.goto (-15), 3) := dk_167 255 241 (dk_at dksX1_load_2 15 rfl rfl)
theorem dX1_load_66 : decode cX1_load 66 = .ok (.aload_n 0, 1) := dk_42 (dk_at dksX1_load_2 18 rfl rfl)
theorem dX1_load_67 : decode cX1_load 67 = .ok (.new 101, 3) := dk_187 0 101 (dk_at dksX1_load_2 19 rfl rfl)
theorem dX1_load_70 : decode cX1_load 70 = .ok (.dup, 1) := dk_89 (dk_at dksX1_load_2 22 rfl rfl)
theorem dX1_load_71 : decode cX1_load 71 = .ok (.aload_n 0, 1) := dk_42 (dk_at dksX1_load_2 23 rfl rfl)
theorem dX1_load_72 : decode cX1_load 72 = .ok (.getfield 84, 3) := dk_180 0 84 (dk_at dksX1_load_3 0 rfl rfl)
theorem dX1_load_75 : decode cX1_load 75 = .ok (.invokevirtual 13, 3) := dk_182 0 13 (dk_at dksX1_load_3 3 rfl rfl)
theorem dX1_load_78 : decode cX1_load 78 = .ok (.invokespecial 162, 3) := dk_183 0 162 (dk_at dksX1_load_3 6 rfl rfl)
theorem dX1_load_81 : decode cX1_load 81 = .ok (.putfield 92, 3) := dk_181 0 92 (dk_at dksX1_load_3 9 rfl rfl)
theorem dX1_load_84 : decode cX1_load 84 = .ok (.aload_n 0, 1) := dk_42 (dk_at dksX1_load_3 12 rfl rfl)
theorem dX1_load_85 : decode cX1_load 85 = .ok (.new 101, 3) := dk_187 0 101 (dk_at dksX1_load_3 13 rfl rfl)
theorem dX1_load_88 : decode cX1_load 88 = .ok (.dup, 1) := dk_89 (dk_at dksX1_load_3 16 rfl rfl)
theorem dX1_load_89 : decode cX1_load 89 = .ok (.aload_n 0, 1) := dk_42 (dk_at dksX1_load_3 17 rfl rfl)
theorem dX1_load_90 : decode cX1_load 90 = .ok (.getfield 84, 3) := dk_180 0 84 (dk_at dksX1_load_3 18 rfl rfl)
theorem dX1_load_93 : decode cX1_load 93 = .ok (.invokevirtual 13, 3) := dk_182 0 13 (dk_at dksX1_load_3 21 rfl rfl)
theorem dX1_load_96 : decode cX1_load 96 = .ok (.invokespecial 162, 3) := dk_183 0 162 (dk_at dksX1_load_4 0 rfl rfl)
theorem dX1_load_99 : decode cX1_load 99 = .ok (.putfield 163, 3) := dk_181 0 163 (dk_at dksX1_load_4 3 rfl rfl)
theorem dX1_load_102 : decode cX1_load 102 = .ok (.aload_n 0, 1) := dk_42 (dk_at dksX1_load_4 6 rfl rfl)
theorem dX1_load_103 : decode cX1_load 103 = .ok (.new 166, 3) := dk_187 0 166 (dk_at dksX1_load_4 7 rfl rfl)
theorem dX1_load_106 : decode cX1_load 106 = .ok (.dup, 1) := dk_89 (dk_at dksX1_load_4 10 rfl rfl)
theorem dX1_load_107 : decode cX1_load 107 = .ok (.aload_n 0, 1) := dk_42 (dk_at dksX1_load_4 11 rfl rfl)
theorem dX1_load_108 : decode cX1_load 108 = .ok (.getfield 84, 3) := dk_180 0 84 (dk_at dksX1_load_4 12 rfl rfl)
theorem dX1_load_111 : decode cX1_load 111 = .ok (.invokevirtual 13, 3) := dk_182 0 13 (dk_at dksX1_load_4 15 rfl rfl)
theorem dX1_load_114 : decode cX1_load 114 = .ok (.invokespecial 168, 3) := dk_183 0 168 (dk_at dksX1_load_4 18 rfl rfl)
theorem dX1_load_117 : decode cX1_load 117 = .ok (.putfield 169, 3) := dk_181 0 169 (dk_at dksX1_load_4 21 rfl rfl)
theorem dX1_load_120 : decode cX1_load 120 = .ok (.aload_n 0, 1) := dk_42 (dk_at dksX1_load_5 0 rfl rfl)
theorem dX1_load_121 : decode cX1_load 121 = .ok (.getfield 84, 3) := dk_180 0 84 (dk_at dksX1_load_5 1 rfl rfl)
theorem dX1_load_124 : decode cX1_load 124 = .ok (.invokevirtual 13, 3) := dk_182 0 13 (dk_at dksX1_load_5 4 rfl rfl)
theorem dX1_load_127 : decode cX1_load 127 = .ok (.istore_n 2, 1) := dk_61 (dk_at dksX1_load_5 7 rfl rfl)
theorem dX1_load_128 : decode cX1_load 128 = .ok (.aload_n 0, 1) := dk_42 (dk_at dksX1_load_5 8 rfl rfl)
theorem dX1_load_129 : decode cX1_load 129 = .ok (.iconst 0, 1) := dk_3 (dk_at dksX1_load_5 9 rfl rfl)
theorem dX1_load_130 : decode cX1_load 130 = .ok (.putfield 145, 3) := dk_181 0 145 (dk_at dksX1_load_5 10 rfl rfl)
theorem dX1_load_133 : decode cX1_load 133 = .ok (.iload_n 2, 1) := dk_28 (dk_at dksX1_load_5 13 rfl rfl)
theorem dX1_load_134 : decode cX1_load 134 = .ok (.ireturn, 1) := dk_172 (dk_at dksX1_load_5 14 rfl rfl)
theorem dX1_load_135 : decode cX1_load 135 = .ok (.astore_n 2, 1) := dk_77 (dk_at dksX1_load_5 15 rfl rfl)
theorem dX1_load_136 : decode cX1_load 136 = .ok (.aload_n 0, 1) := dk_42 (dk_at dksX1_load_5 16 rfl rfl)
theorem dX1_load_137 : decode cX1_load 137 = .ok (.aload_n 2, 1) := dk_44 (dk_at dksX1_load_5 17 rfl rfl)
theorem dX1_load_138 : decode cX1_load 138 = .ok (.getfield 175, 3) := dk_180 0 175 (dk_at dksX1_load_5 18 rfl rfl)
theorem dX1_load_141 : decode cX1_load 141 = .ok (.putfield 148, 3) := dk_181 0 148 (dk_at dksX1_load_5 21 rfl rfl)
theorem dX1_load_144 : decode cX1_load 144 = .ok (.aload_n 0, 1) := dk_42 (dk_at dksX1_load_6 0 rfl rfl)
theorem dX1_load_145 : decode cX1_load 145 = .ok (.aload_n 2, 1) := dk_44 (dk_at dksX1_load_6 1 rfl rfl)
theorem dX1_load_146 : decode cX1_load 146 = .ok (.getfield 178, 3) := dk_180 0 178 (dk_at dksX1_load_6 2 rfl rfl)
theorem dX1_load_149 : decode cX1_load 149 = .ok (.putfield 49, 3) := dk_181 0 49 (dk_at dksX1_load_6 5 rfl rfl)
theorem dX1_load_152 : decode cX1_load 152 = .ok (.new 71, 3) := dk_187 0 71 (dk_at dksX1_load_6 8 rfl rfl)
theorem dX1_load_155 : decode cX1_load 155 = .ok (.dup, 1) := dk_89 (dk_at dksX1_load_6 11 rfl rfl)
theorem dX1_load_156 : decode cX1_load 156 = .ok (.invokespecial 73, 3) := dk_183 0 73 (dk_at dksX1_load_6 12 rfl rfl)
theorem dX1_load_159 : decode cX1_load 159 = .ok (.athrow, 1) := dk_191 (dk_at dksX1_load_6 15 rfl rfl)
theorem dX1_load_160 : decode cX1_load 160 = .ok (.astore_n 3, 1) := dk_78 (dk_at dksX1_load_6 16 rfl rfl)
theorem dX1_load_161 : decode cX1_load 161 = .ok (.aload_n 0, 1) := dk_42 (dk_at dksX1_load_6 17 rfl rfl)
theorem dX1_load_162 : decode cX1_load 162 = .ok (.iconst 0, 1) := dk_3 (dk_at dksX1_load_6 18 rfl rfl)
theorem dX1_load_163 : decode cX1_load 163 = .ok (.putfield 145, 3) := dk_181 0 145 (dk_at dksX1_load_6 19 rfl rfl)
theorem dX1_load_166 : decode cX1_load 166 = .ok (.aload_n 3, 1) := dk_45 (dk_at dksX1_load_6 22 rfl rfl)
theorem dX1_load_167 : decode cX1_load 167 = .ok (.athrow, 1) := dk_191 (dk_at dksX1_load_6 23 rfl rfl)
abbrev cX1_checkIndex : ByteArray := prog_1_method_6_code
def yX1_checkIndex : MethodName := ⟨RX1, "checkIndex", "(II)V"⟩
def dkwX1_checkIndex_0 : List UInt8 := [26, 3, 27, 4, 100, 184, 0, 74, 154, 0, 11, 187, 0, 78, 89, 183, 0, 80, 191, 177]
abbrev dktX1_checkIndex_0 : List UInt8 := dkwX1_checkIndex_0 ++ []
theorem dksX1_checkIndex_0 : cX1_checkIndex.data.toList.drop 0 = dktX1_checkIndex_0 := by decide +kernel
theorem dX1_checkIndex_0 : decode cX1_checkIndex 0 = .ok (.iload_n 0, 1) := dk_26 (dk_at dksX1_checkIndex_0 0 rfl rfl)
theorem dX1_checkIndex_1 : decode cX1_checkIndex 1 = .ok (.iconst 0, 1) := dk_3 (dk_at dksX1_checkIndex_0 1 rfl rfl)
theorem dX1_checkIndex_2 : decode cX1_checkIndex 2 = .ok (.iload_n 1, 1) := dk_27 (dk_at dksX1_checkIndex_0 2 rfl rfl)
theorem dX1_checkIndex_3 : decode cX1_checkIndex 3 = .ok (.iconst 1, 1) := dk_4 (dk_at dksX1_checkIndex_0 3 rfl rfl)
theorem dX1_checkIndex_4 : decode cX1_checkIndex 4 = .ok (.isub, 1) := dk_100 (dk_at dksX1_checkIndex_0 4 rfl rfl)
theorem dX1_checkIndex_5 : decode cX1_checkIndex 5 = .ok (.invokestatic 74, 3) := dk_184 0 74 (dk_at dksX1_checkIndex_0 5 rfl rfl)
theorem dX1_checkIndex_8 : decode cX1_checkIndex 8 = .ok (.ifCond .ne 11, 3) := dk_154 0 11 (dk_at dksX1_checkIndex_0 8 rfl rfl)
theorem dX1_checkIndex_11 : decode cX1_checkIndex 11 = .ok (.new 78, 3) := dk_187 0 78 (dk_at dksX1_checkIndex_0 11 rfl rfl)
theorem dX1_checkIndex_14 : decode cX1_checkIndex 14 = .ok (.dup, 1) := dk_89 (dk_at dksX1_checkIndex_0 14 rfl rfl)
theorem dX1_checkIndex_15 : decode cX1_checkIndex 15 = .ok (.invokespecial 80, 3) := dk_183 0 80 (dk_at dksX1_checkIndex_0 15 rfl rfl)
theorem dX1_checkIndex_18 : decode cX1_checkIndex 18 = .ok (.athrow, 1) := dk_191 (dk_at dksX1_checkIndex_0 18 rfl rfl)
theorem dX1_checkIndex_19 : decode cX1_checkIndex 19 = .ok (.return_, 1) := dk_177 (dk_at dksX1_checkIndex_0 19 rfl rfl)
abbrev cX1_in : ByteArray := prog_1_method_1_code
def yX1_in : MethodName := ⟨RX1, "in", "(III)Z"⟩
def dkwX1_in_0 : List UInt8 := [26, 27, 161, 0, 12, 26, 28, 163, 0, 7, 4, 167, 0, 4, 3, 172]
abbrev dktX1_in_0 : List UInt8 := dkwX1_in_0 ++ []
theorem dksX1_in_0 : cX1_in.data.toList.drop 0 = dktX1_in_0 := by decide +kernel
theorem dX1_in_0 : decode cX1_in 0 = .ok (.iload_n 0, 1) := dk_26 (dk_at dksX1_in_0 0 rfl rfl)
theorem dX1_in_1 : decode cX1_in 1 = .ok (.iload_n 1, 1) := dk_27 (dk_at dksX1_in_0 1 rfl rfl)
theorem dX1_in_2 : decode cX1_in 2 = .ok (.if_icmp .lt 12, 3) := dk_161 0 12 (dk_at dksX1_in_0 2 rfl rfl)
theorem dX1_in_5 : decode cX1_in 5 = .ok (.iload_n 0, 1) := dk_26 (dk_at dksX1_in_0 5 rfl rfl)
theorem dX1_in_6 : decode cX1_in 6 = .ok (.iload_n 2, 1) := dk_28 (dk_at dksX1_in_0 6 rfl rfl)
theorem dX1_in_7 : decode cX1_in 7 = .ok (.if_icmp .gt 7, 3) := dk_163 0 7 (dk_at dksX1_in_0 7 rfl rfl)
theorem dX1_in_10 : decode cX1_in 10 = .ok (.iconst 1, 1) := dk_4 (dk_at dksX1_in_0 10 rfl rfl)
theorem dX1_in_11 : decode cX1_in 11 = .ok (.goto 4, 3) := dk_167 0 4 (dk_at dksX1_in_0 11 rfl rfl)
theorem dX1_in_14 : decode cX1_in 14 = .ok (.iconst 0, 1) := dk_3 (dk_at dksX1_in_0 14 rfl rfl)
theorem dX1_in_15 : decode cX1_in 15 = .ok (.ireturn, 1) := dk_172 (dk_at dksX1_in_0 15 rfl rfl)
abbrev cX1_has : ByteArray := prog_1_method_2_code
def yX1_has : MethodName := ⟨RX1, "has", "(II)Z"⟩
def dkwX1_has_0 : List UInt8 := [26, 27, 122, 4, 126, 4, 160, 0, 7, 4, 167, 0, 4, 3, 172]
abbrev dktX1_has_0 : List UInt8 := dkwX1_has_0 ++ []
theorem dksX1_has_0 : cX1_has.data.toList.drop 0 = dktX1_has_0 := by decide +kernel
theorem dX1_has_0 : decode cX1_has 0 = .ok (.iload_n 0, 1) := dk_26 (dk_at dksX1_has_0 0 rfl rfl)
theorem dX1_has_1 : decode cX1_has 1 = .ok (.iload_n 1, 1) := dk_27 (dk_at dksX1_has_0 1 rfl rfl)
theorem dX1_has_2 : decode cX1_has 2 = .ok (.ishr, 1) := dk_122 (dk_at dksX1_has_0 2 rfl rfl)
theorem dX1_has_3 : decode cX1_has 3 = .ok (.iconst 1, 1) := dk_4 (dk_at dksX1_has_0 3 rfl rfl)
theorem dX1_has_4 : decode cX1_has 4 = .ok (.iand, 1) := dk_126 (dk_at dksX1_has_0 4 rfl rfl)
theorem dX1_has_5 : decode cX1_has 5 = .ok (.iconst 1, 1) := dk_4 (dk_at dksX1_has_0 5 rfl rfl)
theorem dX1_has_6 : decode cX1_has 6 = .ok (.if_icmp .ne 7, 3) := dk_160 0 7 (dk_at dksX1_has_0 6 rfl rfl)
theorem dX1_has_9 : decode cX1_has 9 = .ok (.iconst 1, 1) := dk_4 (dk_at dksX1_has_0 9 rfl rfl)
theorem dX1_has_10 : decode cX1_has 10 = .ok (.goto 4, 3) := dk_167 0 4 (dk_at dksX1_has_0 10 rfl rfl)
theorem dX1_has_13 : decode cX1_has 13 = .ok (.iconst 0, 1) := dk_3 (dk_at dksX1_has_0 13 rfl rfl)
theorem dX1_has_14 : decode cX1_has 14 = .ok (.ireturn, 1) := dk_172 (dk_at dksX1_has_0 14 rfl rfl)
abbrev cX1_letter : ByteArray := prog_1_method_24_code
def yX1_letter : MethodName := ⟨RX1, "letter", "(II)I"⟩
def dkwX1_letter_1 : List UInt8 := [172]
abbrev dktX1_letter_1 : List UInt8 := dkwX1_letter_1 ++ []
def dkwX1_letter_0 : List UInt8 := [42, 27, 182, 0, 181, 180, 0, 185, 27, 50, 78, 28, 45, 182, 0, 189, 184, 0, 113, 45, 28, 182, 0, 194]
abbrev dktX1_letter_0 : List UInt8 := dkwX1_letter_0 ++ dktX1_letter_1
theorem dksX1_letter_0 : cX1_letter.data.toList.drop 0 = dktX1_letter_0 := by decide +kernel
theorem dksX1_letter_1 : cX1_letter.data.toList.drop 24 = dktX1_letter_1 := dk_seg dksX1_letter_0 24 rfl rfl
theorem dX1_letter_0 : decode cX1_letter 0 = .ok (.aload_n 0, 1) := dk_42 (dk_at dksX1_letter_0 0 rfl rfl)
theorem dX1_letter_1 : decode cX1_letter 1 = .ok (.iload_n 1, 1) := dk_27 (dk_at dksX1_letter_0 1 rfl rfl)
theorem dX1_letter_2 : decode cX1_letter 2 = .ok (.invokevirtual 181, 3) := dk_182 0 181 (dk_at dksX1_letter_0 2 rfl rfl)
theorem dX1_letter_5 : decode cX1_letter 5 = .ok (.getfield 185, 3) := dk_180 0 185 (dk_at dksX1_letter_0 5 rfl rfl)
theorem dX1_letter_8 : decode cX1_letter 8 = .ok (.iload_n 1, 1) := dk_27 (dk_at dksX1_letter_0 8 rfl rfl)
theorem dX1_letter_9 : decode cX1_letter 9 = .ok (.aaload, 1) := dk_50 (dk_at dksX1_letter_0 9 rfl rfl)
theorem dX1_letter_10 : decode cX1_letter 10 = .ok (.astore_n 3, 1) := dk_78 (dk_at dksX1_letter_0 10 rfl rfl)
theorem dX1_letter_11 : decode cX1_letter 11 = .ok (.iload_n 2, 1) := dk_28 (dk_at dksX1_letter_0 11 rfl rfl)
theorem dX1_letter_12 : decode cX1_letter 12 = .ok (.aload_n 3, 1) := dk_45 (dk_at dksX1_letter_0 12 rfl rfl)
theorem dX1_letter_13 : decode cX1_letter 13 = .ok (.invokevirtual 189, 3) := dk_182 0 189 (dk_at dksX1_letter_0 13 rfl rfl)
theorem dX1_letter_16 : decode cX1_letter 16 = .ok (.invokestatic 113, 3) := dk_184 0 113 (dk_at dksX1_letter_0 16 rfl rfl)
theorem dX1_letter_19 : decode cX1_letter 19 = .ok (.aload_n 3, 1) := dk_45 (dk_at dksX1_letter_0 19 rfl rfl)
theorem dX1_letter_20 : decode cX1_letter 20 = .ok (.iload_n 2, 1) := dk_28 (dk_at dksX1_letter_0 20 rfl rfl)
theorem dX1_letter_21 : decode cX1_letter 21 = .ok (.invokevirtual 194, 3) := dk_182 0 194 (dk_at dksX1_letter_0 21 rfl rfl)
theorem dX1_letter_24 : decode cX1_letter 24 = .ok (.ireturn, 1) := dk_172 (dk_at dksX1_letter_1 0 rfl rfl)
abbrev cX1_withEvent : ByteArray := prog_1_method_11_code
def yX1_withEvent : MethodName := ⟨RX1, "withEvent", "(I)LEventWindows$Net;"⟩
def dkwX1_withEvent_0 : List UInt8 := [27, 42, 182, 0, 106, 182, 0, 13, 184, 0, 113, 42, 180, 0, 84, 176]
abbrev dktX1_withEvent_0 : List UInt8 := dkwX1_withEvent_0 ++ []
theorem dksX1_withEvent_0 : cX1_withEvent.data.toList.drop 0 = dktX1_withEvent_0 := by decide +kernel
theorem dX1_withEvent_0 : decode cX1_withEvent 0 = .ok (.iload_n 1, 1) := dk_27 (dk_at dksX1_withEvent_0 0 rfl rfl)
theorem dX1_withEvent_1 : decode cX1_withEvent 1 = .ok (.aload_n 0, 1) := dk_42 (dk_at dksX1_withEvent_0 1 rfl rfl)
theorem dX1_withEvent_2 : decode cX1_withEvent 2 = .ok (.invokevirtual 106, 3) := dk_182 0 106 (dk_at dksX1_withEvent_0 2 rfl rfl)
theorem dX1_withEvent_5 : decode cX1_withEvent 5 = .ok (.invokevirtual 13, 3) := dk_182 0 13 (dk_at dksX1_withEvent_0 5 rfl rfl)
theorem dX1_withEvent_8 : decode cX1_withEvent 8 = .ok (.invokestatic 113, 3) := dk_184 0 113 (dk_at dksX1_withEvent_0 8 rfl rfl)
theorem dX1_withEvent_11 : decode cX1_withEvent 11 = .ok (.aload_n 0, 1) := dk_42 (dk_at dksX1_withEvent_0 11 rfl rfl)
theorem dX1_withEvent_12 : decode cX1_withEvent 12 = .ok (.getfield 84, 3) := dk_180 0 84 (dk_at dksX1_withEvent_0 12 rfl rfl)
theorem dX1_withEvent_15 : decode cX1_withEvent 15 = .ok (.areturn, 1) := dk_176 (dk_at dksX1_withEvent_0 15 rfl rfl)
abbrev cX1_there : ByteArray := prog_1_method_8_code
def yX1_there : MethodName := ⟨RX1, "there", "()LEventWindows$Net;"⟩
def dkwX1_there_0 : List UInt8 := [42, 180, 0, 84, 198, 0, 7, 4, 167, 0, 4, 3, 184, 0, 88, 42, 180, 0, 84, 176]
abbrev dktX1_there_0 : List UInt8 := dkwX1_there_0 ++ []
theorem dksX1_there_0 : cX1_there.data.toList.drop 0 = dktX1_there_0 := by decide +kernel
theorem dX1_there_0 : decode cX1_there 0 = .ok (.aload_n 0, 1) := dk_42 (dk_at dksX1_there_0 0 rfl rfl)
theorem dX1_there_1 : decode cX1_there 1 = .ok (.getfield 84, 3) := dk_180 0 84 (dk_at dksX1_there_0 1 rfl rfl)
theorem dX1_there_4 : decode cX1_there 4 = .ok (.ifnull 7, 3) := dk_198 0 7 (dk_at dksX1_there_0 4 rfl rfl)
theorem dX1_there_7 : decode cX1_there 7 = .ok (.iconst 1, 1) := dk_4 (dk_at dksX1_there_0 7 rfl rfl)
theorem dX1_there_8 : decode cX1_there 8 = .ok (.goto 4, 3) := dk_167 0 4 (dk_at dksX1_there_0 8 rfl rfl)
theorem dX1_there_11 : decode cX1_there 11 = .ok (.iconst 0, 1) := dk_3 (dk_at dksX1_there_0 11 rfl rfl)
theorem dX1_there_12 : decode cX1_there 12 = .ok (.invokestatic 88, 3) := dk_184 0 88 (dk_at dksX1_there_0 12 rfl rfl)
theorem dX1_there_15 : decode cX1_there 15 = .ok (.aload_n 0, 1) := dk_42 (dk_at dksX1_there_0 15 rfl rfl)
theorem dX1_there_16 : decode cX1_there 16 = .ok (.getfield 84, 3) := dk_180 0 84 (dk_at dksX1_there_0 16 rfl rfl)
theorem dX1_there_19 : decode cX1_there 19 = .ok (.areturn, 1) := dk_176 (dk_at dksX1_there_0 19 rfl rfl)
abbrev cX1_checkState : ByteArray := prog_1_method_7_code
def yX1_checkState : MethodName := ⟨RX1, "checkState", "(Z)V"⟩
def dkwX1_checkState_0 : List UInt8 := [26, 154, 0, 11, 187, 0, 81, 89, 183, 0, 83, 191, 177]
abbrev dktX1_checkState_0 : List UInt8 := dkwX1_checkState_0 ++ []
theorem dksX1_checkState_0 : cX1_checkState.data.toList.drop 0 = dktX1_checkState_0 := by decide +kernel
theorem dX1_checkState_0 : decode cX1_checkState 0 = .ok (.iload_n 0, 1) := dk_26 (dk_at dksX1_checkState_0 0 rfl rfl)
theorem dX1_checkState_1 : decode cX1_checkState 1 = .ok (.ifCond .ne 11, 3) := dk_154 0 11 (dk_at dksX1_checkState_0 1 rfl rfl)
theorem dX1_checkState_4 : decode cX1_checkState 4 = .ok (.new 81, 3) := dk_187 0 81 (dk_at dksX1_checkState_0 4 rfl rfl)
theorem dX1_checkState_7 : decode cX1_checkState 7 = .ok (.dup, 1) := dk_89 (dk_at dksX1_checkState_0 7 rfl rfl)
theorem dX1_checkState_8 : decode cX1_checkState 8 = .ok (.invokespecial 83, 3) := dk_183 0 83 (dk_at dksX1_checkState_0 8 rfl rfl)
theorem dX1_checkState_11 : decode cX1_checkState 11 = .ok (.athrow, 1) := dk_191 (dk_at dksX1_checkState_0 11 rfl rfl)
theorem dX1_checkState_12 : decode cX1_checkState 12 = .ok (.return_, 1) := dk_177 (dk_at dksX1_checkState_0 12 rfl rfl)
abbrev cX1_window : ByteArray := prog_1_method_25_code
def yX1_window : MethodName := ⟨RX1, "window", "(II)I"⟩
def dkwX1_window_0 : List UInt8 := [42, 27, 182, 0, 140, 78, 28, 3, 8, 184, 0, 74, 184, 0, 198, 45, 28, 182, 0, 201, 172]
abbrev dktX1_window_0 : List UInt8 := dkwX1_window_0 ++ []
theorem dksX1_window_0 : cX1_window.data.toList.drop 0 = dktX1_window_0 := by decide +kernel
theorem dX1_window_0 : decode cX1_window 0 = .ok (.aload_n 0, 1) := dk_42 (dk_at dksX1_window_0 0 rfl rfl)
theorem dX1_window_1 : decode cX1_window 1 = .ok (.iload_n 1, 1) := dk_27 (dk_at dksX1_window_0 1 rfl rfl)
theorem dX1_window_2 : decode cX1_window 2 = .ok (.invokevirtual 140, 3) := dk_182 0 140 (dk_at dksX1_window_0 2 rfl rfl)
theorem dX1_window_5 : decode cX1_window 5 = .ok (.astore_n 3, 1) := dk_78 (dk_at dksX1_window_0 5 rfl rfl)
theorem dX1_window_6 : decode cX1_window 6 = .ok (.iload_n 2, 1) := dk_28 (dk_at dksX1_window_0 6 rfl rfl)
theorem dX1_window_7 : decode cX1_window 7 = .ok (.iconst 0, 1) := dk_3 (dk_at dksX1_window_0 7 rfl rfl)
theorem dX1_window_8 : decode cX1_window 8 = .ok (.iconst 5, 1) := dk_8 (dk_at dksX1_window_0 8 rfl rfl)
theorem dX1_window_9 : decode cX1_window 9 = .ok (.invokestatic 74, 3) := dk_184 0 74 (dk_at dksX1_window_0 9 rfl rfl)
theorem dX1_window_12 : decode cX1_window 12 = .ok (.invokestatic 198, 3) := dk_184 0 198 (dk_at dksX1_window_0 12 rfl rfl)
theorem dX1_window_15 : decode cX1_window 15 = .ok (.aload_n 3, 1) := dk_45 (dk_at dksX1_window_0 15 rfl rfl)
theorem dX1_window_16 : decode cX1_window 16 = .ok (.iload_n 2, 1) := dk_28 (dk_at dksX1_window_0 16 rfl rfl)
theorem dX1_window_17 : decode cX1_window 17 = .ok (.invokevirtual 201, 3) := dk_182 0 201 (dk_at dksX1_window_0 17 rfl rfl)
theorem dX1_window_20 : decode cX1_window 20 = .ok (.ireturn, 1) := dk_172 (dk_at dksX1_window_0 20 rfl rfl)
abbrev cX1_withWindow : ByteArray := prog_1_method_12_code
def yX1_withWindow : MethodName := ⟨RX1, "withWindow", "(I)LEventWindows$Window;"⟩
def dkwX1_withWindow_1 : List UInt8 := [185, 0, 126, 2, 0, 192, 0, 130, 176]
abbrev dktX1_withWindow_1 : List UInt8 := dkwX1_withWindow_1 ++ []
def dkwX1_withWindow_0 : List UInt8 := [27, 42, 182, 0, 106, 180, 0, 117, 185, 0, 121, 1, 0, 184, 0, 113, 42, 180, 0, 84, 180, 0, 117, 27]
abbrev dktX1_withWindow_0 : List UInt8 := dkwX1_withWindow_0 ++ dktX1_withWindow_1
theorem dksX1_withWindow_0 : cX1_withWindow.data.toList.drop 0 = dktX1_withWindow_0 := by decide +kernel
theorem dksX1_withWindow_1 : cX1_withWindow.data.toList.drop 24 = dktX1_withWindow_1 := dk_seg dksX1_withWindow_0 24 rfl rfl
theorem dX1_withWindow_0 : decode cX1_withWindow 0 = .ok (.iload_n 1, 1) := dk_27 (dk_at dksX1_withWindow_0 0 rfl rfl)
theorem dX1_withWindow_1 : decode cX1_withWindow 1 = .ok (.aload_n 0, 1) := dk_42 (dk_at dksX1_withWindow_0 1 rfl rfl)
theorem dX1_withWindow_2 : decode cX1_withWindow 2 = .ok (.invokevirtual 106, 3) := dk_182 0 106 (dk_at dksX1_withWindow_0 2 rfl rfl)
theorem dX1_withWindow_5 : decode cX1_withWindow 5 = .ok (.getfield 117, 3) := dk_180 0 117 (dk_at dksX1_withWindow_0 5 rfl rfl)
theorem dX1_withWindow_8 : decode cX1_withWindow 8 = .ok (.invokeinterface 121 1, 5) := by decide +kernel
theorem dX1_withWindow_13 : decode cX1_withWindow 13 = .ok (.invokestatic 113, 3) := dk_184 0 113 (dk_at dksX1_withWindow_0 13 rfl rfl)
theorem dX1_withWindow_16 : decode cX1_withWindow 16 = .ok (.aload_n 0, 1) := dk_42 (dk_at dksX1_withWindow_0 16 rfl rfl)
theorem dX1_withWindow_17 : decode cX1_withWindow 17 = .ok (.getfield 84, 3) := dk_180 0 84 (dk_at dksX1_withWindow_0 17 rfl rfl)
theorem dX1_withWindow_20 : decode cX1_withWindow 20 = .ok (.getfield 117, 3) := dk_180 0 117 (dk_at dksX1_withWindow_0 20 rfl rfl)
theorem dX1_withWindow_23 : decode cX1_withWindow 23 = .ok (.iload_n 1, 1) := dk_27 (dk_at dksX1_withWindow_0 23 rfl rfl)
theorem dX1_withWindow_24 : decode cX1_withWindow 24 = .ok (.invokeinterface 126 2, 5) := by decide +kernel
theorem dX1_withWindow_29 : decode cX1_withWindow 29 = .ok (.checkcast 130, 3) := dk_192 0 130 (dk_at dksX1_withWindow_1 5 rfl rfl)
theorem dX1_withWindow_32 : decode cX1_withWindow 32 = .ok (.areturn, 1) := dk_176 (dk_at dksX1_withWindow_1 8 rfl rfl)
abbrev cX1_checkArgument : ByteArray := prog_1_method_5_code
def yX1_checkArgument : MethodName := ⟨RX1, "checkArgument", "(Z)V"⟩
def dkwX1_checkArgument_0 : List UInt8 := [26, 154, 0, 11, 187, 0, 71, 89, 183, 0, 73, 191, 177]
abbrev dktX1_checkArgument_0 : List UInt8 := dkwX1_checkArgument_0 ++ []
theorem dksX1_checkArgument_0 : cX1_checkArgument.data.toList.drop 0 = dktX1_checkArgument_0 := by decide +kernel
theorem dX1_checkArgument_0 : decode cX1_checkArgument 0 = .ok (.iload_n 0, 1) := dk_26 (dk_at dksX1_checkArgument_0 0 rfl rfl)
theorem dX1_checkArgument_1 : decode cX1_checkArgument 1 = .ok (.ifCond .ne 11, 3) := dk_154 0 11 (dk_at dksX1_checkArgument_0 1 rfl rfl)
theorem dX1_checkArgument_4 : decode cX1_checkArgument 4 = .ok (.new 71, 3) := dk_187 0 71 (dk_at dksX1_checkArgument_0 4 rfl rfl)
theorem dX1_checkArgument_7 : decode cX1_checkArgument 7 = .ok (.dup, 1) := dk_89 (dk_at dksX1_checkArgument_0 7 rfl rfl)
theorem dX1_checkArgument_8 : decode cX1_checkArgument 8 = .ok (.invokespecial 73, 3) := dk_183 0 73 (dk_at dksX1_checkArgument_0 8 rfl rfl)
theorem dX1_checkArgument_11 : decode cX1_checkArgument 11 = .ok (.athrow, 1) := dk_191 (dk_at dksX1_checkArgument_0 11 rfl rfl)
theorem dX1_checkArgument_12 : decode cX1_checkArgument 12 = .ok (.return_, 1) := dk_177 (dk_at dksX1_checkArgument_0 12 rfl rfl)
abbrev cX1_fixedAt : ByteArray := prog_1_method_26_code
def yX1_fixedAt : MethodName := ⟨RX1, "fixedAt", "(I)I"⟩
def dkwX1_fixedAt_0 : List UInt8 := [42, 27, 182, 0, 181, 180, 0, 205, 27, 46, 172]
abbrev dktX1_fixedAt_0 : List UInt8 := dkwX1_fixedAt_0 ++ []
theorem dksX1_fixedAt_0 : cX1_fixedAt.data.toList.drop 0 = dktX1_fixedAt_0 := by decide +kernel
theorem dX1_fixedAt_0 : decode cX1_fixedAt 0 = .ok (.aload_n 0, 1) := dk_42 (dk_at dksX1_fixedAt_0 0 rfl rfl)
theorem dX1_fixedAt_1 : decode cX1_fixedAt 1 = .ok (.iload_n 1, 1) := dk_27 (dk_at dksX1_fixedAt_0 1 rfl rfl)
theorem dX1_fixedAt_2 : decode cX1_fixedAt 2 = .ok (.invokevirtual 181, 3) := dk_182 0 181 (dk_at dksX1_fixedAt_0 2 rfl rfl)
theorem dX1_fixedAt_5 : decode cX1_fixedAt 5 = .ok (.getfield 205, 3) := dk_180 0 205 (dk_at dksX1_fixedAt_0 5 rfl rfl)
theorem dX1_fixedAt_8 : decode cX1_fixedAt 8 = .ok (.iload_n 1, 1) := dk_27 (dk_at dksX1_fixedAt_0 8 rfl rfl)
theorem dX1_fixedAt_9 : decode cX1_fixedAt 9 = .ok (.iaload, 1) := dk_46 (dk_at dksX1_fixedAt_0 9 rfl rfl)
theorem dX1_fixedAt_10 : decode cX1_fixedAt 10 = .ok (.ireturn, 1) := dk_172 (dk_at dksX1_fixedAt_0 10 rfl rfl)
abbrev cX1_delay : ByteArray := prog_1_method_27_code
def yX1_delay : MethodName := ⟨RX1, "delay", "(I)I"⟩
def dkwX1_delay_0 : List UInt8 := [42, 27, 182, 0, 181, 180, 0, 209, 27, 46, 172]
abbrev dktX1_delay_0 : List UInt8 := dkwX1_delay_0 ++ []
theorem dksX1_delay_0 : cX1_delay.data.toList.drop 0 = dktX1_delay_0 := by decide +kernel
theorem dX1_delay_0 : decode cX1_delay 0 = .ok (.aload_n 0, 1) := dk_42 (dk_at dksX1_delay_0 0 rfl rfl)
theorem dX1_delay_1 : decode cX1_delay 1 = .ok (.iload_n 1, 1) := dk_27 (dk_at dksX1_delay_0 1 rfl rfl)
theorem dX1_delay_2 : decode cX1_delay 2 = .ok (.invokevirtual 181, 3) := dk_182 0 181 (dk_at dksX1_delay_0 2 rfl rfl)
theorem dX1_delay_5 : decode cX1_delay 5 = .ok (.getfield 209, 3) := dk_180 0 209 (dk_at dksX1_delay_0 5 rfl rfl)
theorem dX1_delay_8 : decode cX1_delay 8 = .ok (.iload_n 1, 1) := dk_27 (dk_at dksX1_delay_0 8 rfl rfl)
theorem dX1_delay_9 : decode cX1_delay 9 = .ok (.iaload, 1) := dk_46 (dk_at dksX1_delay_0 9 rfl rfl)
theorem dX1_delay_10 : decode cX1_delay 10 = .ok (.ireturn, 1) := dk_172 (dk_at dksX1_delay_0 10 rfl rfl)
abbrev cX1_wish : ByteArray := prog_1_method_28_code
def yX1_wish : MethodName := ⟨RX1, "wish", "(I)I"⟩
def dkwX1_wish_0 : List UInt8 := [42, 27, 182, 0, 181, 180, 0, 212, 27, 46, 172]
abbrev dktX1_wish_0 : List UInt8 := dkwX1_wish_0 ++ []
theorem dksX1_wish_0 : cX1_wish.data.toList.drop 0 = dktX1_wish_0 := by decide +kernel
theorem dX1_wish_0 : decode cX1_wish 0 = .ok (.aload_n 0, 1) := dk_42 (dk_at dksX1_wish_0 0 rfl rfl)
theorem dX1_wish_1 : decode cX1_wish 1 = .ok (.iload_n 1, 1) := dk_27 (dk_at dksX1_wish_0 1 rfl rfl)
theorem dX1_wish_2 : decode cX1_wish 2 = .ok (.invokevirtual 181, 3) := dk_182 0 181 (dk_at dksX1_wish_0 2 rfl rfl)
theorem dX1_wish_5 : decode cX1_wish 5 = .ok (.getfield 212, 3) := dk_180 0 212 (dk_at dksX1_wish_0 5 rfl rfl)
theorem dX1_wish_8 : decode cX1_wish 8 = .ok (.iload_n 1, 1) := dk_27 (dk_at dksX1_wish_0 8 rfl rfl)
theorem dX1_wish_9 : decode cX1_wish 9 = .ok (.iaload, 1) := dk_46 (dk_at dksX1_wish_0 9 rfl rfl)
theorem dX1_wish_10 : decode cX1_wish 10 = .ok (.ireturn, 1) := dk_172 (dk_at dksX1_wish_0 10 rfl rfl)
abbrev cX1_isSound : ByteArray := prog_1_method_29_code
def yX1_isSound : MethodName := ⟨RX1, "isSound", "()Z"⟩
def dkwX1_isSound_0 : List UInt8 := [42, 182, 0, 106, 87, 42, 182, 0, 110, 172]
abbrev dktX1_isSound_0 : List UInt8 := dkwX1_isSound_0 ++ []
theorem dksX1_isSound_0 : cX1_isSound.data.toList.drop 0 = dktX1_isSound_0 := by decide +kernel
theorem dX1_isSound_0 : decode cX1_isSound 0 = .ok (.aload_n 0, 1) := dk_42 (dk_at dksX1_isSound_0 0 rfl rfl)
theorem dX1_isSound_1 : decode cX1_isSound 1 = .ok (.invokevirtual 106, 3) := dk_182 0 106 (dk_at dksX1_isSound_0 1 rfl rfl)
theorem dX1_isSound_4 : decode cX1_isSound 4 = .ok (.pop, 1) := dk_87 (dk_at dksX1_isSound_0 4 rfl rfl)
theorem dX1_isSound_5 : decode cX1_isSound 5 = .ok (.aload_n 0, 1) := dk_42 (dk_at dksX1_isSound_0 5 rfl rfl)
theorem dX1_isSound_6 : decode cX1_isSound 6 = .ok (.invokevirtual 110, 3) := dk_182 0 110 (dk_at dksX1_isSound_0 6 rfl rfl)
theorem dX1_isSound_9 : decode cX1_isSound 9 = .ok (.ireturn, 1) := dk_172 (dk_at dksX1_isSound_0 9 rfl rfl)
abbrev cX1_isSoundNow : ByteArray := prog_1_method_9_code
def yX1_isSoundNow : MethodName := ⟨RX1, "isSoundNow", "()Z"⟩
def dkwX1_isSoundNow_0 : List UInt8 := [42, 180, 0, 84, 42, 180, 0, 92, 3, 2, 182, 0, 96, 182, 0, 100, 172]
abbrev dktX1_isSoundNow_0 : List UInt8 := dkwX1_isSoundNow_0 ++ []
theorem dksX1_isSoundNow_0 : cX1_isSoundNow.data.toList.drop 0 = dktX1_isSoundNow_0 := by decide +kernel
theorem dX1_isSoundNow_0 : decode cX1_isSoundNow 0 = .ok (.aload_n 0, 1) := dk_42 (dk_at dksX1_isSoundNow_0 0 rfl rfl)
theorem dX1_isSoundNow_1 : decode cX1_isSoundNow 1 = .ok (.getfield 84, 3) := dk_180 0 84 (dk_at dksX1_isSoundNow_0 1 rfl rfl)
theorem dX1_isSoundNow_4 : decode cX1_isSoundNow 4 = .ok (.aload_n 0, 1) := dk_42 (dk_at dksX1_isSoundNow_0 4 rfl rfl)
theorem dX1_isSoundNow_5 : decode cX1_isSoundNow 5 = .ok (.getfield 92, 3) := dk_180 0 92 (dk_at dksX1_isSoundNow_0 5 rfl rfl)
theorem dX1_isSoundNow_8 : decode cX1_isSoundNow 8 = .ok (.iconst 0, 1) := dk_3 (dk_at dksX1_isSoundNow_0 8 rfl rfl)
theorem dX1_isSoundNow_9 : decode cX1_isSoundNow 9 = .ok (.iconst (-1), 1) := dk_2 (dk_at dksX1_isSoundNow_0 9 rfl rfl)
theorem dX1_isSoundNow_10 : decode cX1_isSoundNow 10 = .ok (.invokevirtual 96, 3) := dk_182 0 96 (dk_at dksX1_isSoundNow_0 10 rfl rfl)
theorem dX1_isSoundNow_13 : decode cX1_isSoundNow 13 = .ok (.invokevirtual 100, 3) := dk_182 0 100 (dk_at dksX1_isSoundNow_0 13 rfl rfl)
theorem dX1_isSoundNow_16 : decode cX1_isSoundNow 16 = .ok (.ireturn, 1) := dk_172 (dk_at dksX1_isSoundNow_0 16 rfl rfl)
abbrev cX1_roundLength : ByteArray := prog_1_method_30_code
def yX1_roundLength : MethodName := ⟨RX1, "roundLength", "()I"⟩
def dkwX1_roundLength_0 : List UInt8 := [42, 182, 0, 106, 184, 0, 215, 185, 0, 121, 1, 0, 172]
abbrev dktX1_roundLength_0 : List UInt8 := dkwX1_roundLength_0 ++ []
theorem dksX1_roundLength_0 : cX1_roundLength.data.toList.drop 0 = dktX1_roundLength_0 := by decide +kernel
theorem dX1_roundLength_0 : decode cX1_roundLength 0 = .ok (.aload_n 0, 1) := dk_42 (dk_at dksX1_roundLength_0 0 rfl rfl)
theorem dX1_roundLength_1 : decode cX1_roundLength 1 = .ok (.invokevirtual 106, 3) := dk_182 0 106 (dk_at dksX1_roundLength_0 1 rfl rfl)
theorem dX1_roundLength_4 : decode cX1_roundLength 4 = .ok (.invokestatic 215, 3) := dk_184 0 215 (dk_at dksX1_roundLength_0 4 rfl rfl)
theorem dX1_roundLength_7 : decode cX1_roundLength 7 = .ok (.invokeinterface 121 1, 5) := by decide +kernel
theorem dX1_roundLength_12 : decode cX1_roundLength 12 = .ok (.ireturn, 1) := dk_172 (dk_at dksX1_roundLength_0 12 rfl rfl)
abbrev cX1_round : ByteArray := prog_1_method_3_code
def yX1_round : MethodName := ⟨RX1, "round", "(LEventWindows$Net;)Ljava/util/List;"⟩
def dkwX1_round_6 : List UInt8 := [182, 0, 36, 176]
abbrev dktX1_round_6 : List UInt8 := dkwX1_round_6 ++ []
def dkwX1_round_5 : List UInt8 := [2, 160, 0, 12, 187, 0, 32, 89, 4, 183, 0, 34, 176, 43, 21, 4, 182, 0, 19, 43, 28, 21, 4]
abbrev dktX1_round_5 : List UInt8 := dkwX1_round_5 ++ dktX1_round_6
def dkwX1_round_4 : List UInt8 := [21, 7, 62, 21, 5, 54, 4, 167, 0, 9, 132, 6, 1, 167, 255, 197, 132, 5, 1, 167, 255, 173, 21, 4]
abbrev dktX1_round_4 : List UInt8 := dkwX1_round_4 ++ dktX1_round_5
def dkwX1_round_3 : List UInt8 := [21, 7, 156, 0, 31, 21, 6, 28, 160, 0, 12, 21, 7, 29, 161, 0, 6, 167, 0, 16, 21, 6, 61]
abbrev dktX1_round_3 : List UInt8 := dkwX1_round_3 ++ dktX1_round_4
def dkwX1_round_2 : List UInt8 := [21, 6, 28, 42, 182, 0, 13, 184, 0, 23, 163, 0, 52, 43, 21, 6, 21, 5, 182, 0, 29, 54, 7]
abbrev dktX1_round_2 : List UInt8 := dkwX1_round_2 ++ dktX1_round_3
def dkwX1_round_1 : List UInt8 := [54, 4, 3, 54, 5, 21, 5, 42, 182, 0, 13, 162, 0, 80, 43, 21, 5, 182, 0, 19, 4, 54, 6]
abbrev dktX1_round_1 : List UInt8 := dkwX1_round_1 ++ dktX1_round_2
def dkwX1_round_0 : List UInt8 := [187, 0, 1, 89, 42, 42, 182, 0, 3, 183, 0, 9, 76, 42, 182, 0, 13, 4, 96, 61, 3, 62, 2]
abbrev dktX1_round_0 : List UInt8 := dkwX1_round_0 ++ dktX1_round_1
theorem dksX1_round_0 : cX1_round.data.toList.drop 0 = dktX1_round_0 := by decide +kernel
theorem dksX1_round_1 : cX1_round.data.toList.drop 23 = dktX1_round_1 := dk_seg dksX1_round_0 23 rfl rfl
theorem dksX1_round_2 : cX1_round.data.toList.drop 46 = dktX1_round_2 := dk_seg dksX1_round_1 23 rfl rfl
theorem dksX1_round_3 : cX1_round.data.toList.drop 69 = dktX1_round_3 := dk_seg dksX1_round_2 23 rfl rfl
theorem dksX1_round_4 : cX1_round.data.toList.drop 92 = dktX1_round_4 := dk_seg dksX1_round_3 23 rfl rfl
theorem dksX1_round_5 : cX1_round.data.toList.drop 116 = dktX1_round_5 := dk_seg dksX1_round_4 24 rfl rfl
theorem dksX1_round_6 : cX1_round.data.toList.drop 139 = dktX1_round_6 := dk_seg dksX1_round_5 23 rfl rfl
theorem dX1_round_0 : decode cX1_round 0 = .ok (.new 1, 3) := dk_187 0 1 (dk_at dksX1_round_0 0 rfl rfl)
theorem dX1_round_3 : decode cX1_round 3 = .ok (.dup, 1) := dk_89 (dk_at dksX1_round_0 3 rfl rfl)
theorem dX1_round_4 : decode cX1_round 4 = .ok (.aload_n 0, 1) := dk_42 (dk_at dksX1_round_0 4 rfl rfl)
theorem dX1_round_5 : decode cX1_round 5 = .ok (.aload_n 0, 1) := dk_42 (dk_at dksX1_round_0 5 rfl rfl)
theorem dX1_round_6 : decode cX1_round 6 = .ok (.invokevirtual 3, 3) := dk_182 0 3 (dk_at dksX1_round_0 6 rfl rfl)
theorem dX1_round_9 : decode cX1_round 9 = .ok (.invokespecial 9, 3) := dk_183 0 9 (dk_at dksX1_round_0 9 rfl rfl)
theorem dX1_round_12 : decode cX1_round 12 = .ok (.astore_n 1, 1) := dk_76 (dk_at dksX1_round_0 12 rfl rfl)
theorem dX1_round_13 : decode cX1_round 13 = .ok (.aload_n 0, 1) := dk_42 (dk_at dksX1_round_0 13 rfl rfl)
theorem dX1_round_14 : decode cX1_round 14 = .ok (.invokevirtual 13, 3) := dk_182 0 13 (dk_at dksX1_round_0 14 rfl rfl)
theorem dX1_round_17 : decode cX1_round 17 = .ok (.iconst 1, 1) := dk_4 (dk_at dksX1_round_0 17 rfl rfl)
theorem dX1_round_18 : decode cX1_round 18 = .ok (.iadd, 1) := dk_96 (dk_at dksX1_round_0 18 rfl rfl)
theorem dX1_round_19 : decode cX1_round 19 = .ok (.istore_n 2, 1) := dk_61 (dk_at dksX1_round_0 19 rfl rfl)
theorem dX1_round_20 : decode cX1_round 20 = .ok (.iconst 0, 1) := dk_3 (dk_at dksX1_round_0 20 rfl rfl)
theorem dX1_round_21 : decode cX1_round 21 = .ok (.istore_n 3, 1) := dk_62 (dk_at dksX1_round_0 21 rfl rfl)
theorem dX1_round_22 : decode cX1_round 22 = .ok (.iconst (-1), 1) := dk_2 (dk_at dksX1_round_0 22 rfl rfl)
theorem dX1_round_23 : decode cX1_round 23 = .ok (.istore 4, 2) := dk_54 4 (dk_at dksX1_round_1 0 rfl rfl)
theorem dX1_round_25 : decode cX1_round 25 = .ok (.iconst 0, 1) := dk_3 (dk_at dksX1_round_1 2 rfl rfl)
theorem dX1_round_26 : decode cX1_round 26 = .ok (.istore 5, 2) := dk_54 5 (dk_at dksX1_round_1 3 rfl rfl)
theorem dX1_round_28 : decode cX1_round 28 = .ok (.iload 5, 2) := dk_21 5 (dk_at dksX1_round_1 5 rfl rfl)
theorem dX1_round_30 : decode cX1_round 30 = .ok (.aload_n 0, 1) := dk_42 (dk_at dksX1_round_1 7 rfl rfl)
theorem dX1_round_31 : decode cX1_round 31 = .ok (.invokevirtual 13, 3) := dk_182 0 13 (dk_at dksX1_round_1 8 rfl rfl)
theorem dX1_round_34 : decode cX1_round 34 = .ok (.if_icmp .ge 80, 3) := dk_162 0 80 (dk_at dksX1_round_1 11 rfl rfl)
theorem dX1_round_37 : decode cX1_round 37 = .ok (.aload_n 1, 1) := dk_43 (dk_at dksX1_round_1 14 rfl rfl)
theorem dX1_round_38 : decode cX1_round 38 = .ok (.iload 5, 2) := dk_21 5 (dk_at dksX1_round_1 15 rfl rfl)
theorem dX1_round_40 : decode cX1_round 40 = .ok (.invokevirtual 19, 3) := dk_182 0 19 (dk_at dksX1_round_1 17 rfl rfl)
theorem dX1_round_43 : decode cX1_round 43 = .ok (.iconst 1, 1) := dk_4 (dk_at dksX1_round_1 20 rfl rfl)
theorem dX1_round_44 : decode cX1_round 44 = .ok (.istore 6, 2) := dk_54 6 (dk_at dksX1_round_1 21 rfl rfl)
theorem dX1_round_46 : decode cX1_round 46 = .ok (.iload 6, 2) := dk_21 6 (dk_at dksX1_round_2 0 rfl rfl)
theorem dX1_round_48 : decode cX1_round 48 = .ok (.iload_n 2, 1) := dk_28 (dk_at dksX1_round_2 2 rfl rfl)
theorem dX1_round_49 : decode cX1_round 49 = .ok (.aload_n 0, 1) := dk_42 (dk_at dksX1_round_2 3 rfl rfl)
theorem dX1_round_50 : decode cX1_round 50 = .ok (.invokevirtual 13, 3) := dk_182 0 13 (dk_at dksX1_round_2 4 rfl rfl)
theorem dX1_round_53 : decode cX1_round 53 = .ok (.invokestatic 23, 3) := dk_184 0 23 (dk_at dksX1_round_2 7 rfl rfl)
theorem dX1_round_56 : decode cX1_round 56 = .ok (.if_icmp .gt 52, 3) := dk_163 0 52 (dk_at dksX1_round_2 10 rfl rfl)
theorem dX1_round_59 : decode cX1_round 59 = .ok (.aload_n 1, 1) := dk_43 (dk_at dksX1_round_2 13 rfl rfl)
theorem dX1_round_60 : decode cX1_round 60 = .ok (.iload 6, 2) := dk_21 6 (dk_at dksX1_round_2 14 rfl rfl)
theorem dX1_round_62 : decode cX1_round 62 = .ok (.iload 5, 2) := dk_21 5 (dk_at dksX1_round_2 16 rfl rfl)
theorem dX1_round_64 : decode cX1_round 64 = .ok (.invokevirtual 29, 3) := dk_182 0 29 (dk_at dksX1_round_2 18 rfl rfl)
theorem dX1_round_67 : decode cX1_round 67 = .ok (.istore 7, 2) := dk_54 7 (dk_at dksX1_round_2 21 rfl rfl)
theorem dX1_round_69 : decode cX1_round 69 = .ok (.iload 7, 2) := dk_21 7 (dk_at dksX1_round_3 0 rfl rfl)
theorem dX1_round_71 : decode cX1_round 71 = .ok (.ifCond .ge 31, 3) := dk_156 0 31 (dk_at dksX1_round_3 2 rfl rfl)
theorem dX1_round_74 : decode cX1_round 74 = .ok (.iload 6, 2) := dk_21 6 (dk_at dksX1_round_3 5 rfl rfl)
theorem dX1_round_76 : decode cX1_round 76 = .ok (.iload_n 2, 1) := dk_28 (dk_at dksX1_round_3 7 rfl rfl)
theorem dX1_round_77 : decode cX1_round 77 = .ok (.if_icmp .ne 12, 3) := dk_160 0 12 (dk_at dksX1_round_3 8 rfl rfl)
theorem dX1_round_80 : decode cX1_round 80 = .ok (.iload 7, 2) := dk_21 7 (dk_at dksX1_round_3 11 rfl rfl)
theorem dX1_round_82 : decode cX1_round 82 = .ok (.iload_n 3, 1) := dk_29 (dk_at dksX1_round_3 13 rfl rfl)
theorem dX1_round_83 : decode cX1_round 83 = .ok (.if_icmp .lt 6, 3) := dk_161 0 6 (dk_at dksX1_round_3 14 rfl rfl)
theorem dX1_round_86 : decode cX1_round 86 = .ok (.goto 16, 3) := dk_167 0 16 (dk_at dksX1_round_3 17 rfl rfl)
theorem dX1_round_89 : decode cX1_round 89 = .ok (.iload 6, 2) := dk_21 6 (dk_at dksX1_round_3 20 rfl rfl)
theorem dX1_round_91 : decode cX1_round 91 = .ok (.istore_n 2, 1) := dk_61 (dk_at dksX1_round_3 22 rfl rfl)
theorem dX1_round_92 : decode cX1_round 92 = .ok (.iload 7, 2) := dk_21 7 (dk_at dksX1_round_4 0 rfl rfl)
theorem dX1_round_94 : decode cX1_round 94 = .ok (.istore_n 3, 1) := dk_62 (dk_at dksX1_round_4 2 rfl rfl)
theorem dX1_round_95 : decode cX1_round 95 = .ok (.iload 5, 2) := dk_21 5 (dk_at dksX1_round_4 3 rfl rfl)
theorem dX1_round_97 : decode cX1_round 97 = .ok (.istore 4, 2) := dk_54 4 (dk_at dksX1_round_4 5 rfl rfl)
theorem dX1_round_99 : decode cX1_round 99 = .ok (.goto 9, 3) := dk_167 0 9 (dk_at dksX1_round_4 7 rfl rfl)
theorem dX1_round_102 : decode cX1_round 102 = .ok (.iinc 6 1, 3) := dk_132 6 1 (dk_at dksX1_round_4 10 rfl rfl)
theorem dX1_round_105 : decode cX1_round 105 = .ok (.goto (-59), 3) := dk_167 255 197 (dk_at dksX1_round_4 13 rfl rfl)
theorem dX1_round_108 : decode cX1_round 108 = .ok (.iinc 5 1, 3) := dk_132 5 1 (dk_at dksX1_round_4 16 rfl rfl)
theorem dX1_round_111 : decode cX1_round 111 = .ok (.goto (-83), 3) := dk_167 255 173 (dk_at dksX1_round_4 19 rfl rfl)
theorem dX1_round_114 : decode cX1_round 114 = .ok (.iload 4, 2) := dk_21 4 (dk_at dksX1_round_4 22 rfl rfl)
theorem dX1_round_116 : decode cX1_round 116 = .ok (.iconst (-1), 1) := dk_2 (dk_at dksX1_round_5 0 rfl rfl)
theorem dX1_round_117 : decode cX1_round 117 = .ok (.if_icmp .ne 12, 3) := dk_160 0 12 (dk_at dksX1_round_5 1 rfl rfl)
theorem dX1_round_120 : decode cX1_round 120 = .ok (.new 32, 3) := dk_187 0 32 (dk_at dksX1_round_5 4 rfl rfl)
theorem dX1_round_123 : decode cX1_round 123 = .ok (.dup, 1) := dk_89 (dk_at dksX1_round_5 7 rfl rfl)
theorem dX1_round_124 : decode cX1_round 124 = .ok (.iconst 1, 1) := dk_4 (dk_at dksX1_round_5 8 rfl rfl)
theorem dX1_round_125 : decode cX1_round 125 = .ok (.invokespecial 34, 3) := dk_183 0 34 (dk_at dksX1_round_5 9 rfl rfl)
theorem dX1_round_128 : decode cX1_round 128 = .ok (.areturn, 1) := dk_176 (dk_at dksX1_round_5 12 rfl rfl)
theorem dX1_round_129 : decode cX1_round 129 = .ok (.aload_n 1, 1) := dk_43 (dk_at dksX1_round_5 13 rfl rfl)
theorem dX1_round_130 : decode cX1_round 130 = .ok (.iload 4, 2) := dk_21 4 (dk_at dksX1_round_5 14 rfl rfl)
theorem dX1_round_132 : decode cX1_round 132 = .ok (.invokevirtual 19, 3) := dk_182 0 19 (dk_at dksX1_round_5 16 rfl rfl)
theorem dX1_round_135 : decode cX1_round 135 = .ok (.aload_n 1, 1) := dk_43 (dk_at dksX1_round_5 19 rfl rfl)
theorem dX1_round_136 : decode cX1_round 136 = .ok (.iload_n 2, 1) := dk_28 (dk_at dksX1_round_5 20 rfl rfl)
theorem dX1_round_137 : decode cX1_round 137 = .ok (.iload 4, 2) := dk_21 4 (dk_at dksX1_round_5 21 rfl rfl)
theorem dX1_round_139 : decode cX1_round 139 = .ok (.invokevirtual 36, 3) := dk_182 0 36 (dk_at dksX1_round_6 0 rfl rfl)
theorem dX1_round_142 : decode cX1_round 142 = .ok (.areturn, 1) := dk_176 (dk_at dksX1_round_6 3 rfl rfl)
abbrev cX1_roundStep : ByteArray := prog_1_method_31_code
def yX1_roundStep : MethodName := ⟨RX1, "roundStep", "(I)I"⟩
def dkwX1_roundStep_1 : List UInt8 := [185, 0, 126, 2, 0, 192, 0, 219, 180, 0, 221, 172]
abbrev dktX1_roundStep_1 : List UInt8 := dkwX1_roundStep_1 ++ []
def dkwX1_roundStep_0 : List UInt8 := [42, 182, 0, 106, 184, 0, 215, 77, 27, 44, 185, 0, 121, 1, 0, 184, 0, 113, 44, 27]
abbrev dktX1_roundStep_0 : List UInt8 := dkwX1_roundStep_0 ++ dktX1_roundStep_1
theorem dksX1_roundStep_0 : cX1_roundStep.data.toList.drop 0 = dktX1_roundStep_0 := by decide +kernel
theorem dksX1_roundStep_1 : cX1_roundStep.data.toList.drop 20 = dktX1_roundStep_1 := dk_seg dksX1_roundStep_0 20 rfl rfl
theorem dX1_roundStep_0 : decode cX1_roundStep 0 = .ok (.aload_n 0, 1) := dk_42 (dk_at dksX1_roundStep_0 0 rfl rfl)
theorem dX1_roundStep_1 : decode cX1_roundStep 1 = .ok (.invokevirtual 106, 3) := dk_182 0 106 (dk_at dksX1_roundStep_0 1 rfl rfl)
theorem dX1_roundStep_4 : decode cX1_roundStep 4 = .ok (.invokestatic 215, 3) := dk_184 0 215 (dk_at dksX1_roundStep_0 4 rfl rfl)
theorem dX1_roundStep_7 : decode cX1_roundStep 7 = .ok (.astore_n 2, 1) := dk_77 (dk_at dksX1_roundStep_0 7 rfl rfl)
theorem dX1_roundStep_8 : decode cX1_roundStep 8 = .ok (.iload_n 1, 1) := dk_27 (dk_at dksX1_roundStep_0 8 rfl rfl)
theorem dX1_roundStep_9 : decode cX1_roundStep 9 = .ok (.aload_n 2, 1) := dk_44 (dk_at dksX1_roundStep_0 9 rfl rfl)
theorem dX1_roundStep_10 : decode cX1_roundStep 10 = .ok (.invokeinterface 121 1, 5) := by decide +kernel
theorem dX1_roundStep_15 : decode cX1_roundStep 15 = .ok (.invokestatic 113, 3) := dk_184 0 113 (dk_at dksX1_roundStep_0 15 rfl rfl)
theorem dX1_roundStep_18 : decode cX1_roundStep 18 = .ok (.aload_n 2, 1) := dk_44 (dk_at dksX1_roundStep_0 18 rfl rfl)
theorem dX1_roundStep_19 : decode cX1_roundStep 19 = .ok (.iload_n 1, 1) := dk_27 (dk_at dksX1_roundStep_0 19 rfl rfl)
theorem dX1_roundStep_20 : decode cX1_roundStep 20 = .ok (.invokeinterface 126 2, 5) := by decide +kernel
theorem dX1_roundStep_25 : decode cX1_roundStep 25 = .ok (.checkcast 219, 3) := dk_192 0 219 (dk_at dksX1_roundStep_1 5 rfl rfl)
theorem dX1_roundStep_28 : decode cX1_roundStep 28 = .ok (.getfield 221, 3) := dk_180 0 221 (dk_at dksX1_roundStep_1 8 rfl rfl)
theorem dX1_roundStep_31 : decode cX1_roundStep 31 = .ok (.ireturn, 1) := dk_172 (dk_at dksX1_roundStep_1 11 rfl rfl)
abbrev cX1_roundLack : ByteArray := prog_1_method_32_code
def yX1_roundLack : MethodName := ⟨RX1, "roundLack", "()I"⟩
def dkwX1_roundLack_1 : List UInt8 := [29, 185, 0, 126, 2, 0, 192, 0, 219, 180, 0, 222, 100, 61, 132, 3, 1, 167, 255, 227, 28, 172]
abbrev dktX1_roundLack_1 : List UInt8 := dkwX1_roundLack_1 ++ []
def dkwX1_roundLack_0 : List UInt8 := [42, 182, 0, 106, 184, 0, 215, 76, 3, 61, 3, 62, 29, 43, 185, 0, 121, 1, 0, 162, 0, 25, 28, 43]
abbrev dktX1_roundLack_0 : List UInt8 := dkwX1_roundLack_0 ++ dktX1_roundLack_1
theorem dksX1_roundLack_0 : cX1_roundLack.data.toList.drop 0 = dktX1_roundLack_0 := by decide +kernel
theorem dksX1_roundLack_1 : cX1_roundLack.data.toList.drop 24 = dktX1_roundLack_1 := dk_seg dksX1_roundLack_0 24 rfl rfl
theorem dX1_roundLack_0 : decode cX1_roundLack 0 = .ok (.aload_n 0, 1) := dk_42 (dk_at dksX1_roundLack_0 0 rfl rfl)
theorem dX1_roundLack_1 : decode cX1_roundLack 1 = .ok (.invokevirtual 106, 3) := dk_182 0 106 (dk_at dksX1_roundLack_0 1 rfl rfl)
theorem dX1_roundLack_4 : decode cX1_roundLack 4 = .ok (.invokestatic 215, 3) := dk_184 0 215 (dk_at dksX1_roundLack_0 4 rfl rfl)
theorem dX1_roundLack_7 : decode cX1_roundLack 7 = .ok (.astore_n 1, 1) := dk_76 (dk_at dksX1_roundLack_0 7 rfl rfl)
theorem dX1_roundLack_8 : decode cX1_roundLack 8 = .ok (.iconst 0, 1) := dk_3 (dk_at dksX1_roundLack_0 8 rfl rfl)
theorem dX1_roundLack_9 : decode cX1_roundLack 9 = .ok (.istore_n 2, 1) := dk_61 (dk_at dksX1_roundLack_0 9 rfl rfl)
theorem dX1_roundLack_10 : decode cX1_roundLack 10 = .ok (.iconst 0, 1) := dk_3 (dk_at dksX1_roundLack_0 10 rfl rfl)
theorem dX1_roundLack_11 : decode cX1_roundLack 11 = .ok (.istore_n 3, 1) := dk_62 (dk_at dksX1_roundLack_0 11 rfl rfl)
theorem dX1_roundLack_12 : decode cX1_roundLack 12 = .ok (.iload_n 3, 1) := dk_29 (dk_at dksX1_roundLack_0 12 rfl rfl)
theorem dX1_roundLack_13 : decode cX1_roundLack 13 = .ok (.aload_n 1, 1) := dk_43 (dk_at dksX1_roundLack_0 13 rfl rfl)
theorem dX1_roundLack_14 : decode cX1_roundLack 14 = .ok (.invokeinterface 121 1, 5) := by decide +kernel
theorem dX1_roundLack_19 : decode cX1_roundLack 19 = .ok (.if_icmp .ge 25, 3) := dk_162 0 25 (dk_at dksX1_roundLack_0 19 rfl rfl)
theorem dX1_roundLack_22 : decode cX1_roundLack 22 = .ok (.iload_n 2, 1) := dk_28 (dk_at dksX1_roundLack_0 22 rfl rfl)
theorem dX1_roundLack_23 : decode cX1_roundLack 23 = .ok (.aload_n 1, 1) := dk_43 (dk_at dksX1_roundLack_0 23 rfl rfl)
theorem dX1_roundLack_24 : decode cX1_roundLack 24 = .ok (.iload_n 3, 1) := dk_29 (dk_at dksX1_roundLack_1 0 rfl rfl)
theorem dX1_roundLack_25 : decode cX1_roundLack 25 = .ok (.invokeinterface 126 2, 5) := by decide +kernel
theorem dX1_roundLack_30 : decode cX1_roundLack 30 = .ok (.checkcast 219, 3) := dk_192 0 219 (dk_at dksX1_roundLack_1 6 rfl rfl)
theorem dX1_roundLack_33 : decode cX1_roundLack 33 = .ok (.getfield 222, 3) := dk_180 0 222 (dk_at dksX1_roundLack_1 9 rfl rfl)
theorem dX1_roundLack_36 : decode cX1_roundLack 36 = .ok (.isub, 1) := dk_100 (dk_at dksX1_roundLack_1 12 rfl rfl)
theorem dX1_roundLack_37 : decode cX1_roundLack 37 = .ok (.istore_n 2, 1) := dk_61 (dk_at dksX1_roundLack_1 13 rfl rfl)
theorem dX1_roundLack_38 : decode cX1_roundLack 38 = .ok (.iinc 3 1, 3) := dk_132 3 1 (dk_at dksX1_roundLack_1 14 rfl rfl)
theorem dX1_roundLack_41 : decode cX1_roundLack 41 = .ok (.goto (-29), 3) := dk_167 255 227 (dk_at dksX1_roundLack_1 17 rfl rfl)
theorem dX1_roundLack_44 : decode cX1_roundLack 44 = .ok (.iload_n 2, 1) := dk_28 (dk_at dksX1_roundLack_1 20 rfl rfl)
theorem dX1_roundLack_45 : decode cX1_roundLack 45 = .ok (.ireturn, 1) := dk_172 (dk_at dksX1_roundLack_1 21 rfl rfl)
abbrev cX1_most : ByteArray := prog_1_method_33_code
def yX1_most : MethodName := ⟨RX1, "most", "(II)I"⟩
def dkwX1_most_1 : List UInt8 := [29, 172]
abbrev dktX1_most_1 : List UInt8 := dkwX1_most_1 ++ []
def dkwX1_most_0 : List UInt8 := [42, 27, 28, 182, 0, 224, 27, 28, 182, 0, 227, 62, 29, 18, 144, 160, 0, 9, 17, 39, 16, 167, 0, 4]
abbrev dktX1_most_0 : List UInt8 := dkwX1_most_0 ++ dktX1_most_1
theorem dksX1_most_0 : cX1_most.data.toList.drop 0 = dktX1_most_0 := by decide +kernel
theorem dksX1_most_1 : cX1_most.data.toList.drop 24 = dktX1_most_1 := dk_seg dksX1_most_0 24 rfl rfl
theorem dX1_most_0 : decode cX1_most 0 = .ok (.aload_n 0, 1) := dk_42 (dk_at dksX1_most_0 0 rfl rfl)
theorem dX1_most_1 : decode cX1_most 1 = .ok (.iload_n 1, 1) := dk_27 (dk_at dksX1_most_0 1 rfl rfl)
theorem dX1_most_2 : decode cX1_most 2 = .ok (.iload_n 2, 1) := dk_28 (dk_at dksX1_most_0 2 rfl rfl)
theorem dX1_most_3 : decode cX1_most 3 = .ok (.invokevirtual 224, 3) := dk_182 0 224 (dk_at dksX1_most_0 3 rfl rfl)
theorem dX1_most_6 : decode cX1_most 6 = .ok (.iload_n 1, 1) := dk_27 (dk_at dksX1_most_0 6 rfl rfl)
theorem dX1_most_7 : decode cX1_most 7 = .ok (.iload_n 2, 1) := dk_28 (dk_at dksX1_most_0 7 rfl rfl)
theorem dX1_most_8 : decode cX1_most 8 = .ok (.invokevirtual 227, 3) := dk_182 0 227 (dk_at dksX1_most_0 8 rfl rfl)
theorem dX1_most_11 : decode cX1_most 11 = .ok (.istore_n 3, 1) := dk_62 (dk_at dksX1_most_0 11 rfl rfl)
theorem dX1_most_12 : decode cX1_most 12 = .ok (.iload_n 3, 1) := dk_29 (dk_at dksX1_most_0 12 rfl rfl)
theorem dX1_most_13 : decode cX1_most 13 = .ok (.ldc 144, 2) := dk_18 144 (dk_at dksX1_most_0 13 rfl rfl)
theorem dX1_most_15 : decode cX1_most 15 = .ok (.if_icmp .ne 9, 3) := dk_160 0 9 (dk_at dksX1_most_0 15 rfl rfl)
theorem dX1_most_18 : decode cX1_most 18 = .ok (.sipush 10000, 3) := dk_17 39 16 (dk_at dksX1_most_0 18 rfl rfl)
theorem dX1_most_21 : decode cX1_most 21 = .ok (.goto 4, 3) := dk_167 0 4 (dk_at dksX1_most_0 21 rfl rfl)
theorem dX1_most_24 : decode cX1_most 24 = .ok (.iload_n 3, 1) := dk_29 (dk_at dksX1_most_1 0 rfl rfl)
theorem dX1_most_25 : decode cX1_most 25 = .ok (.ireturn, 1) := dk_172 (dk_at dksX1_most_1 1 rfl rfl)
abbrev cX1_soundWith : ByteArray := prog_1_method_14_code
def yX1_soundWith : MethodName := ⟨RX1, "soundWith", "(II)LEventWindows$Square;"⟩
def dkwX1_soundWith_0 : List UInt8 := [42, 27, 182, 0, 136, 78, 28, 42, 180, 0, 84, 182, 0, 13, 184, 0, 113, 45, 176]
abbrev dktX1_soundWith_0 : List UInt8 := dkwX1_soundWith_0 ++ []
theorem dksX1_soundWith_0 : cX1_soundWith.data.toList.drop 0 = dktX1_soundWith_0 := by decide +kernel
theorem dX1_soundWith_0 : decode cX1_soundWith 0 = .ok (.aload_n 0, 1) := dk_42 (dk_at dksX1_soundWith_0 0 rfl rfl)
theorem dX1_soundWith_1 : decode cX1_soundWith 1 = .ok (.iload_n 1, 1) := dk_27 (dk_at dksX1_soundWith_0 1 rfl rfl)
theorem dX1_soundWith_2 : decode cX1_soundWith 2 = .ok (.invokevirtual 136, 3) := dk_182 0 136 (dk_at dksX1_soundWith_0 2 rfl rfl)
theorem dX1_soundWith_5 : decode cX1_soundWith 5 = .ok (.astore_n 3, 1) := dk_78 (dk_at dksX1_soundWith_0 5 rfl rfl)
theorem dX1_soundWith_6 : decode cX1_soundWith 6 = .ok (.iload_n 2, 1) := dk_28 (dk_at dksX1_soundWith_0 6 rfl rfl)
theorem dX1_soundWith_7 : decode cX1_soundWith 7 = .ok (.aload_n 0, 1) := dk_42 (dk_at dksX1_soundWith_0 7 rfl rfl)
theorem dX1_soundWith_8 : decode cX1_soundWith 8 = .ok (.getfield 84, 3) := dk_180 0 84 (dk_at dksX1_soundWith_0 8 rfl rfl)
theorem dX1_soundWith_11 : decode cX1_soundWith 11 = .ok (.invokevirtual 13, 3) := dk_182 0 13 (dk_at dksX1_soundWith_0 11 rfl rfl)
theorem dX1_soundWith_14 : decode cX1_soundWith 14 = .ok (.invokestatic 113, 3) := dk_184 0 113 (dk_at dksX1_soundWith_0 14 rfl rfl)
theorem dX1_soundWith_17 : decode cX1_soundWith 17 = .ok (.aload_n 3, 1) := dk_45 (dk_at dksX1_soundWith_0 17 rfl rfl)
theorem dX1_soundWith_18 : decode cX1_soundWith 18 = .ok (.areturn, 1) := dk_176 (dk_at dksX1_soundWith_0 18 rfl rfl)
abbrev cX1_soundWith_2 : ByteArray := prog_1_method_13_code
def yX1_soundWith_2 : MethodName := ⟨RX1, "soundWith", "(I)LEventWindows$Square;"⟩
def dkwX1_soundWith_2_0 : List UInt8 := [42, 182, 0, 132, 77, 27, 42, 180, 0, 84, 182, 0, 13, 184, 0, 113, 44, 176]
abbrev dktX1_soundWith_2_0 : List UInt8 := dkwX1_soundWith_2_0 ++ []
theorem dksX1_soundWith_2_0 : cX1_soundWith_2.data.toList.drop 0 = dktX1_soundWith_2_0 := by decide +kernel
theorem dX1_soundWith_2_0 : decode cX1_soundWith_2 0 = .ok (.aload_n 0, 1) := dk_42 (dk_at dksX1_soundWith_2_0 0 rfl rfl)
theorem dX1_soundWith_2_1 : decode cX1_soundWith_2 1 = .ok (.invokevirtual 132, 3) := dk_182 0 132 (dk_at dksX1_soundWith_2_0 1 rfl rfl)
theorem dX1_soundWith_2_4 : decode cX1_soundWith_2 4 = .ok (.astore_n 2, 1) := dk_77 (dk_at dksX1_soundWith_2_0 4 rfl rfl)
theorem dX1_soundWith_2_5 : decode cX1_soundWith_2 5 = .ok (.iload_n 1, 1) := dk_27 (dk_at dksX1_soundWith_2_0 5 rfl rfl)
theorem dX1_soundWith_2_6 : decode cX1_soundWith_2 6 = .ok (.aload_n 0, 1) := dk_42 (dk_at dksX1_soundWith_2_0 6 rfl rfl)
theorem dX1_soundWith_2_7 : decode cX1_soundWith_2 7 = .ok (.getfield 84, 3) := dk_180 0 84 (dk_at dksX1_soundWith_2_0 7 rfl rfl)
theorem dX1_soundWith_2_10 : decode cX1_soundWith_2 10 = .ok (.invokevirtual 13, 3) := dk_182 0 13 (dk_at dksX1_soundWith_2_0 10 rfl rfl)
theorem dX1_soundWith_2_13 : decode cX1_soundWith_2 13 = .ok (.invokestatic 113, 3) := dk_184 0 113 (dk_at dksX1_soundWith_2_0 13 rfl rfl)
theorem dX1_soundWith_2_16 : decode cX1_soundWith_2 16 = .ok (.aload_n 2, 1) := dk_44 (dk_at dksX1_soundWith_2_0 16 rfl rfl)
theorem dX1_soundWith_2_17 : decode cX1_soundWith_2 17 = .ok (.areturn, 1) := dk_176 (dk_at dksX1_soundWith_2_0 17 rfl rfl)
abbrev cX1_sound : ByteArray := prog_1_method_10_code
def yX1_sound : MethodName := ⟨RX1, "sound", "()LEventWindows$Square;"⟩
def dkwX1_sound_0 : List UInt8 := [42, 182, 0, 106, 87, 42, 182, 0, 110, 184, 0, 88, 42, 180, 0, 92, 176]
abbrev dktX1_sound_0 : List UInt8 := dkwX1_sound_0 ++ []
theorem dksX1_sound_0 : cX1_sound.data.toList.drop 0 = dktX1_sound_0 := by decide +kernel
theorem dX1_sound_0 : decode cX1_sound 0 = .ok (.aload_n 0, 1) := dk_42 (dk_at dksX1_sound_0 0 rfl rfl)
theorem dX1_sound_1 : decode cX1_sound 1 = .ok (.invokevirtual 106, 3) := dk_182 0 106 (dk_at dksX1_sound_0 1 rfl rfl)
theorem dX1_sound_4 : decode cX1_sound 4 = .ok (.pop, 1) := dk_87 (dk_at dksX1_sound_0 4 rfl rfl)
theorem dX1_sound_5 : decode cX1_sound 5 = .ok (.aload_n 0, 1) := dk_42 (dk_at dksX1_sound_0 5 rfl rfl)
theorem dX1_sound_6 : decode cX1_sound 6 = .ok (.invokevirtual 110, 3) := dk_182 0 110 (dk_at dksX1_sound_0 6 rfl rfl)
theorem dX1_sound_9 : decode cX1_sound 9 = .ok (.invokestatic 88, 3) := dk_184 0 88 (dk_at dksX1_sound_0 9 rfl rfl)
theorem dX1_sound_12 : decode cX1_sound 12 = .ok (.aload_n 0, 1) := dk_42 (dk_at dksX1_sound_0 12 rfl rfl)
theorem dX1_sound_13 : decode cX1_sound 13 = .ok (.getfield 92, 3) := dk_180 0 92 (dk_at dksX1_sound_0 13 rfl rfl)
theorem dX1_sound_16 : decode cX1_sound 16 = .ok (.areturn, 1) := dk_176 (dk_at dksX1_sound_0 16 rfl rfl)
abbrev cX1_least : ByteArray := prog_1_method_34_code
def yX1_least : MethodName := ⟨RX1, "least", "(II)I"⟩
def dkwX1_least_1 : List UInt8 := [29, 116, 172]
abbrev dktX1_least_1 : List UInt8 := dkwX1_least_1 ++ []
def dkwX1_least_0 : List UInt8 := [42, 27, 28, 182, 0, 224, 28, 27, 182, 0, 227, 62, 29, 18, 144, 160, 0, 9, 17, 216, 240, 167, 0, 5]
abbrev dktX1_least_0 : List UInt8 := dkwX1_least_0 ++ dktX1_least_1
theorem dksX1_least_0 : cX1_least.data.toList.drop 0 = dktX1_least_0 := by decide +kernel
theorem dksX1_least_1 : cX1_least.data.toList.drop 24 = dktX1_least_1 := dk_seg dksX1_least_0 24 rfl rfl
theorem dX1_least_0 : decode cX1_least 0 = .ok (.aload_n 0, 1) := dk_42 (dk_at dksX1_least_0 0 rfl rfl)
theorem dX1_least_1 : decode cX1_least 1 = .ok (.iload_n 1, 1) := dk_27 (dk_at dksX1_least_0 1 rfl rfl)
theorem dX1_least_2 : decode cX1_least 2 = .ok (.iload_n 2, 1) := dk_28 (dk_at dksX1_least_0 2 rfl rfl)
theorem dX1_least_3 : decode cX1_least 3 = .ok (.invokevirtual 224, 3) := dk_182 0 224 (dk_at dksX1_least_0 3 rfl rfl)
theorem dX1_least_6 : decode cX1_least 6 = .ok (.iload_n 2, 1) := dk_28 (dk_at dksX1_least_0 6 rfl rfl)
theorem dX1_least_7 : decode cX1_least 7 = .ok (.iload_n 1, 1) := dk_27 (dk_at dksX1_least_0 7 rfl rfl)
theorem dX1_least_8 : decode cX1_least 8 = .ok (.invokevirtual 227, 3) := dk_182 0 227 (dk_at dksX1_least_0 8 rfl rfl)
theorem dX1_least_11 : decode cX1_least 11 = .ok (.istore_n 3, 1) := dk_62 (dk_at dksX1_least_0 11 rfl rfl)
theorem dX1_least_12 : decode cX1_least 12 = .ok (.iload_n 3, 1) := dk_29 (dk_at dksX1_least_0 12 rfl rfl)
theorem dX1_least_13 : decode cX1_least 13 = .ok (.ldc 144, 2) := dk_18 144 (dk_at dksX1_least_0 13 rfl rfl)
theorem dX1_least_15 : decode cX1_least 15 = .ok (.if_icmp .ne 9, 3) := dk_160 0 9 (dk_at dksX1_least_0 15 rfl rfl)
theorem dX1_least_18 : decode cX1_least 18 = .ok (.sipush (-10000), 3) := dk_17 216 240 (dk_at dksX1_least_0 18 rfl rfl)
theorem dX1_least_21 : decode cX1_least 21 = .ok (.goto 5, 3) := dk_167 0 5 (dk_at dksX1_least_0 21 rfl rfl)
theorem dX1_least_24 : decode cX1_least 24 = .ok (.iload_n 3, 1) := dk_29 (dk_at dksX1_least_1 0 rfl rfl)
theorem dX1_least_25 : decode cX1_least 25 = .ok (.ineg, 1) := dk_116 (dk_at dksX1_least_1 1 rfl rfl)
theorem dX1_least_26 : decode cX1_least 26 = .ok (.ireturn, 1) := dk_172 (dk_at dksX1_least_1 2 rfl rfl)
abbrev cX1_earliest : ByteArray := prog_1_method_35_code
def yX1_earliest : MethodName := ⟨RX1, "earliest", "(I)I"⟩
def dkwX1_earliest_0 : List UInt8 := [42, 27, 182, 0, 136, 27, 182, 0, 228, 172]
abbrev dktX1_earliest_0 : List UInt8 := dkwX1_earliest_0 ++ []
theorem dksX1_earliest_0 : cX1_earliest.data.toList.drop 0 = dktX1_earliest_0 := by decide +kernel
theorem dX1_earliest_0 : decode cX1_earliest 0 = .ok (.aload_n 0, 1) := dk_42 (dk_at dksX1_earliest_0 0 rfl rfl)
theorem dX1_earliest_1 : decode cX1_earliest 1 = .ok (.iload_n 1, 1) := dk_27 (dk_at dksX1_earliest_0 1 rfl rfl)
theorem dX1_earliest_2 : decode cX1_earliest 2 = .ok (.invokevirtual 136, 3) := dk_182 0 136 (dk_at dksX1_earliest_0 2 rfl rfl)
theorem dX1_earliest_5 : decode cX1_earliest 5 = .ok (.iload_n 1, 1) := dk_27 (dk_at dksX1_earliest_0 5 rfl rfl)
theorem dX1_earliest_6 : decode cX1_earliest 6 = .ok (.invokevirtual 228, 3) := dk_182 0 228 (dk_at dksX1_earliest_0 6 rfl rfl)
theorem dX1_earliest_9 : decode cX1_earliest 9 = .ok (.ireturn, 1) := dk_172 (dk_at dksX1_earliest_0 9 rfl rfl)
abbrev cX1_latest : ByteArray := prog_1_method_36_code
def yX1_latest : MethodName := ⟨RX1, "latest", "(I)I"⟩
def dkwX1_latest_0 : List UInt8 := [42, 27, 182, 0, 136, 27, 182, 0, 231, 184, 0, 234, 172]
abbrev dktX1_latest_0 : List UInt8 := dkwX1_latest_0 ++ []
theorem dksX1_latest_0 : cX1_latest.data.toList.drop 0 = dktX1_latest_0 := by decide +kernel
theorem dX1_latest_0 : decode cX1_latest 0 = .ok (.aload_n 0, 1) := dk_42 (dk_at dksX1_latest_0 0 rfl rfl)
theorem dX1_latest_1 : decode cX1_latest 1 = .ok (.iload_n 1, 1) := dk_27 (dk_at dksX1_latest_0 1 rfl rfl)
theorem dX1_latest_2 : decode cX1_latest 2 = .ok (.invokevirtual 136, 3) := dk_182 0 136 (dk_at dksX1_latest_0 2 rfl rfl)
theorem dX1_latest_5 : decode cX1_latest 5 = .ok (.iload_n 1, 1) := dk_27 (dk_at dksX1_latest_0 5 rfl rfl)
theorem dX1_latest_6 : decode cX1_latest 6 = .ok (.invokevirtual 231, 3) := dk_182 0 231 (dk_at dksX1_latest_0 6 rfl rfl)
theorem dX1_latest_9 : decode cX1_latest 9 = .ok (.invokestatic 234, 3) := dk_184 0 234 (dk_at dksX1_latest_0 9 rfl rfl)
theorem dX1_latest_12 : decode cX1_latest 12 = .ok (.ireturn, 1) := dk_172 (dk_at dksX1_latest_0 12 rfl rfl)
abbrev cX1_timeOf : ByteArray := prog_1_method_16_code
def yX1_timeOf : MethodName := ⟨RX1, "timeOf", "(I)I"⟩
def dkwX1_timeOf_0 : List UInt8 := [26, 18, 144, 160, 0, 7, 2, 167, 0, 4, 26, 172]
abbrev dktX1_timeOf_0 : List UInt8 := dkwX1_timeOf_0 ++ []
theorem dksX1_timeOf_0 : cX1_timeOf.data.toList.drop 0 = dktX1_timeOf_0 := by decide +kernel
theorem dX1_timeOf_0 : decode cX1_timeOf 0 = .ok (.iload_n 0, 1) := dk_26 (dk_at dksX1_timeOf_0 0 rfl rfl)
theorem dX1_timeOf_1 : decode cX1_timeOf 1 = .ok (.ldc 144, 2) := dk_18 144 (dk_at dksX1_timeOf_0 1 rfl rfl)
theorem dX1_timeOf_3 : decode cX1_timeOf 3 = .ok (.if_icmp .ne 7, 3) := dk_160 0 7 (dk_at dksX1_timeOf_0 3 rfl rfl)
theorem dX1_timeOf_6 : decode cX1_timeOf 6 = .ok (.iconst (-1), 1) := dk_2 (dk_at dksX1_timeOf_0 6 rfl rfl)
theorem dX1_timeOf_7 : decode cX1_timeOf 7 = .ok (.goto 4, 3) := dk_167 0 4 (dk_at dksX1_timeOf_0 7 rfl rfl)
theorem dX1_timeOf_10 : decode cX1_timeOf 10 = .ok (.iload_n 0, 1) := dk_26 (dk_at dksX1_timeOf_0 10 rfl rfl)
theorem dX1_timeOf_11 : decode cX1_timeOf 11 = .ok (.ireturn, 1) := dk_172 (dk_at dksX1_timeOf_0 11 rfl rfl)
abbrev cX1_slack : ByteArray := prog_1_method_37_code
def yX1_slack : MethodName := ⟨RX1, "slack", "(I)I"⟩
def dkwX1_slack_0 : List UInt8 := [42, 27, 182, 0, 136, 27, 182, 0, 237, 172]
abbrev dktX1_slack_0 : List UInt8 := dkwX1_slack_0 ++ []
theorem dksX1_slack_0 : cX1_slack.data.toList.drop 0 = dktX1_slack_0 := by decide +kernel
theorem dX1_slack_0 : decode cX1_slack 0 = .ok (.aload_n 0, 1) := dk_42 (dk_at dksX1_slack_0 0 rfl rfl)
theorem dX1_slack_1 : decode cX1_slack 1 = .ok (.iload_n 1, 1) := dk_27 (dk_at dksX1_slack_0 1 rfl rfl)
theorem dX1_slack_2 : decode cX1_slack 2 = .ok (.invokevirtual 136, 3) := dk_182 0 136 (dk_at dksX1_slack_0 2 rfl rfl)
theorem dX1_slack_5 : decode cX1_slack 5 = .ok (.iload_n 1, 1) := dk_27 (dk_at dksX1_slack_0 5 rfl rfl)
theorem dX1_slack_6 : decode cX1_slack 6 = .ok (.invokevirtual 237, 3) := dk_182 0 237 (dk_at dksX1_slack_0 6 rfl rfl)
theorem dX1_slack_9 : decode cX1_slack 9 = .ok (.ireturn, 1) := dk_172 (dk_at dksX1_slack_0 9 rfl rfl)
abbrev cX1_wayLength : ByteArray := prog_1_method_38_code
def yX1_wayLength : MethodName := ⟨RX1, "wayLength", "(II)I"⟩
def dkwX1_wayLength_2 : List UInt8 := [27, 29, 182, 0, 240, 172]
abbrev dktX1_wayLength_2 : List UInt8 := dkwX1_wayLength_2 ++ []
def dkwX1_wayLength_1 : List UInt8 := [42, 180, 0, 84, 42, 180, 0, 84, 182, 0, 3, 183, 0, 9, 58, 4, 25, 4, 28, 182, 0, 19, 25, 4]
abbrev dktX1_wayLength_1 : List UInt8 := dkwX1_wayLength_1 ++ dktX1_wayLength_2
def dkwX1_wayLength_0 : List UInt8 := [42, 27, 28, 182, 0, 224, 27, 28, 182, 0, 227, 62, 29, 18, 144, 160, 0, 5, 2, 172, 187, 0, 1, 89]
abbrev dktX1_wayLength_0 : List UInt8 := dkwX1_wayLength_0 ++ dktX1_wayLength_1
theorem dksX1_wayLength_0 : cX1_wayLength.data.toList.drop 0 = dktX1_wayLength_0 := by decide +kernel
theorem dksX1_wayLength_1 : cX1_wayLength.data.toList.drop 24 = dktX1_wayLength_1 := dk_seg dksX1_wayLength_0 24 rfl rfl
theorem dksX1_wayLength_2 : cX1_wayLength.data.toList.drop 48 = dktX1_wayLength_2 := dk_seg dksX1_wayLength_1 24 rfl rfl
theorem dX1_wayLength_0 : decode cX1_wayLength 0 = .ok (.aload_n 0, 1) := dk_42 (dk_at dksX1_wayLength_0 0 rfl rfl)
theorem dX1_wayLength_1 : decode cX1_wayLength 1 = .ok (.iload_n 1, 1) := dk_27 (dk_at dksX1_wayLength_0 1 rfl rfl)
theorem dX1_wayLength_2 : decode cX1_wayLength 2 = .ok (.iload_n 2, 1) := dk_28 (dk_at dksX1_wayLength_0 2 rfl rfl)
theorem dX1_wayLength_3 : decode cX1_wayLength 3 = .ok (.invokevirtual 224, 3) := dk_182 0 224 (dk_at dksX1_wayLength_0 3 rfl rfl)
theorem dX1_wayLength_6 : decode cX1_wayLength 6 = .ok (.iload_n 1, 1) := dk_27 (dk_at dksX1_wayLength_0 6 rfl rfl)
theorem dX1_wayLength_7 : decode cX1_wayLength 7 = .ok (.iload_n 2, 1) := dk_28 (dk_at dksX1_wayLength_0 7 rfl rfl)
theorem dX1_wayLength_8 : decode cX1_wayLength 8 = .ok (.invokevirtual 227, 3) := dk_182 0 227 (dk_at dksX1_wayLength_0 8 rfl rfl)
theorem dX1_wayLength_11 : decode cX1_wayLength 11 = .ok (.istore_n 3, 1) := dk_62 (dk_at dksX1_wayLength_0 11 rfl rfl)
theorem dX1_wayLength_12 : decode cX1_wayLength 12 = .ok (.iload_n 3, 1) := dk_29 (dk_at dksX1_wayLength_0 12 rfl rfl)
theorem dX1_wayLength_13 : decode cX1_wayLength 13 = .ok (.ldc 144, 2) := dk_18 144 (dk_at dksX1_wayLength_0 13 rfl rfl)
theorem dX1_wayLength_15 : decode cX1_wayLength 15 = .ok (.if_icmp .ne 5, 3) := dk_160 0 5 (dk_at dksX1_wayLength_0 15 rfl rfl)
theorem dX1_wayLength_18 : decode cX1_wayLength 18 = .ok (.iconst (-1), 1) := dk_2 (dk_at dksX1_wayLength_0 18 rfl rfl)
theorem dX1_wayLength_19 : decode cX1_wayLength 19 = .ok (.ireturn, 1) := dk_172 (dk_at dksX1_wayLength_0 19 rfl rfl)
theorem dX1_wayLength_20 : decode cX1_wayLength 20 = .ok (.new 1, 3) := dk_187 0 1 (dk_at dksX1_wayLength_0 20 rfl rfl)
theorem dX1_wayLength_23 : decode cX1_wayLength 23 = .ok (.dup, 1) := dk_89 (dk_at dksX1_wayLength_0 23 rfl rfl)
theorem dX1_wayLength_24 : decode cX1_wayLength 24 = .ok (.aload_n 0, 1) := dk_42 (dk_at dksX1_wayLength_1 0 rfl rfl)
theorem dX1_wayLength_25 : decode cX1_wayLength 25 = .ok (.getfield 84, 3) := dk_180 0 84 (dk_at dksX1_wayLength_1 1 rfl rfl)
theorem dX1_wayLength_28 : decode cX1_wayLength 28 = .ok (.aload_n 0, 1) := dk_42 (dk_at dksX1_wayLength_1 4 rfl rfl)
theorem dX1_wayLength_29 : decode cX1_wayLength 29 = .ok (.getfield 84, 3) := dk_180 0 84 (dk_at dksX1_wayLength_1 5 rfl rfl)
theorem dX1_wayLength_32 : decode cX1_wayLength 32 = .ok (.invokevirtual 3, 3) := dk_182 0 3 (dk_at dksX1_wayLength_1 8 rfl rfl)
theorem dX1_wayLength_35 : decode cX1_wayLength 35 = .ok (.invokespecial 9, 3) := dk_183 0 9 (dk_at dksX1_wayLength_1 11 rfl rfl)
theorem dX1_wayLength_38 : decode cX1_wayLength 38 = .ok (.astore 4, 2) := dk_58 4 (dk_at dksX1_wayLength_1 14 rfl rfl)
theorem dX1_wayLength_40 : decode cX1_wayLength 40 = .ok (.aload 4, 2) := dk_25 4 (dk_at dksX1_wayLength_1 16 rfl rfl)
theorem dX1_wayLength_42 : decode cX1_wayLength 42 = .ok (.iload_n 2, 1) := dk_28 (dk_at dksX1_wayLength_1 18 rfl rfl)
theorem dX1_wayLength_43 : decode cX1_wayLength 43 = .ok (.invokevirtual 19, 3) := dk_182 0 19 (dk_at dksX1_wayLength_1 19 rfl rfl)
theorem dX1_wayLength_46 : decode cX1_wayLength 46 = .ok (.aload 4, 2) := dk_25 4 (dk_at dksX1_wayLength_1 22 rfl rfl)
theorem dX1_wayLength_48 : decode cX1_wayLength 48 = .ok (.iload_n 1, 1) := dk_27 (dk_at dksX1_wayLength_2 0 rfl rfl)
theorem dX1_wayLength_49 : decode cX1_wayLength 49 = .ok (.iload_n 3, 1) := dk_29 (dk_at dksX1_wayLength_2 1 rfl rfl)
theorem dX1_wayLength_50 : decode cX1_wayLength 50 = .ok (.invokevirtual 240, 3) := dk_182 0 240 (dk_at dksX1_wayLength_2 2 rfl rfl)
theorem dX1_wayLength_53 : decode cX1_wayLength 53 = .ok (.ireturn, 1) := dk_172 (dk_at dksX1_wayLength_2 5 rfl rfl)
abbrev cX1_wayStep : ByteArray := prog_1_method_39_code
def yX1_wayStep : MethodName := ⟨RX1, "wayStep", "(III)I"⟩
def dkwX1_wayStep_3 : List UInt8 := [21, 6, 27, 182, 0, 36, 29, 185, 0, 126, 2, 0, 192, 0, 219, 180, 0, 221, 172]
abbrev dktX1_wayStep_3 : List UInt8 := dkwX1_wayStep_3 ++ []
def dkwX1_wayStep_2 : List UInt8 := [25, 5, 28, 182, 0, 19, 25, 5, 27, 21, 4, 182, 0, 240, 54, 6, 29, 21, 6, 184, 0, 113, 25, 5]
abbrev dktX1_wayStep_2 : List UInt8 := dkwX1_wayStep_2 ++ dktX1_wayStep_3
def dkwX1_wayStep_1 : List UInt8 := [183, 0, 80, 191, 187, 0, 1, 89, 42, 180, 0, 84, 42, 180, 0, 84, 182, 0, 3, 183, 0, 9, 58, 5]
abbrev dktX1_wayStep_1 : List UInt8 := dkwX1_wayStep_1 ++ dktX1_wayStep_2
def dkwX1_wayStep_0 : List UInt8 := [42, 27, 28, 182, 0, 224, 27, 28, 182, 0, 227, 54, 4, 21, 4, 18, 144, 160, 0, 11, 187, 0, 78, 89]
abbrev dktX1_wayStep_0 : List UInt8 := dkwX1_wayStep_0 ++ dktX1_wayStep_1
theorem dksX1_wayStep_0 : cX1_wayStep.data.toList.drop 0 = dktX1_wayStep_0 := by decide +kernel
theorem dksX1_wayStep_1 : cX1_wayStep.data.toList.drop 24 = dktX1_wayStep_1 := dk_seg dksX1_wayStep_0 24 rfl rfl
theorem dksX1_wayStep_2 : cX1_wayStep.data.toList.drop 48 = dktX1_wayStep_2 := dk_seg dksX1_wayStep_1 24 rfl rfl
theorem dksX1_wayStep_3 : cX1_wayStep.data.toList.drop 72 = dktX1_wayStep_3 := dk_seg dksX1_wayStep_2 24 rfl rfl
theorem dX1_wayStep_0 : decode cX1_wayStep 0 = .ok (.aload_n 0, 1) := dk_42 (dk_at dksX1_wayStep_0 0 rfl rfl)
theorem dX1_wayStep_1 : decode cX1_wayStep 1 = .ok (.iload_n 1, 1) := dk_27 (dk_at dksX1_wayStep_0 1 rfl rfl)
theorem dX1_wayStep_2 : decode cX1_wayStep 2 = .ok (.iload_n 2, 1) := dk_28 (dk_at dksX1_wayStep_0 2 rfl rfl)
theorem dX1_wayStep_3 : decode cX1_wayStep 3 = .ok (.invokevirtual 224, 3) := dk_182 0 224 (dk_at dksX1_wayStep_0 3 rfl rfl)
theorem dX1_wayStep_6 : decode cX1_wayStep 6 = .ok (.iload_n 1, 1) := dk_27 (dk_at dksX1_wayStep_0 6 rfl rfl)
theorem dX1_wayStep_7 : decode cX1_wayStep 7 = .ok (.iload_n 2, 1) := dk_28 (dk_at dksX1_wayStep_0 7 rfl rfl)
theorem dX1_wayStep_8 : decode cX1_wayStep 8 = .ok (.invokevirtual 227, 3) := dk_182 0 227 (dk_at dksX1_wayStep_0 8 rfl rfl)
theorem dX1_wayStep_11 : decode cX1_wayStep 11 = .ok (.istore 4, 2) := dk_54 4 (dk_at dksX1_wayStep_0 11 rfl rfl)
theorem dX1_wayStep_13 : decode cX1_wayStep 13 = .ok (.iload 4, 2) := dk_21 4 (dk_at dksX1_wayStep_0 13 rfl rfl)
theorem dX1_wayStep_15 : decode cX1_wayStep 15 = .ok (.ldc 144, 2) := dk_18 144 (dk_at dksX1_wayStep_0 15 rfl rfl)
theorem dX1_wayStep_17 : decode cX1_wayStep 17 = .ok (.if_icmp .ne 11, 3) := dk_160 0 11 (dk_at dksX1_wayStep_0 17 rfl rfl)
theorem dX1_wayStep_20 : decode cX1_wayStep 20 = .ok (.new 78, 3) := dk_187 0 78 (dk_at dksX1_wayStep_0 20 rfl rfl)
theorem dX1_wayStep_23 : decode cX1_wayStep 23 = .ok (.dup, 1) := dk_89 (dk_at dksX1_wayStep_0 23 rfl rfl)
theorem dX1_wayStep_24 : decode cX1_wayStep 24 = .ok (.invokespecial 80, 3) := dk_183 0 80 (dk_at dksX1_wayStep_1 0 rfl rfl)
theorem dX1_wayStep_27 : decode cX1_wayStep 27 = .ok (.athrow, 1) := dk_191 (dk_at dksX1_wayStep_1 3 rfl rfl)
theorem dX1_wayStep_28 : decode cX1_wayStep 28 = .ok (.new 1, 3) := dk_187 0 1 (dk_at dksX1_wayStep_1 4 rfl rfl)
theorem dX1_wayStep_31 : decode cX1_wayStep 31 = .ok (.dup, 1) := dk_89 (dk_at dksX1_wayStep_1 7 rfl rfl)
theorem dX1_wayStep_32 : decode cX1_wayStep 32 = .ok (.aload_n 0, 1) := dk_42 (dk_at dksX1_wayStep_1 8 rfl rfl)
theorem dX1_wayStep_33 : decode cX1_wayStep 33 = .ok (.getfield 84, 3) := dk_180 0 84 (dk_at dksX1_wayStep_1 9 rfl rfl)
theorem dX1_wayStep_36 : decode cX1_wayStep 36 = .ok (.aload_n 0, 1) := dk_42 (dk_at dksX1_wayStep_1 12 rfl rfl)
theorem dX1_wayStep_37 : decode cX1_wayStep 37 = .ok (.getfield 84, 3) := dk_180 0 84 (dk_at dksX1_wayStep_1 13 rfl rfl)
theorem dX1_wayStep_40 : decode cX1_wayStep 40 = .ok (.invokevirtual 3, 3) := dk_182 0 3 (dk_at dksX1_wayStep_1 16 rfl rfl)
theorem dX1_wayStep_43 : decode cX1_wayStep 43 = .ok (.invokespecial 9, 3) := dk_183 0 9 (dk_at dksX1_wayStep_1 19 rfl rfl)
theorem dX1_wayStep_46 : decode cX1_wayStep 46 = .ok (.astore 5, 2) := dk_58 5 (dk_at dksX1_wayStep_1 22 rfl rfl)
theorem dX1_wayStep_48 : decode cX1_wayStep 48 = .ok (.aload 5, 2) := dk_25 5 (dk_at dksX1_wayStep_2 0 rfl rfl)
theorem dX1_wayStep_50 : decode cX1_wayStep 50 = .ok (.iload_n 2, 1) := dk_28 (dk_at dksX1_wayStep_2 2 rfl rfl)
theorem dX1_wayStep_51 : decode cX1_wayStep 51 = .ok (.invokevirtual 19, 3) := dk_182 0 19 (dk_at dksX1_wayStep_2 3 rfl rfl)
theorem dX1_wayStep_54 : decode cX1_wayStep 54 = .ok (.aload 5, 2) := dk_25 5 (dk_at dksX1_wayStep_2 6 rfl rfl)
theorem dX1_wayStep_56 : decode cX1_wayStep 56 = .ok (.iload_n 1, 1) := dk_27 (dk_at dksX1_wayStep_2 8 rfl rfl)
theorem dX1_wayStep_57 : decode cX1_wayStep 57 = .ok (.iload 4, 2) := dk_21 4 (dk_at dksX1_wayStep_2 9 rfl rfl)
theorem dX1_wayStep_59 : decode cX1_wayStep 59 = .ok (.invokevirtual 240, 3) := dk_182 0 240 (dk_at dksX1_wayStep_2 11 rfl rfl)
theorem dX1_wayStep_62 : decode cX1_wayStep 62 = .ok (.istore 6, 2) := dk_54 6 (dk_at dksX1_wayStep_2 14 rfl rfl)
theorem dX1_wayStep_64 : decode cX1_wayStep 64 = .ok (.iload_n 3, 1) := dk_29 (dk_at dksX1_wayStep_2 16 rfl rfl)
theorem dX1_wayStep_65 : decode cX1_wayStep 65 = .ok (.iload 6, 2) := dk_21 6 (dk_at dksX1_wayStep_2 17 rfl rfl)
theorem dX1_wayStep_67 : decode cX1_wayStep 67 = .ok (.invokestatic 113, 3) := dk_184 0 113 (dk_at dksX1_wayStep_2 19 rfl rfl)
theorem dX1_wayStep_70 : decode cX1_wayStep 70 = .ok (.aload 5, 2) := dk_25 5 (dk_at dksX1_wayStep_2 22 rfl rfl)
theorem dX1_wayStep_72 : decode cX1_wayStep 72 = .ok (.iload 6, 2) := dk_21 6 (dk_at dksX1_wayStep_3 0 rfl rfl)
theorem dX1_wayStep_74 : decode cX1_wayStep 74 = .ok (.iload_n 1, 1) := dk_27 (dk_at dksX1_wayStep_3 2 rfl rfl)
theorem dX1_wayStep_75 : decode cX1_wayStep 75 = .ok (.invokevirtual 36, 3) := dk_182 0 36 (dk_at dksX1_wayStep_3 3 rfl rfl)
theorem dX1_wayStep_78 : decode cX1_wayStep 78 = .ok (.iload_n 3, 1) := dk_29 (dk_at dksX1_wayStep_3 6 rfl rfl)
theorem dX1_wayStep_79 : decode cX1_wayStep 79 = .ok (.invokeinterface 126 2, 5) := by decide +kernel
theorem dX1_wayStep_84 : decode cX1_wayStep 84 = .ok (.checkcast 219, 3) := dk_192 0 219 (dk_at dksX1_wayStep_3 12 rfl rfl)
theorem dX1_wayStep_87 : decode cX1_wayStep 87 = .ok (.getfield 221, 3) := dk_180 0 221 (dk_at dksX1_wayStep_3 15 rfl rfl)
theorem dX1_wayStep_90 : decode cX1_wayStep 90 = .ok (.ireturn, 1) := dk_172 (dk_at dksX1_wayStep_3 18 rfl rfl)
abbrev cX1_isTight : ByteArray := prog_1_method_40_code
def yX1_isTight : MethodName := ⟨RX1, "isTight", "(IZ)Z"⟩
def dkwX1_isTight_3 : List UInt8 := [160, 0, 7, 4, 167, 0, 4, 3, 172]
abbrev dktX1_isTight_3 : List UInt8 := dkwX1_isTight_3 ++ []
def dkwX1_isTight_2 : List UInt8 := [167, 0, 30, 42, 180, 0, 92, 45, 180, 0, 252, 45, 180, 0, 250, 182, 0, 227, 45, 180, 1, 2]
abbrev dktX1_isTight_2 : List UInt8 := dkwX1_isTight_2 ++ dktX1_isTight_3
def dkwX1_isTight_1 : List UInt8 := [45, 180, 0, 250, 45, 180, 0, 252, 182, 0, 227, 45, 180, 0, 255, 116, 160, 0, 7, 4, 167, 0, 34, 3]
abbrev dktX1_isTight_1 : List UInt8 := dkwX1_isTight_1 ++ dktX1_isTight_2
def dkwX1_isTight_0 : List UInt8 := [42, 27, 182, 0, 243, 78, 45, 28, 182, 0, 246, 154, 0, 5, 3, 172, 28, 153, 0, 34, 42, 180, 0, 92]
abbrev dktX1_isTight_0 : List UInt8 := dkwX1_isTight_0 ++ dktX1_isTight_1
theorem dksX1_isTight_0 : cX1_isTight.data.toList.drop 0 = dktX1_isTight_0 := by decide +kernel
theorem dksX1_isTight_1 : cX1_isTight.data.toList.drop 24 = dktX1_isTight_1 := dk_seg dksX1_isTight_0 24 rfl rfl
theorem dksX1_isTight_2 : cX1_isTight.data.toList.drop 48 = dktX1_isTight_2 := dk_seg dksX1_isTight_1 24 rfl rfl
theorem dksX1_isTight_3 : cX1_isTight.data.toList.drop 70 = dktX1_isTight_3 := dk_seg dksX1_isTight_2 22 rfl rfl
theorem dX1_isTight_0 : decode cX1_isTight 0 = .ok (.aload_n 0, 1) := dk_42 (dk_at dksX1_isTight_0 0 rfl rfl)
theorem dX1_isTight_1 : decode cX1_isTight 1 = .ok (.iload_n 1, 1) := dk_27 (dk_at dksX1_isTight_0 1 rfl rfl)
theorem dX1_isTight_2 : decode cX1_isTight 2 = .ok (.invokevirtual 243, 3) := dk_182 0 243 (dk_at dksX1_isTight_0 2 rfl rfl)
theorem dX1_isTight_5 : decode cX1_isTight 5 = .ok (.astore_n 3, 1) := dk_78 (dk_at dksX1_isTight_0 5 rfl rfl)
theorem dX1_isTight_6 : decode cX1_isTight 6 = .ok (.aload_n 3, 1) := dk_45 (dk_at dksX1_isTight_0 6 rfl rfl)
theorem dX1_isTight_7 : decode cX1_isTight 7 = .ok (.iload_n 2, 1) := dk_28 (dk_at dksX1_isTight_0 7 rfl rfl)
theorem dX1_isTight_8 : decode cX1_isTight 8 = .ok (.invokevirtual 246, 3) := dk_182 0 246 (dk_at dksX1_isTight_0 8 rfl rfl)
theorem dX1_isTight_11 : decode cX1_isTight 11 = .ok (.ifCond .ne 5, 3) := dk_154 0 5 (dk_at dksX1_isTight_0 11 rfl rfl)
theorem dX1_isTight_14 : decode cX1_isTight 14 = .ok (.iconst 0, 1) := dk_3 (dk_at dksX1_isTight_0 14 rfl rfl)
theorem dX1_isTight_15 : decode cX1_isTight 15 = .ok (.ireturn, 1) := dk_172 (dk_at dksX1_isTight_0 15 rfl rfl)
theorem dX1_isTight_16 : decode cX1_isTight 16 = .ok (.iload_n 2, 1) := dk_28 (dk_at dksX1_isTight_0 16 rfl rfl)
theorem dX1_isTight_17 : decode cX1_isTight 17 = .ok (.ifCond .eq 34, 3) := dk_153 0 34 (dk_at dksX1_isTight_0 17 rfl rfl)
theorem dX1_isTight_20 : decode cX1_isTight 20 = .ok (.aload_n 0, 1) := dk_42 (dk_at dksX1_isTight_0 20 rfl rfl)
theorem dX1_isTight_21 : decode cX1_isTight 21 = .ok (.getfield 92, 3) := dk_180 0 92 (dk_at dksX1_isTight_0 21 rfl rfl)
theorem dX1_isTight_24 : decode cX1_isTight 24 = .ok (.aload_n 3, 1) := dk_45 (dk_at dksX1_isTight_1 0 rfl rfl)
theorem dX1_isTight_25 : decode cX1_isTight 25 = .ok (.getfield 250, 3) := dk_180 0 250 (dk_at dksX1_isTight_1 1 rfl rfl)
theorem dX1_isTight_28 : decode cX1_isTight 28 = .ok (.aload_n 3, 1) := dk_45 (dk_at dksX1_isTight_1 4 rfl rfl)
theorem dX1_isTight_29 : decode cX1_isTight 29 = .ok (.getfield 252, 3) := dk_180 0 252 (dk_at dksX1_isTight_1 5 rfl rfl)
theorem dX1_isTight_32 : decode cX1_isTight 32 = .ok (.invokevirtual 227, 3) := dk_182 0 227 (dk_at dksX1_isTight_1 8 rfl rfl)
theorem dX1_isTight_35 : decode cX1_isTight 35 = .ok (.aload_n 3, 1) := dk_45 (dk_at dksX1_isTight_1 11 rfl rfl)
theorem dX1_isTight_36 : decode cX1_isTight 36 = .ok (.getfield 255, 3) := dk_180 0 255 (dk_at dksX1_isTight_1 12 rfl rfl)
theorem dX1_isTight_39 : decode cX1_isTight 39 = .ok (.ineg, 1) := dk_116 (dk_at dksX1_isTight_1 15 rfl rfl)
theorem dX1_isTight_40 : decode cX1_isTight 40 = .ok (.if_icmp .ne 7, 3) := dk_160 0 7 (dk_at dksX1_isTight_1 16 rfl rfl)
theorem dX1_isTight_43 : decode cX1_isTight 43 = .ok (.iconst 1, 1) := dk_4 (dk_at dksX1_isTight_1 19 rfl rfl)
theorem dX1_isTight_44 : decode cX1_isTight 44 = .ok (.goto 34, 3) := dk_167 0 34 (dk_at dksX1_isTight_1 20 rfl rfl)
theorem dX1_isTight_47 : decode cX1_isTight 47 = .ok (.iconst 0, 1) := dk_3 (dk_at dksX1_isTight_1 23 rfl rfl)
theorem dX1_isTight_48 : decode cX1_isTight 48 = .ok (.goto 30, 3) := dk_167 0 30 (dk_at dksX1_isTight_2 0 rfl rfl)
theorem dX1_isTight_51 : decode cX1_isTight 51 = .ok (.aload_n 0, 1) := dk_42 (dk_at dksX1_isTight_2 3 rfl rfl)
theorem dX1_isTight_52 : decode cX1_isTight 52 = .ok (.getfield 92, 3) := dk_180 0 92 (dk_at dksX1_isTight_2 4 rfl rfl)
theorem dX1_isTight_55 : decode cX1_isTight 55 = .ok (.aload_n 3, 1) := dk_45 (dk_at dksX1_isTight_2 7 rfl rfl)
theorem dX1_isTight_56 : decode cX1_isTight 56 = .ok (.getfield 252, 3) := dk_180 0 252 (dk_at dksX1_isTight_2 8 rfl rfl)
theorem dX1_isTight_59 : decode cX1_isTight 59 = .ok (.aload_n 3, 1) := dk_45 (dk_at dksX1_isTight_2 11 rfl rfl)
theorem dX1_isTight_60 : decode cX1_isTight 60 = .ok (.getfield 250, 3) := dk_180 0 250 (dk_at dksX1_isTight_2 12 rfl rfl)
theorem dX1_isTight_63 : decode cX1_isTight 63 = .ok (.invokevirtual 227, 3) := dk_182 0 227 (dk_at dksX1_isTight_2 15 rfl rfl)
theorem dX1_isTight_66 : decode cX1_isTight 66 = .ok (.aload_n 3, 1) := dk_45 (dk_at dksX1_isTight_2 18 rfl rfl)
theorem dX1_isTight_67 : decode cX1_isTight 67 = .ok (.getfield 258, 3) := dk_180 1 2 (dk_at dksX1_isTight_2 19 rfl rfl)
theorem dX1_isTight_70 : decode cX1_isTight 70 = .ok (.if_icmp .ne 7, 3) := dk_160 0 7 (dk_at dksX1_isTight_3 0 rfl rfl)
theorem dX1_isTight_73 : decode cX1_isTight 73 = .ok (.iconst 1, 1) := dk_4 (dk_at dksX1_isTight_3 3 rfl rfl)
theorem dX1_isTight_74 : decode cX1_isTight 74 = .ok (.goto 4, 3) := dk_167 0 4 (dk_at dksX1_isTight_3 4 rfl rfl)
theorem dX1_isTight_77 : decode cX1_isTight 77 = .ok (.iconst 0, 1) := dk_3 (dk_at dksX1_isTight_3 7 rfl rfl)
theorem dX1_isTight_78 : decode cX1_isTight 78 = .ok (.ireturn, 1) := dk_172 (dk_at dksX1_isTight_3 8 rfl rfl)
abbrev cX1_soundWindow : ByteArray := prog_1_method_15_code
def yX1_soundWindow : MethodName := ⟨RX1, "soundWindow", "(I)LEventWindows$Window;"⟩
def dkwX1_soundWindow_0 : List UInt8 := [42, 182, 0, 132, 77, 42, 27, 182, 0, 140, 176]
abbrev dktX1_soundWindow_0 : List UInt8 := dkwX1_soundWindow_0 ++ []
theorem dksX1_soundWindow_0 : cX1_soundWindow.data.toList.drop 0 = dktX1_soundWindow_0 := by decide +kernel
theorem dX1_soundWindow_0 : decode cX1_soundWindow 0 = .ok (.aload_n 0, 1) := dk_42 (dk_at dksX1_soundWindow_0 0 rfl rfl)
theorem dX1_soundWindow_1 : decode cX1_soundWindow 1 = .ok (.invokevirtual 132, 3) := dk_182 0 132 (dk_at dksX1_soundWindow_0 1 rfl rfl)
theorem dX1_soundWindow_4 : decode cX1_soundWindow 4 = .ok (.astore_n 2, 1) := dk_77 (dk_at dksX1_soundWindow_0 4 rfl rfl)
theorem dX1_soundWindow_5 : decode cX1_soundWindow 5 = .ok (.aload_n 0, 1) := dk_42 (dk_at dksX1_soundWindow_0 5 rfl rfl)
theorem dX1_soundWindow_6 : decode cX1_soundWindow 6 = .ok (.iload_n 1, 1) := dk_27 (dk_at dksX1_soundWindow_0 6 rfl rfl)
theorem dX1_soundWindow_7 : decode cX1_soundWindow 7 = .ok (.invokevirtual 140, 3) := dk_182 0 140 (dk_at dksX1_soundWindow_0 7 rfl rfl)
theorem dX1_soundWindow_10 : decode cX1_soundWindow 10 = .ok (.areturn, 1) := dk_176 (dk_at dksX1_soundWindow_0 10 rfl rfl)
abbrev cX1_isNeeded : ByteArray := prog_1_method_42_code
def yX1_isNeeded : MethodName := ⟨RX1, "isNeeded", "(I)Z"⟩
def dkwX1_isNeeded_0 : List UInt8 := [42, 27, 182, 0, 243, 77, 42, 27, 182, 1, 13, 172]
abbrev dktX1_isNeeded_0 : List UInt8 := dkwX1_isNeeded_0 ++ []
theorem dksX1_isNeeded_0 : cX1_isNeeded.data.toList.drop 0 = dktX1_isNeeded_0 := by decide +kernel
theorem dX1_isNeeded_0 : decode cX1_isNeeded 0 = .ok (.aload_n 0, 1) := dk_42 (dk_at dksX1_isNeeded_0 0 rfl rfl)
theorem dX1_isNeeded_1 : decode cX1_isNeeded 1 = .ok (.iload_n 1, 1) := dk_27 (dk_at dksX1_isNeeded_0 1 rfl rfl)
theorem dX1_isNeeded_2 : decode cX1_isNeeded 2 = .ok (.invokevirtual 243, 3) := dk_182 0 243 (dk_at dksX1_isNeeded_0 2 rfl rfl)
theorem dX1_isNeeded_5 : decode cX1_isNeeded 5 = .ok (.astore_n 2, 1) := dk_77 (dk_at dksX1_isNeeded_0 5 rfl rfl)
theorem dX1_isNeeded_6 : decode cX1_isNeeded 6 = .ok (.aload_n 0, 1) := dk_42 (dk_at dksX1_isNeeded_0 6 rfl rfl)
theorem dX1_isNeeded_7 : decode cX1_isNeeded 7 = .ok (.iload_n 1, 1) := dk_27 (dk_at dksX1_isNeeded_0 7 rfl rfl)
theorem dX1_isNeeded_8 : decode cX1_isNeeded 8 = .ok (.invokevirtual 269, 3) := dk_182 1 13 (dk_at dksX1_isNeeded_0 8 rfl rfl)
theorem dX1_isNeeded_11 : decode cX1_isNeeded 11 = .ok (.ireturn, 1) := dk_172 (dk_at dksX1_isNeeded_0 11 rfl rfl)
abbrev cX1_isNeededNow : ByteArray := prog_1_method_41_code
def yX1_isNeededNow : MethodName := ⟨RX1, "isNeededNow", "(I)Z"⟩
def dkwX1_isNeededNow_2 : List UInt8 := [4, 167, 0, 4, 3, 172]
abbrev dktX1_isNeededNow_2 : List UInt8 := dkwX1_isNeededNow_2 ++ []
def dkwX1_isNeededNow_1 : List UInt8 := [180, 0, 84, 42, 180, 0, 163, 4, 27, 120, 2, 182, 0, 96, 42, 180, 0, 92, 182, 1, 9, 154, 0, 7]
abbrev dktX1_isNeededNow_1 : List UInt8 := dkwX1_isNeededNow_1 ++ dktX1_isNeededNow_2
def dkwX1_isNeededNow_0 : List UInt8 := [42, 180, 0, 84, 180, 0, 117, 27, 185, 0, 126, 2, 0, 192, 0, 130, 180, 1, 5, 154, 0, 32, 42]
abbrev dktX1_isNeededNow_0 : List UInt8 := dkwX1_isNeededNow_0 ++ dktX1_isNeededNow_1
theorem dksX1_isNeededNow_0 : cX1_isNeededNow.data.toList.drop 0 = dktX1_isNeededNow_0 := by decide +kernel
theorem dksX1_isNeededNow_1 : cX1_isNeededNow.data.toList.drop 23 = dktX1_isNeededNow_1 := dk_seg dksX1_isNeededNow_0 23 rfl rfl
theorem dksX1_isNeededNow_2 : cX1_isNeededNow.data.toList.drop 47 = dktX1_isNeededNow_2 := dk_seg dksX1_isNeededNow_1 24 rfl rfl
theorem dX1_isNeededNow_0 : decode cX1_isNeededNow 0 = .ok (.aload_n 0, 1) := dk_42 (dk_at dksX1_isNeededNow_0 0 rfl rfl)
theorem dX1_isNeededNow_1 : decode cX1_isNeededNow 1 = .ok (.getfield 84, 3) := dk_180 0 84 (dk_at dksX1_isNeededNow_0 1 rfl rfl)
theorem dX1_isNeededNow_4 : decode cX1_isNeededNow 4 = .ok (.getfield 117, 3) := dk_180 0 117 (dk_at dksX1_isNeededNow_0 4 rfl rfl)
theorem dX1_isNeededNow_7 : decode cX1_isNeededNow 7 = .ok (.iload_n 1, 1) := dk_27 (dk_at dksX1_isNeededNow_0 7 rfl rfl)
theorem dX1_isNeededNow_8 : decode cX1_isNeededNow 8 = .ok (.invokeinterface 126 2, 5) := by decide +kernel
theorem dX1_isNeededNow_13 : decode cX1_isNeededNow 13 = .ok (.checkcast 130, 3) := dk_192 0 130 (dk_at dksX1_isNeededNow_0 13 rfl rfl)
theorem dX1_isNeededNow_16 : decode cX1_isNeededNow 16 = .ok (.getfield 261, 3) := dk_180 1 5 (dk_at dksX1_isNeededNow_0 16 rfl rfl)
theorem dX1_isNeededNow_19 : decode cX1_isNeededNow 19 = .ok (.ifCond .ne 32, 3) := dk_154 0 32 (dk_at dksX1_isNeededNow_0 19 rfl rfl)
theorem dX1_isNeededNow_22 : decode cX1_isNeededNow 22 = .ok (.aload_n 0, 1) := dk_42 (dk_at dksX1_isNeededNow_0 22 rfl rfl)
theorem dX1_isNeededNow_23 : decode cX1_isNeededNow 23 = .ok (.getfield 84, 3) := dk_180 0 84 (dk_at dksX1_isNeededNow_1 0 rfl rfl)
theorem dX1_isNeededNow_26 : decode cX1_isNeededNow 26 = .ok (.aload_n 0, 1) := dk_42 (dk_at dksX1_isNeededNow_1 3 rfl rfl)
theorem dX1_isNeededNow_27 : decode cX1_isNeededNow 27 = .ok (.getfield 163, 3) := dk_180 0 163 (dk_at dksX1_isNeededNow_1 4 rfl rfl)
theorem dX1_isNeededNow_30 : decode cX1_isNeededNow 30 = .ok (.iconst 1, 1) := dk_4 (dk_at dksX1_isNeededNow_1 7 rfl rfl)
theorem dX1_isNeededNow_31 : decode cX1_isNeededNow 31 = .ok (.iload_n 1, 1) := dk_27 (dk_at dksX1_isNeededNow_1 8 rfl rfl)
theorem dX1_isNeededNow_32 : decode cX1_isNeededNow 32 = .ok (.ishl, 1) := dk_120 (dk_at dksX1_isNeededNow_1 9 rfl rfl)
theorem dX1_isNeededNow_33 : decode cX1_isNeededNow 33 = .ok (.iconst (-1), 1) := dk_2 (dk_at dksX1_isNeededNow_1 10 rfl rfl)
theorem dX1_isNeededNow_34 : decode cX1_isNeededNow 34 = .ok (.invokevirtual 96, 3) := dk_182 0 96 (dk_at dksX1_isNeededNow_1 11 rfl rfl)
theorem dX1_isNeededNow_37 : decode cX1_isNeededNow 37 = .ok (.aload_n 0, 1) := dk_42 (dk_at dksX1_isNeededNow_1 14 rfl rfl)
theorem dX1_isNeededNow_38 : decode cX1_isNeededNow 38 = .ok (.getfield 92, 3) := dk_180 0 92 (dk_at dksX1_isNeededNow_1 15 rfl rfl)
theorem dX1_isNeededNow_41 : decode cX1_isNeededNow 41 = .ok (.invokevirtual 265, 3) := dk_182 1 9 (dk_at dksX1_isNeededNow_1 18 rfl rfl)
theorem dX1_isNeededNow_44 : decode cX1_isNeededNow 44 = .ok (.ifCond .ne 7, 3) := dk_154 0 7 (dk_at dksX1_isNeededNow_1 21 rfl rfl)
theorem dX1_isNeededNow_47 : decode cX1_isNeededNow 47 = .ok (.iconst 1, 1) := dk_4 (dk_at dksX1_isNeededNow_2 0 rfl rfl)
theorem dX1_isNeededNow_48 : decode cX1_isNeededNow 48 = .ok (.goto 4, 3) := dk_167 0 4 (dk_at dksX1_isNeededNow_2 1 rfl rfl)
theorem dX1_isNeededNow_51 : decode cX1_isNeededNow 51 = .ok (.iconst 0, 1) := dk_3 (dk_at dksX1_isNeededNow_2 4 rfl rfl)
theorem dX1_isNeededNow_52 : decode cX1_isNeededNow 52 = .ok (.ireturn, 1) := dk_172 (dk_at dksX1_isNeededNow_2 5 rfl rfl)
abbrev cX1_loose : ByteArray := prog_1_method_43_code
def yX1_loose : MethodName := ⟨RX1, "loose", "()I"⟩
def dkwX1_loose_1 : List UInt8 := [182, 1, 17, 153, 0, 7, 3, 167, 0, 6, 4, 29, 120, 128, 61, 132, 3, 1, 167, 255, 224, 28, 172]
abbrev dktX1_loose_1 : List UInt8 := dkwX1_loose_1 ++ []
def dkwX1_loose_0 : List UInt8 := [42, 182, 0, 132, 76, 3, 61, 3, 62, 29, 42, 180, 0, 84, 182, 0, 13, 162, 0, 27, 28, 43, 29]
abbrev dktX1_loose_0 : List UInt8 := dkwX1_loose_0 ++ dktX1_loose_1
theorem dksX1_loose_0 : cX1_loose.data.toList.drop 0 = dktX1_loose_0 := by decide +kernel
theorem dksX1_loose_1 : cX1_loose.data.toList.drop 23 = dktX1_loose_1 := dk_seg dksX1_loose_0 23 rfl rfl
theorem dX1_loose_0 : decode cX1_loose 0 = .ok (.aload_n 0, 1) := dk_42 (dk_at dksX1_loose_0 0 rfl rfl)
theorem dX1_loose_1 : decode cX1_loose 1 = .ok (.invokevirtual 132, 3) := dk_182 0 132 (dk_at dksX1_loose_0 1 rfl rfl)
theorem dX1_loose_4 : decode cX1_loose 4 = .ok (.astore_n 1, 1) := dk_76 (dk_at dksX1_loose_0 4 rfl rfl)
theorem dX1_loose_5 : decode cX1_loose 5 = .ok (.iconst 0, 1) := dk_3 (dk_at dksX1_loose_0 5 rfl rfl)
theorem dX1_loose_6 : decode cX1_loose 6 = .ok (.istore_n 2, 1) := dk_61 (dk_at dksX1_loose_0 6 rfl rfl)
theorem dX1_loose_7 : decode cX1_loose 7 = .ok (.iconst 0, 1) := dk_3 (dk_at dksX1_loose_0 7 rfl rfl)
theorem dX1_loose_8 : decode cX1_loose 8 = .ok (.istore_n 3, 1) := dk_62 (dk_at dksX1_loose_0 8 rfl rfl)
theorem dX1_loose_9 : decode cX1_loose 9 = .ok (.iload_n 3, 1) := dk_29 (dk_at dksX1_loose_0 9 rfl rfl)
theorem dX1_loose_10 : decode cX1_loose 10 = .ok (.aload_n 0, 1) := dk_42 (dk_at dksX1_loose_0 10 rfl rfl)
theorem dX1_loose_11 : decode cX1_loose 11 = .ok (.getfield 84, 3) := dk_180 0 84 (dk_at dksX1_loose_0 11 rfl rfl)
theorem dX1_loose_14 : decode cX1_loose 14 = .ok (.invokevirtual 13, 3) := dk_182 0 13 (dk_at dksX1_loose_0 14 rfl rfl)
theorem dX1_loose_17 : decode cX1_loose 17 = .ok (.if_icmp .ge 27, 3) := dk_162 0 27 (dk_at dksX1_loose_0 17 rfl rfl)
theorem dX1_loose_20 : decode cX1_loose 20 = .ok (.iload_n 2, 1) := dk_28 (dk_at dksX1_loose_0 20 rfl rfl)
theorem dX1_loose_21 : decode cX1_loose 21 = .ok (.aload_n 1, 1) := dk_43 (dk_at dksX1_loose_0 21 rfl rfl)
theorem dX1_loose_22 : decode cX1_loose 22 = .ok (.iload_n 3, 1) := dk_29 (dk_at dksX1_loose_0 22 rfl rfl)
theorem dX1_loose_23 : decode cX1_loose 23 = .ok (.invokevirtual 273, 3) := dk_182 1 17 (dk_at dksX1_loose_1 0 rfl rfl)
theorem dX1_loose_26 : decode cX1_loose 26 = .ok (.ifCond .eq 7, 3) := dk_153 0 7 (dk_at dksX1_loose_1 3 rfl rfl)
theorem dX1_loose_29 : decode cX1_loose 29 = .ok (.iconst 0, 1) := dk_3 (dk_at dksX1_loose_1 6 rfl rfl)
theorem dX1_loose_30 : decode cX1_loose 30 = .ok (.goto 6, 3) := dk_167 0 6 (dk_at dksX1_loose_1 7 rfl rfl)
theorem dX1_loose_33 : decode cX1_loose 33 = .ok (.iconst 1, 1) := dk_4 (dk_at dksX1_loose_1 10 rfl rfl)
theorem dX1_loose_34 : decode cX1_loose 34 = .ok (.iload_n 3, 1) := dk_29 (dk_at dksX1_loose_1 11 rfl rfl)
theorem dX1_loose_35 : decode cX1_loose 35 = .ok (.ishl, 1) := dk_120 (dk_at dksX1_loose_1 12 rfl rfl)
theorem dX1_loose_36 : decode cX1_loose 36 = .ok (.ior, 1) := dk_128 (dk_at dksX1_loose_1 13 rfl rfl)
theorem dX1_loose_37 : decode cX1_loose 37 = .ok (.istore_n 2, 1) := dk_61 (dk_at dksX1_loose_1 14 rfl rfl)
theorem dX1_loose_38 : decode cX1_loose 38 = .ok (.iinc 3 1, 3) := dk_132 3 1 (dk_at dksX1_loose_1 15 rfl rfl)
theorem dX1_loose_41 : decode cX1_loose 41 = .ok (.goto (-32), 3) := dk_167 255 224 (dk_at dksX1_loose_1 18 rfl rfl)
theorem dX1_loose_44 : decode cX1_loose 44 = .ok (.iload_n 2, 1) := dk_28 (dk_at dksX1_loose_1 21 rfl rfl)
theorem dX1_loose_45 : decode cX1_loose 45 = .ok (.ireturn, 1) := dk_172 (dk_at dksX1_loose_1 22 rfl rfl)
abbrev cX1_critical : ByteArray := prog_1_method_44_code
def yX1_critical : MethodName := ⟨RX1, "critical", "()I"⟩
def dkwX1_critical_1 : List UInt8 := [182, 0, 237, 154, 0, 9, 4, 29, 120, 167, 0, 4, 3, 128, 61, 132, 3, 1, 167, 255, 224, 28, 172]
abbrev dktX1_critical_1 : List UInt8 := dkwX1_critical_1 ++ []
def dkwX1_critical_0 : List UInt8 := [42, 182, 0, 132, 76, 3, 61, 3, 62, 29, 42, 180, 0, 84, 182, 0, 13, 162, 0, 27, 28, 43, 29]
abbrev dktX1_critical_0 : List UInt8 := dkwX1_critical_0 ++ dktX1_critical_1
theorem dksX1_critical_0 : cX1_critical.data.toList.drop 0 = dktX1_critical_0 := by decide +kernel
theorem dksX1_critical_1 : cX1_critical.data.toList.drop 23 = dktX1_critical_1 := dk_seg dksX1_critical_0 23 rfl rfl
theorem dX1_critical_0 : decode cX1_critical 0 = .ok (.aload_n 0, 1) := dk_42 (dk_at dksX1_critical_0 0 rfl rfl)
theorem dX1_critical_1 : decode cX1_critical 1 = .ok (.invokevirtual 132, 3) := dk_182 0 132 (dk_at dksX1_critical_0 1 rfl rfl)
theorem dX1_critical_4 : decode cX1_critical 4 = .ok (.astore_n 1, 1) := dk_76 (dk_at dksX1_critical_0 4 rfl rfl)
theorem dX1_critical_5 : decode cX1_critical 5 = .ok (.iconst 0, 1) := dk_3 (dk_at dksX1_critical_0 5 rfl rfl)
theorem dX1_critical_6 : decode cX1_critical 6 = .ok (.istore_n 2, 1) := dk_61 (dk_at dksX1_critical_0 6 rfl rfl)
theorem dX1_critical_7 : decode cX1_critical 7 = .ok (.iconst 0, 1) := dk_3 (dk_at dksX1_critical_0 7 rfl rfl)
theorem dX1_critical_8 : decode cX1_critical 8 = .ok (.istore_n 3, 1) := dk_62 (dk_at dksX1_critical_0 8 rfl rfl)
theorem dX1_critical_9 : decode cX1_critical 9 = .ok (.iload_n 3, 1) := dk_29 (dk_at dksX1_critical_0 9 rfl rfl)
theorem dX1_critical_10 : decode cX1_critical 10 = .ok (.aload_n 0, 1) := dk_42 (dk_at dksX1_critical_0 10 rfl rfl)
theorem dX1_critical_11 : decode cX1_critical 11 = .ok (.getfield 84, 3) := dk_180 0 84 (dk_at dksX1_critical_0 11 rfl rfl)
theorem dX1_critical_14 : decode cX1_critical 14 = .ok (.invokevirtual 13, 3) := dk_182 0 13 (dk_at dksX1_critical_0 14 rfl rfl)
theorem dX1_critical_17 : decode cX1_critical 17 = .ok (.if_icmp .ge 27, 3) := dk_162 0 27 (dk_at dksX1_critical_0 17 rfl rfl)
theorem dX1_critical_20 : decode cX1_critical 20 = .ok (.iload_n 2, 1) := dk_28 (dk_at dksX1_critical_0 20 rfl rfl)
theorem dX1_critical_21 : decode cX1_critical 21 = .ok (.aload_n 1, 1) := dk_43 (dk_at dksX1_critical_0 21 rfl rfl)
theorem dX1_critical_22 : decode cX1_critical 22 = .ok (.iload_n 3, 1) := dk_29 (dk_at dksX1_critical_0 22 rfl rfl)
theorem dX1_critical_23 : decode cX1_critical 23 = .ok (.invokevirtual 237, 3) := dk_182 0 237 (dk_at dksX1_critical_1 0 rfl rfl)
theorem dX1_critical_26 : decode cX1_critical 26 = .ok (.ifCond .ne 9, 3) := dk_154 0 9 (dk_at dksX1_critical_1 3 rfl rfl)
theorem dX1_critical_29 : decode cX1_critical 29 = .ok (.iconst 1, 1) := dk_4 (dk_at dksX1_critical_1 6 rfl rfl)
theorem dX1_critical_30 : decode cX1_critical 30 = .ok (.iload_n 3, 1) := dk_29 (dk_at dksX1_critical_1 7 rfl rfl)
theorem dX1_critical_31 : decode cX1_critical 31 = .ok (.ishl, 1) := dk_120 (dk_at dksX1_critical_1 8 rfl rfl)
theorem dX1_critical_32 : decode cX1_critical 32 = .ok (.goto 4, 3) := dk_167 0 4 (dk_at dksX1_critical_1 9 rfl rfl)
theorem dX1_critical_35 : decode cX1_critical 35 = .ok (.iconst 0, 1) := dk_3 (dk_at dksX1_critical_1 12 rfl rfl)
theorem dX1_critical_36 : decode cX1_critical 36 = .ok (.ior, 1) := dk_128 (dk_at dksX1_critical_1 13 rfl rfl)
theorem dX1_critical_37 : decode cX1_critical 37 = .ok (.istore_n 2, 1) := dk_61 (dk_at dksX1_critical_1 14 rfl rfl)
theorem dX1_critical_38 : decode cX1_critical 38 = .ok (.iinc 3 1, 3) := dk_132 3 1 (dk_at dksX1_critical_1 15 rfl rfl)
theorem dX1_critical_41 : decode cX1_critical 41 = .ok (.goto (-32), 3) := dk_167 255 224 (dk_at dksX1_critical_1 18 rfl rfl)
theorem dX1_critical_44 : decode cX1_critical 44 = .ok (.iload_n 2, 1) := dk_28 (dk_at dksX1_critical_1 21 rfl rfl)
theorem dX1_critical_45 : decode cX1_critical 45 = .ok (.ireturn, 1) := dk_172 (dk_at dksX1_critical_1 22 rfl rfl)
abbrev cX1_mustPrecede : ByteArray := prog_1_method_45_code
def yX1_mustPrecede : MethodName := ⟨RX1, "mustPrecede", "(II)Z"⟩
def dkwX1_mustPrecede_0 : List UInt8 := [42, 27, 28, 182, 0, 224, 28, 27, 182, 0, 227, 62, 29, 157, 0, 7, 4, 167, 0, 4, 3, 172]
abbrev dktX1_mustPrecede_0 : List UInt8 := dkwX1_mustPrecede_0 ++ []
theorem dksX1_mustPrecede_0 : cX1_mustPrecede.data.toList.drop 0 = dktX1_mustPrecede_0 := by decide +kernel
theorem dX1_mustPrecede_0 : decode cX1_mustPrecede 0 = .ok (.aload_n 0, 1) := dk_42 (dk_at dksX1_mustPrecede_0 0 rfl rfl)
theorem dX1_mustPrecede_1 : decode cX1_mustPrecede 1 = .ok (.iload_n 1, 1) := dk_27 (dk_at dksX1_mustPrecede_0 1 rfl rfl)
theorem dX1_mustPrecede_2 : decode cX1_mustPrecede 2 = .ok (.iload_n 2, 1) := dk_28 (dk_at dksX1_mustPrecede_0 2 rfl rfl)
theorem dX1_mustPrecede_3 : decode cX1_mustPrecede 3 = .ok (.invokevirtual 224, 3) := dk_182 0 224 (dk_at dksX1_mustPrecede_0 3 rfl rfl)
theorem dX1_mustPrecede_6 : decode cX1_mustPrecede 6 = .ok (.iload_n 2, 1) := dk_28 (dk_at dksX1_mustPrecede_0 6 rfl rfl)
theorem dX1_mustPrecede_7 : decode cX1_mustPrecede 7 = .ok (.iload_n 1, 1) := dk_27 (dk_at dksX1_mustPrecede_0 7 rfl rfl)
theorem dX1_mustPrecede_8 : decode cX1_mustPrecede 8 = .ok (.invokevirtual 227, 3) := dk_182 0 227 (dk_at dksX1_mustPrecede_0 8 rfl rfl)
theorem dX1_mustPrecede_11 : decode cX1_mustPrecede 11 = .ok (.istore_n 3, 1) := dk_62 (dk_at dksX1_mustPrecede_0 11 rfl rfl)
theorem dX1_mustPrecede_12 : decode cX1_mustPrecede 12 = .ok (.iload_n 3, 1) := dk_29 (dk_at dksX1_mustPrecede_0 12 rfl rfl)
theorem dX1_mustPrecede_13 : decode cX1_mustPrecede 13 = .ok (.ifCond .gt 7, 3) := dk_157 0 7 (dk_at dksX1_mustPrecede_0 13 rfl rfl)
theorem dX1_mustPrecede_16 : decode cX1_mustPrecede 16 = .ok (.iconst 1, 1) := dk_4 (dk_at dksX1_mustPrecede_0 16 rfl rfl)
theorem dX1_mustPrecede_17 : decode cX1_mustPrecede 17 = .ok (.goto 4, 3) := dk_167 0 4 (dk_at dksX1_mustPrecede_0 17 rfl rfl)
theorem dX1_mustPrecede_20 : decode cX1_mustPrecede 20 = .ok (.iconst 0, 1) := dk_3 (dk_at dksX1_mustPrecede_0 20 rfl rfl)
theorem dX1_mustPrecede_21 : decode cX1_mustPrecede 21 = .ok (.ireturn, 1) := dk_172 (dk_at dksX1_mustPrecede_0 21 rfl rfl)
abbrev cX1_canMeet : ByteArray := prog_1_method_46_code
def yX1_canMeet : MethodName := ⟨RX1, "canMeet", "(II)Z"⟩
def dkwX1_canMeet_1 : List UInt8 := [155, 0, 7, 4, 167, 0, 4, 3, 172]
abbrev dktX1_canMeet_1 : List UInt8 := dkwX1_canMeet_1 ++ []
def dkwX1_canMeet_0 : List UInt8 := [42, 27, 28, 182, 0, 224, 78, 45, 28, 27, 182, 0, 227, 155, 0, 16, 45, 27, 28, 182, 0, 227]
abbrev dktX1_canMeet_0 : List UInt8 := dkwX1_canMeet_0 ++ dktX1_canMeet_1
theorem dksX1_canMeet_0 : cX1_canMeet.data.toList.drop 0 = dktX1_canMeet_0 := by decide +kernel
theorem dksX1_canMeet_1 : cX1_canMeet.data.toList.drop 22 = dktX1_canMeet_1 := dk_seg dksX1_canMeet_0 22 rfl rfl
theorem dX1_canMeet_0 : decode cX1_canMeet 0 = .ok (.aload_n 0, 1) := dk_42 (dk_at dksX1_canMeet_0 0 rfl rfl)
theorem dX1_canMeet_1 : decode cX1_canMeet 1 = .ok (.iload_n 1, 1) := dk_27 (dk_at dksX1_canMeet_0 1 rfl rfl)
theorem dX1_canMeet_2 : decode cX1_canMeet 2 = .ok (.iload_n 2, 1) := dk_28 (dk_at dksX1_canMeet_0 2 rfl rfl)
theorem dX1_canMeet_3 : decode cX1_canMeet 3 = .ok (.invokevirtual 224, 3) := dk_182 0 224 (dk_at dksX1_canMeet_0 3 rfl rfl)
theorem dX1_canMeet_6 : decode cX1_canMeet 6 = .ok (.astore_n 3, 1) := dk_78 (dk_at dksX1_canMeet_0 6 rfl rfl)
theorem dX1_canMeet_7 : decode cX1_canMeet 7 = .ok (.aload_n 3, 1) := dk_45 (dk_at dksX1_canMeet_0 7 rfl rfl)
theorem dX1_canMeet_8 : decode cX1_canMeet 8 = .ok (.iload_n 2, 1) := dk_28 (dk_at dksX1_canMeet_0 8 rfl rfl)
theorem dX1_canMeet_9 : decode cX1_canMeet 9 = .ok (.iload_n 1, 1) := dk_27 (dk_at dksX1_canMeet_0 9 rfl rfl)
theorem dX1_canMeet_10 : decode cX1_canMeet 10 = .ok (.invokevirtual 227, 3) := dk_182 0 227 (dk_at dksX1_canMeet_0 10 rfl rfl)
theorem dX1_canMeet_13 : decode cX1_canMeet 13 = .ok (.ifCond .lt 16, 3) := dk_155 0 16 (dk_at dksX1_canMeet_0 13 rfl rfl)
theorem dX1_canMeet_16 : decode cX1_canMeet 16 = .ok (.aload_n 3, 1) := dk_45 (dk_at dksX1_canMeet_0 16 rfl rfl)
theorem dX1_canMeet_17 : decode cX1_canMeet 17 = .ok (.iload_n 1, 1) := dk_27 (dk_at dksX1_canMeet_0 17 rfl rfl)
theorem dX1_canMeet_18 : decode cX1_canMeet 18 = .ok (.iload_n 2, 1) := dk_28 (dk_at dksX1_canMeet_0 18 rfl rfl)
theorem dX1_canMeet_19 : decode cX1_canMeet 19 = .ok (.invokevirtual 227, 3) := dk_182 0 227 (dk_at dksX1_canMeet_0 19 rfl rfl)
theorem dX1_canMeet_22 : decode cX1_canMeet 22 = .ok (.ifCond .lt 7, 3) := dk_155 0 7 (dk_at dksX1_canMeet_1 0 rfl rfl)
theorem dX1_canMeet_25 : decode cX1_canMeet 25 = .ok (.iconst 1, 1) := dk_4 (dk_at dksX1_canMeet_1 3 rfl rfl)
theorem dX1_canMeet_26 : decode cX1_canMeet 26 = .ok (.goto 4, 3) := dk_167 0 4 (dk_at dksX1_canMeet_1 4 rfl rfl)
theorem dX1_canMeet_29 : decode cX1_canMeet 29 = .ok (.iconst 0, 1) := dk_3 (dk_at dksX1_canMeet_1 7 rfl rfl)
theorem dX1_canMeet_30 : decode cX1_canMeet 30 = .ok (.ireturn, 1) := dk_172 (dk_at dksX1_canMeet_1 8 rfl rfl)
abbrev cX1_part : ByteArray := prog_1_method_47_code
def yX1_part : MethodName := ⟨RX1, "part", "(I)I"⟩
def dkwX1_part_0 : List UInt8 := [42, 27, 182, 0, 181, 27, 182, 1, 20, 172]
abbrev dktX1_part_0 : List UInt8 := dkwX1_part_0 ++ []
theorem dksX1_part_0 : cX1_part.data.toList.drop 0 = dktX1_part_0 := by decide +kernel
theorem dX1_part_0 : decode cX1_part 0 = .ok (.aload_n 0, 1) := dk_42 (dk_at dksX1_part_0 0 rfl rfl)
theorem dX1_part_1 : decode cX1_part 1 = .ok (.iload_n 1, 1) := dk_27 (dk_at dksX1_part_0 1 rfl rfl)
theorem dX1_part_2 : decode cX1_part 2 = .ok (.invokevirtual 181, 3) := dk_182 0 181 (dk_at dksX1_part_0 2 rfl rfl)
theorem dX1_part_5 : decode cX1_part 5 = .ok (.iload_n 1, 1) := dk_27 (dk_at dksX1_part_0 5 rfl rfl)
theorem dX1_part_6 : decode cX1_part 6 = .ok (.invokevirtual 276, 3) := dk_182 1 20 (dk_at dksX1_part_0 6 rfl rfl)
theorem dX1_part_9 : decode cX1_part 9 = .ok (.ireturn, 1) := dk_172 (dk_at dksX1_part_0 9 rfl rfl)
abbrev cX1_parts : ByteArray := prog_1_method_48_code
def yX1_parts : MethodName := ⟨RX1, "parts", "()I"⟩
def dkwX1_parts_2 : List UInt8 := [167, 255, 217, 28, 172]
abbrev dktX1_parts_2 : List UInt8 := dkwX1_parts_2 ++ []
def dkwX1_parts_1 : List UInt8 := [153, 0, 6, 167, 0, 17, 27, 42, 180, 0, 84, 29, 182, 1, 20, 128, 60, 132, 2, 1, 132, 3, 1]
abbrev dktX1_parts_1 : List UInt8 := dkwX1_parts_1 ++ dktX1_parts_2
def dkwX1_parts_0 : List UInt8 := [3, 60, 3, 61, 3, 62, 29, 42, 182, 0, 106, 182, 0, 13, 162, 0, 34, 27, 29, 184, 1, 21]
abbrev dktX1_parts_0 : List UInt8 := dkwX1_parts_0 ++ dktX1_parts_1
theorem dksX1_parts_0 : cX1_parts.data.toList.drop 0 = dktX1_parts_0 := by decide +kernel
theorem dksX1_parts_1 : cX1_parts.data.toList.drop 22 = dktX1_parts_1 := dk_seg dksX1_parts_0 22 rfl rfl
theorem dksX1_parts_2 : cX1_parts.data.toList.drop 45 = dktX1_parts_2 := dk_seg dksX1_parts_1 23 rfl rfl
theorem dX1_parts_0 : decode cX1_parts 0 = .ok (.iconst 0, 1) := dk_3 (dk_at dksX1_parts_0 0 rfl rfl)
theorem dX1_parts_1 : decode cX1_parts 1 = .ok (.istore_n 1, 1) := dk_60 (dk_at dksX1_parts_0 1 rfl rfl)
theorem dX1_parts_2 : decode cX1_parts 2 = .ok (.iconst 0, 1) := dk_3 (dk_at dksX1_parts_0 2 rfl rfl)
theorem dX1_parts_3 : decode cX1_parts 3 = .ok (.istore_n 2, 1) := dk_61 (dk_at dksX1_parts_0 3 rfl rfl)
theorem dX1_parts_4 : decode cX1_parts 4 = .ok (.iconst 0, 1) := dk_3 (dk_at dksX1_parts_0 4 rfl rfl)
theorem dX1_parts_5 : decode cX1_parts 5 = .ok (.istore_n 3, 1) := dk_62 (dk_at dksX1_parts_0 5 rfl rfl)
theorem dX1_parts_6 : decode cX1_parts 6 = .ok (.iload_n 3, 1) := dk_29 (dk_at dksX1_parts_0 6 rfl rfl)
theorem dX1_parts_7 : decode cX1_parts 7 = .ok (.aload_n 0, 1) := dk_42 (dk_at dksX1_parts_0 7 rfl rfl)
theorem dX1_parts_8 : decode cX1_parts 8 = .ok (.invokevirtual 106, 3) := dk_182 0 106 (dk_at dksX1_parts_0 8 rfl rfl)
theorem dX1_parts_11 : decode cX1_parts 11 = .ok (.invokevirtual 13, 3) := dk_182 0 13 (dk_at dksX1_parts_0 11 rfl rfl)
theorem dX1_parts_14 : decode cX1_parts 14 = .ok (.if_icmp .ge 34, 3) := dk_162 0 34 (dk_at dksX1_parts_0 14 rfl rfl)
theorem dX1_parts_17 : decode cX1_parts 17 = .ok (.iload_n 1, 1) := dk_27 (dk_at dksX1_parts_0 17 rfl rfl)
theorem dX1_parts_18 : decode cX1_parts 18 = .ok (.iload_n 3, 1) := dk_29 (dk_at dksX1_parts_0 18 rfl rfl)
theorem dX1_parts_19 : decode cX1_parts 19 = .ok (.invokestatic 277, 3) := dk_184 1 21 (dk_at dksX1_parts_0 19 rfl rfl)
theorem dX1_parts_22 : decode cX1_parts 22 = .ok (.ifCond .eq 6, 3) := dk_153 0 6 (dk_at dksX1_parts_1 0 rfl rfl)
theorem dX1_parts_25 : decode cX1_parts 25 = .ok (.goto 17, 3) := dk_167 0 17 (dk_at dksX1_parts_1 3 rfl rfl)
theorem dX1_parts_28 : decode cX1_parts 28 = .ok (.iload_n 1, 1) := dk_27 (dk_at dksX1_parts_1 6 rfl rfl)
theorem dX1_parts_29 : decode cX1_parts 29 = .ok (.aload_n 0, 1) := dk_42 (dk_at dksX1_parts_1 7 rfl rfl)
theorem dX1_parts_30 : decode cX1_parts 30 = .ok (.getfield 84, 3) := dk_180 0 84 (dk_at dksX1_parts_1 8 rfl rfl)
theorem dX1_parts_33 : decode cX1_parts 33 = .ok (.iload_n 3, 1) := dk_29 (dk_at dksX1_parts_1 11 rfl rfl)
theorem dX1_parts_34 : decode cX1_parts 34 = .ok (.invokevirtual 276, 3) := dk_182 1 20 (dk_at dksX1_parts_1 12 rfl rfl)
theorem dX1_parts_37 : decode cX1_parts 37 = .ok (.ior, 1) := dk_128 (dk_at dksX1_parts_1 15 rfl rfl)
theorem dX1_parts_38 : decode cX1_parts 38 = .ok (.istore_n 1, 1) := dk_60 (dk_at dksX1_parts_1 16 rfl rfl)
theorem dX1_parts_39 : decode cX1_parts 39 = .ok (.iinc 2 1, 3) := dk_132 2 1 (dk_at dksX1_parts_1 17 rfl rfl)
theorem dX1_parts_42 : decode cX1_parts 42 = .ok (.iinc 3 1, 3) := dk_132 3 1 (dk_at dksX1_parts_1 20 rfl rfl)
theorem dX1_parts_45 : decode cX1_parts 45 = .ok (.goto (-39), 3) := dk_167 255 217 (dk_at dksX1_parts_2 0 rfl rfl)
theorem dX1_parts_48 : decode cX1_parts 48 = .ok (.iload_n 2, 1) := dk_28 (dk_at dksX1_parts_2 3 rfl rfl)
theorem dX1_parts_49 : decode cX1_parts 49 = .ok (.ireturn, 1) := dk_172 (dk_at dksX1_parts_2 4 rfl rfl)
abbrev cX1_end : ByteArray := prog_1_method_49_code
def yX1_end : MethodName := ⟨RX1, "end", "()I"⟩
def dkwX1_end_1 : List UInt8 := [182, 0, 228, 184, 1, 25, 61, 132, 3, 1, 167, 255, 232, 28, 172]
abbrev dktX1_end_1 : List UInt8 := dkwX1_end_1 ++ []
def dkwX1_end_0 : List UInt8 := [42, 182, 0, 132, 76, 3, 61, 3, 62, 29, 42, 180, 0, 84, 182, 0, 13, 162, 0, 19, 28, 43, 29]
abbrev dktX1_end_0 : List UInt8 := dkwX1_end_0 ++ dktX1_end_1
theorem dksX1_end_0 : cX1_end.data.toList.drop 0 = dktX1_end_0 := by decide +kernel
theorem dksX1_end_1 : cX1_end.data.toList.drop 23 = dktX1_end_1 := dk_seg dksX1_end_0 23 rfl rfl
theorem dX1_end_0 : decode cX1_end 0 = .ok (.aload_n 0, 1) := dk_42 (dk_at dksX1_end_0 0 rfl rfl)
theorem dX1_end_1 : decode cX1_end 1 = .ok (.invokevirtual 132, 3) := dk_182 0 132 (dk_at dksX1_end_0 1 rfl rfl)
theorem dX1_end_4 : decode cX1_end 4 = .ok (.astore_n 1, 1) := dk_76 (dk_at dksX1_end_0 4 rfl rfl)
theorem dX1_end_5 : decode cX1_end 5 = .ok (.iconst 0, 1) := dk_3 (dk_at dksX1_end_0 5 rfl rfl)
theorem dX1_end_6 : decode cX1_end 6 = .ok (.istore_n 2, 1) := dk_61 (dk_at dksX1_end_0 6 rfl rfl)
theorem dX1_end_7 : decode cX1_end 7 = .ok (.iconst 0, 1) := dk_3 (dk_at dksX1_end_0 7 rfl rfl)
theorem dX1_end_8 : decode cX1_end 8 = .ok (.istore_n 3, 1) := dk_62 (dk_at dksX1_end_0 8 rfl rfl)
theorem dX1_end_9 : decode cX1_end 9 = .ok (.iload_n 3, 1) := dk_29 (dk_at dksX1_end_0 9 rfl rfl)
theorem dX1_end_10 : decode cX1_end 10 = .ok (.aload_n 0, 1) := dk_42 (dk_at dksX1_end_0 10 rfl rfl)
theorem dX1_end_11 : decode cX1_end 11 = .ok (.getfield 84, 3) := dk_180 0 84 (dk_at dksX1_end_0 11 rfl rfl)
theorem dX1_end_14 : decode cX1_end 14 = .ok (.invokevirtual 13, 3) := dk_182 0 13 (dk_at dksX1_end_0 14 rfl rfl)
theorem dX1_end_17 : decode cX1_end 17 = .ok (.if_icmp .ge 19, 3) := dk_162 0 19 (dk_at dksX1_end_0 17 rfl rfl)
theorem dX1_end_20 : decode cX1_end 20 = .ok (.iload_n 2, 1) := dk_28 (dk_at dksX1_end_0 20 rfl rfl)
theorem dX1_end_21 : decode cX1_end 21 = .ok (.aload_n 1, 1) := dk_43 (dk_at dksX1_end_0 21 rfl rfl)
theorem dX1_end_22 : decode cX1_end 22 = .ok (.iload_n 3, 1) := dk_29 (dk_at dksX1_end_0 22 rfl rfl)
theorem dX1_end_23 : decode cX1_end 23 = .ok (.invokevirtual 228, 3) := dk_182 0 228 (dk_at dksX1_end_1 0 rfl rfl)
theorem dX1_end_26 : decode cX1_end 26 = .ok (.invokestatic 281, 3) := dk_184 1 25 (dk_at dksX1_end_1 3 rfl rfl)
theorem dX1_end_29 : decode cX1_end 29 = .ok (.istore_n 2, 1) := dk_61 (dk_at dksX1_end_1 6 rfl rfl)
theorem dX1_end_30 : decode cX1_end 30 = .ok (.iinc 3 1, 3) := dk_132 3 1 (dk_at dksX1_end_1 7 rfl rfl)
theorem dX1_end_33 : decode cX1_end 33 = .ok (.goto (-24), 3) := dk_167 255 232 (dk_at dksX1_end_1 10 rfl rfl)
theorem dX1_end_36 : decode cX1_end 36 = .ok (.iload_n 2, 1) := dk_28 (dk_at dksX1_end_1 13 rfl rfl)
theorem dX1_end_37 : decode cX1_end 37 = .ok (.ireturn, 1) := dk_172 (dk_at dksX1_end_1 14 rfl rfl)
abbrev cX1_meanSlack : ByteArray := prog_1_method_50_code
def yX1_meanSlack : MethodName := ⟨RX1, "meanSlack", "()D"⟩
def dkwX1_meanSlack_2 : List UInt8 := [132, 4, 1, 167, 255, 217, 28, 135, 29, 135, 111, 175]
abbrev dktX1_meanSlack_2 : List UInt8 := dkwX1_meanSlack_2 ++ []
def dkwX1_meanSlack_1 : List UInt8 := [43, 21, 4, 182, 1, 17, 154, 0, 6, 167, 0, 15, 28, 43, 21, 4, 182, 0, 237, 96, 61, 132, 3, 1]
abbrev dktX1_meanSlack_1 : List UInt8 := dkwX1_meanSlack_1 ++ dktX1_meanSlack_2
def dkwX1_meanSlack_0 : List UInt8 := [42, 182, 0, 132, 76, 3, 61, 3, 62, 3, 54, 4, 21, 4, 42, 180, 0, 84, 182, 0, 13, 162, 0, 33]
abbrev dktX1_meanSlack_0 : List UInt8 := dkwX1_meanSlack_0 ++ dktX1_meanSlack_1
theorem dksX1_meanSlack_0 : cX1_meanSlack.data.toList.drop 0 = dktX1_meanSlack_0 := by decide +kernel
theorem dksX1_meanSlack_1 : cX1_meanSlack.data.toList.drop 24 = dktX1_meanSlack_1 := dk_seg dksX1_meanSlack_0 24 rfl rfl
theorem dksX1_meanSlack_2 : cX1_meanSlack.data.toList.drop 48 = dktX1_meanSlack_2 := dk_seg dksX1_meanSlack_1 24 rfl rfl
theorem dX1_meanSlack_0 : decode cX1_meanSlack 0 = .ok (.aload_n 0, 1) := dk_42 (dk_at dksX1_meanSlack_0 0 rfl rfl)
theorem dX1_meanSlack_1 : decode cX1_meanSlack 1 = .ok (.invokevirtual 132, 3) := dk_182 0 132 (dk_at dksX1_meanSlack_0 1 rfl rfl)
theorem dX1_meanSlack_4 : decode cX1_meanSlack 4 = .ok (.astore_n 1, 1) := dk_76 (dk_at dksX1_meanSlack_0 4 rfl rfl)
theorem dX1_meanSlack_5 : decode cX1_meanSlack 5 = .ok (.iconst 0, 1) := dk_3 (dk_at dksX1_meanSlack_0 5 rfl rfl)
theorem dX1_meanSlack_6 : decode cX1_meanSlack 6 = .ok (.istore_n 2, 1) := dk_61 (dk_at dksX1_meanSlack_0 6 rfl rfl)
theorem dX1_meanSlack_7 : decode cX1_meanSlack 7 = .ok (.iconst 0, 1) := dk_3 (dk_at dksX1_meanSlack_0 7 rfl rfl)
theorem dX1_meanSlack_8 : decode cX1_meanSlack 8 = .ok (.istore_n 3, 1) := dk_62 (dk_at dksX1_meanSlack_0 8 rfl rfl)
theorem dX1_meanSlack_9 : decode cX1_meanSlack 9 = .ok (.iconst 0, 1) := dk_3 (dk_at dksX1_meanSlack_0 9 rfl rfl)
theorem dX1_meanSlack_10 : decode cX1_meanSlack 10 = .ok (.istore 4, 2) := dk_54 4 (dk_at dksX1_meanSlack_0 10 rfl rfl)
theorem dX1_meanSlack_12 : decode cX1_meanSlack 12 = .ok (.iload 4, 2) := dk_21 4 (dk_at dksX1_meanSlack_0 12 rfl rfl)
theorem dX1_meanSlack_14 : decode cX1_meanSlack 14 = .ok (.aload_n 0, 1) := dk_42 (dk_at dksX1_meanSlack_0 14 rfl rfl)
theorem dX1_meanSlack_15 : decode cX1_meanSlack 15 = .ok (.getfield 84, 3) := dk_180 0 84 (dk_at dksX1_meanSlack_0 15 rfl rfl)
theorem dX1_meanSlack_18 : decode cX1_meanSlack 18 = .ok (.invokevirtual 13, 3) := dk_182 0 13 (dk_at dksX1_meanSlack_0 18 rfl rfl)
theorem dX1_meanSlack_21 : decode cX1_meanSlack 21 = .ok (.if_icmp .ge 33, 3) := dk_162 0 33 (dk_at dksX1_meanSlack_0 21 rfl rfl)
theorem dX1_meanSlack_24 : decode cX1_meanSlack 24 = .ok (.aload_n 1, 1) := dk_43 (dk_at dksX1_meanSlack_1 0 rfl rfl)
theorem dX1_meanSlack_25 : decode cX1_meanSlack 25 = .ok (.iload 4, 2) := dk_21 4 (dk_at dksX1_meanSlack_1 1 rfl rfl)
theorem dX1_meanSlack_27 : decode cX1_meanSlack 27 = .ok (.invokevirtual 273, 3) := dk_182 1 17 (dk_at dksX1_meanSlack_1 3 rfl rfl)
theorem dX1_meanSlack_30 : decode cX1_meanSlack 30 = .ok (.ifCond .ne 6, 3) := dk_154 0 6 (dk_at dksX1_meanSlack_1 6 rfl rfl)
theorem dX1_meanSlack_33 : decode cX1_meanSlack 33 = .ok (.goto 15, 3) := dk_167 0 15 (dk_at dksX1_meanSlack_1 9 rfl rfl)
theorem dX1_meanSlack_36 : decode cX1_meanSlack 36 = .ok (.iload_n 2, 1) := dk_28 (dk_at dksX1_meanSlack_1 12 rfl rfl)
theorem dX1_meanSlack_37 : decode cX1_meanSlack 37 = .ok (.aload_n 1, 1) := dk_43 (dk_at dksX1_meanSlack_1 13 rfl rfl)
theorem dX1_meanSlack_38 : decode cX1_meanSlack 38 = .ok (.iload 4, 2) := dk_21 4 (dk_at dksX1_meanSlack_1 14 rfl rfl)
theorem dX1_meanSlack_40 : decode cX1_meanSlack 40 = .ok (.invokevirtual 237, 3) := dk_182 0 237 (dk_at dksX1_meanSlack_1 16 rfl rfl)
theorem dX1_meanSlack_43 : decode cX1_meanSlack 43 = .ok (.iadd, 1) := dk_96 (dk_at dksX1_meanSlack_1 19 rfl rfl)
theorem dX1_meanSlack_44 : decode cX1_meanSlack 44 = .ok (.istore_n 2, 1) := dk_61 (dk_at dksX1_meanSlack_1 20 rfl rfl)
theorem dX1_meanSlack_45 : decode cX1_meanSlack 45 = .ok (.iinc 3 1, 3) := dk_132 3 1 (dk_at dksX1_meanSlack_1 21 rfl rfl)
theorem dX1_meanSlack_48 : decode cX1_meanSlack 48 = .ok (.iinc 4 1, 3) := dk_132 4 1 (dk_at dksX1_meanSlack_2 0 rfl rfl)
theorem dX1_meanSlack_51 : decode cX1_meanSlack 51 = .ok (.goto (-39), 3) := dk_167 255 217 (dk_at dksX1_meanSlack_2 3 rfl rfl)
theorem dX1_meanSlack_54 : decode cX1_meanSlack 54 = .ok (.iload_n 2, 1) := dk_28 (dk_at dksX1_meanSlack_2 6 rfl rfl)
theorem dX1_meanSlack_55 : decode cX1_meanSlack 55 = .ok (.i2d, 1) := dk_135 (dk_at dksX1_meanSlack_2 7 rfl rfl)
theorem dX1_meanSlack_56 : decode cX1_meanSlack 56 = .ok (.iload_n 3, 1) := dk_29 (dk_at dksX1_meanSlack_2 8 rfl rfl)
theorem dX1_meanSlack_57 : decode cX1_meanSlack 57 = .ok (.i2d, 1) := dk_135 (dk_at dksX1_meanSlack_2 9 rfl rfl)
theorem dX1_meanSlack_58 : decode cX1_meanSlack 58 = .ok (.ddiv, 1) := dk_111 (dk_at dksX1_meanSlack_2 10 rfl rfl)
theorem dX1_meanSlack_59 : decode cX1_meanSlack 59 = .ok (.dreturn, 1) := dk_175 (dk_at dksX1_meanSlack_2 11 rfl rfl)
abbrev cX1_neededShare : ByteArray := prog_1_method_51_code
def yX1_neededShare : MethodName := ⟨RX1, "neededShare", "()F"⟩
def dkwX1_neededShare_4 : List UInt8 := [28, 134, 29, 134, 110, 174]
abbrev dktX1_neededShare_4 : List UInt8 := dkwX1_neededShare_4 ++ []
def dkwX1_neededShare_3 : List UInt8 := [153, 0, 7, 4, 167, 0, 4, 3, 96, 61, 132, 4, 1, 167, 255, 188, 29, 154, 0, 7, 11, 167, 0, 8]
abbrev dktX1_neededShare_3 : List UInt8 := dkwX1_neededShare_3 ++ dktX1_neededShare_4
def dkwX1_neededShare_2 : List UInt8 := [192, 0, 130, 180, 1, 5, 153, 0, 7, 3, 167, 0, 4, 4, 96, 62, 28, 42, 21, 4, 182, 1, 13]
abbrev dktX1_neededShare_2 : List UInt8 := dkwX1_neededShare_2 ++ dktX1_neededShare_3
def dkwX1_neededShare_1 : List UInt8 := [185, 0, 121, 1, 0, 162, 0, 57, 29, 42, 180, 0, 84, 180, 0, 117, 21, 4, 185, 0, 126, 2, 0]
abbrev dktX1_neededShare_1 : List UInt8 := dkwX1_neededShare_1 ++ dktX1_neededShare_2
def dkwX1_neededShare_0 : List UInt8 := [42, 182, 0, 132, 76, 3, 61, 3, 62, 3, 54, 4, 21, 4, 42, 180, 0, 84, 180, 0, 117]
abbrev dktX1_neededShare_0 : List UInt8 := dkwX1_neededShare_0 ++ dktX1_neededShare_1
theorem dksX1_neededShare_0 : cX1_neededShare.data.toList.drop 0 = dktX1_neededShare_0 := by decide +kernel
theorem dksX1_neededShare_1 : cX1_neededShare.data.toList.drop 21 = dktX1_neededShare_1 := dk_seg dksX1_neededShare_0 21 rfl rfl
theorem dksX1_neededShare_2 : cX1_neededShare.data.toList.drop 44 = dktX1_neededShare_2 := dk_seg dksX1_neededShare_1 23 rfl rfl
theorem dksX1_neededShare_3 : cX1_neededShare.data.toList.drop 67 = dktX1_neededShare_3 := dk_seg dksX1_neededShare_2 23 rfl rfl
theorem dksX1_neededShare_4 : cX1_neededShare.data.toList.drop 91 = dktX1_neededShare_4 := dk_seg dksX1_neededShare_3 24 rfl rfl
theorem dX1_neededShare_0 : decode cX1_neededShare 0 = .ok (.aload_n 0, 1) := dk_42 (dk_at dksX1_neededShare_0 0 rfl rfl)
theorem dX1_neededShare_1 : decode cX1_neededShare 1 = .ok (.invokevirtual 132, 3) := dk_182 0 132 (dk_at dksX1_neededShare_0 1 rfl rfl)
theorem dX1_neededShare_4 : decode cX1_neededShare 4 = .ok (.astore_n 1, 1) := dk_76 (dk_at dksX1_neededShare_0 4 rfl rfl)
theorem dX1_neededShare_5 : decode cX1_neededShare 5 = .ok (.iconst 0, 1) := dk_3 (dk_at dksX1_neededShare_0 5 rfl rfl)
theorem dX1_neededShare_6 : decode cX1_neededShare 6 = .ok (.istore_n 2, 1) := dk_61 (dk_at dksX1_neededShare_0 6 rfl rfl)
theorem dX1_neededShare_7 : decode cX1_neededShare 7 = .ok (.iconst 0, 1) := dk_3 (dk_at dksX1_neededShare_0 7 rfl rfl)
theorem dX1_neededShare_8 : decode cX1_neededShare 8 = .ok (.istore_n 3, 1) := dk_62 (dk_at dksX1_neededShare_0 8 rfl rfl)
theorem dX1_neededShare_9 : decode cX1_neededShare 9 = .ok (.iconst 0, 1) := dk_3 (dk_at dksX1_neededShare_0 9 rfl rfl)
theorem dX1_neededShare_10 : decode cX1_neededShare 10 = .ok (.istore 4, 2) := dk_54 4 (dk_at dksX1_neededShare_0 10 rfl rfl)
theorem dX1_neededShare_12 : decode cX1_neededShare 12 = .ok (.iload 4, 2) := dk_21 4 (dk_at dksX1_neededShare_0 12 rfl rfl)
theorem dX1_neededShare_14 : decode cX1_neededShare 14 = .ok (.aload_n 0, 1) := dk_42 (dk_at dksX1_neededShare_0 14 rfl rfl)
theorem dX1_neededShare_15 : decode cX1_neededShare 15 = .ok (.getfield 84, 3) := dk_180 0 84 (dk_at dksX1_neededShare_0 15 rfl rfl)
theorem dX1_neededShare_18 : decode cX1_neededShare 18 = .ok (.getfield 117, 3) := dk_180 0 117 (dk_at dksX1_neededShare_0 18 rfl rfl)
theorem dX1_neededShare_21 : decode cX1_neededShare 21 = .ok (.invokeinterface 121 1, 5) := by decide +kernel
theorem dX1_neededShare_26 : decode cX1_neededShare 26 = .ok (.if_icmp .ge 57, 3) := dk_162 0 57 (dk_at dksX1_neededShare_1 5 rfl rfl)
theorem dX1_neededShare_29 : decode cX1_neededShare 29 = .ok (.iload_n 3, 1) := dk_29 (dk_at dksX1_neededShare_1 8 rfl rfl)
theorem dX1_neededShare_30 : decode cX1_neededShare 30 = .ok (.aload_n 0, 1) := dk_42 (dk_at dksX1_neededShare_1 9 rfl rfl)
theorem dX1_neededShare_31 : decode cX1_neededShare 31 = .ok (.getfield 84, 3) := dk_180 0 84 (dk_at dksX1_neededShare_1 10 rfl rfl)
theorem dX1_neededShare_34 : decode cX1_neededShare 34 = .ok (.getfield 117, 3) := dk_180 0 117 (dk_at dksX1_neededShare_1 13 rfl rfl)
theorem dX1_neededShare_37 : decode cX1_neededShare 37 = .ok (.iload 4, 2) := dk_21 4 (dk_at dksX1_neededShare_1 16 rfl rfl)
theorem dX1_neededShare_39 : decode cX1_neededShare 39 = .ok (.invokeinterface 126 2, 5) := by decide +kernel
theorem dX1_neededShare_44 : decode cX1_neededShare 44 = .ok (.checkcast 130, 3) := dk_192 0 130 (dk_at dksX1_neededShare_2 0 rfl rfl)
theorem dX1_neededShare_47 : decode cX1_neededShare 47 = .ok (.getfield 261, 3) := dk_180 1 5 (dk_at dksX1_neededShare_2 3 rfl rfl)
theorem dX1_neededShare_50 : decode cX1_neededShare 50 = .ok (.ifCond .eq 7, 3) := dk_153 0 7 (dk_at dksX1_neededShare_2 6 rfl rfl)
theorem dX1_neededShare_53 : decode cX1_neededShare 53 = .ok (.iconst 0, 1) := dk_3 (dk_at dksX1_neededShare_2 9 rfl rfl)
theorem dX1_neededShare_54 : decode cX1_neededShare 54 = .ok (.goto 4, 3) := dk_167 0 4 (dk_at dksX1_neededShare_2 10 rfl rfl)
theorem dX1_neededShare_57 : decode cX1_neededShare 57 = .ok (.iconst 1, 1) := dk_4 (dk_at dksX1_neededShare_2 13 rfl rfl)
theorem dX1_neededShare_58 : decode cX1_neededShare 58 = .ok (.iadd, 1) := dk_96 (dk_at dksX1_neededShare_2 14 rfl rfl)
theorem dX1_neededShare_59 : decode cX1_neededShare 59 = .ok (.istore_n 3, 1) := dk_62 (dk_at dksX1_neededShare_2 15 rfl rfl)
theorem dX1_neededShare_60 : decode cX1_neededShare 60 = .ok (.iload_n 2, 1) := dk_28 (dk_at dksX1_neededShare_2 16 rfl rfl)
theorem dX1_neededShare_61 : decode cX1_neededShare 61 = .ok (.aload_n 0, 1) := dk_42 (dk_at dksX1_neededShare_2 17 rfl rfl)
theorem dX1_neededShare_62 : decode cX1_neededShare 62 = .ok (.iload 4, 2) := dk_21 4 (dk_at dksX1_neededShare_2 18 rfl rfl)
theorem dX1_neededShare_64 : decode cX1_neededShare 64 = .ok (.invokevirtual 269, 3) := dk_182 1 13 (dk_at dksX1_neededShare_2 20 rfl rfl)
theorem dX1_neededShare_67 : decode cX1_neededShare 67 = .ok (.ifCond .eq 7, 3) := dk_153 0 7 (dk_at dksX1_neededShare_3 0 rfl rfl)
theorem dX1_neededShare_70 : decode cX1_neededShare 70 = .ok (.iconst 1, 1) := dk_4 (dk_at dksX1_neededShare_3 3 rfl rfl)
theorem dX1_neededShare_71 : decode cX1_neededShare 71 = .ok (.goto 4, 3) := dk_167 0 4 (dk_at dksX1_neededShare_3 4 rfl rfl)
theorem dX1_neededShare_74 : decode cX1_neededShare 74 = .ok (.iconst 0, 1) := dk_3 (dk_at dksX1_neededShare_3 7 rfl rfl)
theorem dX1_neededShare_75 : decode cX1_neededShare 75 = .ok (.iadd, 1) := dk_96 (dk_at dksX1_neededShare_3 8 rfl rfl)
theorem dX1_neededShare_76 : decode cX1_neededShare 76 = .ok (.istore_n 2, 1) := dk_61 (dk_at dksX1_neededShare_3 9 rfl rfl)
theorem dX1_neededShare_77 : decode cX1_neededShare 77 = .ok (.iinc 4 1, 3) := dk_132 4 1 (dk_at dksX1_neededShare_3 10 rfl rfl)
theorem dX1_neededShare_80 : decode cX1_neededShare 80 = .ok (.goto (-68), 3) := dk_167 255 188 (dk_at dksX1_neededShare_3 13 rfl rfl)
theorem dX1_neededShare_83 : decode cX1_neededShare 83 = .ok (.iload_n 3, 1) := dk_29 (dk_at dksX1_neededShare_3 16 rfl rfl)
theorem dX1_neededShare_84 : decode cX1_neededShare 84 = .ok (.ifCond .ne 7, 3) := dk_154 0 7 (dk_at dksX1_neededShare_3 17 rfl rfl)
theorem dX1_neededShare_87 : decode cX1_neededShare 87 = .ok (.fconst 0, 1) := dk_11 (dk_at dksX1_neededShare_3 20 rfl rfl)
theorem dX1_neededShare_88 : decode cX1_neededShare 88 = .ok (.goto 8, 3) := dk_167 0 8 (dk_at dksX1_neededShare_3 21 rfl rfl)
theorem dX1_neededShare_91 : decode cX1_neededShare 91 = .ok (.iload_n 2, 1) := dk_28 (dk_at dksX1_neededShare_4 0 rfl rfl)
theorem dX1_neededShare_92 : decode cX1_neededShare 92 = .ok (.i2f, 1) := dk_134 (dk_at dksX1_neededShare_4 1 rfl rfl)
theorem dX1_neededShare_93 : decode cX1_neededShare 93 = .ok (.iload_n 3, 1) := dk_29 (dk_at dksX1_neededShare_4 2 rfl rfl)
theorem dX1_neededShare_94 : decode cX1_neededShare 94 = .ok (.i2f, 1) := dk_134 (dk_at dksX1_neededShare_4 3 rfl rfl)
theorem dX1_neededShare_95 : decode cX1_neededShare 95 = .ok (.fdiv, 1) := dk_110 (dk_at dksX1_neededShare_4 4 rfl rfl)
theorem dX1_neededShare_96 : decode cX1_neededShare 96 = .ok (.freturn, 1) := dk_174 (dk_at dksX1_neededShare_4 5 rfl rfl)
abbrev cX1_widening : ByteArray := prog_1_method_53_code
def yX1_widening : MethodName := ⟨RX1, "widening", "(IZ)I"⟩
def dkwX1_widening_0 : List UInt8 := [42, 27, 182, 0, 140, 78, 42, 182, 0, 110, 153, 0, 7, 3, 167, 0, 9, 42, 27, 28, 182, 1, 28, 172]
abbrev dktX1_widening_0 : List UInt8 := dkwX1_widening_0 ++ []
theorem dksX1_widening_0 : cX1_widening.data.toList.drop 0 = dktX1_widening_0 := by decide +kernel
theorem dX1_widening_0 : decode cX1_widening 0 = .ok (.aload_n 0, 1) := dk_42 (dk_at dksX1_widening_0 0 rfl rfl)
theorem dX1_widening_1 : decode cX1_widening 1 = .ok (.iload_n 1, 1) := dk_27 (dk_at dksX1_widening_0 1 rfl rfl)
theorem dX1_widening_2 : decode cX1_widening 2 = .ok (.invokevirtual 140, 3) := dk_182 0 140 (dk_at dksX1_widening_0 2 rfl rfl)
theorem dX1_widening_5 : decode cX1_widening 5 = .ok (.astore_n 3, 1) := dk_78 (dk_at dksX1_widening_0 5 rfl rfl)
theorem dX1_widening_6 : decode cX1_widening 6 = .ok (.aload_n 0, 1) := dk_42 (dk_at dksX1_widening_0 6 rfl rfl)
theorem dX1_widening_7 : decode cX1_widening 7 = .ok (.invokevirtual 110, 3) := dk_182 0 110 (dk_at dksX1_widening_0 7 rfl rfl)
theorem dX1_widening_10 : decode cX1_widening 10 = .ok (.ifCond .eq 7, 3) := dk_153 0 7 (dk_at dksX1_widening_0 10 rfl rfl)
theorem dX1_widening_13 : decode cX1_widening 13 = .ok (.iconst 0, 1) := dk_3 (dk_at dksX1_widening_0 13 rfl rfl)
theorem dX1_widening_14 : decode cX1_widening 14 = .ok (.goto 9, 3) := dk_167 0 9 (dk_at dksX1_widening_0 14 rfl rfl)
theorem dX1_widening_17 : decode cX1_widening 17 = .ok (.aload_n 0, 1) := dk_42 (dk_at dksX1_widening_0 17 rfl rfl)
theorem dX1_widening_18 : decode cX1_widening 18 = .ok (.iload_n 1, 1) := dk_27 (dk_at dksX1_widening_0 18 rfl rfl)
theorem dX1_widening_19 : decode cX1_widening 19 = .ok (.iload_n 2, 1) := dk_28 (dk_at dksX1_widening_0 19 rfl rfl)
theorem dX1_widening_20 : decode cX1_widening 20 = .ok (.invokevirtual 284, 3) := dk_182 1 28 (dk_at dksX1_widening_0 20 rfl rfl)
theorem dX1_widening_23 : decode cX1_widening 23 = .ok (.ireturn, 1) := dk_172 (dk_at dksX1_widening_0 23 rfl rfl)
abbrev cX1_units : ByteArray := prog_1_method_52_code
def yX1_units : MethodName := ⟨RX1, "units", "(IZ)I"⟩
def dkwX1_units_6 : List UInt8 := [2, 172]
abbrev dktX1_units_6 : List UInt8 := dkwX1_units_6 ++ []
def dkwX1_units_5 : List UInt8 := [180, 1, 2, 100, 54, 4, 45, 180, 1, 2, 21, 4, 96, 17, 3, 231, 163, 0, 8, 21, 4, 167, 0, 4]
abbrev dktX1_units_5 : List UInt8 := dkwX1_units_5 ++ dktX1_units_6
def dkwX1_units_4 : List UInt8 := [21, 4, 167, 0, 4, 2, 172, 42, 180, 0, 163, 45, 180, 0, 250, 45, 180, 0, 252, 182, 0, 227, 116, 45]
abbrev dktX1_units_4 : List UInt8 := dkwX1_units_4 ++ dktX1_units_5
def dkwX1_units_3 : List UInt8 := [45, 180, 0, 252, 45, 180, 0, 250, 182, 0, 227, 100, 54, 4, 21, 4, 45, 180, 0, 255, 163, 0, 8]
abbrev dktX1_units_3 : List UInt8 := dkwX1_units_3 ++ dktX1_units_4
def dkwX1_units_2 : List UInt8 := [96, 182, 0, 96, 182, 0, 100, 154, 0, 5, 2, 172, 28, 153, 0, 41, 45, 180, 0, 255, 42, 180, 0, 163]
abbrev dktX1_units_2 : List UInt8 := dkwX1_units_2 ++ dktX1_units_3
def dkwX1_units_1 : List UInt8 := [153, 0, 34, 42, 180, 0, 84, 42, 180, 0, 163, 3, 5, 27, 104, 28, 153, 0, 7, 4, 167, 0, 4, 3]
abbrev dktX1_units_1 : List UInt8 := dkwX1_units_1 ++ dktX1_units_2
def dkwX1_units_0 : List UInt8 := [42, 180, 0, 84, 180, 0, 117, 27, 185, 0, 126, 2, 0, 192, 0, 130, 78, 45, 28, 182, 0, 246]
abbrev dktX1_units_0 : List UInt8 := dkwX1_units_0 ++ dktX1_units_1
theorem dksX1_units_0 : cX1_units.data.toList.drop 0 = dktX1_units_0 := by decide +kernel
theorem dksX1_units_1 : cX1_units.data.toList.drop 22 = dktX1_units_1 := dk_seg dksX1_units_0 22 rfl rfl
theorem dksX1_units_2 : cX1_units.data.toList.drop 46 = dktX1_units_2 := dk_seg dksX1_units_1 24 rfl rfl
theorem dksX1_units_3 : cX1_units.data.toList.drop 70 = dktX1_units_3 := dk_seg dksX1_units_2 24 rfl rfl
theorem dksX1_units_4 : cX1_units.data.toList.drop 93 = dktX1_units_4 := dk_seg dksX1_units_3 23 rfl rfl
theorem dksX1_units_5 : cX1_units.data.toList.drop 117 = dktX1_units_5 := dk_seg dksX1_units_4 24 rfl rfl
theorem dksX1_units_6 : cX1_units.data.toList.drop 141 = dktX1_units_6 := dk_seg dksX1_units_5 24 rfl rfl
theorem dX1_units_0 : decode cX1_units 0 = .ok (.aload_n 0, 1) := dk_42 (dk_at dksX1_units_0 0 rfl rfl)
theorem dX1_units_1 : decode cX1_units 1 = .ok (.getfield 84, 3) := dk_180 0 84 (dk_at dksX1_units_0 1 rfl rfl)
theorem dX1_units_4 : decode cX1_units 4 = .ok (.getfield 117, 3) := dk_180 0 117 (dk_at dksX1_units_0 4 rfl rfl)
theorem dX1_units_7 : decode cX1_units 7 = .ok (.iload_n 1, 1) := dk_27 (dk_at dksX1_units_0 7 rfl rfl)
theorem dX1_units_8 : decode cX1_units 8 = .ok (.invokeinterface 126 2, 5) := by decide +kernel
theorem dX1_units_13 : decode cX1_units 13 = .ok (.checkcast 130, 3) := dk_192 0 130 (dk_at dksX1_units_0 13 rfl rfl)
theorem dX1_units_16 : decode cX1_units 16 = .ok (.astore_n 3, 1) := dk_78 (dk_at dksX1_units_0 16 rfl rfl)
theorem dX1_units_17 : decode cX1_units 17 = .ok (.aload_n 3, 1) := dk_45 (dk_at dksX1_units_0 17 rfl rfl)
theorem dX1_units_18 : decode cX1_units 18 = .ok (.iload_n 2, 1) := dk_28 (dk_at dksX1_units_0 18 rfl rfl)
theorem dX1_units_19 : decode cX1_units 19 = .ok (.invokevirtual 246, 3) := dk_182 0 246 (dk_at dksX1_units_0 19 rfl rfl)
theorem dX1_units_22 : decode cX1_units 22 = .ok (.ifCond .eq 34, 3) := dk_153 0 34 (dk_at dksX1_units_1 0 rfl rfl)
theorem dX1_units_25 : decode cX1_units 25 = .ok (.aload_n 0, 1) := dk_42 (dk_at dksX1_units_1 3 rfl rfl)
theorem dX1_units_26 : decode cX1_units 26 = .ok (.getfield 84, 3) := dk_180 0 84 (dk_at dksX1_units_1 4 rfl rfl)
theorem dX1_units_29 : decode cX1_units 29 = .ok (.aload_n 0, 1) := dk_42 (dk_at dksX1_units_1 7 rfl rfl)
theorem dX1_units_30 : decode cX1_units 30 = .ok (.getfield 163, 3) := dk_180 0 163 (dk_at dksX1_units_1 8 rfl rfl)
theorem dX1_units_33 : decode cX1_units 33 = .ok (.iconst 0, 1) := dk_3 (dk_at dksX1_units_1 11 rfl rfl)
theorem dX1_units_34 : decode cX1_units 34 = .ok (.iconst 2, 1) := dk_5 (dk_at dksX1_units_1 12 rfl rfl)
theorem dX1_units_35 : decode cX1_units 35 = .ok (.iload_n 1, 1) := dk_27 (dk_at dksX1_units_1 13 rfl rfl)
theorem dX1_units_36 : decode cX1_units 36 = .ok (.imul, 1) := dk_104 (dk_at dksX1_units_1 14 rfl rfl)
theorem dX1_units_37 : decode cX1_units 37 = .ok (.iload_n 2, 1) := dk_28 (dk_at dksX1_units_1 15 rfl rfl)
theorem dX1_units_38 : decode cX1_units 38 = .ok (.ifCond .eq 7, 3) := dk_153 0 7 (dk_at dksX1_units_1 16 rfl rfl)
theorem dX1_units_41 : decode cX1_units 41 = .ok (.iconst 1, 1) := dk_4 (dk_at dksX1_units_1 19 rfl rfl)
theorem dX1_units_42 : decode cX1_units 42 = .ok (.goto 4, 3) := dk_167 0 4 (dk_at dksX1_units_1 20 rfl rfl)
theorem dX1_units_45 : decode cX1_units 45 = .ok (.iconst 0, 1) := dk_3 (dk_at dksX1_units_1 23 rfl rfl)
theorem dX1_units_46 : decode cX1_units 46 = .ok (.iadd, 1) := dk_96 (dk_at dksX1_units_2 0 rfl rfl)
theorem dX1_units_47 : decode cX1_units 47 = .ok (.invokevirtual 96, 3) := dk_182 0 96 (dk_at dksX1_units_2 1 rfl rfl)
theorem dX1_units_50 : decode cX1_units 50 = .ok (.invokevirtual 100, 3) := dk_182 0 100 (dk_at dksX1_units_2 4 rfl rfl)
theorem dX1_units_53 : decode cX1_units 53 = .ok (.ifCond .ne 5, 3) := dk_154 0 5 (dk_at dksX1_units_2 7 rfl rfl)
theorem dX1_units_56 : decode cX1_units 56 = .ok (.iconst (-1), 1) := dk_2 (dk_at dksX1_units_2 10 rfl rfl)
theorem dX1_units_57 : decode cX1_units 57 = .ok (.ireturn, 1) := dk_172 (dk_at dksX1_units_2 11 rfl rfl)
theorem dX1_units_58 : decode cX1_units 58 = .ok (.iload_n 2, 1) := dk_28 (dk_at dksX1_units_2 12 rfl rfl)
theorem dX1_units_59 : decode cX1_units 59 = .ok (.ifCond .eq 41, 3) := dk_153 0 41 (dk_at dksX1_units_2 13 rfl rfl)
theorem dX1_units_62 : decode cX1_units 62 = .ok (.aload_n 3, 1) := dk_45 (dk_at dksX1_units_2 16 rfl rfl)
theorem dX1_units_63 : decode cX1_units 63 = .ok (.getfield 255, 3) := dk_180 0 255 (dk_at dksX1_units_2 17 rfl rfl)
theorem dX1_units_66 : decode cX1_units 66 = .ok (.aload_n 0, 1) := dk_42 (dk_at dksX1_units_2 20 rfl rfl)
theorem dX1_units_67 : decode cX1_units 67 = .ok (.getfield 163, 3) := dk_180 0 163 (dk_at dksX1_units_2 21 rfl rfl)
theorem dX1_units_70 : decode cX1_units 70 = .ok (.aload_n 3, 1) := dk_45 (dk_at dksX1_units_3 0 rfl rfl)
theorem dX1_units_71 : decode cX1_units 71 = .ok (.getfield 252, 3) := dk_180 0 252 (dk_at dksX1_units_3 1 rfl rfl)
theorem dX1_units_74 : decode cX1_units 74 = .ok (.aload_n 3, 1) := dk_45 (dk_at dksX1_units_3 4 rfl rfl)
theorem dX1_units_75 : decode cX1_units 75 = .ok (.getfield 250, 3) := dk_180 0 250 (dk_at dksX1_units_3 5 rfl rfl)
theorem dX1_units_78 : decode cX1_units 78 = .ok (.invokevirtual 227, 3) := dk_182 0 227 (dk_at dksX1_units_3 8 rfl rfl)
theorem dX1_units_81 : decode cX1_units 81 = .ok (.isub, 1) := dk_100 (dk_at dksX1_units_3 11 rfl rfl)
theorem dX1_units_82 : decode cX1_units 82 = .ok (.istore 4, 2) := dk_54 4 (dk_at dksX1_units_3 12 rfl rfl)
theorem dX1_units_84 : decode cX1_units 84 = .ok (.iload 4, 2) := dk_21 4 (dk_at dksX1_units_3 14 rfl rfl)
theorem dX1_units_86 : decode cX1_units 86 = .ok (.aload_n 3, 1) := dk_45 (dk_at dksX1_units_3 16 rfl rfl)
theorem dX1_units_87 : decode cX1_units 87 = .ok (.getfield 255, 3) := dk_180 0 255 (dk_at dksX1_units_3 17 rfl rfl)
theorem dX1_units_90 : decode cX1_units 90 = .ok (.if_icmp .gt 8, 3) := dk_163 0 8 (dk_at dksX1_units_3 20 rfl rfl)
theorem dX1_units_93 : decode cX1_units 93 = .ok (.iload 4, 2) := dk_21 4 (dk_at dksX1_units_4 0 rfl rfl)
theorem dX1_units_95 : decode cX1_units 95 = .ok (.goto 4, 3) := dk_167 0 4 (dk_at dksX1_units_4 2 rfl rfl)
theorem dX1_units_98 : decode cX1_units 98 = .ok (.iconst (-1), 1) := dk_2 (dk_at dksX1_units_4 5 rfl rfl)
theorem dX1_units_99 : decode cX1_units 99 = .ok (.ireturn, 1) := dk_172 (dk_at dksX1_units_4 6 rfl rfl)
theorem dX1_units_100 : decode cX1_units 100 = .ok (.aload_n 0, 1) := dk_42 (dk_at dksX1_units_4 7 rfl rfl)
theorem dX1_units_101 : decode cX1_units 101 = .ok (.getfield 163, 3) := dk_180 0 163 (dk_at dksX1_units_4 8 rfl rfl)
theorem dX1_units_104 : decode cX1_units 104 = .ok (.aload_n 3, 1) := dk_45 (dk_at dksX1_units_4 11 rfl rfl)
theorem dX1_units_105 : decode cX1_units 105 = .ok (.getfield 250, 3) := dk_180 0 250 (dk_at dksX1_units_4 12 rfl rfl)
theorem dX1_units_108 : decode cX1_units 108 = .ok (.aload_n 3, 1) := dk_45 (dk_at dksX1_units_4 15 rfl rfl)
theorem dX1_units_109 : decode cX1_units 109 = .ok (.getfield 252, 3) := dk_180 0 252 (dk_at dksX1_units_4 16 rfl rfl)
theorem dX1_units_112 : decode cX1_units 112 = .ok (.invokevirtual 227, 3) := dk_182 0 227 (dk_at dksX1_units_4 19 rfl rfl)
theorem dX1_units_115 : decode cX1_units 115 = .ok (.ineg, 1) := dk_116 (dk_at dksX1_units_4 22 rfl rfl)
theorem dX1_units_116 : decode cX1_units 116 = .ok (.aload_n 3, 1) := dk_45 (dk_at dksX1_units_4 23 rfl rfl)
theorem dX1_units_117 : decode cX1_units 117 = .ok (.getfield 258, 3) := dk_180 1 2 (dk_at dksX1_units_5 0 rfl rfl)
theorem dX1_units_120 : decode cX1_units 120 = .ok (.isub, 1) := dk_100 (dk_at dksX1_units_5 3 rfl rfl)
theorem dX1_units_121 : decode cX1_units 121 = .ok (.istore 4, 2) := dk_54 4 (dk_at dksX1_units_5 4 rfl rfl)
theorem dX1_units_123 : decode cX1_units 123 = .ok (.aload_n 3, 1) := dk_45 (dk_at dksX1_units_5 6 rfl rfl)
theorem dX1_units_124 : decode cX1_units 124 = .ok (.getfield 258, 3) := dk_180 1 2 (dk_at dksX1_units_5 7 rfl rfl)
theorem dX1_units_127 : decode cX1_units 127 = .ok (.iload 4, 2) := dk_21 4 (dk_at dksX1_units_5 10 rfl rfl)
theorem dX1_units_129 : decode cX1_units 129 = .ok (.iadd, 1) := dk_96 (dk_at dksX1_units_5 12 rfl rfl)
theorem dX1_units_130 : decode cX1_units 130 = .ok (.sipush 999, 3) := dk_17 3 231 (dk_at dksX1_units_5 13 rfl rfl)
theorem dX1_units_133 : decode cX1_units 133 = .ok (.if_icmp .gt 8, 3) := dk_163 0 8 (dk_at dksX1_units_5 16 rfl rfl)
theorem dX1_units_136 : decode cX1_units 136 = .ok (.iload 4, 2) := dk_21 4 (dk_at dksX1_units_5 19 rfl rfl)
theorem dX1_units_138 : decode cX1_units 138 = .ok (.goto 4, 3) := dk_167 0 4 (dk_at dksX1_units_5 21 rfl rfl)
theorem dX1_units_141 : decode cX1_units 141 = .ok (.iconst (-1), 1) := dk_2 (dk_at dksX1_units_6 0 rfl rfl)
theorem dX1_units_142 : decode cX1_units 142 = .ok (.ireturn, 1) := dk_172 (dk_at dksX1_units_6 1 rfl rfl)
abbrev cX1_bestMend : ByteArray := prog_1_method_55_code
def yX1_bestMend : MethodName := ⟨RX1, "bestMend", "()I"⟩
def dkwX1_bestMend_0 : List UInt8 := [42, 182, 0, 106, 87, 42, 182, 1, 64, 76, 43, 199, 0, 7, 2, 167, 0, 7, 43, 180, 1, 68, 172]
abbrev dktX1_bestMend_0 : List UInt8 := dkwX1_bestMend_0 ++ []
theorem dksX1_bestMend_0 : cX1_bestMend.data.toList.drop 0 = dktX1_bestMend_0 := by decide +kernel
theorem dX1_bestMend_0 : decode cX1_bestMend 0 = .ok (.aload_n 0, 1) := dk_42 (dk_at dksX1_bestMend_0 0 rfl rfl)
theorem dX1_bestMend_1 : decode cX1_bestMend 1 = .ok (.invokevirtual 106, 3) := dk_182 0 106 (dk_at dksX1_bestMend_0 1 rfl rfl)
theorem dX1_bestMend_4 : decode cX1_bestMend 4 = .ok (.pop, 1) := dk_87 (dk_at dksX1_bestMend_0 4 rfl rfl)
theorem dX1_bestMend_5 : decode cX1_bestMend 5 = .ok (.aload_n 0, 1) := dk_42 (dk_at dksX1_bestMend_0 5 rfl rfl)
theorem dX1_bestMend_6 : decode cX1_bestMend 6 = .ok (.invokevirtual 320, 3) := dk_182 1 64 (dk_at dksX1_bestMend_0 6 rfl rfl)
theorem dX1_bestMend_9 : decode cX1_bestMend 9 = .ok (.astore_n 1, 1) := dk_76 (dk_at dksX1_bestMend_0 9 rfl rfl)
theorem dX1_bestMend_10 : decode cX1_bestMend 10 = .ok (.aload_n 1, 1) := dk_43 (dk_at dksX1_bestMend_0 10 rfl rfl)
theorem dX1_bestMend_11 : decode cX1_bestMend 11 = .ok (.ifnonnull 7, 3) := dk_199 0 7 (dk_at dksX1_bestMend_0 11 rfl rfl)
theorem dX1_bestMend_14 : decode cX1_bestMend 14 = .ok (.iconst (-1), 1) := dk_2 (dk_at dksX1_bestMend_0 14 rfl rfl)
theorem dX1_bestMend_15 : decode cX1_bestMend 15 = .ok (.goto 7, 3) := dk_167 0 7 (dk_at dksX1_bestMend_0 15 rfl rfl)
theorem dX1_bestMend_18 : decode cX1_bestMend 18 = .ok (.aload_n 1, 1) := dk_43 (dk_at dksX1_bestMend_0 18 rfl rfl)
theorem dX1_bestMend_19 : decode cX1_bestMend 19 = .ok (.getfield 324, 3) := dk_180 1 68 (dk_at dksX1_bestMend_0 19 rfl rfl)
theorem dX1_bestMend_22 : decode cX1_bestMend 22 = .ok (.ireturn, 1) := dk_172 (dk_at dksX1_bestMend_0 22 rfl rfl)
abbrev cX1_best : ByteArray := prog_1_method_54_code
def yX1_best : MethodName := ⟨RX1, "best", "()LEventWindows$Mend;"⟩
def dkwX1_best_6 : List UInt8 := [182, 1, 56, 44, 182, 1, 60, 192, 1, 36, 176]
abbrev dktX1_best_6 : List UInt8 := dkwX1_best_6 ++ []
def dkwX1_best_5 : List UInt8 := [132, 2, 1, 167, 255, 154, 187, 1, 48, 89, 187, 1, 50, 89, 183, 1, 52, 183, 1, 53, 77, 44, 43]
abbrev dktX1_best_5 : List UInt8 := dkwX1_best_5 ++ dktX1_best_6
def dkwX1_best_4 : List UInt8 := [43, 187, 1, 36, 89, 28, 21, 4, 21, 4, 45, 180, 1, 38, 104, 183, 1, 41, 185, 1, 44, 2, 0, 87]
abbrev dktX1_best_4 : List UInt8 := dkwX1_best_4 ++ dktX1_best_5
def dkwX1_best_3 : List UInt8 := [4, 160, 0, 7, 4, 167, 0, 4, 3, 182, 1, 28, 167, 0, 4, 2, 54, 4, 21, 4, 2, 159, 0, 27]
abbrev dktX1_best_3 : List UInt8 := dkwX1_best_3 ++ dktX1_best_4
def dkwX1_best_2 : List UInt8 := [108, 185, 0, 126, 2, 0, 192, 0, 130, 78, 45, 182, 1, 33, 153, 0, 25, 42, 28, 5, 108, 28, 5, 112]
abbrev dktX1_best_2 : List UInt8 := dkwX1_best_2 ++ dktX1_best_3
def dkwX1_best_1 : List UInt8 := [180, 0, 84, 180, 0, 117, 185, 0, 121, 1, 0, 104, 162, 0, 90, 42, 180, 0, 84, 180, 0, 117, 28, 5]
abbrev dktX1_best_1 : List UInt8 := dkwX1_best_1 ++ dktX1_best_2
def dkwX1_best_0 : List UInt8 := [187, 0, 32, 89, 183, 1, 32, 76, 42, 182, 0, 110, 153, 0, 5, 1, 176, 3, 61, 28, 5, 42]
abbrev dktX1_best_0 : List UInt8 := dkwX1_best_0 ++ dktX1_best_1
theorem dksX1_best_0 : cX1_best.data.toList.drop 0 = dktX1_best_0 := by decide +kernel
theorem dksX1_best_1 : cX1_best.data.toList.drop 22 = dktX1_best_1 := dk_seg dksX1_best_0 22 rfl rfl
theorem dksX1_best_2 : cX1_best.data.toList.drop 46 = dktX1_best_2 := dk_seg dksX1_best_1 24 rfl rfl
theorem dksX1_best_3 : cX1_best.data.toList.drop 70 = dktX1_best_3 := dk_seg dksX1_best_2 24 rfl rfl
theorem dksX1_best_4 : cX1_best.data.toList.drop 94 = dktX1_best_4 := dk_seg dksX1_best_3 24 rfl rfl
theorem dksX1_best_5 : cX1_best.data.toList.drop 118 = dktX1_best_5 := dk_seg dksX1_best_4 24 rfl rfl
theorem dksX1_best_6 : cX1_best.data.toList.drop 141 = dktX1_best_6 := dk_seg dksX1_best_5 23 rfl rfl
theorem dX1_best_0 : decode cX1_best 0 = .ok (.new 32, 3) := dk_187 0 32 (dk_at dksX1_best_0 0 rfl rfl)
theorem dX1_best_3 : decode cX1_best 3 = .ok (.dup, 1) := dk_89 (dk_at dksX1_best_0 3 rfl rfl)
theorem dX1_best_4 : decode cX1_best 4 = .ok (.invokespecial 288, 3) := dk_183 1 32 (dk_at dksX1_best_0 4 rfl rfl)
theorem dX1_best_7 : decode cX1_best 7 = .ok (.astore_n 1, 1) := dk_76 (dk_at dksX1_best_0 7 rfl rfl)
theorem dX1_best_8 : decode cX1_best 8 = .ok (.aload_n 0, 1) := dk_42 (dk_at dksX1_best_0 8 rfl rfl)
theorem dX1_best_9 : decode cX1_best 9 = .ok (.invokevirtual 110, 3) := dk_182 0 110 (dk_at dksX1_best_0 9 rfl rfl)
theorem dX1_best_12 : decode cX1_best 12 = .ok (.ifCond .eq 5, 3) := dk_153 0 5 (dk_at dksX1_best_0 12 rfl rfl)
theorem dX1_best_15 : decode cX1_best 15 = .ok (.aconst_null, 1) := dk_1 (dk_at dksX1_best_0 15 rfl rfl)
theorem dX1_best_16 : decode cX1_best 16 = .ok (.areturn, 1) := dk_176 (dk_at dksX1_best_0 16 rfl rfl)
theorem dX1_best_17 : decode cX1_best 17 = .ok (.iconst 0, 1) := dk_3 (dk_at dksX1_best_0 17 rfl rfl)
theorem dX1_best_18 : decode cX1_best 18 = .ok (.istore_n 2, 1) := dk_61 (dk_at dksX1_best_0 18 rfl rfl)
theorem dX1_best_19 : decode cX1_best 19 = .ok (.iload_n 2, 1) := dk_28 (dk_at dksX1_best_0 19 rfl rfl)
theorem dX1_best_20 : decode cX1_best 20 = .ok (.iconst 2, 1) := dk_5 (dk_at dksX1_best_0 20 rfl rfl)
theorem dX1_best_21 : decode cX1_best 21 = .ok (.aload_n 0, 1) := dk_42 (dk_at dksX1_best_0 21 rfl rfl)
theorem dX1_best_22 : decode cX1_best 22 = .ok (.getfield 84, 3) := dk_180 0 84 (dk_at dksX1_best_1 0 rfl rfl)
theorem dX1_best_25 : decode cX1_best 25 = .ok (.getfield 117, 3) := dk_180 0 117 (dk_at dksX1_best_1 3 rfl rfl)
theorem dX1_best_28 : decode cX1_best 28 = .ok (.invokeinterface 121 1, 5) := by decide +kernel
theorem dX1_best_33 : decode cX1_best 33 = .ok (.imul, 1) := dk_104 (dk_at dksX1_best_1 11 rfl rfl)
theorem dX1_best_34 : decode cX1_best 34 = .ok (.if_icmp .ge 90, 3) := dk_162 0 90 (dk_at dksX1_best_1 12 rfl rfl)
theorem dX1_best_37 : decode cX1_best 37 = .ok (.aload_n 0, 1) := dk_42 (dk_at dksX1_best_1 15 rfl rfl)
theorem dX1_best_38 : decode cX1_best 38 = .ok (.getfield 84, 3) := dk_180 0 84 (dk_at dksX1_best_1 16 rfl rfl)
theorem dX1_best_41 : decode cX1_best 41 = .ok (.getfield 117, 3) := dk_180 0 117 (dk_at dksX1_best_1 19 rfl rfl)
theorem dX1_best_44 : decode cX1_best 44 = .ok (.iload_n 2, 1) := dk_28 (dk_at dksX1_best_1 22 rfl rfl)
theorem dX1_best_45 : decode cX1_best 45 = .ok (.iconst 2, 1) := dk_5 (dk_at dksX1_best_1 23 rfl rfl)
theorem dX1_best_46 : decode cX1_best 46 = .ok (.idiv, 1) := dk_108 (dk_at dksX1_best_2 0 rfl rfl)
theorem dX1_best_47 : decode cX1_best 47 = .ok (.invokeinterface 126 2, 5) := by decide +kernel
theorem dX1_best_52 : decode cX1_best 52 = .ok (.checkcast 130, 3) := dk_192 0 130 (dk_at dksX1_best_2 6 rfl rfl)
theorem dX1_best_55 : decode cX1_best 55 = .ok (.astore_n 3, 1) := dk_78 (dk_at dksX1_best_2 9 rfl rfl)
theorem dX1_best_56 : decode cX1_best 56 = .ok (.aload_n 3, 1) := dk_45 (dk_at dksX1_best_2 10 rfl rfl)
theorem dX1_best_57 : decode cX1_best 57 = .ok (.invokevirtual 289, 3) := dk_182 1 33 (dk_at dksX1_best_2 11 rfl rfl)
theorem dX1_best_60 : decode cX1_best 60 = .ok (.ifCond .eq 25, 3) := dk_153 0 25 (dk_at dksX1_best_2 14 rfl rfl)
theorem dX1_best_63 : decode cX1_best 63 = .ok (.aload_n 0, 1) := dk_42 (dk_at dksX1_best_2 17 rfl rfl)
theorem dX1_best_64 : decode cX1_best 64 = .ok (.iload_n 2, 1) := dk_28 (dk_at dksX1_best_2 18 rfl rfl)
theorem dX1_best_65 : decode cX1_best 65 = .ok (.iconst 2, 1) := dk_5 (dk_at dksX1_best_2 19 rfl rfl)
theorem dX1_best_66 : decode cX1_best 66 = .ok (.idiv, 1) := dk_108 (dk_at dksX1_best_2 20 rfl rfl)
theorem dX1_best_67 : decode cX1_best 67 = .ok (.iload_n 2, 1) := dk_28 (dk_at dksX1_best_2 21 rfl rfl)
theorem dX1_best_68 : decode cX1_best 68 = .ok (.iconst 2, 1) := dk_5 (dk_at dksX1_best_2 22 rfl rfl)
theorem dX1_best_69 : decode cX1_best 69 = .ok (.irem, 1) := dk_112 (dk_at dksX1_best_2 23 rfl rfl)
theorem dX1_best_70 : decode cX1_best 70 = .ok (.iconst 1, 1) := dk_4 (dk_at dksX1_best_3 0 rfl rfl)
theorem dX1_best_71 : decode cX1_best 71 = .ok (.if_icmp .ne 7, 3) := dk_160 0 7 (dk_at dksX1_best_3 1 rfl rfl)
theorem dX1_best_74 : decode cX1_best 74 = .ok (.iconst 1, 1) := dk_4 (dk_at dksX1_best_3 4 rfl rfl)
theorem dX1_best_75 : decode cX1_best 75 = .ok (.goto 4, 3) := dk_167 0 4 (dk_at dksX1_best_3 5 rfl rfl)
theorem dX1_best_78 : decode cX1_best 78 = .ok (.iconst 0, 1) := dk_3 (dk_at dksX1_best_3 8 rfl rfl)
theorem dX1_best_79 : decode cX1_best 79 = .ok (.invokevirtual 284, 3) := dk_182 1 28 (dk_at dksX1_best_3 9 rfl rfl)
theorem dX1_best_82 : decode cX1_best 82 = .ok (.goto 4, 3) := dk_167 0 4 (dk_at dksX1_best_3 12 rfl rfl)
theorem dX1_best_85 : decode cX1_best 85 = .ok (.iconst (-1), 1) := dk_2 (dk_at dksX1_best_3 15 rfl rfl)
theorem dX1_best_86 : decode cX1_best 86 = .ok (.istore 4, 2) := dk_54 4 (dk_at dksX1_best_3 16 rfl rfl)
theorem dX1_best_88 : decode cX1_best 88 = .ok (.iload 4, 2) := dk_21 4 (dk_at dksX1_best_3 18 rfl rfl)
theorem dX1_best_90 : decode cX1_best 90 = .ok (.iconst (-1), 1) := dk_2 (dk_at dksX1_best_3 20 rfl rfl)
theorem dX1_best_91 : decode cX1_best 91 = .ok (.if_icmp .eq 27, 3) := dk_159 0 27 (dk_at dksX1_best_3 21 rfl rfl)
theorem dX1_best_94 : decode cX1_best 94 = .ok (.aload_n 1, 1) := dk_43 (dk_at dksX1_best_4 0 rfl rfl)
theorem dX1_best_95 : decode cX1_best 95 = .ok (.new 292, 3) := dk_187 1 36 (dk_at dksX1_best_4 1 rfl rfl)
theorem dX1_best_98 : decode cX1_best 98 = .ok (.dup, 1) := dk_89 (dk_at dksX1_best_4 4 rfl rfl)
theorem dX1_best_99 : decode cX1_best 99 = .ok (.iload_n 2, 1) := dk_28 (dk_at dksX1_best_4 5 rfl rfl)
theorem dX1_best_100 : decode cX1_best 100 = .ok (.iload 4, 2) := dk_21 4 (dk_at dksX1_best_4 6 rfl rfl)
theorem dX1_best_102 : decode cX1_best 102 = .ok (.iload 4, 2) := dk_21 4 (dk_at dksX1_best_4 8 rfl rfl)
theorem dX1_best_104 : decode cX1_best 104 = .ok (.aload_n 3, 1) := dk_45 (dk_at dksX1_best_4 10 rfl rfl)
theorem dX1_best_105 : decode cX1_best 105 = .ok (.getfield 294, 3) := dk_180 1 38 (dk_at dksX1_best_4 11 rfl rfl)
theorem dX1_best_108 : decode cX1_best 108 = .ok (.imul, 1) := dk_104 (dk_at dksX1_best_4 14 rfl rfl)
theorem dX1_best_109 : decode cX1_best 109 = .ok (.invokespecial 297, 3) := dk_183 1 41 (dk_at dksX1_best_4 15 rfl rfl)
theorem dX1_best_112 : decode cX1_best 112 = .ok (.invokeinterface 300 2, 5) := by decide +kernel
theorem dX1_best_117 : decode cX1_best 117 = .ok (.pop, 1) := dk_87 (dk_at dksX1_best_4 23 rfl rfl)
theorem dX1_best_118 : decode cX1_best 118 = .ok (.iinc 2 1, 3) := dk_132 2 1 (dk_at dksX1_best_5 0 rfl rfl)
theorem dX1_best_121 : decode cX1_best 121 = .ok (.goto (-102), 3) := dk_167 255 154 (dk_at dksX1_best_5 3 rfl rfl)
theorem dX1_best_124 : decode cX1_best 124 = .ok (.new 304, 3) := dk_187 1 48 (dk_at dksX1_best_5 6 rfl rfl)
theorem dX1_best_127 : decode cX1_best 127 = .ok (.dup, 1) := dk_89 (dk_at dksX1_best_5 9 rfl rfl)
theorem dX1_best_128 : decode cX1_best 128 = .ok (.new 306, 3) := dk_187 1 50 (dk_at dksX1_best_5 10 rfl rfl)
theorem dX1_best_131 : decode cX1_best 131 = .ok (.dup, 1) := dk_89 (dk_at dksX1_best_5 13 rfl rfl)
theorem dX1_best_132 : decode cX1_best 132 = .ok (.invokespecial 308, 3) := dk_183 1 52 (dk_at dksX1_best_5 14 rfl rfl)
theorem dX1_best_135 : decode cX1_best 135 = .ok (.invokespecial 309, 3) := dk_183 1 53 (dk_at dksX1_best_5 17 rfl rfl)
theorem dX1_best_138 : decode cX1_best 138 = .ok (.astore_n 2, 1) := dk_77 (dk_at dksX1_best_5 20 rfl rfl)
theorem dX1_best_139 : decode cX1_best 139 = .ok (.aload_n 2, 1) := dk_44 (dk_at dksX1_best_5 21 rfl rfl)
theorem dX1_best_140 : decode cX1_best 140 = .ok (.aload_n 1, 1) := dk_43 (dk_at dksX1_best_5 22 rfl rfl)
theorem dX1_best_141 : decode cX1_best 141 = .ok (.invokevirtual 312, 3) := dk_182 1 56 (dk_at dksX1_best_6 0 rfl rfl)
theorem dX1_best_144 : decode cX1_best 144 = .ok (.aload_n 2, 1) := dk_44 (dk_at dksX1_best_6 3 rfl rfl)
theorem dX1_best_145 : decode cX1_best 145 = .ok (.invokevirtual 316, 3) := dk_182 1 60 (dk_at dksX1_best_6 4 rfl rfl)
theorem dX1_best_148 : decode cX1_best 148 = .ok (.checkcast 292, 3) := dk_192 1 36 (dk_at dksX1_best_6 7 rfl rfl)
theorem dX1_best_151 : decode cX1_best 151 = .ok (.areturn, 1) := dk_176 (dk_at dksX1_best_6 10 rfl rfl)
abbrev cX1_mendCost : ByteArray := prog_1_method_56_code
def yX1_mendCost : MethodName := ⟨RX1, "mendCost", "()I"⟩
def dkwX1_mendCost_0 : List UInt8 := [42, 182, 0, 106, 87, 42, 182, 1, 64, 76, 43, 199, 0, 7, 2, 167, 0, 7, 43, 180, 1, 69, 172]
abbrev dktX1_mendCost_0 : List UInt8 := dkwX1_mendCost_0 ++ []
theorem dksX1_mendCost_0 : cX1_mendCost.data.toList.drop 0 = dktX1_mendCost_0 := by decide +kernel
theorem dX1_mendCost_0 : decode cX1_mendCost 0 = .ok (.aload_n 0, 1) := dk_42 (dk_at dksX1_mendCost_0 0 rfl rfl)
theorem dX1_mendCost_1 : decode cX1_mendCost 1 = .ok (.invokevirtual 106, 3) := dk_182 0 106 (dk_at dksX1_mendCost_0 1 rfl rfl)
theorem dX1_mendCost_4 : decode cX1_mendCost 4 = .ok (.pop, 1) := dk_87 (dk_at dksX1_mendCost_0 4 rfl rfl)
theorem dX1_mendCost_5 : decode cX1_mendCost 5 = .ok (.aload_n 0, 1) := dk_42 (dk_at dksX1_mendCost_0 5 rfl rfl)
theorem dX1_mendCost_6 : decode cX1_mendCost 6 = .ok (.invokevirtual 320, 3) := dk_182 1 64 (dk_at dksX1_mendCost_0 6 rfl rfl)
theorem dX1_mendCost_9 : decode cX1_mendCost 9 = .ok (.astore_n 1, 1) := dk_76 (dk_at dksX1_mendCost_0 9 rfl rfl)
theorem dX1_mendCost_10 : decode cX1_mendCost 10 = .ok (.aload_n 1, 1) := dk_43 (dk_at dksX1_mendCost_0 10 rfl rfl)
theorem dX1_mendCost_11 : decode cX1_mendCost 11 = .ok (.ifnonnull 7, 3) := dk_199 0 7 (dk_at dksX1_mendCost_0 11 rfl rfl)
theorem dX1_mendCost_14 : decode cX1_mendCost 14 = .ok (.iconst (-1), 1) := dk_2 (dk_at dksX1_mendCost_0 14 rfl rfl)
theorem dX1_mendCost_15 : decode cX1_mendCost 15 = .ok (.goto 7, 3) := dk_167 0 7 (dk_at dksX1_mendCost_0 15 rfl rfl)
theorem dX1_mendCost_18 : decode cX1_mendCost 18 = .ok (.aload_n 1, 1) := dk_43 (dk_at dksX1_mendCost_0 18 rfl rfl)
theorem dX1_mendCost_19 : decode cX1_mendCost 19 = .ok (.getfield 325, 3) := dk_180 1 69 (dk_at dksX1_mendCost_0 19 rfl rfl)
theorem dX1_mendCost_22 : decode cX1_mendCost 22 = .ok (.ireturn, 1) := dk_172 (dk_at dksX1_mendCost_0 22 rfl rfl)
abbrev cX1_leastDrop : ByteArray := prog_1_method_58_code
def yX1_leastDrop : MethodName := ⟨RX1, "leastDrop", "()I"⟩
def dkwX1_leastDrop_0 : List UInt8 := [42, 182, 0, 106, 87, 42, 182, 1, 94, 76, 43, 199, 0, 7, 2, 167, 0, 7, 43, 180, 1, 85, 172]
abbrev dktX1_leastDrop_0 : List UInt8 := dkwX1_leastDrop_0 ++ []
theorem dksX1_leastDrop_0 : cX1_leastDrop.data.toList.drop 0 = dktX1_leastDrop_0 := by decide +kernel
theorem dX1_leastDrop_0 : decode cX1_leastDrop 0 = .ok (.aload_n 0, 1) := dk_42 (dk_at dksX1_leastDrop_0 0 rfl rfl)
theorem dX1_leastDrop_1 : decode cX1_leastDrop 1 = .ok (.invokevirtual 106, 3) := dk_182 0 106 (dk_at dksX1_leastDrop_0 1 rfl rfl)
theorem dX1_leastDrop_4 : decode cX1_leastDrop 4 = .ok (.pop, 1) := dk_87 (dk_at dksX1_leastDrop_0 4 rfl rfl)
theorem dX1_leastDrop_5 : decode cX1_leastDrop 5 = .ok (.aload_n 0, 1) := dk_42 (dk_at dksX1_leastDrop_0 5 rfl rfl)
theorem dX1_leastDrop_6 : decode cX1_leastDrop 6 = .ok (.invokevirtual 350, 3) := dk_182 1 94 (dk_at dksX1_leastDrop_0 6 rfl rfl)
theorem dX1_leastDrop_9 : decode cX1_leastDrop 9 = .ok (.astore_n 1, 1) := dk_76 (dk_at dksX1_leastDrop_0 9 rfl rfl)
theorem dX1_leastDrop_10 : decode cX1_leastDrop 10 = .ok (.aload_n 1, 1) := dk_43 (dk_at dksX1_leastDrop_0 10 rfl rfl)
theorem dX1_leastDrop_11 : decode cX1_leastDrop 11 = .ok (.ifnonnull 7, 3) := dk_199 0 7 (dk_at dksX1_leastDrop_0 11 rfl rfl)
theorem dX1_leastDrop_14 : decode cX1_leastDrop 14 = .ok (.iconst (-1), 1) := dk_2 (dk_at dksX1_leastDrop_0 14 rfl rfl)
theorem dX1_leastDrop_15 : decode cX1_leastDrop 15 = .ok (.goto 7, 3) := dk_167 0 7 (dk_at dksX1_leastDrop_0 15 rfl rfl)
theorem dX1_leastDrop_18 : decode cX1_leastDrop 18 = .ok (.aload_n 1, 1) := dk_43 (dk_at dksX1_leastDrop_0 18 rfl rfl)
theorem dX1_leastDrop_19 : decode cX1_leastDrop 19 = .ok (.getfield 341, 3) := dk_180 1 85 (dk_at dksX1_leastDrop_0 19 rfl rfl)
theorem dX1_leastDrop_22 : decode cX1_leastDrop 22 = .ok (.ireturn, 1) := dk_172 (dk_at dksX1_leastDrop_0 22 rfl rfl)
abbrev cX1_cheapest : ByteArray := prog_1_method_57_code
def yX1_cheapest : MethodName := ⟨RX1, "cheapest", "()LEventWindows$Drop;"⟩
def dkwX1_cheapest_6 : List UInt8 := [192, 1, 76, 77, 167, 255, 150, 1, 176]
abbrev dktX1_cheapest_6 : List UInt8 := dkwX1_cheapest_6 ++ []
def dkwX1_cheapest_5 : List UInt8 := [29, 25, 4, 180, 1, 38, 182, 1, 90, 182, 1, 81, 87, 132, 3, 1, 167, 255, 196, 43, 182, 1, 82]
abbrev dktX1_cheapest_5 : List UInt8 := dkwX1_cheapest_5 ++ dktX1_cheapest_6
def dkwX1_cheapest_4 : List UInt8 := [180, 0, 117, 29, 185, 0, 126, 2, 0, 192, 0, 130, 58, 4, 25, 4, 182, 1, 33, 153, 0, 18, 43, 44]
abbrev dktX1_cheapest_4 : List UInt8 := dkwX1_cheapest_4 ++ dktX1_cheapest_5
def dkwX1_cheapest_3 : List UInt8 := [96, 62, 29, 42, 180, 0, 84, 180, 0, 117, 185, 0, 121, 1, 0, 162, 0, 50, 42, 180, 0, 84]
abbrev dktX1_cheapest_3 : List UInt8 := dkwX1_cheapest_3 ++ dktX1_cheapest_4
def dkwX1_cheapest_2 : List UInt8 := [180, 0, 163, 44, 180, 1, 85, 2, 182, 0, 96, 182, 0, 100, 153, 0, 5, 44, 176, 44, 180, 1, 87, 4]
abbrev dktX1_cheapest_2 : List UInt8 := dkwX1_cheapest_2 ++ dktX1_cheapest_3
def dkwX1_cheapest_1 : List UInt8 := [183, 1, 78, 182, 1, 81, 87, 43, 182, 1, 82, 192, 1, 76, 77, 44, 198, 0, 108, 42, 180, 0, 84, 42]
abbrev dktX1_cheapest_1 : List UInt8 := dkwX1_cheapest_1 ++ dktX1_cheapest_2
def dkwX1_cheapest_0 : List UInt8 := [187, 1, 70, 89, 187, 1, 72, 89, 183, 1, 74, 183, 1, 75, 76, 43, 187, 1, 76, 89, 3, 3, 3, 2]
abbrev dktX1_cheapest_0 : List UInt8 := dkwX1_cheapest_0 ++ dktX1_cheapest_1
theorem dksX1_cheapest_0 : cX1_cheapest.data.toList.drop 0 = dktX1_cheapest_0 := by decide +kernel
theorem dksX1_cheapest_1 : cX1_cheapest.data.toList.drop 24 = dktX1_cheapest_1 := dk_seg dksX1_cheapest_0 24 rfl rfl
theorem dksX1_cheapest_2 : cX1_cheapest.data.toList.drop 48 = dktX1_cheapest_2 := dk_seg dksX1_cheapest_1 24 rfl rfl
theorem dksX1_cheapest_3 : cX1_cheapest.data.toList.drop 72 = dktX1_cheapest_3 := dk_seg dksX1_cheapest_2 24 rfl rfl
theorem dksX1_cheapest_4 : cX1_cheapest.data.toList.drop 94 = dktX1_cheapest_4 := dk_seg dksX1_cheapest_3 22 rfl rfl
theorem dksX1_cheapest_5 : cX1_cheapest.data.toList.drop 118 = dktX1_cheapest_5 := dk_seg dksX1_cheapest_4 24 rfl rfl
theorem dksX1_cheapest_6 : cX1_cheapest.data.toList.drop 141 = dktX1_cheapest_6 := dk_seg dksX1_cheapest_5 23 rfl rfl
theorem dX1_cheapest_0 : decode cX1_cheapest 0 = .ok (.new 326, 3) := dk_187 1 70 (dk_at dksX1_cheapest_0 0 rfl rfl)
theorem dX1_cheapest_3 : decode cX1_cheapest 3 = .ok (.dup, 1) := dk_89 (dk_at dksX1_cheapest_0 3 rfl rfl)
theorem dX1_cheapest_4 : decode cX1_cheapest 4 = .ok (.new 328, 3) := dk_187 1 72 (dk_at dksX1_cheapest_0 4 rfl rfl)
theorem dX1_cheapest_7 : decode cX1_cheapest 7 = .ok (.dup, 1) := dk_89 (dk_at dksX1_cheapest_0 7 rfl rfl)
theorem dX1_cheapest_8 : decode cX1_cheapest 8 = .ok (.invokespecial 330, 3) := dk_183 1 74 (dk_at dksX1_cheapest_0 8 rfl rfl)
theorem dX1_cheapest_11 : decode cX1_cheapest 11 = .ok (.invokespecial 331, 3) := dk_183 1 75 (dk_at dksX1_cheapest_0 11 rfl rfl)
theorem dX1_cheapest_14 : decode cX1_cheapest 14 = .ok (.astore_n 1, 1) := dk_76 (dk_at dksX1_cheapest_0 14 rfl rfl)
theorem dX1_cheapest_15 : decode cX1_cheapest 15 = .ok (.aload_n 1, 1) := dk_43 (dk_at dksX1_cheapest_0 15 rfl rfl)
theorem dX1_cheapest_16 : decode cX1_cheapest 16 = .ok (.new 332, 3) := dk_187 1 76 (dk_at dksX1_cheapest_0 16 rfl rfl)
theorem dX1_cheapest_19 : decode cX1_cheapest 19 = .ok (.dup, 1) := dk_89 (dk_at dksX1_cheapest_0 19 rfl rfl)
theorem dX1_cheapest_20 : decode cX1_cheapest 20 = .ok (.iconst 0, 1) := dk_3 (dk_at dksX1_cheapest_0 20 rfl rfl)
theorem dX1_cheapest_21 : decode cX1_cheapest 21 = .ok (.iconst 0, 1) := dk_3 (dk_at dksX1_cheapest_0 21 rfl rfl)
theorem dX1_cheapest_22 : decode cX1_cheapest 22 = .ok (.iconst 0, 1) := dk_3 (dk_at dksX1_cheapest_0 22 rfl rfl)
theorem dX1_cheapest_23 : decode cX1_cheapest 23 = .ok (.iconst (-1), 1) := dk_2 (dk_at dksX1_cheapest_0 23 rfl rfl)
theorem dX1_cheapest_24 : decode cX1_cheapest 24 = .ok (.invokespecial 334, 3) := dk_183 1 78 (dk_at dksX1_cheapest_1 0 rfl rfl)
theorem dX1_cheapest_27 : decode cX1_cheapest 27 = .ok (.invokevirtual 337, 3) := dk_182 1 81 (dk_at dksX1_cheapest_1 3 rfl rfl)
theorem dX1_cheapest_30 : decode cX1_cheapest 30 = .ok (.pop, 1) := dk_87 (dk_at dksX1_cheapest_1 6 rfl rfl)
theorem dX1_cheapest_31 : decode cX1_cheapest 31 = .ok (.aload_n 1, 1) := dk_43 (dk_at dksX1_cheapest_1 7 rfl rfl)
theorem dX1_cheapest_32 : decode cX1_cheapest 32 = .ok (.invokevirtual 338, 3) := dk_182 1 82 (dk_at dksX1_cheapest_1 8 rfl rfl)
theorem dX1_cheapest_35 : decode cX1_cheapest 35 = .ok (.checkcast 332, 3) := dk_192 1 76 (dk_at dksX1_cheapest_1 11 rfl rfl)
theorem dX1_cheapest_38 : decode cX1_cheapest 38 = .ok (.astore_n 2, 1) := dk_77 (dk_at dksX1_cheapest_1 14 rfl rfl)
theorem dX1_cheapest_39 : decode cX1_cheapest 39 = .ok (.aload_n 2, 1) := dk_44 (dk_at dksX1_cheapest_1 15 rfl rfl)
theorem dX1_cheapest_40 : decode cX1_cheapest 40 = .ok (.ifnull 108, 3) := dk_198 0 108 (dk_at dksX1_cheapest_1 16 rfl rfl)
theorem dX1_cheapest_43 : decode cX1_cheapest 43 = .ok (.aload_n 0, 1) := dk_42 (dk_at dksX1_cheapest_1 19 rfl rfl)
theorem dX1_cheapest_44 : decode cX1_cheapest 44 = .ok (.getfield 84, 3) := dk_180 0 84 (dk_at dksX1_cheapest_1 20 rfl rfl)
theorem dX1_cheapest_47 : decode cX1_cheapest 47 = .ok (.aload_n 0, 1) := dk_42 (dk_at dksX1_cheapest_1 23 rfl rfl)
theorem dX1_cheapest_48 : decode cX1_cheapest 48 = .ok (.getfield 163, 3) := dk_180 0 163 (dk_at dksX1_cheapest_2 0 rfl rfl)
theorem dX1_cheapest_51 : decode cX1_cheapest 51 = .ok (.aload_n 2, 1) := dk_44 (dk_at dksX1_cheapest_2 3 rfl rfl)
theorem dX1_cheapest_52 : decode cX1_cheapest 52 = .ok (.getfield 341, 3) := dk_180 1 85 (dk_at dksX1_cheapest_2 4 rfl rfl)
theorem dX1_cheapest_55 : decode cX1_cheapest 55 = .ok (.iconst (-1), 1) := dk_2 (dk_at dksX1_cheapest_2 7 rfl rfl)
theorem dX1_cheapest_56 : decode cX1_cheapest 56 = .ok (.invokevirtual 96, 3) := dk_182 0 96 (dk_at dksX1_cheapest_2 8 rfl rfl)
theorem dX1_cheapest_59 : decode cX1_cheapest 59 = .ok (.invokevirtual 100, 3) := dk_182 0 100 (dk_at dksX1_cheapest_2 11 rfl rfl)
theorem dX1_cheapest_62 : decode cX1_cheapest 62 = .ok (.ifCond .eq 5, 3) := dk_153 0 5 (dk_at dksX1_cheapest_2 14 rfl rfl)
theorem dX1_cheapest_65 : decode cX1_cheapest 65 = .ok (.aload_n 2, 1) := dk_44 (dk_at dksX1_cheapest_2 17 rfl rfl)
theorem dX1_cheapest_66 : decode cX1_cheapest 66 = .ok (.areturn, 1) := dk_176 (dk_at dksX1_cheapest_2 18 rfl rfl)
theorem dX1_cheapest_67 : decode cX1_cheapest 67 = .ok (.aload_n 2, 1) := dk_44 (dk_at dksX1_cheapest_2 19 rfl rfl)
theorem dX1_cheapest_68 : decode cX1_cheapest 68 = .ok (.getfield 343, 3) := dk_180 1 87 (dk_at dksX1_cheapest_2 20 rfl rfl)
theorem dX1_cheapest_71 : decode cX1_cheapest 71 = .ok (.iconst 1, 1) := dk_4 (dk_at dksX1_cheapest_2 23 rfl rfl)
theorem dX1_cheapest_72 : decode cX1_cheapest 72 = .ok (.iadd, 1) := dk_96 (dk_at dksX1_cheapest_3 0 rfl rfl)
theorem dX1_cheapest_73 : decode cX1_cheapest 73 = .ok (.istore_n 3, 1) := dk_62 (dk_at dksX1_cheapest_3 1 rfl rfl)
theorem dX1_cheapest_74 : decode cX1_cheapest 74 = .ok (.iload_n 3, 1) := dk_29 (dk_at dksX1_cheapest_3 2 rfl rfl)
theorem dX1_cheapest_75 : decode cX1_cheapest 75 = .ok (.aload_n 0, 1) := dk_42 (dk_at dksX1_cheapest_3 3 rfl rfl)
theorem dX1_cheapest_76 : decode cX1_cheapest 76 = .ok (.getfield 84, 3) := dk_180 0 84 (dk_at dksX1_cheapest_3 4 rfl rfl)
theorem dX1_cheapest_79 : decode cX1_cheapest 79 = .ok (.getfield 117, 3) := dk_180 0 117 (dk_at dksX1_cheapest_3 7 rfl rfl)
theorem dX1_cheapest_82 : decode cX1_cheapest 82 = .ok (.invokeinterface 121 1, 5) := by decide +kernel
theorem dX1_cheapest_87 : decode cX1_cheapest 87 = .ok (.if_icmp .ge 50, 3) := dk_162 0 50 (dk_at dksX1_cheapest_3 15 rfl rfl)
theorem dX1_cheapest_90 : decode cX1_cheapest 90 = .ok (.aload_n 0, 1) := dk_42 (dk_at dksX1_cheapest_3 18 rfl rfl)
theorem dX1_cheapest_91 : decode cX1_cheapest 91 = .ok (.getfield 84, 3) := dk_180 0 84 (dk_at dksX1_cheapest_3 19 rfl rfl)
theorem dX1_cheapest_94 : decode cX1_cheapest 94 = .ok (.getfield 117, 3) := dk_180 0 117 (dk_at dksX1_cheapest_4 0 rfl rfl)
theorem dX1_cheapest_97 : decode cX1_cheapest 97 = .ok (.iload_n 3, 1) := dk_29 (dk_at dksX1_cheapest_4 3 rfl rfl)
theorem dX1_cheapest_98 : decode cX1_cheapest 98 = .ok (.invokeinterface 126 2, 5) := by decide +kernel
theorem dX1_cheapest_103 : decode cX1_cheapest 103 = .ok (.checkcast 130, 3) := dk_192 0 130 (dk_at dksX1_cheapest_4 9 rfl rfl)
theorem dX1_cheapest_106 : decode cX1_cheapest 106 = .ok (.astore 4, 2) := dk_58 4 (dk_at dksX1_cheapest_4 12 rfl rfl)
theorem dX1_cheapest_108 : decode cX1_cheapest 108 = .ok (.aload 4, 2) := dk_25 4 (dk_at dksX1_cheapest_4 14 rfl rfl)
theorem dX1_cheapest_110 : decode cX1_cheapest 110 = .ok (.invokevirtual 289, 3) := dk_182 1 33 (dk_at dksX1_cheapest_4 16 rfl rfl)
theorem dX1_cheapest_113 : decode cX1_cheapest 113 = .ok (.ifCond .eq 18, 3) := dk_153 0 18 (dk_at dksX1_cheapest_4 19 rfl rfl)
theorem dX1_cheapest_116 : decode cX1_cheapest 116 = .ok (.aload_n 1, 1) := dk_43 (dk_at dksX1_cheapest_4 22 rfl rfl)
theorem dX1_cheapest_117 : decode cX1_cheapest 117 = .ok (.aload_n 2, 1) := dk_44 (dk_at dksX1_cheapest_4 23 rfl rfl)
theorem dX1_cheapest_118 : decode cX1_cheapest 118 = .ok (.iload_n 3, 1) := dk_29 (dk_at dksX1_cheapest_5 0 rfl rfl)
theorem dX1_cheapest_119 : decode cX1_cheapest 119 = .ok (.aload 4, 2) := dk_25 4 (dk_at dksX1_cheapest_5 1 rfl rfl)
theorem dX1_cheapest_121 : decode cX1_cheapest 121 = .ok (.getfield 294, 3) := dk_180 1 38 (dk_at dksX1_cheapest_5 3 rfl rfl)
theorem dX1_cheapest_124 : decode cX1_cheapest 124 = .ok (.invokevirtual 346, 3) := dk_182 1 90 (dk_at dksX1_cheapest_5 6 rfl rfl)
theorem dX1_cheapest_127 : decode cX1_cheapest 127 = .ok (.invokevirtual 337, 3) := dk_182 1 81 (dk_at dksX1_cheapest_5 9 rfl rfl)
theorem dX1_cheapest_130 : decode cX1_cheapest 130 = .ok (.pop, 1) := dk_87 (dk_at dksX1_cheapest_5 12 rfl rfl)
theorem dX1_cheapest_131 : decode cX1_cheapest 131 = .ok (.iinc 3 1, 3) := dk_132 3 1 (dk_at dksX1_cheapest_5 13 rfl rfl)
theorem dX1_cheapest_134 : decode cX1_cheapest 134 = .ok (.goto (-60), 3) := dk_167 255 196 (dk_at dksX1_cheapest_5 16 rfl rfl)
theorem dX1_cheapest_137 : decode cX1_cheapest 137 = .ok (.aload_n 1, 1) := dk_43 (dk_at dksX1_cheapest_5 19 rfl rfl)
theorem dX1_cheapest_138 : decode cX1_cheapest 138 = .ok (.invokevirtual 338, 3) := dk_182 1 82 (dk_at dksX1_cheapest_5 20 rfl rfl)
theorem dX1_cheapest_141 : decode cX1_cheapest 141 = .ok (.checkcast 332, 3) := dk_192 1 76 (dk_at dksX1_cheapest_6 0 rfl rfl)
theorem dX1_cheapest_144 : decode cX1_cheapest 144 = .ok (.astore_n 2, 1) := dk_77 (dk_at dksX1_cheapest_6 3 rfl rfl)
theorem dX1_cheapest_145 : decode cX1_cheapest 145 = .ok (.goto (-106), 3) := dk_167 255 150 (dk_at dksX1_cheapest_6 4 rfl rfl)
theorem dX1_cheapest_148 : decode cX1_cheapest 148 = .ok (.aconst_null, 1) := dk_1 (dk_at dksX1_cheapest_6 7 rfl rfl)
theorem dX1_cheapest_149 : decode cX1_cheapest 149 = .ok (.areturn, 1) := dk_176 (dk_at dksX1_cheapest_6 8 rfl rfl)
abbrev cX1_dropCost : ByteArray := prog_1_method_59_code
def yX1_dropCost : MethodName := ⟨RX1, "dropCost", "()I"⟩
def dkwX1_dropCost_0 : List UInt8 := [42, 182, 0, 106, 87, 42, 182, 1, 94, 76, 43, 199, 0, 7, 2, 167, 0, 7, 43, 180, 1, 98, 172]
abbrev dktX1_dropCost_0 : List UInt8 := dkwX1_dropCost_0 ++ []
theorem dksX1_dropCost_0 : cX1_dropCost.data.toList.drop 0 = dktX1_dropCost_0 := by decide +kernel
theorem dX1_dropCost_0 : decode cX1_dropCost 0 = .ok (.aload_n 0, 1) := dk_42 (dk_at dksX1_dropCost_0 0 rfl rfl)
theorem dX1_dropCost_1 : decode cX1_dropCost 1 = .ok (.invokevirtual 106, 3) := dk_182 0 106 (dk_at dksX1_dropCost_0 1 rfl rfl)
theorem dX1_dropCost_4 : decode cX1_dropCost 4 = .ok (.pop, 1) := dk_87 (dk_at dksX1_dropCost_0 4 rfl rfl)
theorem dX1_dropCost_5 : decode cX1_dropCost 5 = .ok (.aload_n 0, 1) := dk_42 (dk_at dksX1_dropCost_0 5 rfl rfl)
theorem dX1_dropCost_6 : decode cX1_dropCost 6 = .ok (.invokevirtual 350, 3) := dk_182 1 94 (dk_at dksX1_dropCost_0 6 rfl rfl)
theorem dX1_dropCost_9 : decode cX1_dropCost 9 = .ok (.astore_n 1, 1) := dk_76 (dk_at dksX1_dropCost_0 9 rfl rfl)
theorem dX1_dropCost_10 : decode cX1_dropCost 10 = .ok (.aload_n 1, 1) := dk_43 (dk_at dksX1_dropCost_0 10 rfl rfl)
theorem dX1_dropCost_11 : decode cX1_dropCost 11 = .ok (.ifnonnull 7, 3) := dk_199 0 7 (dk_at dksX1_dropCost_0 11 rfl rfl)
theorem dX1_dropCost_14 : decode cX1_dropCost 14 = .ok (.iconst (-1), 1) := dk_2 (dk_at dksX1_dropCost_0 14 rfl rfl)
theorem dX1_dropCost_15 : decode cX1_dropCost 15 = .ok (.goto 7, 3) := dk_167 0 7 (dk_at dksX1_dropCost_0 15 rfl rfl)
theorem dX1_dropCost_18 : decode cX1_dropCost 18 = .ok (.aload_n 1, 1) := dk_43 (dk_at dksX1_dropCost_0 18 rfl rfl)
theorem dX1_dropCost_19 : decode cX1_dropCost 19 = .ok (.getfield 354, 3) := dk_180 1 98 (dk_at dksX1_dropCost_0 19 rfl rfl)
theorem dX1_dropCost_22 : decode cX1_dropCost 22 = .ok (.ireturn, 1) := dk_172 (dk_at dksX1_dropCost_0 22 rfl rfl)
abbrev cX1_runBreaks : ByteArray := prog_1_method_61_code
def yX1_runBreaks : MethodName := ⟨RX1, "runBreaks", "(I)I"⟩
def dkwX1_runBreaks_0 : List UInt8 := [42, 27, 182, 1, 103, 180, 1, 107, 172]
abbrev dktX1_runBreaks_0 : List UInt8 := dkwX1_runBreaks_0 ++ []
theorem dksX1_runBreaks_0 : cX1_runBreaks.data.toList.drop 0 = dktX1_runBreaks_0 := by decide +kernel
theorem dX1_runBreaks_0 : decode cX1_runBreaks 0 = .ok (.aload_n 0, 1) := dk_42 (dk_at dksX1_runBreaks_0 0 rfl rfl)
theorem dX1_runBreaks_1 : decode cX1_runBreaks 1 = .ok (.iload_n 1, 1) := dk_27 (dk_at dksX1_runBreaks_0 1 rfl rfl)
theorem dX1_runBreaks_2 : decode cX1_runBreaks 2 = .ok (.invokevirtual 359, 3) := dk_182 1 103 (dk_at dksX1_runBreaks_0 2 rfl rfl)
theorem dX1_runBreaks_5 : decode cX1_runBreaks 5 = .ok (.getfield 363, 3) := dk_180 1 107 (dk_at dksX1_runBreaks_0 5 rfl rfl)
theorem dX1_runBreaks_8 : decode cX1_runBreaks 8 = .ok (.ireturn, 1) := dk_172 (dk_at dksX1_runBreaks_0 8 rfl rfl)
abbrev cX1_runs : ByteArray := prog_1_method_60_code
def yX1_runs : MethodName := ⟨RX1, "runs", "(I)LEventWindows$Run;"⟩
def dkwX1_runs_1 : List UInt8 := [2, 3, 182, 1, 99, 176]
abbrev dktX1_runs_1 : List UInt8 := dkwX1_runs_1 ++ []
def dkwX1_runs_0 : List UInt8 := [42, 182, 0, 132, 77, 27, 3, 6, 184, 0, 74, 184, 0, 198, 42, 180, 0, 169, 42, 180, 0, 84, 44, 27]
abbrev dktX1_runs_0 : List UInt8 := dkwX1_runs_0 ++ dktX1_runs_1
theorem dksX1_runs_0 : cX1_runs.data.toList.drop 0 = dktX1_runs_0 := by decide +kernel
theorem dksX1_runs_1 : cX1_runs.data.toList.drop 24 = dktX1_runs_1 := dk_seg dksX1_runs_0 24 rfl rfl
theorem dX1_runs_0 : decode cX1_runs 0 = .ok (.aload_n 0, 1) := dk_42 (dk_at dksX1_runs_0 0 rfl rfl)
theorem dX1_runs_1 : decode cX1_runs 1 = .ok (.invokevirtual 132, 3) := dk_182 0 132 (dk_at dksX1_runs_0 1 rfl rfl)
theorem dX1_runs_4 : decode cX1_runs 4 = .ok (.astore_n 2, 1) := dk_77 (dk_at dksX1_runs_0 4 rfl rfl)
theorem dX1_runs_5 : decode cX1_runs 5 = .ok (.iload_n 1, 1) := dk_27 (dk_at dksX1_runs_0 5 rfl rfl)
theorem dX1_runs_6 : decode cX1_runs 6 = .ok (.iconst 0, 1) := dk_3 (dk_at dksX1_runs_0 6 rfl rfl)
theorem dX1_runs_7 : decode cX1_runs 7 = .ok (.iconst 3, 1) := dk_6 (dk_at dksX1_runs_0 7 rfl rfl)
theorem dX1_runs_8 : decode cX1_runs 8 = .ok (.invokestatic 74, 3) := dk_184 0 74 (dk_at dksX1_runs_0 8 rfl rfl)
theorem dX1_runs_11 : decode cX1_runs 11 = .ok (.invokestatic 198, 3) := dk_184 0 198 (dk_at dksX1_runs_0 11 rfl rfl)
theorem dX1_runs_14 : decode cX1_runs 14 = .ok (.aload_n 0, 1) := dk_42 (dk_at dksX1_runs_0 14 rfl rfl)
theorem dX1_runs_15 : decode cX1_runs 15 = .ok (.getfield 169, 3) := dk_180 0 169 (dk_at dksX1_runs_0 15 rfl rfl)
theorem dX1_runs_18 : decode cX1_runs 18 = .ok (.aload_n 0, 1) := dk_42 (dk_at dksX1_runs_0 18 rfl rfl)
theorem dX1_runs_19 : decode cX1_runs 19 = .ok (.getfield 84, 3) := dk_180 0 84 (dk_at dksX1_runs_0 19 rfl rfl)
theorem dX1_runs_22 : decode cX1_runs 22 = .ok (.aload_n 2, 1) := dk_44 (dk_at dksX1_runs_0 22 rfl rfl)
theorem dX1_runs_23 : decode cX1_runs 23 = .ok (.iload_n 1, 1) := dk_27 (dk_at dksX1_runs_0 23 rfl rfl)
theorem dX1_runs_24 : decode cX1_runs 24 = .ok (.iconst (-1), 1) := dk_2 (dk_at dksX1_runs_1 0 rfl rfl)
theorem dX1_runs_25 : decode cX1_runs 25 = .ok (.iconst 0, 1) := dk_3 (dk_at dksX1_runs_1 1 rfl rfl)
theorem dX1_runs_26 : decode cX1_runs 26 = .ok (.invokevirtual 355, 3) := dk_182 1 99 (dk_at dksX1_runs_1 2 rfl rfl)
theorem dX1_runs_29 : decode cX1_runs 29 = .ok (.areturn, 1) := dk_176 (dk_at dksX1_runs_1 5 rfl rfl)
abbrev cX1_runTime : ByteArray := prog_1_method_62_code
def yX1_runTime : MethodName := ⟨RX1, "runTime", "(II)I"⟩
def dkwX1_runTime_0 : List UInt8 := [42, 28, 182, 0, 136, 78, 42, 27, 182, 1, 103, 180, 1, 110, 28, 46, 172]
abbrev dktX1_runTime_0 : List UInt8 := dkwX1_runTime_0 ++ []
theorem dksX1_runTime_0 : cX1_runTime.data.toList.drop 0 = dktX1_runTime_0 := by decide +kernel
theorem dX1_runTime_0 : decode cX1_runTime 0 = .ok (.aload_n 0, 1) := dk_42 (dk_at dksX1_runTime_0 0 rfl rfl)
theorem dX1_runTime_1 : decode cX1_runTime 1 = .ok (.iload_n 2, 1) := dk_28 (dk_at dksX1_runTime_0 1 rfl rfl)
theorem dX1_runTime_2 : decode cX1_runTime 2 = .ok (.invokevirtual 136, 3) := dk_182 0 136 (dk_at dksX1_runTime_0 2 rfl rfl)
theorem dX1_runTime_5 : decode cX1_runTime 5 = .ok (.astore_n 3, 1) := dk_78 (dk_at dksX1_runTime_0 5 rfl rfl)
theorem dX1_runTime_6 : decode cX1_runTime 6 = .ok (.aload_n 0, 1) := dk_42 (dk_at dksX1_runTime_0 6 rfl rfl)
theorem dX1_runTime_7 : decode cX1_runTime 7 = .ok (.iload_n 1, 1) := dk_27 (dk_at dksX1_runTime_0 7 rfl rfl)
theorem dX1_runTime_8 : decode cX1_runTime 8 = .ok (.invokevirtual 359, 3) := dk_182 1 103 (dk_at dksX1_runTime_0 8 rfl rfl)
theorem dX1_runTime_11 : decode cX1_runTime 11 = .ok (.getfield 366, 3) := dk_180 1 110 (dk_at dksX1_runTime_0 11 rfl rfl)
theorem dX1_runTime_14 : decode cX1_runTime 14 = .ok (.iload_n 2, 1) := dk_28 (dk_at dksX1_runTime_0 14 rfl rfl)
theorem dX1_runTime_15 : decode cX1_runTime 15 = .ok (.iaload, 1) := dk_46 (dk_at dksX1_runTime_0 15 rfl rfl)
theorem dX1_runTime_16 : decode cX1_runTime 16 = .ok (.ireturn, 1) := dk_172 (dk_at dksX1_runTime_0 16 rfl rfl)
abbrev cX1_runEnd : ByteArray := prog_1_method_63_code
def yX1_runEnd : MethodName := ⟨RX1, "runEnd", "(I)I"⟩
def dkwX1_runEnd_2 : List UInt8 := [167, 255, 232, 44, 180, 1, 107, 2, 160, 0, 7, 29, 167, 0, 4, 2, 172]
abbrev dktX1_runEnd_2 : List UInt8 := dkwX1_runEnd_2 ++ []
def dkwX1_runEnd_1 : List UInt8 := [21, 5, 162, 0, 23, 25, 4, 21, 6, 46, 54, 7, 29, 21, 7, 184, 1, 25, 62, 132, 6, 1]
abbrev dktX1_runEnd_1 : List UInt8 := dkwX1_runEnd_1 ++ dktX1_runEnd_2
def dkwX1_runEnd_0 : List UInt8 := [42, 27, 182, 1, 103, 77, 3, 62, 44, 180, 1, 110, 58, 4, 25, 4, 190, 54, 5, 3, 54, 6, 21, 6]
abbrev dktX1_runEnd_0 : List UInt8 := dkwX1_runEnd_0 ++ dktX1_runEnd_1
theorem dksX1_runEnd_0 : cX1_runEnd.data.toList.drop 0 = dktX1_runEnd_0 := by decide +kernel
theorem dksX1_runEnd_1 : cX1_runEnd.data.toList.drop 24 = dktX1_runEnd_1 := dk_seg dksX1_runEnd_0 24 rfl rfl
theorem dksX1_runEnd_2 : cX1_runEnd.data.toList.drop 46 = dktX1_runEnd_2 := dk_seg dksX1_runEnd_1 22 rfl rfl
theorem dX1_runEnd_0 : decode cX1_runEnd 0 = .ok (.aload_n 0, 1) := dk_42 (dk_at dksX1_runEnd_0 0 rfl rfl)
theorem dX1_runEnd_1 : decode cX1_runEnd 1 = .ok (.iload_n 1, 1) := dk_27 (dk_at dksX1_runEnd_0 1 rfl rfl)
theorem dX1_runEnd_2 : decode cX1_runEnd 2 = .ok (.invokevirtual 359, 3) := dk_182 1 103 (dk_at dksX1_runEnd_0 2 rfl rfl)
theorem dX1_runEnd_5 : decode cX1_runEnd 5 = .ok (.astore_n 2, 1) := dk_77 (dk_at dksX1_runEnd_0 5 rfl rfl)
theorem dX1_runEnd_6 : decode cX1_runEnd 6 = .ok (.iconst 0, 1) := dk_3 (dk_at dksX1_runEnd_0 6 rfl rfl)
theorem dX1_runEnd_7 : decode cX1_runEnd 7 = .ok (.istore_n 3, 1) := dk_62 (dk_at dksX1_runEnd_0 7 rfl rfl)
theorem dX1_runEnd_8 : decode cX1_runEnd 8 = .ok (.aload_n 2, 1) := dk_44 (dk_at dksX1_runEnd_0 8 rfl rfl)
theorem dX1_runEnd_9 : decode cX1_runEnd 9 = .ok (.getfield 366, 3) := dk_180 1 110 (dk_at dksX1_runEnd_0 9 rfl rfl)
theorem dX1_runEnd_12 : decode cX1_runEnd 12 = .ok (.astore 4, 2) := dk_58 4 (dk_at dksX1_runEnd_0 12 rfl rfl)
theorem dX1_runEnd_14 : decode cX1_runEnd 14 = .ok (.aload 4, 2) := dk_25 4 (dk_at dksX1_runEnd_0 14 rfl rfl)
theorem dX1_runEnd_16 : decode cX1_runEnd 16 = .ok (.arraylength, 1) := dk_190 (dk_at dksX1_runEnd_0 16 rfl rfl)
theorem dX1_runEnd_17 : decode cX1_runEnd 17 = .ok (.istore 5, 2) := dk_54 5 (dk_at dksX1_runEnd_0 17 rfl rfl)
theorem dX1_runEnd_19 : decode cX1_runEnd 19 = .ok (.iconst 0, 1) := dk_3 (dk_at dksX1_runEnd_0 19 rfl rfl)
theorem dX1_runEnd_20 : decode cX1_runEnd 20 = .ok (.istore 6, 2) := dk_54 6 (dk_at dksX1_runEnd_0 20 rfl rfl)
theorem dX1_runEnd_22 : decode cX1_runEnd 22 = .ok (.iload 6, 2) := dk_21 6 (dk_at dksX1_runEnd_0 22 rfl rfl)
theorem dX1_runEnd_24 : decode cX1_runEnd 24 = .ok (.iload 5, 2) := dk_21 5 (dk_at dksX1_runEnd_1 0 rfl rfl)
theorem dX1_runEnd_26 : decode cX1_runEnd 26 = .ok (.if_icmp .ge 23, 3) := dk_162 0 23 (dk_at dksX1_runEnd_1 2 rfl rfl)
theorem dX1_runEnd_29 : decode cX1_runEnd 29 = .ok (.aload 4, 2) := dk_25 4 (dk_at dksX1_runEnd_1 5 rfl rfl)
theorem dX1_runEnd_31 : decode cX1_runEnd 31 = .ok (.iload 6, 2) := dk_21 6 (dk_at dksX1_runEnd_1 7 rfl rfl)
theorem dX1_runEnd_33 : decode cX1_runEnd 33 = .ok (.iaload, 1) := dk_46 (dk_at dksX1_runEnd_1 9 rfl rfl)
theorem dX1_runEnd_34 : decode cX1_runEnd 34 = .ok (.istore 7, 2) := dk_54 7 (dk_at dksX1_runEnd_1 10 rfl rfl)
theorem dX1_runEnd_36 : decode cX1_runEnd 36 = .ok (.iload_n 3, 1) := dk_29 (dk_at dksX1_runEnd_1 12 rfl rfl)
theorem dX1_runEnd_37 : decode cX1_runEnd 37 = .ok (.iload 7, 2) := dk_21 7 (dk_at dksX1_runEnd_1 13 rfl rfl)
theorem dX1_runEnd_39 : decode cX1_runEnd 39 = .ok (.invokestatic 281, 3) := dk_184 1 25 (dk_at dksX1_runEnd_1 15 rfl rfl)
theorem dX1_runEnd_42 : decode cX1_runEnd 42 = .ok (.istore_n 3, 1) := dk_62 (dk_at dksX1_runEnd_1 18 rfl rfl)
theorem dX1_runEnd_43 : decode cX1_runEnd 43 = .ok (.iinc 6 1, 3) := dk_132 6 1 (dk_at dksX1_runEnd_1 19 rfl rfl)
theorem dX1_runEnd_46 : decode cX1_runEnd 46 = .ok (.goto (-24), 3) := dk_167 255 232 (dk_at dksX1_runEnd_2 0 rfl rfl)
theorem dX1_runEnd_49 : decode cX1_runEnd 49 = .ok (.aload_n 2, 1) := dk_44 (dk_at dksX1_runEnd_2 3 rfl rfl)
theorem dX1_runEnd_50 : decode cX1_runEnd 50 = .ok (.getfield 363, 3) := dk_180 1 107 (dk_at dksX1_runEnd_2 4 rfl rfl)
theorem dX1_runEnd_53 : decode cX1_runEnd 53 = .ok (.iconst (-1), 1) := dk_2 (dk_at dksX1_runEnd_2 7 rfl rfl)
theorem dX1_runEnd_54 : decode cX1_runEnd 54 = .ok (.if_icmp .ne 7, 3) := dk_160 0 7 (dk_at dksX1_runEnd_2 8 rfl rfl)
theorem dX1_runEnd_57 : decode cX1_runEnd 57 = .ok (.iload_n 3, 1) := dk_29 (dk_at dksX1_runEnd_2 11 rfl rfl)
theorem dX1_runEnd_58 : decode cX1_runEnd 58 = .ok (.goto 4, 3) := dk_167 0 4 (dk_at dksX1_runEnd_2 12 rfl rfl)
theorem dX1_runEnd_61 : decode cX1_runEnd 61 = .ok (.iconst (-1), 1) := dk_2 (dk_at dksX1_runEnd_2 15 rfl rfl)
theorem dX1_runEnd_62 : decode cX1_runEnd 62 = .ok (.ireturn, 1) := dk_172 (dk_at dksX1_runEnd_2 16 rfl rfl)
abbrev cX1_spare : ByteArray := prog_1_method_65_code
def yX1_spare : MethodName := ⟨RX1, "spare", "(II)I"⟩
def dkwX1_spare_1 : List UInt8 := [153, 0, 7, 4, 167, 0, 4, 3, 184, 0, 198, 42, 27, 28, 182, 1, 116, 172]
abbrev dktX1_spare_1 : List UInt8 := dkwX1_spare_1 ++ []
def dkwX1_spare_0 : List UInt8 := [42, 28, 182, 0, 136, 78, 27, 3, 6, 184, 0, 74, 153, 0, 18, 42, 180, 0, 84, 28, 182, 1, 113]
abbrev dktX1_spare_0 : List UInt8 := dkwX1_spare_0 ++ dktX1_spare_1
theorem dksX1_spare_0 : cX1_spare.data.toList.drop 0 = dktX1_spare_0 := by decide +kernel
theorem dksX1_spare_1 : cX1_spare.data.toList.drop 23 = dktX1_spare_1 := dk_seg dksX1_spare_0 23 rfl rfl
theorem dX1_spare_0 : decode cX1_spare 0 = .ok (.aload_n 0, 1) := dk_42 (dk_at dksX1_spare_0 0 rfl rfl)
theorem dX1_spare_1 : decode cX1_spare 1 = .ok (.iload_n 2, 1) := dk_28 (dk_at dksX1_spare_0 1 rfl rfl)
theorem dX1_spare_2 : decode cX1_spare 2 = .ok (.invokevirtual 136, 3) := dk_182 0 136 (dk_at dksX1_spare_0 2 rfl rfl)
theorem dX1_spare_5 : decode cX1_spare 5 = .ok (.astore_n 3, 1) := dk_78 (dk_at dksX1_spare_0 5 rfl rfl)
theorem dX1_spare_6 : decode cX1_spare 6 = .ok (.iload_n 1, 1) := dk_27 (dk_at dksX1_spare_0 6 rfl rfl)
theorem dX1_spare_7 : decode cX1_spare 7 = .ok (.iconst 0, 1) := dk_3 (dk_at dksX1_spare_0 7 rfl rfl)
theorem dX1_spare_8 : decode cX1_spare 8 = .ok (.iconst 3, 1) := dk_6 (dk_at dksX1_spare_0 8 rfl rfl)
theorem dX1_spare_9 : decode cX1_spare 9 = .ok (.invokestatic 74, 3) := dk_184 0 74 (dk_at dksX1_spare_0 9 rfl rfl)
theorem dX1_spare_12 : decode cX1_spare 12 = .ok (.ifCond .eq 18, 3) := dk_153 0 18 (dk_at dksX1_spare_0 12 rfl rfl)
theorem dX1_spare_15 : decode cX1_spare 15 = .ok (.aload_n 0, 1) := dk_42 (dk_at dksX1_spare_0 15 rfl rfl)
theorem dX1_spare_16 : decode cX1_spare 16 = .ok (.getfield 84, 3) := dk_180 0 84 (dk_at dksX1_spare_0 16 rfl rfl)
theorem dX1_spare_19 : decode cX1_spare 19 = .ok (.iload_n 2, 1) := dk_28 (dk_at dksX1_spare_0 19 rfl rfl)
theorem dX1_spare_20 : decode cX1_spare 20 = .ok (.invokevirtual 369, 3) := dk_182 1 113 (dk_at dksX1_spare_0 20 rfl rfl)
theorem dX1_spare_23 : decode cX1_spare 23 = .ok (.ifCond .eq 7, 3) := dk_153 0 7 (dk_at dksX1_spare_1 0 rfl rfl)
theorem dX1_spare_26 : decode cX1_spare 26 = .ok (.iconst 1, 1) := dk_4 (dk_at dksX1_spare_1 3 rfl rfl)
theorem dX1_spare_27 : decode cX1_spare 27 = .ok (.goto 4, 3) := dk_167 0 4 (dk_at dksX1_spare_1 4 rfl rfl)
theorem dX1_spare_30 : decode cX1_spare 30 = .ok (.iconst 0, 1) := dk_3 (dk_at dksX1_spare_1 7 rfl rfl)
theorem dX1_spare_31 : decode cX1_spare 31 = .ok (.invokestatic 198, 3) := dk_184 0 198 (dk_at dksX1_spare_1 8 rfl rfl)
theorem dX1_spare_34 : decode cX1_spare 34 = .ok (.aload_n 0, 1) := dk_42 (dk_at dksX1_spare_1 11 rfl rfl)
theorem dX1_spare_35 : decode cX1_spare 35 = .ok (.iload_n 1, 1) := dk_27 (dk_at dksX1_spare_1 12 rfl rfl)
theorem dX1_spare_36 : decode cX1_spare 36 = .ok (.iload_n 2, 1) := dk_28 (dk_at dksX1_spare_1 13 rfl rfl)
theorem dX1_spare_37 : decode cX1_spare 37 = .ok (.invokevirtual 372, 3) := dk_182 1 116 (dk_at dksX1_spare_1 14 rfl rfl)
theorem dX1_spare_40 : decode cX1_spare 40 = .ok (.ireturn, 1) := dk_172 (dk_at dksX1_spare_1 17 rfl rfl)
abbrev cX1_spareOf : ByteArray := prog_1_method_64_code
def yX1_spareOf : MethodName := ⟨RX1, "spareOf", "(II)I"⟩
def dkwX1_spareOf_1 : List UInt8 := [182, 1, 99, 180, 1, 107, 2, 160, 0, 5, 29, 172, 132, 3, 255, 167, 255, 222, 2, 172]
abbrev dktX1_spareOf_1 : List UInt8 := dkwX1_spareOf_1 ++ []
def dkwX1_spareOf_0 : List UInt8 := [16, 99, 62, 29, 155, 0, 36, 42, 180, 0, 169, 42, 180, 0, 84, 42, 180, 0, 92, 27, 28, 29]
abbrev dktX1_spareOf_0 : List UInt8 := dkwX1_spareOf_0 ++ dktX1_spareOf_1
theorem dksX1_spareOf_0 : cX1_spareOf.data.toList.drop 0 = dktX1_spareOf_0 := by decide +kernel
theorem dksX1_spareOf_1 : cX1_spareOf.data.toList.drop 22 = dktX1_spareOf_1 := dk_seg dksX1_spareOf_0 22 rfl rfl
theorem dX1_spareOf_0 : decode cX1_spareOf 0 = .ok (.bipush 99, 2) := dk_16 99 (dk_at dksX1_spareOf_0 0 rfl rfl)
theorem dX1_spareOf_2 : decode cX1_spareOf 2 = .ok (.istore_n 3, 1) := dk_62 (dk_at dksX1_spareOf_0 2 rfl rfl)
theorem dX1_spareOf_3 : decode cX1_spareOf 3 = .ok (.iload_n 3, 1) := dk_29 (dk_at dksX1_spareOf_0 3 rfl rfl)
theorem dX1_spareOf_4 : decode cX1_spareOf 4 = .ok (.ifCond .lt 36, 3) := dk_155 0 36 (dk_at dksX1_spareOf_0 4 rfl rfl)
theorem dX1_spareOf_7 : decode cX1_spareOf 7 = .ok (.aload_n 0, 1) := dk_42 (dk_at dksX1_spareOf_0 7 rfl rfl)
theorem dX1_spareOf_8 : decode cX1_spareOf 8 = .ok (.getfield 169, 3) := dk_180 0 169 (dk_at dksX1_spareOf_0 8 rfl rfl)
theorem dX1_spareOf_11 : decode cX1_spareOf 11 = .ok (.aload_n 0, 1) := dk_42 (dk_at dksX1_spareOf_0 11 rfl rfl)
theorem dX1_spareOf_12 : decode cX1_spareOf 12 = .ok (.getfield 84, 3) := dk_180 0 84 (dk_at dksX1_spareOf_0 12 rfl rfl)
theorem dX1_spareOf_15 : decode cX1_spareOf 15 = .ok (.aload_n 0, 1) := dk_42 (dk_at dksX1_spareOf_0 15 rfl rfl)
theorem dX1_spareOf_16 : decode cX1_spareOf 16 = .ok (.getfield 92, 3) := dk_180 0 92 (dk_at dksX1_spareOf_0 16 rfl rfl)
theorem dX1_spareOf_19 : decode cX1_spareOf 19 = .ok (.iload_n 1, 1) := dk_27 (dk_at dksX1_spareOf_0 19 rfl rfl)
theorem dX1_spareOf_20 : decode cX1_spareOf 20 = .ok (.iload_n 2, 1) := dk_28 (dk_at dksX1_spareOf_0 20 rfl rfl)
theorem dX1_spareOf_21 : decode cX1_spareOf 21 = .ok (.iload_n 3, 1) := dk_29 (dk_at dksX1_spareOf_0 21 rfl rfl)
theorem dX1_spareOf_22 : decode cX1_spareOf 22 = .ok (.invokevirtual 355, 3) := dk_182 1 99 (dk_at dksX1_spareOf_1 0 rfl rfl)
theorem dX1_spareOf_25 : decode cX1_spareOf 25 = .ok (.getfield 363, 3) := dk_180 1 107 (dk_at dksX1_spareOf_1 3 rfl rfl)
theorem dX1_spareOf_28 : decode cX1_spareOf 28 = .ok (.iconst (-1), 1) := dk_2 (dk_at dksX1_spareOf_1 6 rfl rfl)
theorem dX1_spareOf_29 : decode cX1_spareOf 29 = .ok (.if_icmp .ne 5, 3) := dk_160 0 5 (dk_at dksX1_spareOf_1 7 rfl rfl)
theorem dX1_spareOf_32 : decode cX1_spareOf 32 = .ok (.iload_n 3, 1) := dk_29 (dk_at dksX1_spareOf_1 10 rfl rfl)
theorem dX1_spareOf_33 : decode cX1_spareOf 33 = .ok (.ireturn, 1) := dk_172 (dk_at dksX1_spareOf_1 11 rfl rfl)
theorem dX1_spareOf_34 : decode cX1_spareOf 34 = .ok (.iinc 3 (-1), 3) := dk_132 3 255 (dk_at dksX1_spareOf_1 12 rfl rfl)
theorem dX1_spareOf_37 : decode cX1_spareOf 37 = .ok (.goto (-34), 3) := dk_167 255 222 (dk_at dksX1_spareOf_1 15 rfl rfl)
theorem dX1_spareOf_40 : decode cX1_spareOf 40 = .ok (.iconst (-1), 1) := dk_2 (dk_at dksX1_spareOf_1 18 rfl rfl)
theorem dX1_spareOf_41 : decode cX1_spareOf 41 = .ok (.ireturn, 1) := dk_172 (dk_at dksX1_spareOf_1 19 rfl rfl)
abbrev cX1_weakest : ByteArray := prog_1_method_66_code
def yX1_weakest : MethodName := ⟨RX1, "weakest", "(I)I"⟩
def dkwX1_weakest_3 : List UInt8 := [167, 0, 10, 21, 5, 62, 21, 6, 54, 4, 132, 5, 1, 167, 255, 195, 29, 172]
abbrev dktX1_weakest_3 : List UInt8 := dkwX1_weakest_3 ++ []
def dkwX1_weakest_2 : List UInt8 := [167, 0, 34, 42, 27, 21, 5, 182, 1, 116, 54, 6, 29, 2, 159, 0, 13, 21, 6, 21, 4, 161, 0, 6]
abbrev dktX1_weakest_2 : List UInt8 := dkwX1_weakest_2 ++ dktX1_weakest_3
def dkwX1_weakest_1 : List UInt8 := [42, 180, 0, 84, 182, 0, 13, 162, 0, 55, 42, 180, 0, 84, 21, 5, 182, 1, 113, 154, 0, 6]
abbrev dktX1_weakest_1 : List UInt8 := dkwX1_weakest_1 ++ dktX1_weakest_2
def dkwX1_weakest_0 : List UInt8 := [42, 182, 0, 132, 77, 27, 3, 6, 184, 0, 74, 184, 0, 198, 2, 62, 3, 54, 4, 4, 54, 5, 21, 5]
abbrev dktX1_weakest_0 : List UInt8 := dkwX1_weakest_0 ++ dktX1_weakest_1
theorem dksX1_weakest_0 : cX1_weakest.data.toList.drop 0 = dktX1_weakest_0 := by decide +kernel
theorem dksX1_weakest_1 : cX1_weakest.data.toList.drop 24 = dktX1_weakest_1 := dk_seg dksX1_weakest_0 24 rfl rfl
theorem dksX1_weakest_2 : cX1_weakest.data.toList.drop 46 = dktX1_weakest_2 := dk_seg dksX1_weakest_1 22 rfl rfl
theorem dksX1_weakest_3 : cX1_weakest.data.toList.drop 70 = dktX1_weakest_3 := dk_seg dksX1_weakest_2 24 rfl rfl
theorem dX1_weakest_0 : decode cX1_weakest 0 = .ok (.aload_n 0, 1) := dk_42 (dk_at dksX1_weakest_0 0 rfl rfl)
theorem dX1_weakest_1 : decode cX1_weakest 1 = .ok (.invokevirtual 132, 3) := dk_182 0 132 (dk_at dksX1_weakest_0 1 rfl rfl)
theorem dX1_weakest_4 : decode cX1_weakest 4 = .ok (.astore_n 2, 1) := dk_77 (dk_at dksX1_weakest_0 4 rfl rfl)
theorem dX1_weakest_5 : decode cX1_weakest 5 = .ok (.iload_n 1, 1) := dk_27 (dk_at dksX1_weakest_0 5 rfl rfl)
theorem dX1_weakest_6 : decode cX1_weakest 6 = .ok (.iconst 0, 1) := dk_3 (dk_at dksX1_weakest_0 6 rfl rfl)
theorem dX1_weakest_7 : decode cX1_weakest 7 = .ok (.iconst 3, 1) := dk_6 (dk_at dksX1_weakest_0 7 rfl rfl)
theorem dX1_weakest_8 : decode cX1_weakest 8 = .ok (.invokestatic 74, 3) := dk_184 0 74 (dk_at dksX1_weakest_0 8 rfl rfl)
theorem dX1_weakest_11 : decode cX1_weakest 11 = .ok (.invokestatic 198, 3) := dk_184 0 198 (dk_at dksX1_weakest_0 11 rfl rfl)
theorem dX1_weakest_14 : decode cX1_weakest 14 = .ok (.iconst (-1), 1) := dk_2 (dk_at dksX1_weakest_0 14 rfl rfl)
theorem dX1_weakest_15 : decode cX1_weakest 15 = .ok (.istore_n 3, 1) := dk_62 (dk_at dksX1_weakest_0 15 rfl rfl)
theorem dX1_weakest_16 : decode cX1_weakest 16 = .ok (.iconst 0, 1) := dk_3 (dk_at dksX1_weakest_0 16 rfl rfl)
theorem dX1_weakest_17 : decode cX1_weakest 17 = .ok (.istore 4, 2) := dk_54 4 (dk_at dksX1_weakest_0 17 rfl rfl)
theorem dX1_weakest_19 : decode cX1_weakest 19 = .ok (.iconst 1, 1) := dk_4 (dk_at dksX1_weakest_0 19 rfl rfl)
theorem dX1_weakest_20 : decode cX1_weakest 20 = .ok (.istore 5, 2) := dk_54 5 (dk_at dksX1_weakest_0 20 rfl rfl)
theorem dX1_weakest_22 : decode cX1_weakest 22 = .ok (.iload 5, 2) := dk_21 5 (dk_at dksX1_weakest_0 22 rfl rfl)
theorem dX1_weakest_24 : decode cX1_weakest 24 = .ok (.aload_n 0, 1) := dk_42 (dk_at dksX1_weakest_1 0 rfl rfl)
theorem dX1_weakest_25 : decode cX1_weakest 25 = .ok (.getfield 84, 3) := dk_180 0 84 (dk_at dksX1_weakest_1 1 rfl rfl)
theorem dX1_weakest_28 : decode cX1_weakest 28 = .ok (.invokevirtual 13, 3) := dk_182 0 13 (dk_at dksX1_weakest_1 4 rfl rfl)
theorem dX1_weakest_31 : decode cX1_weakest 31 = .ok (.if_icmp .ge 55, 3) := dk_162 0 55 (dk_at dksX1_weakest_1 7 rfl rfl)
theorem dX1_weakest_34 : decode cX1_weakest 34 = .ok (.aload_n 0, 1) := dk_42 (dk_at dksX1_weakest_1 10 rfl rfl)
theorem dX1_weakest_35 : decode cX1_weakest 35 = .ok (.getfield 84, 3) := dk_180 0 84 (dk_at dksX1_weakest_1 11 rfl rfl)
theorem dX1_weakest_38 : decode cX1_weakest 38 = .ok (.iload 5, 2) := dk_21 5 (dk_at dksX1_weakest_1 14 rfl rfl)
theorem dX1_weakest_40 : decode cX1_weakest 40 = .ok (.invokevirtual 369, 3) := dk_182 1 113 (dk_at dksX1_weakest_1 16 rfl rfl)
theorem dX1_weakest_43 : decode cX1_weakest 43 = .ok (.ifCond .ne 6, 3) := dk_154 0 6 (dk_at dksX1_weakest_1 19 rfl rfl)
theorem dX1_weakest_46 : decode cX1_weakest 46 = .ok (.goto 34, 3) := dk_167 0 34 (dk_at dksX1_weakest_2 0 rfl rfl)
theorem dX1_weakest_49 : decode cX1_weakest 49 = .ok (.aload_n 0, 1) := dk_42 (dk_at dksX1_weakest_2 3 rfl rfl)
theorem dX1_weakest_50 : decode cX1_weakest 50 = .ok (.iload_n 1, 1) := dk_27 (dk_at dksX1_weakest_2 4 rfl rfl)
theorem dX1_weakest_51 : decode cX1_weakest 51 = .ok (.iload 5, 2) := dk_21 5 (dk_at dksX1_weakest_2 5 rfl rfl)
theorem dX1_weakest_53 : decode cX1_weakest 53 = .ok (.invokevirtual 372, 3) := dk_182 1 116 (dk_at dksX1_weakest_2 7 rfl rfl)
theorem dX1_weakest_56 : decode cX1_weakest 56 = .ok (.istore 6, 2) := dk_54 6 (dk_at dksX1_weakest_2 10 rfl rfl)
theorem dX1_weakest_58 : decode cX1_weakest 58 = .ok (.iload_n 3, 1) := dk_29 (dk_at dksX1_weakest_2 12 rfl rfl)
theorem dX1_weakest_59 : decode cX1_weakest 59 = .ok (.iconst (-1), 1) := dk_2 (dk_at dksX1_weakest_2 13 rfl rfl)
theorem dX1_weakest_60 : decode cX1_weakest 60 = .ok (.if_icmp .eq 13, 3) := dk_159 0 13 (dk_at dksX1_weakest_2 14 rfl rfl)
theorem dX1_weakest_63 : decode cX1_weakest 63 = .ok (.iload 6, 2) := dk_21 6 (dk_at dksX1_weakest_2 17 rfl rfl)
theorem dX1_weakest_65 : decode cX1_weakest 65 = .ok (.iload 4, 2) := dk_21 4 (dk_at dksX1_weakest_2 19 rfl rfl)
theorem dX1_weakest_67 : decode cX1_weakest 67 = .ok (.if_icmp .lt 6, 3) := dk_161 0 6 (dk_at dksX1_weakest_2 21 rfl rfl)
theorem dX1_weakest_70 : decode cX1_weakest 70 = .ok (.goto 10, 3) := dk_167 0 10 (dk_at dksX1_weakest_3 0 rfl rfl)
theorem dX1_weakest_73 : decode cX1_weakest 73 = .ok (.iload 5, 2) := dk_21 5 (dk_at dksX1_weakest_3 3 rfl rfl)
theorem dX1_weakest_75 : decode cX1_weakest 75 = .ok (.istore_n 3, 1) := dk_62 (dk_at dksX1_weakest_3 5 rfl rfl)
theorem dX1_weakest_76 : decode cX1_weakest 76 = .ok (.iload 6, 2) := dk_21 6 (dk_at dksX1_weakest_3 6 rfl rfl)
theorem dX1_weakest_78 : decode cX1_weakest 78 = .ok (.istore 4, 2) := dk_54 4 (dk_at dksX1_weakest_3 8 rfl rfl)
theorem dX1_weakest_80 : decode cX1_weakest 80 = .ok (.iinc 5 1, 3) := dk_132 5 1 (dk_at dksX1_weakest_3 10 rfl rfl)
theorem dX1_weakest_83 : decode cX1_weakest 83 = .ok (.goto (-61), 3) := dk_167 255 195 (dk_at dksX1_weakest_3 13 rfl rfl)
theorem dX1_weakest_86 : decode cX1_weakest 86 = .ok (.iload_n 3, 1) := dk_29 (dk_at dksX1_weakest_3 16 rfl rfl)
theorem dX1_weakest_87 : decode cX1_weakest 87 = .ok (.ireturn, 1) := dk_172 (dk_at dksX1_weakest_3 17 rfl rfl)
abbrev cX1_writeEvent : ByteArray := prog_1_method_67_code
def yX1_writeEvent : MethodName := ⟨RX1, "writeEvent", "(I)I"⟩
def dkwX1_writeEvent_4 : List UInt8 := [154, 0, 13, 42, 180, 0, 67, 16, 33, 182, 1, 126, 87, 42, 180, 0, 67, 182, 1, 134, 172]
abbrev dktX1_writeEvent_4 : List UInt8 := dkwX1_writeEvent_4 ++ []
def dkwX1_writeEvent_3 : List UInt8 := [87, 167, 0, 13, 42, 180, 0, 67, 16, 42, 182, 1, 126, 87, 42, 180, 0, 84, 27, 182, 1, 113]
abbrev dktX1_writeEvent_3 : List UInt8 := dkwX1_writeEvent_3 ++ dktX1_writeEvent_4
def dkwX1_writeEvent_2 : List UInt8 := [182, 1, 122, 87, 44, 27, 182, 1, 17, 153, 0, 19, 42, 180, 0, 67, 44, 27, 182, 0, 231, 182, 1, 129]
abbrev dktX1_writeEvent_2 : List UInt8 := dkwX1_writeEvent_2 ++ dktX1_writeEvent_3
def dkwX1_writeEvent_1 : List UInt8 := [180, 0, 185, 27, 50, 182, 1, 122, 16, 32, 182, 1, 126, 44, 27, 182, 0, 228, 182, 1, 129, 19, 1, 132]
abbrev dktX1_writeEvent_1 : List UInt8 := dkwX1_writeEvent_1 ++ dktX1_writeEvent_2
def dkwX1_writeEvent_0 : List UInt8 := [42, 27, 182, 0, 136, 77, 42, 180, 0, 67, 3, 182, 1, 119, 42, 180, 0, 67, 42, 180, 0, 84]
abbrev dktX1_writeEvent_0 : List UInt8 := dkwX1_writeEvent_0 ++ dktX1_writeEvent_1
theorem dksX1_writeEvent_0 : cX1_writeEvent.data.toList.drop 0 = dktX1_writeEvent_0 := by decide +kernel
theorem dksX1_writeEvent_1 : cX1_writeEvent.data.toList.drop 22 = dktX1_writeEvent_1 := dk_seg dksX1_writeEvent_0 22 rfl rfl
theorem dksX1_writeEvent_2 : cX1_writeEvent.data.toList.drop 46 = dktX1_writeEvent_2 := dk_seg dksX1_writeEvent_1 24 rfl rfl
theorem dksX1_writeEvent_3 : cX1_writeEvent.data.toList.drop 70 = dktX1_writeEvent_3 := dk_seg dksX1_writeEvent_2 24 rfl rfl
theorem dksX1_writeEvent_4 : cX1_writeEvent.data.toList.drop 92 = dktX1_writeEvent_4 := dk_seg dksX1_writeEvent_3 22 rfl rfl
theorem dX1_writeEvent_0 : decode cX1_writeEvent 0 = .ok (.aload_n 0, 1) := dk_42 (dk_at dksX1_writeEvent_0 0 rfl rfl)
theorem dX1_writeEvent_1 : decode cX1_writeEvent 1 = .ok (.iload_n 1, 1) := dk_27 (dk_at dksX1_writeEvent_0 1 rfl rfl)
theorem dX1_writeEvent_2 : decode cX1_writeEvent 2 = .ok (.invokevirtual 136, 3) := dk_182 0 136 (dk_at dksX1_writeEvent_0 2 rfl rfl)
theorem dX1_writeEvent_5 : decode cX1_writeEvent 5 = .ok (.astore_n 2, 1) := dk_77 (dk_at dksX1_writeEvent_0 5 rfl rfl)
theorem dX1_writeEvent_6 : decode cX1_writeEvent 6 = .ok (.aload_n 0, 1) := dk_42 (dk_at dksX1_writeEvent_0 6 rfl rfl)
theorem dX1_writeEvent_7 : decode cX1_writeEvent 7 = .ok (.getfield 67, 3) := dk_180 0 67 (dk_at dksX1_writeEvent_0 7 rfl rfl)
theorem dX1_writeEvent_10 : decode cX1_writeEvent 10 = .ok (.iconst 0, 1) := dk_3 (dk_at dksX1_writeEvent_0 10 rfl rfl)
theorem dX1_writeEvent_11 : decode cX1_writeEvent 11 = .ok (.invokevirtual 375, 3) := dk_182 1 119 (dk_at dksX1_writeEvent_0 11 rfl rfl)
theorem dX1_writeEvent_14 : decode cX1_writeEvent 14 = .ok (.aload_n 0, 1) := dk_42 (dk_at dksX1_writeEvent_0 14 rfl rfl)
theorem dX1_writeEvent_15 : decode cX1_writeEvent 15 = .ok (.getfield 67, 3) := dk_180 0 67 (dk_at dksX1_writeEvent_0 15 rfl rfl)
theorem dX1_writeEvent_18 : decode cX1_writeEvent 18 = .ok (.aload_n 0, 1) := dk_42 (dk_at dksX1_writeEvent_0 18 rfl rfl)
theorem dX1_writeEvent_19 : decode cX1_writeEvent 19 = .ok (.getfield 84, 3) := dk_180 0 84 (dk_at dksX1_writeEvent_0 19 rfl rfl)
theorem dX1_writeEvent_22 : decode cX1_writeEvent 22 = .ok (.getfield 185, 3) := dk_180 0 185 (dk_at dksX1_writeEvent_1 0 rfl rfl)
theorem dX1_writeEvent_25 : decode cX1_writeEvent 25 = .ok (.iload_n 1, 1) := dk_27 (dk_at dksX1_writeEvent_1 3 rfl rfl)
theorem dX1_writeEvent_26 : decode cX1_writeEvent 26 = .ok (.aaload, 1) := dk_50 (dk_at dksX1_writeEvent_1 4 rfl rfl)
theorem dX1_writeEvent_27 : decode cX1_writeEvent 27 = .ok (.invokevirtual 378, 3) := dk_182 1 122 (dk_at dksX1_writeEvent_1 5 rfl rfl)
theorem dX1_writeEvent_30 : decode cX1_writeEvent 30 = .ok (.bipush 32, 2) := dk_16 32 (dk_at dksX1_writeEvent_1 8 rfl rfl)
theorem dX1_writeEvent_32 : decode cX1_writeEvent 32 = .ok (.invokevirtual 382, 3) := dk_182 1 126 (dk_at dksX1_writeEvent_1 10 rfl rfl)
theorem dX1_writeEvent_35 : decode cX1_writeEvent 35 = .ok (.aload_n 2, 1) := dk_44 (dk_at dksX1_writeEvent_1 13 rfl rfl)
theorem dX1_writeEvent_36 : decode cX1_writeEvent 36 = .ok (.iload_n 1, 1) := dk_27 (dk_at dksX1_writeEvent_1 14 rfl rfl)
theorem dX1_writeEvent_37 : decode cX1_writeEvent 37 = .ok (.invokevirtual 228, 3) := dk_182 0 228 (dk_at dksX1_writeEvent_1 15 rfl rfl)
theorem dX1_writeEvent_40 : decode cX1_writeEvent 40 = .ok (.invokevirtual 385, 3) := dk_182 1 129 (dk_at dksX1_writeEvent_1 18 rfl rfl)
theorem dX1_writeEvent_43 : decode cX1_writeEvent 43 = .ok (.ldc_w 388, 3) := dk_19 1 132 (dk_at dksX1_writeEvent_1 21 rfl rfl)
theorem dX1_writeEvent_46 : decode cX1_writeEvent 46 = .ok (.invokevirtual 378, 3) := dk_182 1 122 (dk_at dksX1_writeEvent_2 0 rfl rfl)
theorem dX1_writeEvent_49 : decode cX1_writeEvent 49 = .ok (.pop, 1) := dk_87 (dk_at dksX1_writeEvent_2 3 rfl rfl)
theorem dX1_writeEvent_50 : decode cX1_writeEvent 50 = .ok (.aload_n 2, 1) := dk_44 (dk_at dksX1_writeEvent_2 4 rfl rfl)
theorem dX1_writeEvent_51 : decode cX1_writeEvent 51 = .ok (.iload_n 1, 1) := dk_27 (dk_at dksX1_writeEvent_2 5 rfl rfl)
theorem dX1_writeEvent_52 : decode cX1_writeEvent 52 = .ok (.invokevirtual 273, 3) := dk_182 1 17 (dk_at dksX1_writeEvent_2 6 rfl rfl)
theorem dX1_writeEvent_55 : decode cX1_writeEvent 55 = .ok (.ifCond .eq 19, 3) := dk_153 0 19 (dk_at dksX1_writeEvent_2 9 rfl rfl)
theorem dX1_writeEvent_58 : decode cX1_writeEvent 58 = .ok (.aload_n 0, 1) := dk_42 (dk_at dksX1_writeEvent_2 12 rfl rfl)
theorem dX1_writeEvent_59 : decode cX1_writeEvent 59 = .ok (.getfield 67, 3) := dk_180 0 67 (dk_at dksX1_writeEvent_2 13 rfl rfl)
theorem dX1_writeEvent_62 : decode cX1_writeEvent 62 = .ok (.aload_n 2, 1) := dk_44 (dk_at dksX1_writeEvent_2 16 rfl rfl)
theorem dX1_writeEvent_63 : decode cX1_writeEvent 63 = .ok (.iload_n 1, 1) := dk_27 (dk_at dksX1_writeEvent_2 17 rfl rfl)
theorem dX1_writeEvent_64 : decode cX1_writeEvent 64 = .ok (.invokevirtual 231, 3) := dk_182 0 231 (dk_at dksX1_writeEvent_2 18 rfl rfl)
theorem dX1_writeEvent_67 : decode cX1_writeEvent 67 = .ok (.invokevirtual 385, 3) := dk_182 1 129 (dk_at dksX1_writeEvent_2 21 rfl rfl)
theorem dX1_writeEvent_70 : decode cX1_writeEvent 70 = .ok (.pop, 1) := dk_87 (dk_at dksX1_writeEvent_3 0 rfl rfl)
theorem dX1_writeEvent_71 : decode cX1_writeEvent 71 = .ok (.goto 13, 3) := dk_167 0 13 (dk_at dksX1_writeEvent_3 1 rfl rfl)
theorem dX1_writeEvent_74 : decode cX1_writeEvent 74 = .ok (.aload_n 0, 1) := dk_42 (dk_at dksX1_writeEvent_3 4 rfl rfl)
theorem dX1_writeEvent_75 : decode cX1_writeEvent 75 = .ok (.getfield 67, 3) := dk_180 0 67 (dk_at dksX1_writeEvent_3 5 rfl rfl)
theorem dX1_writeEvent_78 : decode cX1_writeEvent 78 = .ok (.bipush 42, 2) := dk_16 42 (dk_at dksX1_writeEvent_3 8 rfl rfl)
theorem dX1_writeEvent_80 : decode cX1_writeEvent 80 = .ok (.invokevirtual 382, 3) := dk_182 1 126 (dk_at dksX1_writeEvent_3 10 rfl rfl)
theorem dX1_writeEvent_83 : decode cX1_writeEvent 83 = .ok (.pop, 1) := dk_87 (dk_at dksX1_writeEvent_3 13 rfl rfl)
theorem dX1_writeEvent_84 : decode cX1_writeEvent 84 = .ok (.aload_n 0, 1) := dk_42 (dk_at dksX1_writeEvent_3 14 rfl rfl)
theorem dX1_writeEvent_85 : decode cX1_writeEvent 85 = .ok (.getfield 84, 3) := dk_180 0 84 (dk_at dksX1_writeEvent_3 15 rfl rfl)
theorem dX1_writeEvent_88 : decode cX1_writeEvent 88 = .ok (.iload_n 1, 1) := dk_27 (dk_at dksX1_writeEvent_3 18 rfl rfl)
theorem dX1_writeEvent_89 : decode cX1_writeEvent 89 = .ok (.invokevirtual 369, 3) := dk_182 1 113 (dk_at dksX1_writeEvent_3 19 rfl rfl)
theorem dX1_writeEvent_92 : decode cX1_writeEvent 92 = .ok (.ifCond .ne 13, 3) := dk_154 0 13 (dk_at dksX1_writeEvent_4 0 rfl rfl)
theorem dX1_writeEvent_95 : decode cX1_writeEvent 95 = .ok (.aload_n 0, 1) := dk_42 (dk_at dksX1_writeEvent_4 3 rfl rfl)
theorem dX1_writeEvent_96 : decode cX1_writeEvent 96 = .ok (.getfield 67, 3) := dk_180 0 67 (dk_at dksX1_writeEvent_4 4 rfl rfl)
theorem dX1_writeEvent_99 : decode cX1_writeEvent 99 = .ok (.bipush 33, 2) := dk_16 33 (dk_at dksX1_writeEvent_4 7 rfl rfl)
theorem dX1_writeEvent_101 : decode cX1_writeEvent 101 = .ok (.invokevirtual 382, 3) := dk_182 1 126 (dk_at dksX1_writeEvent_4 9 rfl rfl)
theorem dX1_writeEvent_104 : decode cX1_writeEvent 104 = .ok (.pop, 1) := dk_87 (dk_at dksX1_writeEvent_4 12 rfl rfl)
theorem dX1_writeEvent_105 : decode cX1_writeEvent 105 = .ok (.aload_n 0, 1) := dk_42 (dk_at dksX1_writeEvent_4 13 rfl rfl)
theorem dX1_writeEvent_106 : decode cX1_writeEvent 106 = .ok (.getfield 67, 3) := dk_180 0 67 (dk_at dksX1_writeEvent_4 14 rfl rfl)
theorem dX1_writeEvent_109 : decode cX1_writeEvent 109 = .ok (.invokevirtual 390, 3) := dk_182 1 134 (dk_at dksX1_writeEvent_4 17 rfl rfl)
theorem dX1_writeEvent_112 : decode cX1_writeEvent 112 = .ok (.ireturn, 1) := dk_172 (dk_at dksX1_writeEvent_4 20 rfl rfl)
abbrev cX1_writeRound : ByteArray := prog_1_method_68_code
def yX1_writeRound : MethodName := ⟨RX1, "writeRound", "()I"⟩
def dkwX1_writeRound_5 : List UInt8 := [185, 0, 126, 2, 0, 192, 0, 219, 180, 1, 135, 50, 182, 1, 122, 87, 42, 180, 0, 67, 182, 1, 134, 172]
abbrev dktX1_writeRound_5 : List UInt8 := dkwX1_writeRound_5 ++ []
def dkwX1_writeRound_4 : List UInt8 := [182, 1, 122, 87, 167, 0, 32, 42, 180, 0, 67, 42, 180, 0, 84, 180, 0, 185, 43, 3]
abbrev dktX1_writeRound_4 : List UInt8 := dkwX1_writeRound_4 ++ dktX1_writeRound_5
def dkwX1_writeRound_3 : List UInt8 := [132, 2, 1, 167, 255, 208, 43, 185, 1, 138, 1, 0, 153, 0, 17, 42, 180, 0, 67, 19, 1, 141]
abbrev dktX1_writeRound_3 : List UInt8 := dkwX1_writeRound_3 ++ dktX1_writeRound_4
def dkwX1_writeRound_2 : List UInt8 := [185, 0, 126, 2, 0, 192, 0, 219, 180, 1, 135, 50, 182, 1, 122, 19, 1, 136, 182, 1, 122, 87]
abbrev dktX1_writeRound_2 : List UInt8 := dkwX1_writeRound_2 ++ dktX1_writeRound_3
def dkwX1_writeRound_1 : List UInt8 := [185, 0, 121, 1, 0, 162, 0, 44, 42, 180, 0, 67, 42, 180, 0, 84, 180, 0, 185, 43, 28]
abbrev dktX1_writeRound_1 : List UInt8 := dkwX1_writeRound_1 ++ dktX1_writeRound_2
def dkwX1_writeRound_0 : List UInt8 := [42, 182, 0, 106, 184, 0, 215, 76, 42, 180, 0, 67, 3, 182, 1, 119, 3, 61, 28, 43]
abbrev dktX1_writeRound_0 : List UInt8 := dkwX1_writeRound_0 ++ dktX1_writeRound_1
theorem dksX1_writeRound_0 : cX1_writeRound.data.toList.drop 0 = dktX1_writeRound_0 := by decide +kernel
theorem dksX1_writeRound_1 : cX1_writeRound.data.toList.drop 20 = dktX1_writeRound_1 := dk_seg dksX1_writeRound_0 20 rfl rfl
theorem dksX1_writeRound_2 : cX1_writeRound.data.toList.drop 41 = dktX1_writeRound_2 := dk_seg dksX1_writeRound_1 21 rfl rfl
theorem dksX1_writeRound_3 : cX1_writeRound.data.toList.drop 63 = dktX1_writeRound_3 := dk_seg dksX1_writeRound_2 22 rfl rfl
theorem dksX1_writeRound_4 : cX1_writeRound.data.toList.drop 85 = dktX1_writeRound_4 := dk_seg dksX1_writeRound_3 22 rfl rfl
theorem dksX1_writeRound_5 : cX1_writeRound.data.toList.drop 105 = dktX1_writeRound_5 := dk_seg dksX1_writeRound_4 20 rfl rfl
theorem dX1_writeRound_0 : decode cX1_writeRound 0 = .ok (.aload_n 0, 1) := dk_42 (dk_at dksX1_writeRound_0 0 rfl rfl)
theorem dX1_writeRound_1 : decode cX1_writeRound 1 = .ok (.invokevirtual 106, 3) := dk_182 0 106 (dk_at dksX1_writeRound_0 1 rfl rfl)
theorem dX1_writeRound_4 : decode cX1_writeRound 4 = .ok (.invokestatic 215, 3) := dk_184 0 215 (dk_at dksX1_writeRound_0 4 rfl rfl)
theorem dX1_writeRound_7 : decode cX1_writeRound 7 = .ok (.astore_n 1, 1) := dk_76 (dk_at dksX1_writeRound_0 7 rfl rfl)
theorem dX1_writeRound_8 : decode cX1_writeRound 8 = .ok (.aload_n 0, 1) := dk_42 (dk_at dksX1_writeRound_0 8 rfl rfl)
theorem dX1_writeRound_9 : decode cX1_writeRound 9 = .ok (.getfield 67, 3) := dk_180 0 67 (dk_at dksX1_writeRound_0 9 rfl rfl)
theorem dX1_writeRound_12 : decode cX1_writeRound 12 = .ok (.iconst 0, 1) := dk_3 (dk_at dksX1_writeRound_0 12 rfl rfl)
theorem dX1_writeRound_13 : decode cX1_writeRound 13 = .ok (.invokevirtual 375, 3) := dk_182 1 119 (dk_at dksX1_writeRound_0 13 rfl rfl)
theorem dX1_writeRound_16 : decode cX1_writeRound 16 = .ok (.iconst 0, 1) := dk_3 (dk_at dksX1_writeRound_0 16 rfl rfl)
theorem dX1_writeRound_17 : decode cX1_writeRound 17 = .ok (.istore_n 2, 1) := dk_61 (dk_at dksX1_writeRound_0 17 rfl rfl)
theorem dX1_writeRound_18 : decode cX1_writeRound 18 = .ok (.iload_n 2, 1) := dk_28 (dk_at dksX1_writeRound_0 18 rfl rfl)
theorem dX1_writeRound_19 : decode cX1_writeRound 19 = .ok (.aload_n 1, 1) := dk_43 (dk_at dksX1_writeRound_0 19 rfl rfl)
theorem dX1_writeRound_20 : decode cX1_writeRound 20 = .ok (.invokeinterface 121 1, 5) := by decide +kernel
theorem dX1_writeRound_25 : decode cX1_writeRound 25 = .ok (.if_icmp .ge 44, 3) := dk_162 0 44 (dk_at dksX1_writeRound_1 5 rfl rfl)
theorem dX1_writeRound_28 : decode cX1_writeRound 28 = .ok (.aload_n 0, 1) := dk_42 (dk_at dksX1_writeRound_1 8 rfl rfl)
theorem dX1_writeRound_29 : decode cX1_writeRound 29 = .ok (.getfield 67, 3) := dk_180 0 67 (dk_at dksX1_writeRound_1 9 rfl rfl)
theorem dX1_writeRound_32 : decode cX1_writeRound 32 = .ok (.aload_n 0, 1) := dk_42 (dk_at dksX1_writeRound_1 12 rfl rfl)
theorem dX1_writeRound_33 : decode cX1_writeRound 33 = .ok (.getfield 84, 3) := dk_180 0 84 (dk_at dksX1_writeRound_1 13 rfl rfl)
theorem dX1_writeRound_36 : decode cX1_writeRound 36 = .ok (.getfield 185, 3) := dk_180 0 185 (dk_at dksX1_writeRound_1 16 rfl rfl)
theorem dX1_writeRound_39 : decode cX1_writeRound 39 = .ok (.aload_n 1, 1) := dk_43 (dk_at dksX1_writeRound_1 19 rfl rfl)
theorem dX1_writeRound_40 : decode cX1_writeRound 40 = .ok (.iload_n 2, 1) := dk_28 (dk_at dksX1_writeRound_1 20 rfl rfl)
theorem dX1_writeRound_41 : decode cX1_writeRound 41 = .ok (.invokeinterface 126 2, 5) := by decide +kernel
theorem dX1_writeRound_46 : decode cX1_writeRound 46 = .ok (.checkcast 219, 3) := dk_192 0 219 (dk_at dksX1_writeRound_2 5 rfl rfl)
theorem dX1_writeRound_49 : decode cX1_writeRound 49 = .ok (.getfield 391, 3) := dk_180 1 135 (dk_at dksX1_writeRound_2 8 rfl rfl)
theorem dX1_writeRound_52 : decode cX1_writeRound 52 = .ok (.aaload, 1) := dk_50 (dk_at dksX1_writeRound_2 11 rfl rfl)
theorem dX1_writeRound_53 : decode cX1_writeRound 53 = .ok (.invokevirtual 378, 3) := dk_182 1 122 (dk_at dksX1_writeRound_2 12 rfl rfl)
theorem dX1_writeRound_56 : decode cX1_writeRound 56 = .ok (.ldc_w 392, 3) := dk_19 1 136 (dk_at dksX1_writeRound_2 15 rfl rfl)
theorem dX1_writeRound_59 : decode cX1_writeRound 59 = .ok (.invokevirtual 378, 3) := dk_182 1 122 (dk_at dksX1_writeRound_2 18 rfl rfl)
theorem dX1_writeRound_62 : decode cX1_writeRound 62 = .ok (.pop, 1) := dk_87 (dk_at dksX1_writeRound_2 21 rfl rfl)
theorem dX1_writeRound_63 : decode cX1_writeRound 63 = .ok (.iinc 2 1, 3) := dk_132 2 1 (dk_at dksX1_writeRound_3 0 rfl rfl)
theorem dX1_writeRound_66 : decode cX1_writeRound 66 = .ok (.goto (-48), 3) := dk_167 255 208 (dk_at dksX1_writeRound_3 3 rfl rfl)
theorem dX1_writeRound_69 : decode cX1_writeRound 69 = .ok (.aload_n 1, 1) := dk_43 (dk_at dksX1_writeRound_3 6 rfl rfl)
theorem dX1_writeRound_70 : decode cX1_writeRound 70 = .ok (.invokeinterface 394 1, 5) := by decide +kernel
theorem dX1_writeRound_75 : decode cX1_writeRound 75 = .ok (.ifCond .eq 17, 3) := dk_153 0 17 (dk_at dksX1_writeRound_3 12 rfl rfl)
theorem dX1_writeRound_78 : decode cX1_writeRound 78 = .ok (.aload_n 0, 1) := dk_42 (dk_at dksX1_writeRound_3 15 rfl rfl)
theorem dX1_writeRound_79 : decode cX1_writeRound 79 = .ok (.getfield 67, 3) := dk_180 0 67 (dk_at dksX1_writeRound_3 16 rfl rfl)
theorem dX1_writeRound_82 : decode cX1_writeRound 82 = .ok (.ldc_w 397, 3) := dk_19 1 141 (dk_at dksX1_writeRound_3 19 rfl rfl)
theorem dX1_writeRound_85 : decode cX1_writeRound 85 = .ok (.invokevirtual 378, 3) := dk_182 1 122 (dk_at dksX1_writeRound_4 0 rfl rfl)
theorem dX1_writeRound_88 : decode cX1_writeRound 88 = .ok (.pop, 1) := dk_87 (dk_at dksX1_writeRound_4 3 rfl rfl)
theorem dX1_writeRound_89 : decode cX1_writeRound 89 = .ok (.goto 32, 3) := dk_167 0 32 (dk_at dksX1_writeRound_4 4 rfl rfl)
theorem dX1_writeRound_92 : decode cX1_writeRound 92 = .ok (.aload_n 0, 1) := dk_42 (dk_at dksX1_writeRound_4 7 rfl rfl)
theorem dX1_writeRound_93 : decode cX1_writeRound 93 = .ok (.getfield 67, 3) := dk_180 0 67 (dk_at dksX1_writeRound_4 8 rfl rfl)
theorem dX1_writeRound_96 : decode cX1_writeRound 96 = .ok (.aload_n 0, 1) := dk_42 (dk_at dksX1_writeRound_4 11 rfl rfl)
theorem dX1_writeRound_97 : decode cX1_writeRound 97 = .ok (.getfield 84, 3) := dk_180 0 84 (dk_at dksX1_writeRound_4 12 rfl rfl)
theorem dX1_writeRound_100 : decode cX1_writeRound 100 = .ok (.getfield 185, 3) := dk_180 0 185 (dk_at dksX1_writeRound_4 15 rfl rfl)
theorem dX1_writeRound_103 : decode cX1_writeRound 103 = .ok (.aload_n 1, 1) := dk_43 (dk_at dksX1_writeRound_4 18 rfl rfl)
theorem dX1_writeRound_104 : decode cX1_writeRound 104 = .ok (.iconst 0, 1) := dk_3 (dk_at dksX1_writeRound_4 19 rfl rfl)
theorem dX1_writeRound_105 : decode cX1_writeRound 105 = .ok (.invokeinterface 126 2, 5) := by decide +kernel
theorem dX1_writeRound_110 : decode cX1_writeRound 110 = .ok (.checkcast 219, 3) := dk_192 0 219 (dk_at dksX1_writeRound_5 5 rfl rfl)
theorem dX1_writeRound_113 : decode cX1_writeRound 113 = .ok (.getfield 391, 3) := dk_180 1 135 (dk_at dksX1_writeRound_5 8 rfl rfl)
theorem dX1_writeRound_116 : decode cX1_writeRound 116 = .ok (.aaload, 1) := dk_50 (dk_at dksX1_writeRound_5 11 rfl rfl)
theorem dX1_writeRound_117 : decode cX1_writeRound 117 = .ok (.invokevirtual 378, 3) := dk_182 1 122 (dk_at dksX1_writeRound_5 12 rfl rfl)
theorem dX1_writeRound_120 : decode cX1_writeRound 120 = .ok (.pop, 1) := dk_87 (dk_at dksX1_writeRound_5 15 rfl rfl)
theorem dX1_writeRound_121 : decode cX1_writeRound 121 = .ok (.aload_n 0, 1) := dk_42 (dk_at dksX1_writeRound_5 16 rfl rfl)
theorem dX1_writeRound_122 : decode cX1_writeRound 122 = .ok (.getfield 67, 3) := dk_180 0 67 (dk_at dksX1_writeRound_5 17 rfl rfl)
theorem dX1_writeRound_125 : decode cX1_writeRound 125 = .ok (.invokevirtual 390, 3) := dk_182 1 134 (dk_at dksX1_writeRound_5 20 rfl rfl)
theorem dX1_writeRound_128 : decode cX1_writeRound 128 = .ok (.ireturn, 1) := dk_172 (dk_at dksX1_writeRound_5 23 rfl rfl)
abbrev cX1_writeRun : ByteArray := prog_1_method_69_code
def yX1_writeRun : MethodName := ⟨RX1, "writeRun", "(I)I"⟩
def dkwX1_writeRun_5 : List UInt8 := [16, 63, 182, 1, 126, 87, 42, 180, 0, 67, 182, 1, 134, 172]
abbrev dktX1_writeRun_5 : List UInt8 := dkwX1_writeRun_5 ++ []
def dkwX1_writeRun_4 : List UInt8 := [42, 180, 0, 67, 16, 32, 182, 1, 126, 42, 180, 0, 84, 180, 0, 185, 44, 180, 1, 107, 50, 182, 1, 122]
abbrev dktX1_writeRun_4 : List UInt8 := dkwX1_writeRun_4 ++ dktX1_writeRun_5
def dkwX1_writeRun_3 : List UInt8 := [180, 1, 145, 29, 46, 46, 182, 1, 129, 87, 132, 3, 1, 167, 255, 190, 44, 180, 1, 107, 2, 159, 0, 33]
abbrev dktX1_writeRun_3 : List UInt8 := dkwX1_writeRun_3 ++ dktX1_writeRun_4
def dkwX1_writeRun_2 : List UInt8 := [180, 0, 185, 44, 180, 1, 145, 29, 46, 50, 182, 1, 122, 16, 64, 182, 1, 126, 44, 180, 1, 110, 44]
abbrev dktX1_writeRun_2 : List UInt8 := dkwX1_writeRun_2 ++ dktX1_writeRun_3
def dkwX1_writeRun_1 : List UInt8 := [29, 158, 0, 13, 42, 180, 0, 67, 16, 32, 182, 1, 126, 87, 42, 180, 0, 67, 42, 180, 0, 84]
abbrev dktX1_writeRun_1 : List UInt8 := dkwX1_writeRun_1 ++ dktX1_writeRun_2
def dkwX1_writeRun_0 : List UInt8 := [42, 27, 182, 1, 103, 77, 42, 180, 0, 67, 3, 182, 1, 119, 3, 62, 29, 44, 180, 1, 142, 162, 0, 64]
abbrev dktX1_writeRun_0 : List UInt8 := dkwX1_writeRun_0 ++ dktX1_writeRun_1
theorem dksX1_writeRun_0 : cX1_writeRun.data.toList.drop 0 = dktX1_writeRun_0 := by decide +kernel
theorem dksX1_writeRun_1 : cX1_writeRun.data.toList.drop 24 = dktX1_writeRun_1 := dk_seg dksX1_writeRun_0 24 rfl rfl
theorem dksX1_writeRun_2 : cX1_writeRun.data.toList.drop 46 = dktX1_writeRun_2 := dk_seg dksX1_writeRun_1 22 rfl rfl
theorem dksX1_writeRun_3 : cX1_writeRun.data.toList.drop 69 = dktX1_writeRun_3 := dk_seg dksX1_writeRun_2 23 rfl rfl
theorem dksX1_writeRun_4 : cX1_writeRun.data.toList.drop 93 = dktX1_writeRun_4 := dk_seg dksX1_writeRun_3 24 rfl rfl
theorem dksX1_writeRun_5 : cX1_writeRun.data.toList.drop 117 = dktX1_writeRun_5 := dk_seg dksX1_writeRun_4 24 rfl rfl
theorem dX1_writeRun_0 : decode cX1_writeRun 0 = .ok (.aload_n 0, 1) := dk_42 (dk_at dksX1_writeRun_0 0 rfl rfl)
theorem dX1_writeRun_1 : decode cX1_writeRun 1 = .ok (.iload_n 1, 1) := dk_27 (dk_at dksX1_writeRun_0 1 rfl rfl)
theorem dX1_writeRun_2 : decode cX1_writeRun 2 = .ok (.invokevirtual 359, 3) := dk_182 1 103 (dk_at dksX1_writeRun_0 2 rfl rfl)
theorem dX1_writeRun_5 : decode cX1_writeRun 5 = .ok (.astore_n 2, 1) := dk_77 (dk_at dksX1_writeRun_0 5 rfl rfl)
theorem dX1_writeRun_6 : decode cX1_writeRun 6 = .ok (.aload_n 0, 1) := dk_42 (dk_at dksX1_writeRun_0 6 rfl rfl)
theorem dX1_writeRun_7 : decode cX1_writeRun 7 = .ok (.getfield 67, 3) := dk_180 0 67 (dk_at dksX1_writeRun_0 7 rfl rfl)
theorem dX1_writeRun_10 : decode cX1_writeRun 10 = .ok (.iconst 0, 1) := dk_3 (dk_at dksX1_writeRun_0 10 rfl rfl)
theorem dX1_writeRun_11 : decode cX1_writeRun 11 = .ok (.invokevirtual 375, 3) := dk_182 1 119 (dk_at dksX1_writeRun_0 11 rfl rfl)
theorem dX1_writeRun_14 : decode cX1_writeRun 14 = .ok (.iconst 0, 1) := dk_3 (dk_at dksX1_writeRun_0 14 rfl rfl)
theorem dX1_writeRun_15 : decode cX1_writeRun 15 = .ok (.istore_n 3, 1) := dk_62 (dk_at dksX1_writeRun_0 15 rfl rfl)
theorem dX1_writeRun_16 : decode cX1_writeRun 16 = .ok (.iload_n 3, 1) := dk_29 (dk_at dksX1_writeRun_0 16 rfl rfl)
theorem dX1_writeRun_17 : decode cX1_writeRun 17 = .ok (.aload_n 2, 1) := dk_44 (dk_at dksX1_writeRun_0 17 rfl rfl)
theorem dX1_writeRun_18 : decode cX1_writeRun 18 = .ok (.getfield 398, 3) := dk_180 1 142 (dk_at dksX1_writeRun_0 18 rfl rfl)
theorem dX1_writeRun_21 : decode cX1_writeRun 21 = .ok (.if_icmp .ge 64, 3) := dk_162 0 64 (dk_at dksX1_writeRun_0 21 rfl rfl)
theorem dX1_writeRun_24 : decode cX1_writeRun 24 = .ok (.iload_n 3, 1) := dk_29 (dk_at dksX1_writeRun_1 0 rfl rfl)
theorem dX1_writeRun_25 : decode cX1_writeRun 25 = .ok (.ifCond .le 13, 3) := dk_158 0 13 (dk_at dksX1_writeRun_1 1 rfl rfl)
theorem dX1_writeRun_28 : decode cX1_writeRun 28 = .ok (.aload_n 0, 1) := dk_42 (dk_at dksX1_writeRun_1 4 rfl rfl)
theorem dX1_writeRun_29 : decode cX1_writeRun 29 = .ok (.getfield 67, 3) := dk_180 0 67 (dk_at dksX1_writeRun_1 5 rfl rfl)
theorem dX1_writeRun_32 : decode cX1_writeRun 32 = .ok (.bipush 32, 2) := dk_16 32 (dk_at dksX1_writeRun_1 8 rfl rfl)
theorem dX1_writeRun_34 : decode cX1_writeRun 34 = .ok (.invokevirtual 382, 3) := dk_182 1 126 (dk_at dksX1_writeRun_1 10 rfl rfl)
theorem dX1_writeRun_37 : decode cX1_writeRun 37 = .ok (.pop, 1) := dk_87 (dk_at dksX1_writeRun_1 13 rfl rfl)
theorem dX1_writeRun_38 : decode cX1_writeRun 38 = .ok (.aload_n 0, 1) := dk_42 (dk_at dksX1_writeRun_1 14 rfl rfl)
theorem dX1_writeRun_39 : decode cX1_writeRun 39 = .ok (.getfield 67, 3) := dk_180 0 67 (dk_at dksX1_writeRun_1 15 rfl rfl)
theorem dX1_writeRun_42 : decode cX1_writeRun 42 = .ok (.aload_n 0, 1) := dk_42 (dk_at dksX1_writeRun_1 18 rfl rfl)
theorem dX1_writeRun_43 : decode cX1_writeRun 43 = .ok (.getfield 84, 3) := dk_180 0 84 (dk_at dksX1_writeRun_1 19 rfl rfl)
theorem dX1_writeRun_46 : decode cX1_writeRun 46 = .ok (.getfield 185, 3) := dk_180 0 185 (dk_at dksX1_writeRun_2 0 rfl rfl)
theorem dX1_writeRun_49 : decode cX1_writeRun 49 = .ok (.aload_n 2, 1) := dk_44 (dk_at dksX1_writeRun_2 3 rfl rfl)
theorem dX1_writeRun_50 : decode cX1_writeRun 50 = .ok (.getfield 401, 3) := dk_180 1 145 (dk_at dksX1_writeRun_2 4 rfl rfl)
theorem dX1_writeRun_53 : decode cX1_writeRun 53 = .ok (.iload_n 3, 1) := dk_29 (dk_at dksX1_writeRun_2 7 rfl rfl)
theorem dX1_writeRun_54 : decode cX1_writeRun 54 = .ok (.iaload, 1) := dk_46 (dk_at dksX1_writeRun_2 8 rfl rfl)
theorem dX1_writeRun_55 : decode cX1_writeRun 55 = .ok (.aaload, 1) := dk_50 (dk_at dksX1_writeRun_2 9 rfl rfl)
theorem dX1_writeRun_56 : decode cX1_writeRun 56 = .ok (.invokevirtual 378, 3) := dk_182 1 122 (dk_at dksX1_writeRun_2 10 rfl rfl)
theorem dX1_writeRun_59 : decode cX1_writeRun 59 = .ok (.bipush 64, 2) := dk_16 64 (dk_at dksX1_writeRun_2 13 rfl rfl)
theorem dX1_writeRun_61 : decode cX1_writeRun 61 = .ok (.invokevirtual 382, 3) := dk_182 1 126 (dk_at dksX1_writeRun_2 15 rfl rfl)
theorem dX1_writeRun_64 : decode cX1_writeRun 64 = .ok (.aload_n 2, 1) := dk_44 (dk_at dksX1_writeRun_2 18 rfl rfl)
theorem dX1_writeRun_65 : decode cX1_writeRun 65 = .ok (.getfield 366, 3) := dk_180 1 110 (dk_at dksX1_writeRun_2 19 rfl rfl)
theorem dX1_writeRun_68 : decode cX1_writeRun 68 = .ok (.aload_n 2, 1) := dk_44 (dk_at dksX1_writeRun_2 22 rfl rfl)
theorem dX1_writeRun_69 : decode cX1_writeRun 69 = .ok (.getfield 401, 3) := dk_180 1 145 (dk_at dksX1_writeRun_3 0 rfl rfl)
theorem dX1_writeRun_72 : decode cX1_writeRun 72 = .ok (.iload_n 3, 1) := dk_29 (dk_at dksX1_writeRun_3 3 rfl rfl)
theorem dX1_writeRun_73 : decode cX1_writeRun 73 = .ok (.iaload, 1) := dk_46 (dk_at dksX1_writeRun_3 4 rfl rfl)
theorem dX1_writeRun_74 : decode cX1_writeRun 74 = .ok (.iaload, 1) := dk_46 (dk_at dksX1_writeRun_3 5 rfl rfl)
theorem dX1_writeRun_75 : decode cX1_writeRun 75 = .ok (.invokevirtual 385, 3) := dk_182 1 129 (dk_at dksX1_writeRun_3 6 rfl rfl)
theorem dX1_writeRun_78 : decode cX1_writeRun 78 = .ok (.pop, 1) := dk_87 (dk_at dksX1_writeRun_3 9 rfl rfl)
theorem dX1_writeRun_79 : decode cX1_writeRun 79 = .ok (.iinc 3 1, 3) := dk_132 3 1 (dk_at dksX1_writeRun_3 10 rfl rfl)
theorem dX1_writeRun_82 : decode cX1_writeRun 82 = .ok (.goto (-66), 3) := dk_167 255 190 (dk_at dksX1_writeRun_3 13 rfl rfl)
theorem dX1_writeRun_85 : decode cX1_writeRun 85 = .ok (.aload_n 2, 1) := dk_44 (dk_at dksX1_writeRun_3 16 rfl rfl)
theorem dX1_writeRun_86 : decode cX1_writeRun 86 = .ok (.getfield 363, 3) := dk_180 1 107 (dk_at dksX1_writeRun_3 17 rfl rfl)
theorem dX1_writeRun_89 : decode cX1_writeRun 89 = .ok (.iconst (-1), 1) := dk_2 (dk_at dksX1_writeRun_3 20 rfl rfl)
theorem dX1_writeRun_90 : decode cX1_writeRun 90 = .ok (.if_icmp .eq 33, 3) := dk_159 0 33 (dk_at dksX1_writeRun_3 21 rfl rfl)
theorem dX1_writeRun_93 : decode cX1_writeRun 93 = .ok (.aload_n 0, 1) := dk_42 (dk_at dksX1_writeRun_4 0 rfl rfl)
theorem dX1_writeRun_94 : decode cX1_writeRun 94 = .ok (.getfield 67, 3) := dk_180 0 67 (dk_at dksX1_writeRun_4 1 rfl rfl)
theorem dX1_writeRun_97 : decode cX1_writeRun 97 = .ok (.bipush 32, 2) := dk_16 32 (dk_at dksX1_writeRun_4 4 rfl rfl)
theorem dX1_writeRun_99 : decode cX1_writeRun 99 = .ok (.invokevirtual 382, 3) := dk_182 1 126 (dk_at dksX1_writeRun_4 6 rfl rfl)
theorem dX1_writeRun_102 : decode cX1_writeRun 102 = .ok (.aload_n 0, 1) := dk_42 (dk_at dksX1_writeRun_4 9 rfl rfl)
theorem dX1_writeRun_103 : decode cX1_writeRun 103 = .ok (.getfield 84, 3) := dk_180 0 84 (dk_at dksX1_writeRun_4 10 rfl rfl)
theorem dX1_writeRun_106 : decode cX1_writeRun 106 = .ok (.getfield 185, 3) := dk_180 0 185 (dk_at dksX1_writeRun_4 13 rfl rfl)
theorem dX1_writeRun_109 : decode cX1_writeRun 109 = .ok (.aload_n 2, 1) := dk_44 (dk_at dksX1_writeRun_4 16 rfl rfl)
theorem dX1_writeRun_110 : decode cX1_writeRun 110 = .ok (.getfield 363, 3) := dk_180 1 107 (dk_at dksX1_writeRun_4 17 rfl rfl)
theorem dX1_writeRun_113 : decode cX1_writeRun 113 = .ok (.aaload, 1) := dk_50 (dk_at dksX1_writeRun_4 20 rfl rfl)
theorem dX1_writeRun_114 : decode cX1_writeRun 114 = .ok (.invokevirtual 378, 3) := dk_182 1 122 (dk_at dksX1_writeRun_4 21 rfl rfl)
theorem dX1_writeRun_117 : decode cX1_writeRun 117 = .ok (.bipush 63, 2) := dk_16 63 (dk_at dksX1_writeRun_5 0 rfl rfl)
theorem dX1_writeRun_119 : decode cX1_writeRun 119 = .ok (.invokevirtual 382, 3) := dk_182 1 126 (dk_at dksX1_writeRun_5 2 rfl rfl)
theorem dX1_writeRun_122 : decode cX1_writeRun 122 = .ok (.pop, 1) := dk_87 (dk_at dksX1_writeRun_5 5 rfl rfl)
theorem dX1_writeRun_123 : decode cX1_writeRun 123 = .ok (.aload_n 0, 1) := dk_42 (dk_at dksX1_writeRun_5 6 rfl rfl)
theorem dX1_writeRun_124 : decode cX1_writeRun 124 = .ok (.getfield 67, 3) := dk_180 0 67 (dk_at dksX1_writeRun_5 7 rfl rfl)
theorem dX1_writeRun_127 : decode cX1_writeRun 127 = .ok (.invokevirtual 390, 3) := dk_182 1 134 (dk_at dksX1_writeRun_5 10 rfl rfl)
theorem dX1_writeRun_130 : decode cX1_writeRun 130 = .ok (.ireturn, 1) := dk_172 (dk_at dksX1_writeRun_5 13 rfl rfl)
abbrev cX1_textByte : ByteArray := prog_1_method_70_code
def yX1_textByte : MethodName := ⟨RX1, "textByte", "(I)I"⟩
def dkwX1_textByte_0 : List UInt8 := [27, 42, 180, 0, 67, 182, 1, 134, 184, 0, 113, 42, 180, 0, 67, 27, 182, 1, 148, 172]
abbrev dktX1_textByte_0 : List UInt8 := dkwX1_textByte_0 ++ []
theorem dksX1_textByte_0 : cX1_textByte.data.toList.drop 0 = dktX1_textByte_0 := by decide +kernel
theorem dX1_textByte_0 : decode cX1_textByte 0 = .ok (.iload_n 1, 1) := dk_27 (dk_at dksX1_textByte_0 0 rfl rfl)
theorem dX1_textByte_1 : decode cX1_textByte 1 = .ok (.aload_n 0, 1) := dk_42 (dk_at dksX1_textByte_0 1 rfl rfl)
theorem dX1_textByte_2 : decode cX1_textByte 2 = .ok (.getfield 67, 3) := dk_180 0 67 (dk_at dksX1_textByte_0 2 rfl rfl)
theorem dX1_textByte_5 : decode cX1_textByte 5 = .ok (.invokevirtual 390, 3) := dk_182 1 134 (dk_at dksX1_textByte_0 5 rfl rfl)
theorem dX1_textByte_8 : decode cX1_textByte 8 = .ok (.invokestatic 113, 3) := dk_184 0 113 (dk_at dksX1_textByte_0 8 rfl rfl)
theorem dX1_textByte_11 : decode cX1_textByte 11 = .ok (.aload_n 0, 1) := dk_42 (dk_at dksX1_textByte_0 11 rfl rfl)
theorem dX1_textByte_12 : decode cX1_textByte 12 = .ok (.getfield 67, 3) := dk_180 0 67 (dk_at dksX1_textByte_0 12 rfl rfl)
theorem dX1_textByte_15 : decode cX1_textByte 15 = .ok (.iload_n 1, 1) := dk_27 (dk_at dksX1_textByte_0 15 rfl rfl)
theorem dX1_textByte_16 : decode cX1_textByte 16 = .ok (.invokevirtual 404, 3) := dk_182 1 148 (dk_at dksX1_textByte_0 16 rfl rfl)
theorem dX1_textByte_19 : decode cX1_textByte 19 = .ok (.ireturn, 1) := dk_172 (dk_at dksX1_textByte_0 19 rfl rfl)
abbrev cX1_setLow : ByteArray := prog_1_method_72_code
def yX1_setLow : MethodName := ⟨RX1, "setLow", "(II)I"⟩
def dkwX1_setLow_2 : List UInt8 := [21, 4, 172]
abbrev dktX1_setLow_2 : List UInt8 := dkwX1_setLow_2 ++ []
def dkwX1_setLow_1 : List UInt8 := [180, 1, 2, 184, 0, 74, 184, 0, 198, 42, 182, 1, 160, 45, 180, 0, 255, 54, 4, 45, 28, 181, 0, 255]
abbrev dktX1_setLow_1 : List UInt8 := dkwX1_setLow_1 ++ dktX1_setLow_2
def dkwX1_setLow_0 : List UInt8 := [42, 27, 182, 0, 140, 78, 28, 3, 45, 180, 1, 2, 2, 160, 0, 9, 17, 3, 231, 167, 0, 7, 45]
abbrev dktX1_setLow_0 : List UInt8 := dkwX1_setLow_0 ++ dktX1_setLow_1
theorem dksX1_setLow_0 : cX1_setLow.data.toList.drop 0 = dktX1_setLow_0 := by decide +kernel
theorem dksX1_setLow_1 : cX1_setLow.data.toList.drop 23 = dktX1_setLow_1 := dk_seg dksX1_setLow_0 23 rfl rfl
theorem dksX1_setLow_2 : cX1_setLow.data.toList.drop 47 = dktX1_setLow_2 := dk_seg dksX1_setLow_1 24 rfl rfl
theorem dX1_setLow_0 : decode cX1_setLow 0 = .ok (.aload_n 0, 1) := dk_42 (dk_at dksX1_setLow_0 0 rfl rfl)
theorem dX1_setLow_1 : decode cX1_setLow 1 = .ok (.iload_n 1, 1) := dk_27 (dk_at dksX1_setLow_0 1 rfl rfl)
theorem dX1_setLow_2 : decode cX1_setLow 2 = .ok (.invokevirtual 140, 3) := dk_182 0 140 (dk_at dksX1_setLow_0 2 rfl rfl)
theorem dX1_setLow_5 : decode cX1_setLow 5 = .ok (.astore_n 3, 1) := dk_78 (dk_at dksX1_setLow_0 5 rfl rfl)
theorem dX1_setLow_6 : decode cX1_setLow 6 = .ok (.iload_n 2, 1) := dk_28 (dk_at dksX1_setLow_0 6 rfl rfl)
theorem dX1_setLow_7 : decode cX1_setLow 7 = .ok (.iconst 0, 1) := dk_3 (dk_at dksX1_setLow_0 7 rfl rfl)
theorem dX1_setLow_8 : decode cX1_setLow 8 = .ok (.aload_n 3, 1) := dk_45 (dk_at dksX1_setLow_0 8 rfl rfl)
theorem dX1_setLow_9 : decode cX1_setLow 9 = .ok (.getfield 258, 3) := dk_180 1 2 (dk_at dksX1_setLow_0 9 rfl rfl)
theorem dX1_setLow_12 : decode cX1_setLow 12 = .ok (.iconst (-1), 1) := dk_2 (dk_at dksX1_setLow_0 12 rfl rfl)
theorem dX1_setLow_13 : decode cX1_setLow 13 = .ok (.if_icmp .ne 9, 3) := dk_160 0 9 (dk_at dksX1_setLow_0 13 rfl rfl)
theorem dX1_setLow_16 : decode cX1_setLow 16 = .ok (.sipush 999, 3) := dk_17 3 231 (dk_at dksX1_setLow_0 16 rfl rfl)
theorem dX1_setLow_19 : decode cX1_setLow 19 = .ok (.goto 7, 3) := dk_167 0 7 (dk_at dksX1_setLow_0 19 rfl rfl)
theorem dX1_setLow_22 : decode cX1_setLow 22 = .ok (.aload_n 3, 1) := dk_45 (dk_at dksX1_setLow_0 22 rfl rfl)
theorem dX1_setLow_23 : decode cX1_setLow 23 = .ok (.getfield 258, 3) := dk_180 1 2 (dk_at dksX1_setLow_1 0 rfl rfl)
theorem dX1_setLow_26 : decode cX1_setLow 26 = .ok (.invokestatic 74, 3) := dk_184 0 74 (dk_at dksX1_setLow_1 3 rfl rfl)
theorem dX1_setLow_29 : decode cX1_setLow 29 = .ok (.invokestatic 198, 3) := dk_184 0 198 (dk_at dksX1_setLow_1 6 rfl rfl)
theorem dX1_setLow_32 : decode cX1_setLow 32 = .ok (.aload_n 0, 1) := dk_42 (dk_at dksX1_setLow_1 9 rfl rfl)
theorem dX1_setLow_33 : decode cX1_setLow 33 = .ok (.invokevirtual 416, 3) := dk_182 1 160 (dk_at dksX1_setLow_1 10 rfl rfl)
theorem dX1_setLow_36 : decode cX1_setLow 36 = .ok (.aload_n 3, 1) := dk_45 (dk_at dksX1_setLow_1 13 rfl rfl)
theorem dX1_setLow_37 : decode cX1_setLow 37 = .ok (.getfield 255, 3) := dk_180 0 255 (dk_at dksX1_setLow_1 14 rfl rfl)
theorem dX1_setLow_40 : decode cX1_setLow 40 = .ok (.istore 4, 2) := dk_54 4 (dk_at dksX1_setLow_1 17 rfl rfl)
theorem dX1_setLow_42 : decode cX1_setLow 42 = .ok (.aload_n 3, 1) := dk_45 (dk_at dksX1_setLow_1 19 rfl rfl)
theorem dX1_setLow_43 : decode cX1_setLow 43 = .ok (.iload_n 2, 1) := dk_28 (dk_at dksX1_setLow_1 20 rfl rfl)
theorem dX1_setLow_44 : decode cX1_setLow 44 = .ok (.putfield 255, 3) := dk_181 0 255 (dk_at dksX1_setLow_1 21 rfl rfl)
theorem dX1_setLow_47 : decode cX1_setLow 47 = .ok (.iload 4, 2) := dk_21 4 (dk_at dksX1_setLow_2 0 rfl rfl)
theorem dX1_setLow_49 : decode cX1_setLow 49 = .ok (.ireturn, 1) := dk_172 (dk_at dksX1_setLow_2 2 rfl rfl)
abbrev cX1_keep : ByteArray := prog_1_method_71_code
def yX1_keep : MethodName := ⟨RX1, "keep", "()V"⟩
def dkwX1_keep_1 : List UInt8 := [42, 180, 0, 84, 182, 1, 153, 182, 1, 156, 177]
abbrev dktX1_keep_1 : List UInt8 := dkwX1_keep_1 ++ []
def dkwX1_keep_0 : List UInt8 := [42, 180, 0, 56, 182, 1, 149, 16, 8, 160, 0, 11, 42, 180, 0, 56, 182, 1, 150, 87, 42, 180, 0, 56]
abbrev dktX1_keep_0 : List UInt8 := dkwX1_keep_0 ++ dktX1_keep_1
theorem dksX1_keep_0 : cX1_keep.data.toList.drop 0 = dktX1_keep_0 := by decide +kernel
theorem dksX1_keep_1 : cX1_keep.data.toList.drop 24 = dktX1_keep_1 := dk_seg dksX1_keep_0 24 rfl rfl
theorem dX1_keep_0 : decode cX1_keep 0 = .ok (.aload_n 0, 1) := dk_42 (dk_at dksX1_keep_0 0 rfl rfl)
theorem dX1_keep_1 : decode cX1_keep 1 = .ok (.getfield 56, 3) := dk_180 0 56 (dk_at dksX1_keep_0 1 rfl rfl)
theorem dX1_keep_4 : decode cX1_keep 4 = .ok (.invokevirtual 405, 3) := dk_182 1 149 (dk_at dksX1_keep_0 4 rfl rfl)
theorem dX1_keep_7 : decode cX1_keep 7 = .ok (.bipush 8, 2) := dk_16 8 (dk_at dksX1_keep_0 7 rfl rfl)
theorem dX1_keep_9 : decode cX1_keep 9 = .ok (.if_icmp .ne 11, 3) := dk_160 0 11 (dk_at dksX1_keep_0 9 rfl rfl)
theorem dX1_keep_12 : decode cX1_keep 12 = .ok (.aload_n 0, 1) := dk_42 (dk_at dksX1_keep_0 12 rfl rfl)
theorem dX1_keep_13 : decode cX1_keep 13 = .ok (.getfield 56, 3) := dk_180 0 56 (dk_at dksX1_keep_0 13 rfl rfl)
theorem dX1_keep_16 : decode cX1_keep 16 = .ok (.invokevirtual 406, 3) := dk_182 1 150 (dk_at dksX1_keep_0 16 rfl rfl)
theorem dX1_keep_19 : decode cX1_keep 19 = .ok (.pop, 1) := dk_87 (dk_at dksX1_keep_0 19 rfl rfl)
theorem dX1_keep_20 : decode cX1_keep 20 = .ok (.aload_n 0, 1) := dk_42 (dk_at dksX1_keep_0 20 rfl rfl)
theorem dX1_keep_21 : decode cX1_keep 21 = .ok (.getfield 56, 3) := dk_180 0 56 (dk_at dksX1_keep_0 21 rfl rfl)
theorem dX1_keep_24 : decode cX1_keep 24 = .ok (.aload_n 0, 1) := dk_42 (dk_at dksX1_keep_1 0 rfl rfl)
theorem dX1_keep_25 : decode cX1_keep 25 = .ok (.getfield 84, 3) := dk_180 0 84 (dk_at dksX1_keep_1 1 rfl rfl)
theorem dX1_keep_28 : decode cX1_keep 28 = .ok (.invokevirtual 409, 3) := dk_182 1 153 (dk_at dksX1_keep_1 4 rfl rfl)
theorem dX1_keep_31 : decode cX1_keep 31 = .ok (.invokevirtual 412, 3) := dk_182 1 156 (dk_at dksX1_keep_1 7 rfl rfl)
theorem dX1_keep_34 : decode cX1_keep 34 = .ok (.return_, 1) := dk_177 (dk_at dksX1_keep_1 10 rfl rfl)
abbrev cX1_setHigh : ByteArray := prog_1_method_73_code
def yX1_setHigh : MethodName := ⟨RX1, "setHigh", "(II)I"⟩
def dkwX1_setHigh_2 : List UInt8 := [181, 1, 2, 21, 4, 172]
abbrev dktX1_setHigh_2 : List UInt8 := dkwX1_setHigh_2 ++ []
def dkwX1_setHigh_1 : List UInt8 := [153, 0, 7, 4, 167, 0, 4, 3, 184, 0, 198, 42, 182, 1, 160, 45, 180, 1, 2, 54, 4, 45, 28]
abbrev dktX1_setHigh_1 : List UInt8 := dkwX1_setHigh_1 ++ dktX1_setHigh_2
def dkwX1_setHigh_0 : List UInt8 := [42, 27, 182, 0, 140, 78, 28, 2, 159, 0, 17, 28, 45, 180, 0, 255, 17, 3, 231, 184, 0, 74]
abbrev dktX1_setHigh_0 : List UInt8 := dkwX1_setHigh_0 ++ dktX1_setHigh_1
theorem dksX1_setHigh_0 : cX1_setHigh.data.toList.drop 0 = dktX1_setHigh_0 := by decide +kernel
theorem dksX1_setHigh_1 : cX1_setHigh.data.toList.drop 22 = dktX1_setHigh_1 := dk_seg dksX1_setHigh_0 22 rfl rfl
theorem dksX1_setHigh_2 : cX1_setHigh.data.toList.drop 45 = dktX1_setHigh_2 := dk_seg dksX1_setHigh_1 23 rfl rfl
theorem dX1_setHigh_0 : decode cX1_setHigh 0 = .ok (.aload_n 0, 1) := dk_42 (dk_at dksX1_setHigh_0 0 rfl rfl)
theorem dX1_setHigh_1 : decode cX1_setHigh 1 = .ok (.iload_n 1, 1) := dk_27 (dk_at dksX1_setHigh_0 1 rfl rfl)
theorem dX1_setHigh_2 : decode cX1_setHigh 2 = .ok (.invokevirtual 140, 3) := dk_182 0 140 (dk_at dksX1_setHigh_0 2 rfl rfl)
theorem dX1_setHigh_5 : decode cX1_setHigh 5 = .ok (.astore_n 3, 1) := dk_78 (dk_at dksX1_setHigh_0 5 rfl rfl)
theorem dX1_setHigh_6 : decode cX1_setHigh 6 = .ok (.iload_n 2, 1) := dk_28 (dk_at dksX1_setHigh_0 6 rfl rfl)
theorem dX1_setHigh_7 : decode cX1_setHigh 7 = .ok (.iconst (-1), 1) := dk_2 (dk_at dksX1_setHigh_0 7 rfl rfl)
theorem dX1_setHigh_8 : decode cX1_setHigh 8 = .ok (.if_icmp .eq 17, 3) := dk_159 0 17 (dk_at dksX1_setHigh_0 8 rfl rfl)
theorem dX1_setHigh_11 : decode cX1_setHigh 11 = .ok (.iload_n 2, 1) := dk_28 (dk_at dksX1_setHigh_0 11 rfl rfl)
theorem dX1_setHigh_12 : decode cX1_setHigh 12 = .ok (.aload_n 3, 1) := dk_45 (dk_at dksX1_setHigh_0 12 rfl rfl)
theorem dX1_setHigh_13 : decode cX1_setHigh 13 = .ok (.getfield 255, 3) := dk_180 0 255 (dk_at dksX1_setHigh_0 13 rfl rfl)
theorem dX1_setHigh_16 : decode cX1_setHigh 16 = .ok (.sipush 999, 3) := dk_17 3 231 (dk_at dksX1_setHigh_0 16 rfl rfl)
theorem dX1_setHigh_19 : decode cX1_setHigh 19 = .ok (.invokestatic 74, 3) := dk_184 0 74 (dk_at dksX1_setHigh_0 19 rfl rfl)
theorem dX1_setHigh_22 : decode cX1_setHigh 22 = .ok (.ifCond .eq 7, 3) := dk_153 0 7 (dk_at dksX1_setHigh_1 0 rfl rfl)
theorem dX1_setHigh_25 : decode cX1_setHigh 25 = .ok (.iconst 1, 1) := dk_4 (dk_at dksX1_setHigh_1 3 rfl rfl)
theorem dX1_setHigh_26 : decode cX1_setHigh 26 = .ok (.goto 4, 3) := dk_167 0 4 (dk_at dksX1_setHigh_1 4 rfl rfl)
theorem dX1_setHigh_29 : decode cX1_setHigh 29 = .ok (.iconst 0, 1) := dk_3 (dk_at dksX1_setHigh_1 7 rfl rfl)
theorem dX1_setHigh_30 : decode cX1_setHigh 30 = .ok (.invokestatic 198, 3) := dk_184 0 198 (dk_at dksX1_setHigh_1 8 rfl rfl)
theorem dX1_setHigh_33 : decode cX1_setHigh 33 = .ok (.aload_n 0, 1) := dk_42 (dk_at dksX1_setHigh_1 11 rfl rfl)
theorem dX1_setHigh_34 : decode cX1_setHigh 34 = .ok (.invokevirtual 416, 3) := dk_182 1 160 (dk_at dksX1_setHigh_1 12 rfl rfl)
theorem dX1_setHigh_37 : decode cX1_setHigh 37 = .ok (.aload_n 3, 1) := dk_45 (dk_at dksX1_setHigh_1 15 rfl rfl)
theorem dX1_setHigh_38 : decode cX1_setHigh 38 = .ok (.getfield 258, 3) := dk_180 1 2 (dk_at dksX1_setHigh_1 16 rfl rfl)
theorem dX1_setHigh_41 : decode cX1_setHigh 41 = .ok (.istore 4, 2) := dk_54 4 (dk_at dksX1_setHigh_1 19 rfl rfl)
theorem dX1_setHigh_43 : decode cX1_setHigh 43 = .ok (.aload_n 3, 1) := dk_45 (dk_at dksX1_setHigh_1 21 rfl rfl)
theorem dX1_setHigh_44 : decode cX1_setHigh 44 = .ok (.iload_n 2, 1) := dk_28 (dk_at dksX1_setHigh_1 22 rfl rfl)
theorem dX1_setHigh_45 : decode cX1_setHigh 45 = .ok (.putfield 258, 3) := dk_181 1 2 (dk_at dksX1_setHigh_2 0 rfl rfl)
theorem dX1_setHigh_48 : decode cX1_setHigh 48 = .ok (.iload 4, 2) := dk_21 4 (dk_at dksX1_setHigh_2 3 rfl rfl)
theorem dX1_setHigh_50 : decode cX1_setHigh 50 = .ok (.ireturn, 1) := dk_172 (dk_at dksX1_setHigh_2 5 rfl rfl)
abbrev cX1_setCost : ByteArray := prog_1_method_74_code
def yX1_setCost : MethodName := ⟨RX1, "setCost", "(II)I"⟩
def dkwX1_setCost_2 : List UInt8 := [182, 1, 160, 45, 180, 1, 38, 54, 4, 45, 28, 181, 1, 38, 21, 4, 172]
abbrev dktX1_setCost_2 : List UInt8 := dkwX1_setCost_2 ++ []
def dkwX1_setCost_1 : List UInt8 := [157, 0, 15, 42, 180, 0, 84, 182, 1, 163, 16, 10, 162, 0, 7, 4, 167, 0, 4, 3, 184, 0, 198, 42]
abbrev dktX1_setCost_1 : List UInt8 := dkwX1_setCost_1 ++ dktX1_setCost_2
def dkwX1_setCost_0 : List UInt8 := [42, 27, 182, 0, 140, 78, 28, 3, 16, 99, 184, 0, 74, 153, 0, 30, 28, 153, 0, 22, 45, 180, 1, 38]
abbrev dktX1_setCost_0 : List UInt8 := dkwX1_setCost_0 ++ dktX1_setCost_1
theorem dksX1_setCost_0 : cX1_setCost.data.toList.drop 0 = dktX1_setCost_0 := by decide +kernel
theorem dksX1_setCost_1 : cX1_setCost.data.toList.drop 24 = dktX1_setCost_1 := dk_seg dksX1_setCost_0 24 rfl rfl
theorem dksX1_setCost_2 : cX1_setCost.data.toList.drop 48 = dktX1_setCost_2 := dk_seg dksX1_setCost_1 24 rfl rfl
theorem dX1_setCost_0 : decode cX1_setCost 0 = .ok (.aload_n 0, 1) := dk_42 (dk_at dksX1_setCost_0 0 rfl rfl)
theorem dX1_setCost_1 : decode cX1_setCost 1 = .ok (.iload_n 1, 1) := dk_27 (dk_at dksX1_setCost_0 1 rfl rfl)
theorem dX1_setCost_2 : decode cX1_setCost 2 = .ok (.invokevirtual 140, 3) := dk_182 0 140 (dk_at dksX1_setCost_0 2 rfl rfl)
theorem dX1_setCost_5 : decode cX1_setCost 5 = .ok (.astore_n 3, 1) := dk_78 (dk_at dksX1_setCost_0 5 rfl rfl)
theorem dX1_setCost_6 : decode cX1_setCost 6 = .ok (.iload_n 2, 1) := dk_28 (dk_at dksX1_setCost_0 6 rfl rfl)
theorem dX1_setCost_7 : decode cX1_setCost 7 = .ok (.iconst 0, 1) := dk_3 (dk_at dksX1_setCost_0 7 rfl rfl)
theorem dX1_setCost_8 : decode cX1_setCost 8 = .ok (.bipush 99, 2) := dk_16 99 (dk_at dksX1_setCost_0 8 rfl rfl)
theorem dX1_setCost_10 : decode cX1_setCost 10 = .ok (.invokestatic 74, 3) := dk_184 0 74 (dk_at dksX1_setCost_0 10 rfl rfl)
theorem dX1_setCost_13 : decode cX1_setCost 13 = .ok (.ifCond .eq 30, 3) := dk_153 0 30 (dk_at dksX1_setCost_0 13 rfl rfl)
theorem dX1_setCost_16 : decode cX1_setCost 16 = .ok (.iload_n 2, 1) := dk_28 (dk_at dksX1_setCost_0 16 rfl rfl)
theorem dX1_setCost_17 : decode cX1_setCost 17 = .ok (.ifCond .eq 22, 3) := dk_153 0 22 (dk_at dksX1_setCost_0 17 rfl rfl)
theorem dX1_setCost_20 : decode cX1_setCost 20 = .ok (.aload_n 3, 1) := dk_45 (dk_at dksX1_setCost_0 20 rfl rfl)
theorem dX1_setCost_21 : decode cX1_setCost 21 = .ok (.getfield 294, 3) := dk_180 1 38 (dk_at dksX1_setCost_0 21 rfl rfl)
theorem dX1_setCost_24 : decode cX1_setCost 24 = .ok (.ifCond .gt 15, 3) := dk_157 0 15 (dk_at dksX1_setCost_1 0 rfl rfl)
theorem dX1_setCost_27 : decode cX1_setCost 27 = .ok (.aload_n 0, 1) := dk_42 (dk_at dksX1_setCost_1 3 rfl rfl)
theorem dX1_setCost_28 : decode cX1_setCost 28 = .ok (.getfield 84, 3) := dk_180 0 84 (dk_at dksX1_setCost_1 4 rfl rfl)
theorem dX1_setCost_31 : decode cX1_setCost 31 = .ok (.invokevirtual 419, 3) := dk_182 1 163 (dk_at dksX1_setCost_1 7 rfl rfl)
theorem dX1_setCost_34 : decode cX1_setCost 34 = .ok (.bipush 10, 2) := dk_16 10 (dk_at dksX1_setCost_1 10 rfl rfl)
theorem dX1_setCost_36 : decode cX1_setCost 36 = .ok (.if_icmp .ge 7, 3) := dk_162 0 7 (dk_at dksX1_setCost_1 12 rfl rfl)
theorem dX1_setCost_39 : decode cX1_setCost 39 = .ok (.iconst 1, 1) := dk_4 (dk_at dksX1_setCost_1 15 rfl rfl)
theorem dX1_setCost_40 : decode cX1_setCost 40 = .ok (.goto 4, 3) := dk_167 0 4 (dk_at dksX1_setCost_1 16 rfl rfl)
theorem dX1_setCost_43 : decode cX1_setCost 43 = .ok (.iconst 0, 1) := dk_3 (dk_at dksX1_setCost_1 19 rfl rfl)
theorem dX1_setCost_44 : decode cX1_setCost 44 = .ok (.invokestatic 198, 3) := dk_184 0 198 (dk_at dksX1_setCost_1 20 rfl rfl)
theorem dX1_setCost_47 : decode cX1_setCost 47 = .ok (.aload_n 0, 1) := dk_42 (dk_at dksX1_setCost_1 23 rfl rfl)
theorem dX1_setCost_48 : decode cX1_setCost 48 = .ok (.invokevirtual 416, 3) := dk_182 1 160 (dk_at dksX1_setCost_2 0 rfl rfl)
theorem dX1_setCost_51 : decode cX1_setCost 51 = .ok (.aload_n 3, 1) := dk_45 (dk_at dksX1_setCost_2 3 rfl rfl)
theorem dX1_setCost_52 : decode cX1_setCost 52 = .ok (.getfield 294, 3) := dk_180 1 38 (dk_at dksX1_setCost_2 4 rfl rfl)
theorem dX1_setCost_55 : decode cX1_setCost 55 = .ok (.istore 4, 2) := dk_54 4 (dk_at dksX1_setCost_2 7 rfl rfl)
theorem dX1_setCost_57 : decode cX1_setCost 57 = .ok (.aload_n 3, 1) := dk_45 (dk_at dksX1_setCost_2 9 rfl rfl)
theorem dX1_setCost_58 : decode cX1_setCost 58 = .ok (.iload_n 2, 1) := dk_28 (dk_at dksX1_setCost_2 10 rfl rfl)
theorem dX1_setCost_59 : decode cX1_setCost 59 = .ok (.putfield 294, 3) := dk_181 1 38 (dk_at dksX1_setCost_2 11 rfl rfl)
theorem dX1_setCost_62 : decode cX1_setCost 62 = .ok (.iload 4, 2) := dk_21 4 (dk_at dksX1_setCost_2 14 rfl rfl)
theorem dX1_setCost_64 : decode cX1_setCost 64 = .ok (.ireturn, 1) := dk_172 (dk_at dksX1_setCost_2 16 rfl rfl)
abbrev cX1_turn : ByteArray := prog_1_method_75_code
def yX1_turn : MethodName := ⟨RX1, "turn", "(I)Z"⟩
def dkwX1_turn_1 : List UInt8 := [181, 1, 5, 44, 180, 1, 5, 172]
abbrev dktX1_turn_1 : List UInt8 := dkwX1_turn_1 ++ []
def dkwX1_turn_0 : List UInt8 := [42, 27, 182, 0, 140, 77, 42, 182, 1, 160, 44, 44, 180, 1, 5, 154, 0, 7, 4, 167, 0, 4, 3]
abbrev dktX1_turn_0 : List UInt8 := dkwX1_turn_0 ++ dktX1_turn_1
theorem dksX1_turn_0 : cX1_turn.data.toList.drop 0 = dktX1_turn_0 := by decide +kernel
theorem dksX1_turn_1 : cX1_turn.data.toList.drop 23 = dktX1_turn_1 := dk_seg dksX1_turn_0 23 rfl rfl
theorem dX1_turn_0 : decode cX1_turn 0 = .ok (.aload_n 0, 1) := dk_42 (dk_at dksX1_turn_0 0 rfl rfl)
theorem dX1_turn_1 : decode cX1_turn 1 = .ok (.iload_n 1, 1) := dk_27 (dk_at dksX1_turn_0 1 rfl rfl)
theorem dX1_turn_2 : decode cX1_turn 2 = .ok (.invokevirtual 140, 3) := dk_182 0 140 (dk_at dksX1_turn_0 2 rfl rfl)
theorem dX1_turn_5 : decode cX1_turn 5 = .ok (.astore_n 2, 1) := dk_77 (dk_at dksX1_turn_0 5 rfl rfl)
theorem dX1_turn_6 : decode cX1_turn 6 = .ok (.aload_n 0, 1) := dk_42 (dk_at dksX1_turn_0 6 rfl rfl)
theorem dX1_turn_7 : decode cX1_turn 7 = .ok (.invokevirtual 416, 3) := dk_182 1 160 (dk_at dksX1_turn_0 7 rfl rfl)
theorem dX1_turn_10 : decode cX1_turn 10 = .ok (.aload_n 2, 1) := dk_44 (dk_at dksX1_turn_0 10 rfl rfl)
theorem dX1_turn_11 : decode cX1_turn 11 = .ok (.aload_n 2, 1) := dk_44 (dk_at dksX1_turn_0 11 rfl rfl)
theorem dX1_turn_12 : decode cX1_turn 12 = .ok (.getfield 261, 3) := dk_180 1 5 (dk_at dksX1_turn_0 12 rfl rfl)
theorem dX1_turn_15 : decode cX1_turn 15 = .ok (.ifCond .ne 7, 3) := dk_154 0 7 (dk_at dksX1_turn_0 15 rfl rfl)
theorem dX1_turn_18 : decode cX1_turn 18 = .ok (.iconst 1, 1) := dk_4 (dk_at dksX1_turn_0 18 rfl rfl)
theorem dX1_turn_19 : decode cX1_turn 19 = .ok (.goto 4, 3) := dk_167 0 4 (dk_at dksX1_turn_0 19 rfl rfl)
theorem dX1_turn_22 : decode cX1_turn 22 = .ok (.iconst 0, 1) := dk_3 (dk_at dksX1_turn_0 22 rfl rfl)
theorem dX1_turn_23 : decode cX1_turn 23 = .ok (.putfield 261, 3) := dk_181 1 5 (dk_at dksX1_turn_1 0 rfl rfl)
theorem dX1_turn_26 : decode cX1_turn 26 = .ok (.aload_n 2, 1) := dk_44 (dk_at dksX1_turn_1 3 rfl rfl)
theorem dX1_turn_27 : decode cX1_turn 27 = .ok (.getfield 261, 3) := dk_180 1 5 (dk_at dksX1_turn_1 4 rfl rfl)
theorem dX1_turn_30 : decode cX1_turn 30 = .ok (.ireturn, 1) := dk_172 (dk_at dksX1_turn_1 7 rfl rfl)
abbrev cX1_addWindow : ByteArray := prog_1_method_76_code
def yX1_addWindow : MethodName := ⟨RX1, "addWindow", "(IIII)I"⟩
def dkwX1_addWindow_5 : List UInt8 := [180, 0, 117, 185, 0, 121, 1, 0, 4, 100, 172]
abbrev dktX1_addWindow_5 : List UInt8 := dkwX1_addWindow_5 ++ []
def dkwX1_addWindow_4 : List UInt8 := [187, 0, 130, 89, 27, 28, 29, 21, 4, 3, 183, 1, 166, 185, 1, 44, 2, 0, 87, 42, 180, 0, 84]
abbrev dktX1_addWindow_4 : List UInt8 := dkwX1_addWindow_4 ++ dktX1_addWindow_5
def dkwX1_addWindow_3 : List UInt8 := [162, 0, 7, 4, 167, 0, 4, 3, 184, 0, 198, 42, 182, 1, 160, 42, 180, 0, 84, 180, 0, 117]
abbrev dktX1_addWindow_3 : List UInt8 := dkwX1_addWindow_3 ++ dktX1_addWindow_4
def dkwX1_addWindow_2 : List UInt8 := [17, 3, 231, 184, 0, 74, 153, 0, 24, 42, 180, 0, 84, 180, 0, 117, 185, 0, 121, 1, 0, 16, 24]
abbrev dktX1_addWindow_2 : List UInt8 := dkwX1_addWindow_2 ++ dktX1_addWindow_3
def dkwX1_addWindow_1 : List UInt8 := [159, 0, 53, 29, 3, 17, 3, 231, 184, 0, 74, 153, 0, 42, 21, 4, 2, 159, 0, 15, 21, 4, 29]
abbrev dktX1_addWindow_1 : List UInt8 := dkwX1_addWindow_1 ++ dktX1_addWindow_2
def dkwX1_addWindow_0 : List UInt8 := [27, 42, 182, 0, 106, 182, 0, 13, 184, 0, 113, 28, 42, 180, 0, 84, 182, 0, 13, 184, 0, 113, 27, 28]
abbrev dktX1_addWindow_0 : List UInt8 := dkwX1_addWindow_0 ++ dktX1_addWindow_1
theorem dksX1_addWindow_0 : cX1_addWindow.data.toList.drop 0 = dktX1_addWindow_0 := by decide +kernel
theorem dksX1_addWindow_1 : cX1_addWindow.data.toList.drop 24 = dktX1_addWindow_1 := dk_seg dksX1_addWindow_0 24 rfl rfl
theorem dksX1_addWindow_2 : cX1_addWindow.data.toList.drop 47 = dktX1_addWindow_2 := dk_seg dksX1_addWindow_1 23 rfl rfl
theorem dksX1_addWindow_3 : cX1_addWindow.data.toList.drop 70 = dktX1_addWindow_3 := dk_seg dksX1_addWindow_2 23 rfl rfl
theorem dksX1_addWindow_4 : cX1_addWindow.data.toList.drop 92 = dktX1_addWindow_4 := dk_seg dksX1_addWindow_3 22 rfl rfl
theorem dksX1_addWindow_5 : cX1_addWindow.data.toList.drop 115 = dktX1_addWindow_5 := dk_seg dksX1_addWindow_4 23 rfl rfl
theorem dX1_addWindow_0 : decode cX1_addWindow 0 = .ok (.iload_n 1, 1) := dk_27 (dk_at dksX1_addWindow_0 0 rfl rfl)
theorem dX1_addWindow_1 : decode cX1_addWindow 1 = .ok (.aload_n 0, 1) := dk_42 (dk_at dksX1_addWindow_0 1 rfl rfl)
theorem dX1_addWindow_2 : decode cX1_addWindow 2 = .ok (.invokevirtual 106, 3) := dk_182 0 106 (dk_at dksX1_addWindow_0 2 rfl rfl)
theorem dX1_addWindow_5 : decode cX1_addWindow 5 = .ok (.invokevirtual 13, 3) := dk_182 0 13 (dk_at dksX1_addWindow_0 5 rfl rfl)
theorem dX1_addWindow_8 : decode cX1_addWindow 8 = .ok (.invokestatic 113, 3) := dk_184 0 113 (dk_at dksX1_addWindow_0 8 rfl rfl)
theorem dX1_addWindow_11 : decode cX1_addWindow 11 = .ok (.iload_n 2, 1) := dk_28 (dk_at dksX1_addWindow_0 11 rfl rfl)
theorem dX1_addWindow_12 : decode cX1_addWindow 12 = .ok (.aload_n 0, 1) := dk_42 (dk_at dksX1_addWindow_0 12 rfl rfl)
theorem dX1_addWindow_13 : decode cX1_addWindow 13 = .ok (.getfield 84, 3) := dk_180 0 84 (dk_at dksX1_addWindow_0 13 rfl rfl)
theorem dX1_addWindow_16 : decode cX1_addWindow 16 = .ok (.invokevirtual 13, 3) := dk_182 0 13 (dk_at dksX1_addWindow_0 16 rfl rfl)
theorem dX1_addWindow_19 : decode cX1_addWindow 19 = .ok (.invokestatic 113, 3) := dk_184 0 113 (dk_at dksX1_addWindow_0 19 rfl rfl)
theorem dX1_addWindow_22 : decode cX1_addWindow 22 = .ok (.iload_n 1, 1) := dk_27 (dk_at dksX1_addWindow_0 22 rfl rfl)
theorem dX1_addWindow_23 : decode cX1_addWindow 23 = .ok (.iload_n 2, 1) := dk_28 (dk_at dksX1_addWindow_0 23 rfl rfl)
theorem dX1_addWindow_24 : decode cX1_addWindow 24 = .ok (.if_icmp .eq 53, 3) := dk_159 0 53 (dk_at dksX1_addWindow_1 0 rfl rfl)
theorem dX1_addWindow_27 : decode cX1_addWindow 27 = .ok (.iload_n 3, 1) := dk_29 (dk_at dksX1_addWindow_1 3 rfl rfl)
theorem dX1_addWindow_28 : decode cX1_addWindow 28 = .ok (.iconst 0, 1) := dk_3 (dk_at dksX1_addWindow_1 4 rfl rfl)
theorem dX1_addWindow_29 : decode cX1_addWindow 29 = .ok (.sipush 999, 3) := dk_17 3 231 (dk_at dksX1_addWindow_1 5 rfl rfl)
theorem dX1_addWindow_32 : decode cX1_addWindow 32 = .ok (.invokestatic 74, 3) := dk_184 0 74 (dk_at dksX1_addWindow_1 8 rfl rfl)
theorem dX1_addWindow_35 : decode cX1_addWindow 35 = .ok (.ifCond .eq 42, 3) := dk_153 0 42 (dk_at dksX1_addWindow_1 11 rfl rfl)
theorem dX1_addWindow_38 : decode cX1_addWindow 38 = .ok (.iload 4, 2) := dk_21 4 (dk_at dksX1_addWindow_1 14 rfl rfl)
theorem dX1_addWindow_40 : decode cX1_addWindow 40 = .ok (.iconst (-1), 1) := dk_2 (dk_at dksX1_addWindow_1 16 rfl rfl)
theorem dX1_addWindow_41 : decode cX1_addWindow 41 = .ok (.if_icmp .eq 15, 3) := dk_159 0 15 (dk_at dksX1_addWindow_1 17 rfl rfl)
theorem dX1_addWindow_44 : decode cX1_addWindow 44 = .ok (.iload 4, 2) := dk_21 4 (dk_at dksX1_addWindow_1 20 rfl rfl)
theorem dX1_addWindow_46 : decode cX1_addWindow 46 = .ok (.iload_n 3, 1) := dk_29 (dk_at dksX1_addWindow_1 22 rfl rfl)
theorem dX1_addWindow_47 : decode cX1_addWindow 47 = .ok (.sipush 999, 3) := dk_17 3 231 (dk_at dksX1_addWindow_2 0 rfl rfl)
theorem dX1_addWindow_50 : decode cX1_addWindow 50 = .ok (.invokestatic 74, 3) := dk_184 0 74 (dk_at dksX1_addWindow_2 3 rfl rfl)
theorem dX1_addWindow_53 : decode cX1_addWindow 53 = .ok (.ifCond .eq 24, 3) := dk_153 0 24 (dk_at dksX1_addWindow_2 6 rfl rfl)
theorem dX1_addWindow_56 : decode cX1_addWindow 56 = .ok (.aload_n 0, 1) := dk_42 (dk_at dksX1_addWindow_2 9 rfl rfl)
theorem dX1_addWindow_57 : decode cX1_addWindow 57 = .ok (.getfield 84, 3) := dk_180 0 84 (dk_at dksX1_addWindow_2 10 rfl rfl)
theorem dX1_addWindow_60 : decode cX1_addWindow 60 = .ok (.getfield 117, 3) := dk_180 0 117 (dk_at dksX1_addWindow_2 13 rfl rfl)
theorem dX1_addWindow_63 : decode cX1_addWindow 63 = .ok (.invokeinterface 121 1, 5) := by decide +kernel
theorem dX1_addWindow_68 : decode cX1_addWindow 68 = .ok (.bipush 24, 2) := dk_16 24 (dk_at dksX1_addWindow_2 21 rfl rfl)
theorem dX1_addWindow_70 : decode cX1_addWindow 70 = .ok (.if_icmp .ge 7, 3) := dk_162 0 7 (dk_at dksX1_addWindow_3 0 rfl rfl)
theorem dX1_addWindow_73 : decode cX1_addWindow 73 = .ok (.iconst 1, 1) := dk_4 (dk_at dksX1_addWindow_3 3 rfl rfl)
theorem dX1_addWindow_74 : decode cX1_addWindow 74 = .ok (.goto 4, 3) := dk_167 0 4 (dk_at dksX1_addWindow_3 4 rfl rfl)
theorem dX1_addWindow_77 : decode cX1_addWindow 77 = .ok (.iconst 0, 1) := dk_3 (dk_at dksX1_addWindow_3 7 rfl rfl)
theorem dX1_addWindow_78 : decode cX1_addWindow 78 = .ok (.invokestatic 198, 3) := dk_184 0 198 (dk_at dksX1_addWindow_3 8 rfl rfl)
theorem dX1_addWindow_81 : decode cX1_addWindow 81 = .ok (.aload_n 0, 1) := dk_42 (dk_at dksX1_addWindow_3 11 rfl rfl)
theorem dX1_addWindow_82 : decode cX1_addWindow 82 = .ok (.invokevirtual 416, 3) := dk_182 1 160 (dk_at dksX1_addWindow_3 12 rfl rfl)
theorem dX1_addWindow_85 : decode cX1_addWindow 85 = .ok (.aload_n 0, 1) := dk_42 (dk_at dksX1_addWindow_3 15 rfl rfl)
theorem dX1_addWindow_86 : decode cX1_addWindow 86 = .ok (.getfield 84, 3) := dk_180 0 84 (dk_at dksX1_addWindow_3 16 rfl rfl)
theorem dX1_addWindow_89 : decode cX1_addWindow 89 = .ok (.getfield 117, 3) := dk_180 0 117 (dk_at dksX1_addWindow_3 19 rfl rfl)
theorem dX1_addWindow_92 : decode cX1_addWindow 92 = .ok (.new 130, 3) := dk_187 0 130 (dk_at dksX1_addWindow_4 0 rfl rfl)
theorem dX1_addWindow_95 : decode cX1_addWindow 95 = .ok (.dup, 1) := dk_89 (dk_at dksX1_addWindow_4 3 rfl rfl)
theorem dX1_addWindow_96 : decode cX1_addWindow 96 = .ok (.iload_n 1, 1) := dk_27 (dk_at dksX1_addWindow_4 4 rfl rfl)
theorem dX1_addWindow_97 : decode cX1_addWindow 97 = .ok (.iload_n 2, 1) := dk_28 (dk_at dksX1_addWindow_4 5 rfl rfl)
theorem dX1_addWindow_98 : decode cX1_addWindow 98 = .ok (.iload_n 3, 1) := dk_29 (dk_at dksX1_addWindow_4 6 rfl rfl)
theorem dX1_addWindow_99 : decode cX1_addWindow 99 = .ok (.iload 4, 2) := dk_21 4 (dk_at dksX1_addWindow_4 7 rfl rfl)
theorem dX1_addWindow_101 : decode cX1_addWindow 101 = .ok (.iconst 0, 1) := dk_3 (dk_at dksX1_addWindow_4 9 rfl rfl)
theorem dX1_addWindow_102 : decode cX1_addWindow 102 = .ok (.invokespecial 422, 3) := dk_183 1 166 (dk_at dksX1_addWindow_4 10 rfl rfl)
theorem dX1_addWindow_105 : decode cX1_addWindow 105 = .ok (.invokeinterface 300 2, 5) := by decide +kernel
theorem dX1_addWindow_110 : decode cX1_addWindow 110 = .ok (.pop, 1) := dk_87 (dk_at dksX1_addWindow_4 18 rfl rfl)
theorem dX1_addWindow_111 : decode cX1_addWindow 111 = .ok (.aload_n 0, 1) := dk_42 (dk_at dksX1_addWindow_4 19 rfl rfl)
theorem dX1_addWindow_112 : decode cX1_addWindow 112 = .ok (.getfield 84, 3) := dk_180 0 84 (dk_at dksX1_addWindow_4 20 rfl rfl)
theorem dX1_addWindow_115 : decode cX1_addWindow 115 = .ok (.getfield 117, 3) := dk_180 0 117 (dk_at dksX1_addWindow_5 0 rfl rfl)
theorem dX1_addWindow_118 : decode cX1_addWindow 118 = .ok (.invokeinterface 121 1, 5) := by decide +kernel
theorem dX1_addWindow_123 : decode cX1_addWindow 123 = .ok (.iconst 1, 1) := dk_4 (dk_at dksX1_addWindow_5 8 rfl rfl)
theorem dX1_addWindow_124 : decode cX1_addWindow 124 = .ok (.isub, 1) := dk_100 (dk_at dksX1_addWindow_5 9 rfl rfl)
theorem dX1_addWindow_125 : decode cX1_addWindow 125 = .ok (.ireturn, 1) := dk_172 (dk_at dksX1_addWindow_5 10 rfl rfl)
abbrev cX1_fix : ByteArray := prog_1_method_77_code
def yX1_fix : MethodName := ⟨RX1, "fix", "(II)I"⟩
def dkwX1_fix_2 : List UInt8 := [42, 182, 1, 160, 42, 180, 0, 84, 180, 0, 205, 27, 28, 79, 45, 27, 182, 0, 237, 172]
abbrev dktX1_fix_2 : List UInt8 := dkwX1_fix_2 ++ []
def dkwX1_fix_1 : List UInt8 := [27, 182, 0, 231, 17, 3, 231, 184, 0, 23, 184, 0, 74, 153, 0, 7, 4, 167, 0, 4, 3, 184, 0, 198]
abbrev dktX1_fix_1 : List UInt8 := dkwX1_fix_1 ++ dktX1_fix_2
def dkwX1_fix_0 : List UInt8 := [42, 27, 182, 0, 136, 78, 42, 180, 0, 84, 27, 182, 1, 113, 153, 0, 30, 28, 45, 27, 182, 0, 228, 45]
abbrev dktX1_fix_0 : List UInt8 := dkwX1_fix_0 ++ dktX1_fix_1
theorem dksX1_fix_0 : cX1_fix.data.toList.drop 0 = dktX1_fix_0 := by decide +kernel
theorem dksX1_fix_1 : cX1_fix.data.toList.drop 24 = dktX1_fix_1 := dk_seg dksX1_fix_0 24 rfl rfl
theorem dksX1_fix_2 : cX1_fix.data.toList.drop 48 = dktX1_fix_2 := dk_seg dksX1_fix_1 24 rfl rfl
theorem dX1_fix_0 : decode cX1_fix 0 = .ok (.aload_n 0, 1) := dk_42 (dk_at dksX1_fix_0 0 rfl rfl)
theorem dX1_fix_1 : decode cX1_fix 1 = .ok (.iload_n 1, 1) := dk_27 (dk_at dksX1_fix_0 1 rfl rfl)
theorem dX1_fix_2 : decode cX1_fix 2 = .ok (.invokevirtual 136, 3) := dk_182 0 136 (dk_at dksX1_fix_0 2 rfl rfl)
theorem dX1_fix_5 : decode cX1_fix 5 = .ok (.astore_n 3, 1) := dk_78 (dk_at dksX1_fix_0 5 rfl rfl)
theorem dX1_fix_6 : decode cX1_fix 6 = .ok (.aload_n 0, 1) := dk_42 (dk_at dksX1_fix_0 6 rfl rfl)
theorem dX1_fix_7 : decode cX1_fix 7 = .ok (.getfield 84, 3) := dk_180 0 84 (dk_at dksX1_fix_0 7 rfl rfl)
theorem dX1_fix_10 : decode cX1_fix 10 = .ok (.iload_n 1, 1) := dk_27 (dk_at dksX1_fix_0 10 rfl rfl)
theorem dX1_fix_11 : decode cX1_fix 11 = .ok (.invokevirtual 369, 3) := dk_182 1 113 (dk_at dksX1_fix_0 11 rfl rfl)
theorem dX1_fix_14 : decode cX1_fix 14 = .ok (.ifCond .eq 30, 3) := dk_153 0 30 (dk_at dksX1_fix_0 14 rfl rfl)
theorem dX1_fix_17 : decode cX1_fix 17 = .ok (.iload_n 2, 1) := dk_28 (dk_at dksX1_fix_0 17 rfl rfl)
theorem dX1_fix_18 : decode cX1_fix 18 = .ok (.aload_n 3, 1) := dk_45 (dk_at dksX1_fix_0 18 rfl rfl)
theorem dX1_fix_19 : decode cX1_fix 19 = .ok (.iload_n 1, 1) := dk_27 (dk_at dksX1_fix_0 19 rfl rfl)
theorem dX1_fix_20 : decode cX1_fix 20 = .ok (.invokevirtual 228, 3) := dk_182 0 228 (dk_at dksX1_fix_0 20 rfl rfl)
theorem dX1_fix_23 : decode cX1_fix 23 = .ok (.aload_n 3, 1) := dk_45 (dk_at dksX1_fix_0 23 rfl rfl)
theorem dX1_fix_24 : decode cX1_fix 24 = .ok (.iload_n 1, 1) := dk_27 (dk_at dksX1_fix_1 0 rfl rfl)
theorem dX1_fix_25 : decode cX1_fix 25 = .ok (.invokevirtual 231, 3) := dk_182 0 231 (dk_at dksX1_fix_1 1 rfl rfl)
theorem dX1_fix_28 : decode cX1_fix 28 = .ok (.sipush 999, 3) := dk_17 3 231 (dk_at dksX1_fix_1 4 rfl rfl)
theorem dX1_fix_31 : decode cX1_fix 31 = .ok (.invokestatic 23, 3) := dk_184 0 23 (dk_at dksX1_fix_1 7 rfl rfl)
theorem dX1_fix_34 : decode cX1_fix 34 = .ok (.invokestatic 74, 3) := dk_184 0 74 (dk_at dksX1_fix_1 10 rfl rfl)
theorem dX1_fix_37 : decode cX1_fix 37 = .ok (.ifCond .eq 7, 3) := dk_153 0 7 (dk_at dksX1_fix_1 13 rfl rfl)
theorem dX1_fix_40 : decode cX1_fix 40 = .ok (.iconst 1, 1) := dk_4 (dk_at dksX1_fix_1 16 rfl rfl)
theorem dX1_fix_41 : decode cX1_fix 41 = .ok (.goto 4, 3) := dk_167 0 4 (dk_at dksX1_fix_1 17 rfl rfl)
theorem dX1_fix_44 : decode cX1_fix 44 = .ok (.iconst 0, 1) := dk_3 (dk_at dksX1_fix_1 20 rfl rfl)
theorem dX1_fix_45 : decode cX1_fix 45 = .ok (.invokestatic 198, 3) := dk_184 0 198 (dk_at dksX1_fix_1 21 rfl rfl)
theorem dX1_fix_48 : decode cX1_fix 48 = .ok (.aload_n 0, 1) := dk_42 (dk_at dksX1_fix_2 0 rfl rfl)
theorem dX1_fix_49 : decode cX1_fix 49 = .ok (.invokevirtual 416, 3) := dk_182 1 160 (dk_at dksX1_fix_2 1 rfl rfl)
theorem dX1_fix_52 : decode cX1_fix 52 = .ok (.aload_n 0, 1) := dk_42 (dk_at dksX1_fix_2 4 rfl rfl)
theorem dX1_fix_53 : decode cX1_fix 53 = .ok (.getfield 84, 3) := dk_180 0 84 (dk_at dksX1_fix_2 5 rfl rfl)
theorem dX1_fix_56 : decode cX1_fix 56 = .ok (.getfield 205, 3) := dk_180 0 205 (dk_at dksX1_fix_2 8 rfl rfl)
theorem dX1_fix_59 : decode cX1_fix 59 = .ok (.iload_n 1, 1) := dk_27 (dk_at dksX1_fix_2 11 rfl rfl)
theorem dX1_fix_60 : decode cX1_fix 60 = .ok (.iload_n 2, 1) := dk_28 (dk_at dksX1_fix_2 12 rfl rfl)
theorem dX1_fix_61 : decode cX1_fix 61 = .ok (.iastore, 1) := dk_79 (dk_at dksX1_fix_2 13 rfl rfl)
theorem dX1_fix_62 : decode cX1_fix 62 = .ok (.aload_n 3, 1) := dk_45 (dk_at dksX1_fix_2 14 rfl rfl)
theorem dX1_fix_63 : decode cX1_fix 63 = .ok (.iload_n 1, 1) := dk_27 (dk_at dksX1_fix_2 15 rfl rfl)
theorem dX1_fix_64 : decode cX1_fix 64 = .ok (.invokevirtual 237, 3) := dk_182 0 237 (dk_at dksX1_fix_2 16 rfl rfl)
theorem dX1_fix_67 : decode cX1_fix 67 = .ok (.ireturn, 1) := dk_172 (dk_at dksX1_fix_2 19 rfl rfl)
abbrev cX1_free : ByteArray := prog_1_method_78_code
def yX1_free : MethodName := ⟨RX1, "free", "(I)I"⟩
def dkwX1_free_1 : List UInt8 := [184, 0, 198, 42, 182, 1, 160, 44, 180, 0, 205, 27, 46, 62, 44, 180, 0, 205, 27, 2, 79, 29, 172]
abbrev dktX1_free_1 : List UInt8 := dkwX1_free_1 ++ []
def dkwX1_free_0 : List UInt8 := [42, 27, 182, 0, 181, 77, 27, 158, 0, 15, 44, 27, 182, 1, 113, 154, 0, 7, 4, 167, 0, 4, 3]
abbrev dktX1_free_0 : List UInt8 := dkwX1_free_0 ++ dktX1_free_1
theorem dksX1_free_0 : cX1_free.data.toList.drop 0 = dktX1_free_0 := by decide +kernel
theorem dksX1_free_1 : cX1_free.data.toList.drop 23 = dktX1_free_1 := dk_seg dksX1_free_0 23 rfl rfl
theorem dX1_free_0 : decode cX1_free 0 = .ok (.aload_n 0, 1) := dk_42 (dk_at dksX1_free_0 0 rfl rfl)
theorem dX1_free_1 : decode cX1_free 1 = .ok (.iload_n 1, 1) := dk_27 (dk_at dksX1_free_0 1 rfl rfl)
theorem dX1_free_2 : decode cX1_free 2 = .ok (.invokevirtual 181, 3) := dk_182 0 181 (dk_at dksX1_free_0 2 rfl rfl)
theorem dX1_free_5 : decode cX1_free 5 = .ok (.astore_n 2, 1) := dk_77 (dk_at dksX1_free_0 5 rfl rfl)
theorem dX1_free_6 : decode cX1_free 6 = .ok (.iload_n 1, 1) := dk_27 (dk_at dksX1_free_0 6 rfl rfl)
theorem dX1_free_7 : decode cX1_free 7 = .ok (.ifCond .le 15, 3) := dk_158 0 15 (dk_at dksX1_free_0 7 rfl rfl)
theorem dX1_free_10 : decode cX1_free 10 = .ok (.aload_n 2, 1) := dk_44 (dk_at dksX1_free_0 10 rfl rfl)
theorem dX1_free_11 : decode cX1_free 11 = .ok (.iload_n 1, 1) := dk_27 (dk_at dksX1_free_0 11 rfl rfl)
theorem dX1_free_12 : decode cX1_free 12 = .ok (.invokevirtual 369, 3) := dk_182 1 113 (dk_at dksX1_free_0 12 rfl rfl)
theorem dX1_free_15 : decode cX1_free 15 = .ok (.ifCond .ne 7, 3) := dk_154 0 7 (dk_at dksX1_free_0 15 rfl rfl)
theorem dX1_free_18 : decode cX1_free 18 = .ok (.iconst 1, 1) := dk_4 (dk_at dksX1_free_0 18 rfl rfl)
theorem dX1_free_19 : decode cX1_free 19 = .ok (.goto 4, 3) := dk_167 0 4 (dk_at dksX1_free_0 19 rfl rfl)
theorem dX1_free_22 : decode cX1_free 22 = .ok (.iconst 0, 1) := dk_3 (dk_at dksX1_free_0 22 rfl rfl)
theorem dX1_free_23 : decode cX1_free 23 = .ok (.invokestatic 198, 3) := dk_184 0 198 (dk_at dksX1_free_1 0 rfl rfl)
theorem dX1_free_26 : decode cX1_free 26 = .ok (.aload_n 0, 1) := dk_42 (dk_at dksX1_free_1 3 rfl rfl)
theorem dX1_free_27 : decode cX1_free 27 = .ok (.invokevirtual 416, 3) := dk_182 1 160 (dk_at dksX1_free_1 4 rfl rfl)
theorem dX1_free_30 : decode cX1_free 30 = .ok (.aload_n 2, 1) := dk_44 (dk_at dksX1_free_1 7 rfl rfl)
theorem dX1_free_31 : decode cX1_free 31 = .ok (.getfield 205, 3) := dk_180 0 205 (dk_at dksX1_free_1 8 rfl rfl)
theorem dX1_free_34 : decode cX1_free 34 = .ok (.iload_n 1, 1) := dk_27 (dk_at dksX1_free_1 11 rfl rfl)
theorem dX1_free_35 : decode cX1_free 35 = .ok (.iaload, 1) := dk_46 (dk_at dksX1_free_1 12 rfl rfl)
theorem dX1_free_36 : decode cX1_free 36 = .ok (.istore_n 3, 1) := dk_62 (dk_at dksX1_free_1 13 rfl rfl)
theorem dX1_free_37 : decode cX1_free 37 = .ok (.aload_n 2, 1) := dk_44 (dk_at dksX1_free_1 14 rfl rfl)
theorem dX1_free_38 : decode cX1_free 38 = .ok (.getfield 205, 3) := dk_180 0 205 (dk_at dksX1_free_1 15 rfl rfl)
theorem dX1_free_41 : decode cX1_free 41 = .ok (.iload_n 1, 1) := dk_27 (dk_at dksX1_free_1 18 rfl rfl)
theorem dX1_free_42 : decode cX1_free 42 = .ok (.iconst (-1), 1) := dk_2 (dk_at dksX1_free_1 19 rfl rfl)
theorem dX1_free_43 : decode cX1_free 43 = .ok (.iastore, 1) := dk_79 (dk_at dksX1_free_1 20 rfl rfl)
theorem dX1_free_44 : decode cX1_free 44 = .ok (.iload_n 3, 1) := dk_29 (dk_at dksX1_free_1 21 rfl rfl)
theorem dX1_free_45 : decode cX1_free 45 = .ok (.ireturn, 1) := dk_172 (dk_at dksX1_free_1 22 rfl rfl)
abbrev cX1_setDelay : ByteArray := prog_1_method_79_code
def yX1_setDelay : MethodName := ⟨RX1, "setDelay", "(II)I"⟩
def dkwX1_setDelay_2 : List UInt8 := [21, 4, 172]
abbrev dktX1_setDelay_2 : List UInt8 := dkwX1_setDelay_2 ++ []
def dkwX1_setDelay_1 : List UInt8 := [3, 184, 0, 198, 42, 182, 1, 160, 45, 180, 0, 209, 27, 46, 54, 4, 45, 180, 0, 209, 27, 28, 79]
abbrev dktX1_setDelay_1 : List UInt8 := dkwX1_setDelay_1 ++ dktX1_setDelay_2
def dkwX1_setDelay_0 : List UInt8 := [42, 27, 182, 0, 181, 78, 27, 158, 0, 17, 28, 3, 16, 99, 184, 0, 74, 153, 0, 7, 4, 167, 0, 4]
abbrev dktX1_setDelay_0 : List UInt8 := dkwX1_setDelay_0 ++ dktX1_setDelay_1
theorem dksX1_setDelay_0 : cX1_setDelay.data.toList.drop 0 = dktX1_setDelay_0 := by decide +kernel
theorem dksX1_setDelay_1 : cX1_setDelay.data.toList.drop 24 = dktX1_setDelay_1 := dk_seg dksX1_setDelay_0 24 rfl rfl
theorem dksX1_setDelay_2 : cX1_setDelay.data.toList.drop 47 = dktX1_setDelay_2 := dk_seg dksX1_setDelay_1 23 rfl rfl
theorem dX1_setDelay_0 : decode cX1_setDelay 0 = .ok (.aload_n 0, 1) := dk_42 (dk_at dksX1_setDelay_0 0 rfl rfl)
theorem dX1_setDelay_1 : decode cX1_setDelay 1 = .ok (.iload_n 1, 1) := dk_27 (dk_at dksX1_setDelay_0 1 rfl rfl)
theorem dX1_setDelay_2 : decode cX1_setDelay 2 = .ok (.invokevirtual 181, 3) := dk_182 0 181 (dk_at dksX1_setDelay_0 2 rfl rfl)
theorem dX1_setDelay_5 : decode cX1_setDelay 5 = .ok (.astore_n 3, 1) := dk_78 (dk_at dksX1_setDelay_0 5 rfl rfl)
theorem dX1_setDelay_6 : decode cX1_setDelay 6 = .ok (.iload_n 1, 1) := dk_27 (dk_at dksX1_setDelay_0 6 rfl rfl)
theorem dX1_setDelay_7 : decode cX1_setDelay 7 = .ok (.ifCond .le 17, 3) := dk_158 0 17 (dk_at dksX1_setDelay_0 7 rfl rfl)
theorem dX1_setDelay_10 : decode cX1_setDelay 10 = .ok (.iload_n 2, 1) := dk_28 (dk_at dksX1_setDelay_0 10 rfl rfl)
theorem dX1_setDelay_11 : decode cX1_setDelay 11 = .ok (.iconst 0, 1) := dk_3 (dk_at dksX1_setDelay_0 11 rfl rfl)
theorem dX1_setDelay_12 : decode cX1_setDelay 12 = .ok (.bipush 99, 2) := dk_16 99 (dk_at dksX1_setDelay_0 12 rfl rfl)
theorem dX1_setDelay_14 : decode cX1_setDelay 14 = .ok (.invokestatic 74, 3) := dk_184 0 74 (dk_at dksX1_setDelay_0 14 rfl rfl)
theorem dX1_setDelay_17 : decode cX1_setDelay 17 = .ok (.ifCond .eq 7, 3) := dk_153 0 7 (dk_at dksX1_setDelay_0 17 rfl rfl)
theorem dX1_setDelay_20 : decode cX1_setDelay 20 = .ok (.iconst 1, 1) := dk_4 (dk_at dksX1_setDelay_0 20 rfl rfl)
theorem dX1_setDelay_21 : decode cX1_setDelay 21 = .ok (.goto 4, 3) := dk_167 0 4 (dk_at dksX1_setDelay_0 21 rfl rfl)
theorem dX1_setDelay_24 : decode cX1_setDelay 24 = .ok (.iconst 0, 1) := dk_3 (dk_at dksX1_setDelay_1 0 rfl rfl)
theorem dX1_setDelay_25 : decode cX1_setDelay 25 = .ok (.invokestatic 198, 3) := dk_184 0 198 (dk_at dksX1_setDelay_1 1 rfl rfl)
theorem dX1_setDelay_28 : decode cX1_setDelay 28 = .ok (.aload_n 0, 1) := dk_42 (dk_at dksX1_setDelay_1 4 rfl rfl)
theorem dX1_setDelay_29 : decode cX1_setDelay 29 = .ok (.invokevirtual 416, 3) := dk_182 1 160 (dk_at dksX1_setDelay_1 5 rfl rfl)
theorem dX1_setDelay_32 : decode cX1_setDelay 32 = .ok (.aload_n 3, 1) := dk_45 (dk_at dksX1_setDelay_1 8 rfl rfl)
theorem dX1_setDelay_33 : decode cX1_setDelay 33 = .ok (.getfield 209, 3) := dk_180 0 209 (dk_at dksX1_setDelay_1 9 rfl rfl)
theorem dX1_setDelay_36 : decode cX1_setDelay 36 = .ok (.iload_n 1, 1) := dk_27 (dk_at dksX1_setDelay_1 12 rfl rfl)
theorem dX1_setDelay_37 : decode cX1_setDelay 37 = .ok (.iaload, 1) := dk_46 (dk_at dksX1_setDelay_1 13 rfl rfl)
theorem dX1_setDelay_38 : decode cX1_setDelay 38 = .ok (.istore 4, 2) := dk_54 4 (dk_at dksX1_setDelay_1 14 rfl rfl)
theorem dX1_setDelay_40 : decode cX1_setDelay 40 = .ok (.aload_n 3, 1) := dk_45 (dk_at dksX1_setDelay_1 16 rfl rfl)
theorem dX1_setDelay_41 : decode cX1_setDelay 41 = .ok (.getfield 209, 3) := dk_180 0 209 (dk_at dksX1_setDelay_1 17 rfl rfl)
theorem dX1_setDelay_44 : decode cX1_setDelay 44 = .ok (.iload_n 1, 1) := dk_27 (dk_at dksX1_setDelay_1 20 rfl rfl)
theorem dX1_setDelay_45 : decode cX1_setDelay 45 = .ok (.iload_n 2, 1) := dk_28 (dk_at dksX1_setDelay_1 21 rfl rfl)
theorem dX1_setDelay_46 : decode cX1_setDelay 46 = .ok (.iastore, 1) := dk_79 (dk_at dksX1_setDelay_1 22 rfl rfl)
theorem dX1_setDelay_47 : decode cX1_setDelay 47 = .ok (.iload 4, 2) := dk_21 4 (dk_at dksX1_setDelay_2 0 rfl rfl)
theorem dX1_setDelay_49 : decode cX1_setDelay 49 = .ok (.ireturn, 1) := dk_172 (dk_at dksX1_setDelay_2 2 rfl rfl)
abbrev cX1_setWish : ByteArray := prog_1_method_80_code
def yX1_setWish : MethodName := ⟨RX1, "setWish", "(II)I"⟩
def dkwX1_setWish_2 : List UInt8 := [28, 79, 21, 4, 172]
abbrev dktX1_setWish_2 : List UInt8 := dkwX1_setWish_2 ++ []
def dkwX1_setWish_1 : List UInt8 := [167, 0, 4, 3, 184, 0, 198, 42, 182, 1, 160, 45, 180, 0, 212, 27, 46, 54, 4, 45, 180, 0, 212, 27]
abbrev dktX1_setWish_1 : List UInt8 := dkwX1_setWish_1 ++ dktX1_setWish_2
def dkwX1_setWish_0 : List UInt8 := [42, 27, 182, 0, 181, 78, 27, 158, 0, 18, 28, 2, 17, 3, 231, 184, 0, 74, 153, 0, 7, 4]
abbrev dktX1_setWish_0 : List UInt8 := dkwX1_setWish_0 ++ dktX1_setWish_1
theorem dksX1_setWish_0 : cX1_setWish.data.toList.drop 0 = dktX1_setWish_0 := by decide +kernel
theorem dksX1_setWish_1 : cX1_setWish.data.toList.drop 22 = dktX1_setWish_1 := dk_seg dksX1_setWish_0 22 rfl rfl
theorem dksX1_setWish_2 : cX1_setWish.data.toList.drop 46 = dktX1_setWish_2 := dk_seg dksX1_setWish_1 24 rfl rfl
theorem dX1_setWish_0 : decode cX1_setWish 0 = .ok (.aload_n 0, 1) := dk_42 (dk_at dksX1_setWish_0 0 rfl rfl)
theorem dX1_setWish_1 : decode cX1_setWish 1 = .ok (.iload_n 1, 1) := dk_27 (dk_at dksX1_setWish_0 1 rfl rfl)
theorem dX1_setWish_2 : decode cX1_setWish 2 = .ok (.invokevirtual 181, 3) := dk_182 0 181 (dk_at dksX1_setWish_0 2 rfl rfl)
theorem dX1_setWish_5 : decode cX1_setWish 5 = .ok (.astore_n 3, 1) := dk_78 (dk_at dksX1_setWish_0 5 rfl rfl)
theorem dX1_setWish_6 : decode cX1_setWish 6 = .ok (.iload_n 1, 1) := dk_27 (dk_at dksX1_setWish_0 6 rfl rfl)
theorem dX1_setWish_7 : decode cX1_setWish 7 = .ok (.ifCond .le 18, 3) := dk_158 0 18 (dk_at dksX1_setWish_0 7 rfl rfl)
theorem dX1_setWish_10 : decode cX1_setWish 10 = .ok (.iload_n 2, 1) := dk_28 (dk_at dksX1_setWish_0 10 rfl rfl)
theorem dX1_setWish_11 : decode cX1_setWish 11 = .ok (.iconst (-1), 1) := dk_2 (dk_at dksX1_setWish_0 11 rfl rfl)
theorem dX1_setWish_12 : decode cX1_setWish 12 = .ok (.sipush 999, 3) := dk_17 3 231 (dk_at dksX1_setWish_0 12 rfl rfl)
theorem dX1_setWish_15 : decode cX1_setWish 15 = .ok (.invokestatic 74, 3) := dk_184 0 74 (dk_at dksX1_setWish_0 15 rfl rfl)
theorem dX1_setWish_18 : decode cX1_setWish 18 = .ok (.ifCond .eq 7, 3) := dk_153 0 7 (dk_at dksX1_setWish_0 18 rfl rfl)
theorem dX1_setWish_21 : decode cX1_setWish 21 = .ok (.iconst 1, 1) := dk_4 (dk_at dksX1_setWish_0 21 rfl rfl)
theorem dX1_setWish_22 : decode cX1_setWish 22 = .ok (.goto 4, 3) := dk_167 0 4 (dk_at dksX1_setWish_1 0 rfl rfl)
theorem dX1_setWish_25 : decode cX1_setWish 25 = .ok (.iconst 0, 1) := dk_3 (dk_at dksX1_setWish_1 3 rfl rfl)
theorem dX1_setWish_26 : decode cX1_setWish 26 = .ok (.invokestatic 198, 3) := dk_184 0 198 (dk_at dksX1_setWish_1 4 rfl rfl)
theorem dX1_setWish_29 : decode cX1_setWish 29 = .ok (.aload_n 0, 1) := dk_42 (dk_at dksX1_setWish_1 7 rfl rfl)
theorem dX1_setWish_30 : decode cX1_setWish 30 = .ok (.invokevirtual 416, 3) := dk_182 1 160 (dk_at dksX1_setWish_1 8 rfl rfl)
theorem dX1_setWish_33 : decode cX1_setWish 33 = .ok (.aload_n 3, 1) := dk_45 (dk_at dksX1_setWish_1 11 rfl rfl)
theorem dX1_setWish_34 : decode cX1_setWish 34 = .ok (.getfield 212, 3) := dk_180 0 212 (dk_at dksX1_setWish_1 12 rfl rfl)
theorem dX1_setWish_37 : decode cX1_setWish 37 = .ok (.iload_n 1, 1) := dk_27 (dk_at dksX1_setWish_1 15 rfl rfl)
theorem dX1_setWish_38 : decode cX1_setWish 38 = .ok (.iaload, 1) := dk_46 (dk_at dksX1_setWish_1 16 rfl rfl)
theorem dX1_setWish_39 : decode cX1_setWish 39 = .ok (.istore 4, 2) := dk_54 4 (dk_at dksX1_setWish_1 17 rfl rfl)
theorem dX1_setWish_41 : decode cX1_setWish 41 = .ok (.aload_n 3, 1) := dk_45 (dk_at dksX1_setWish_1 19 rfl rfl)
theorem dX1_setWish_42 : decode cX1_setWish 42 = .ok (.getfield 212, 3) := dk_180 0 212 (dk_at dksX1_setWish_1 20 rfl rfl)
theorem dX1_setWish_45 : decode cX1_setWish 45 = .ok (.iload_n 1, 1) := dk_27 (dk_at dksX1_setWish_1 23 rfl rfl)
theorem dX1_setWish_46 : decode cX1_setWish 46 = .ok (.iload_n 2, 1) := dk_28 (dk_at dksX1_setWish_2 0 rfl rfl)
theorem dX1_setWish_47 : decode cX1_setWish 47 = .ok (.iastore, 1) := dk_79 (dk_at dksX1_setWish_2 1 rfl rfl)
theorem dX1_setWish_48 : decode cX1_setWish 48 = .ok (.iload 4, 2) := dk_21 4 (dk_at dksX1_setWish_2 2 rfl rfl)
theorem dX1_setWish_50 : decode cX1_setWish 50 = .ok (.ireturn, 1) := dk_172 (dk_at dksX1_setWish_2 4 rfl rfl)
abbrev cX1_tighten : ByteArray := prog_1_method_81_code
def yX1_tighten : MethodName := ⟨RX1, "tighten", "()I"⟩
def dkwX1_tighten_3 : List UInt8 := [182, 1, 169, 96, 61, 132, 3, 1, 167, 255, 192, 28, 172]
abbrev dktX1_tighten_3 : List UInt8 := dkwX1_tighten_3 ++ []
def dkwX1_tighten_2 : List UInt8 := [180, 1, 5, 154, 0, 26, 28, 42, 180, 0, 84, 180, 0, 117, 29, 185, 0, 126, 2, 0, 192, 0, 130, 43]
abbrev dktX1_tighten_2 : List UInt8 := dkwX1_tighten_2 ++ dktX1_tighten_3
def dkwX1_tighten_1 : List UInt8 := [185, 0, 121, 1, 0, 162, 0, 54, 42, 180, 0, 84, 180, 0, 117, 29, 185, 0, 126, 2, 0, 192, 0, 130]
abbrev dktX1_tighten_1 : List UInt8 := dkwX1_tighten_1 ++ dktX1_tighten_2
def dkwX1_tighten_0 : List UInt8 := [42, 182, 0, 132, 76, 42, 182, 1, 160, 3, 61, 3, 62, 29, 42, 180, 0, 84, 180, 0, 117]
abbrev dktX1_tighten_0 : List UInt8 := dkwX1_tighten_0 ++ dktX1_tighten_1
theorem dksX1_tighten_0 : cX1_tighten.data.toList.drop 0 = dktX1_tighten_0 := by decide +kernel
theorem dksX1_tighten_1 : cX1_tighten.data.toList.drop 21 = dktX1_tighten_1 := dk_seg dksX1_tighten_0 21 rfl rfl
theorem dksX1_tighten_2 : cX1_tighten.data.toList.drop 45 = dktX1_tighten_2 := dk_seg dksX1_tighten_1 24 rfl rfl
theorem dksX1_tighten_3 : cX1_tighten.data.toList.drop 69 = dktX1_tighten_3 := dk_seg dksX1_tighten_2 24 rfl rfl
theorem dX1_tighten_0 : decode cX1_tighten 0 = .ok (.aload_n 0, 1) := dk_42 (dk_at dksX1_tighten_0 0 rfl rfl)
theorem dX1_tighten_1 : decode cX1_tighten 1 = .ok (.invokevirtual 132, 3) := dk_182 0 132 (dk_at dksX1_tighten_0 1 rfl rfl)
theorem dX1_tighten_4 : decode cX1_tighten 4 = .ok (.astore_n 1, 1) := dk_76 (dk_at dksX1_tighten_0 4 rfl rfl)
theorem dX1_tighten_5 : decode cX1_tighten 5 = .ok (.aload_n 0, 1) := dk_42 (dk_at dksX1_tighten_0 5 rfl rfl)
theorem dX1_tighten_6 : decode cX1_tighten 6 = .ok (.invokevirtual 416, 3) := dk_182 1 160 (dk_at dksX1_tighten_0 6 rfl rfl)
theorem dX1_tighten_9 : decode cX1_tighten 9 = .ok (.iconst 0, 1) := dk_3 (dk_at dksX1_tighten_0 9 rfl rfl)
theorem dX1_tighten_10 : decode cX1_tighten 10 = .ok (.istore_n 2, 1) := dk_61 (dk_at dksX1_tighten_0 10 rfl rfl)
theorem dX1_tighten_11 : decode cX1_tighten 11 = .ok (.iconst 0, 1) := dk_3 (dk_at dksX1_tighten_0 11 rfl rfl)
theorem dX1_tighten_12 : decode cX1_tighten 12 = .ok (.istore_n 3, 1) := dk_62 (dk_at dksX1_tighten_0 12 rfl rfl)
theorem dX1_tighten_13 : decode cX1_tighten 13 = .ok (.iload_n 3, 1) := dk_29 (dk_at dksX1_tighten_0 13 rfl rfl)
theorem dX1_tighten_14 : decode cX1_tighten 14 = .ok (.aload_n 0, 1) := dk_42 (dk_at dksX1_tighten_0 14 rfl rfl)
theorem dX1_tighten_15 : decode cX1_tighten 15 = .ok (.getfield 84, 3) := dk_180 0 84 (dk_at dksX1_tighten_0 15 rfl rfl)
theorem dX1_tighten_18 : decode cX1_tighten 18 = .ok (.getfield 117, 3) := dk_180 0 117 (dk_at dksX1_tighten_0 18 rfl rfl)
theorem dX1_tighten_21 : decode cX1_tighten 21 = .ok (.invokeinterface 121 1, 5) := by decide +kernel
theorem dX1_tighten_26 : decode cX1_tighten 26 = .ok (.if_icmp .ge 54, 3) := dk_162 0 54 (dk_at dksX1_tighten_1 5 rfl rfl)
theorem dX1_tighten_29 : decode cX1_tighten 29 = .ok (.aload_n 0, 1) := dk_42 (dk_at dksX1_tighten_1 8 rfl rfl)
theorem dX1_tighten_30 : decode cX1_tighten 30 = .ok (.getfield 84, 3) := dk_180 0 84 (dk_at dksX1_tighten_1 9 rfl rfl)
theorem dX1_tighten_33 : decode cX1_tighten 33 = .ok (.getfield 117, 3) := dk_180 0 117 (dk_at dksX1_tighten_1 12 rfl rfl)
theorem dX1_tighten_36 : decode cX1_tighten 36 = .ok (.iload_n 3, 1) := dk_29 (dk_at dksX1_tighten_1 15 rfl rfl)
theorem dX1_tighten_37 : decode cX1_tighten 37 = .ok (.invokeinterface 126 2, 5) := by decide +kernel
theorem dX1_tighten_42 : decode cX1_tighten 42 = .ok (.checkcast 130, 3) := dk_192 0 130 (dk_at dksX1_tighten_1 21 rfl rfl)
theorem dX1_tighten_45 : decode cX1_tighten 45 = .ok (.getfield 261, 3) := dk_180 1 5 (dk_at dksX1_tighten_2 0 rfl rfl)
theorem dX1_tighten_48 : decode cX1_tighten 48 = .ok (.ifCond .ne 26, 3) := dk_154 0 26 (dk_at dksX1_tighten_2 3 rfl rfl)
theorem dX1_tighten_51 : decode cX1_tighten 51 = .ok (.iload_n 2, 1) := dk_28 (dk_at dksX1_tighten_2 6 rfl rfl)
theorem dX1_tighten_52 : decode cX1_tighten 52 = .ok (.aload_n 0, 1) := dk_42 (dk_at dksX1_tighten_2 7 rfl rfl)
theorem dX1_tighten_53 : decode cX1_tighten 53 = .ok (.getfield 84, 3) := dk_180 0 84 (dk_at dksX1_tighten_2 8 rfl rfl)
theorem dX1_tighten_56 : decode cX1_tighten 56 = .ok (.getfield 117, 3) := dk_180 0 117 (dk_at dksX1_tighten_2 11 rfl rfl)
theorem dX1_tighten_59 : decode cX1_tighten 59 = .ok (.iload_n 3, 1) := dk_29 (dk_at dksX1_tighten_2 14 rfl rfl)
theorem dX1_tighten_60 : decode cX1_tighten 60 = .ok (.invokeinterface 126 2, 5) := by decide +kernel
theorem dX1_tighten_65 : decode cX1_tighten 65 = .ok (.checkcast 130, 3) := dk_192 0 130 (dk_at dksX1_tighten_2 20 rfl rfl)
theorem dX1_tighten_68 : decode cX1_tighten 68 = .ok (.aload_n 1, 1) := dk_43 (dk_at dksX1_tighten_2 23 rfl rfl)
theorem dX1_tighten_69 : decode cX1_tighten 69 = .ok (.invokevirtual 425, 3) := dk_182 1 169 (dk_at dksX1_tighten_3 0 rfl rfl)
theorem dX1_tighten_72 : decode cX1_tighten 72 = .ok (.iadd, 1) := dk_96 (dk_at dksX1_tighten_3 3 rfl rfl)
theorem dX1_tighten_73 : decode cX1_tighten 73 = .ok (.istore_n 2, 1) := dk_61 (dk_at dksX1_tighten_3 4 rfl rfl)
theorem dX1_tighten_74 : decode cX1_tighten 74 = .ok (.iinc 3 1, 3) := dk_132 3 1 (dk_at dksX1_tighten_3 5 rfl rfl)
theorem dX1_tighten_77 : decode cX1_tighten 77 = .ok (.goto (-64), 3) := dk_167 255 192 (dk_at dksX1_tighten_3 8 rfl rfl)
theorem dX1_tighten_80 : decode cX1_tighten 80 = .ok (.iload_n 2, 1) := dk_28 (dk_at dksX1_tighten_3 11 rfl rfl)
theorem dX1_tighten_81 : decode cX1_tighten 81 = .ok (.ireturn, 1) := dk_172 (dk_at dksX1_tighten_3 12 rfl rfl)
abbrev cX1_mend : ByteArray := prog_1_method_82_code
def yX1_mend : MethodName := ⟨RX1, "mend", "()I"⟩
def dkwX1_mend_3 : List UInt8 := [167, 0, 16, 44, 89, 180, 1, 2, 43, 180, 1, 173, 96, 181, 1, 2, 43, 180, 1, 173, 172]
abbrev dktX1_mend_3 : List UInt8 := dkwX1_mend_3 ++ []
def dkwX1_mend_2 : List UInt8 := [77, 43, 180, 1, 68, 5, 112, 4, 160, 0, 19, 44, 89, 180, 0, 255, 43, 180, 1, 173, 100, 181, 0, 255]
abbrev dktX1_mend_2 : List UInt8 := dkwX1_mend_2 ++ dktX1_mend_3
def dkwX1_mend_1 : List UInt8 := [182, 1, 160, 42, 180, 0, 84, 180, 0, 117, 43, 180, 1, 68, 5, 108, 185, 0, 126, 2, 0, 192, 0, 130]
abbrev dktX1_mend_1 : List UInt8 := dkwX1_mend_1 ++ dktX1_mend_2
def dkwX1_mend_0 : List UInt8 := [42, 182, 0, 106, 87, 42, 182, 1, 64, 76, 43, 198, 0, 7, 4, 167, 0, 4, 3, 184, 0, 198, 42]
abbrev dktX1_mend_0 : List UInt8 := dkwX1_mend_0 ++ dktX1_mend_1
theorem dksX1_mend_0 : cX1_mend.data.toList.drop 0 = dktX1_mend_0 := by decide +kernel
theorem dksX1_mend_1 : cX1_mend.data.toList.drop 23 = dktX1_mend_1 := dk_seg dksX1_mend_0 23 rfl rfl
theorem dksX1_mend_2 : cX1_mend.data.toList.drop 47 = dktX1_mend_2 := dk_seg dksX1_mend_1 24 rfl rfl
theorem dksX1_mend_3 : cX1_mend.data.toList.drop 71 = dktX1_mend_3 := dk_seg dksX1_mend_2 24 rfl rfl
theorem dX1_mend_0 : decode cX1_mend 0 = .ok (.aload_n 0, 1) := dk_42 (dk_at dksX1_mend_0 0 rfl rfl)
theorem dX1_mend_1 : decode cX1_mend 1 = .ok (.invokevirtual 106, 3) := dk_182 0 106 (dk_at dksX1_mend_0 1 rfl rfl)
theorem dX1_mend_4 : decode cX1_mend 4 = .ok (.pop, 1) := dk_87 (dk_at dksX1_mend_0 4 rfl rfl)
theorem dX1_mend_5 : decode cX1_mend 5 = .ok (.aload_n 0, 1) := dk_42 (dk_at dksX1_mend_0 5 rfl rfl)
theorem dX1_mend_6 : decode cX1_mend 6 = .ok (.invokevirtual 320, 3) := dk_182 1 64 (dk_at dksX1_mend_0 6 rfl rfl)
theorem dX1_mend_9 : decode cX1_mend 9 = .ok (.astore_n 1, 1) := dk_76 (dk_at dksX1_mend_0 9 rfl rfl)
theorem dX1_mend_10 : decode cX1_mend 10 = .ok (.aload_n 1, 1) := dk_43 (dk_at dksX1_mend_0 10 rfl rfl)
theorem dX1_mend_11 : decode cX1_mend 11 = .ok (.ifnull 7, 3) := dk_198 0 7 (dk_at dksX1_mend_0 11 rfl rfl)
theorem dX1_mend_14 : decode cX1_mend 14 = .ok (.iconst 1, 1) := dk_4 (dk_at dksX1_mend_0 14 rfl rfl)
theorem dX1_mend_15 : decode cX1_mend 15 = .ok (.goto 4, 3) := dk_167 0 4 (dk_at dksX1_mend_0 15 rfl rfl)
theorem dX1_mend_18 : decode cX1_mend 18 = .ok (.iconst 0, 1) := dk_3 (dk_at dksX1_mend_0 18 rfl rfl)
theorem dX1_mend_19 : decode cX1_mend 19 = .ok (.invokestatic 198, 3) := dk_184 0 198 (dk_at dksX1_mend_0 19 rfl rfl)
theorem dX1_mend_22 : decode cX1_mend 22 = .ok (.aload_n 0, 1) := dk_42 (dk_at dksX1_mend_0 22 rfl rfl)
theorem dX1_mend_23 : decode cX1_mend 23 = .ok (.invokevirtual 416, 3) := dk_182 1 160 (dk_at dksX1_mend_1 0 rfl rfl)
theorem dX1_mend_26 : decode cX1_mend 26 = .ok (.aload_n 0, 1) := dk_42 (dk_at dksX1_mend_1 3 rfl rfl)
theorem dX1_mend_27 : decode cX1_mend 27 = .ok (.getfield 84, 3) := dk_180 0 84 (dk_at dksX1_mend_1 4 rfl rfl)
theorem dX1_mend_30 : decode cX1_mend 30 = .ok (.getfield 117, 3) := dk_180 0 117 (dk_at dksX1_mend_1 7 rfl rfl)
theorem dX1_mend_33 : decode cX1_mend 33 = .ok (.aload_n 1, 1) := dk_43 (dk_at dksX1_mend_1 10 rfl rfl)
theorem dX1_mend_34 : decode cX1_mend 34 = .ok (.getfield 324, 3) := dk_180 1 68 (dk_at dksX1_mend_1 11 rfl rfl)
theorem dX1_mend_37 : decode cX1_mend 37 = .ok (.iconst 2, 1) := dk_5 (dk_at dksX1_mend_1 14 rfl rfl)
theorem dX1_mend_38 : decode cX1_mend 38 = .ok (.idiv, 1) := dk_108 (dk_at dksX1_mend_1 15 rfl rfl)
theorem dX1_mend_39 : decode cX1_mend 39 = .ok (.invokeinterface 126 2, 5) := by decide +kernel
theorem dX1_mend_44 : decode cX1_mend 44 = .ok (.checkcast 130, 3) := dk_192 0 130 (dk_at dksX1_mend_1 21 rfl rfl)
theorem dX1_mend_47 : decode cX1_mend 47 = .ok (.astore_n 2, 1) := dk_77 (dk_at dksX1_mend_2 0 rfl rfl)
theorem dX1_mend_48 : decode cX1_mend 48 = .ok (.aload_n 1, 1) := dk_43 (dk_at dksX1_mend_2 1 rfl rfl)
theorem dX1_mend_49 : decode cX1_mend 49 = .ok (.getfield 324, 3) := dk_180 1 68 (dk_at dksX1_mend_2 2 rfl rfl)
theorem dX1_mend_52 : decode cX1_mend 52 = .ok (.iconst 2, 1) := dk_5 (dk_at dksX1_mend_2 5 rfl rfl)
theorem dX1_mend_53 : decode cX1_mend 53 = .ok (.irem, 1) := dk_112 (dk_at dksX1_mend_2 6 rfl rfl)
theorem dX1_mend_54 : decode cX1_mend 54 = .ok (.iconst 1, 1) := dk_4 (dk_at dksX1_mend_2 7 rfl rfl)
theorem dX1_mend_55 : decode cX1_mend 55 = .ok (.if_icmp .ne 19, 3) := dk_160 0 19 (dk_at dksX1_mend_2 8 rfl rfl)
theorem dX1_mend_58 : decode cX1_mend 58 = .ok (.aload_n 2, 1) := dk_44 (dk_at dksX1_mend_2 11 rfl rfl)
theorem dX1_mend_59 : decode cX1_mend 59 = .ok (.dup, 1) := dk_89 (dk_at dksX1_mend_2 12 rfl rfl)
theorem dX1_mend_60 : decode cX1_mend 60 = .ok (.getfield 255, 3) := dk_180 0 255 (dk_at dksX1_mend_2 13 rfl rfl)
theorem dX1_mend_63 : decode cX1_mend 63 = .ok (.aload_n 1, 1) := dk_43 (dk_at dksX1_mend_2 16 rfl rfl)
theorem dX1_mend_64 : decode cX1_mend 64 = .ok (.getfield 429, 3) := dk_180 1 173 (dk_at dksX1_mend_2 17 rfl rfl)
theorem dX1_mend_67 : decode cX1_mend 67 = .ok (.isub, 1) := dk_100 (dk_at dksX1_mend_2 20 rfl rfl)
theorem dX1_mend_68 : decode cX1_mend 68 = .ok (.putfield 255, 3) := dk_181 0 255 (dk_at dksX1_mend_2 21 rfl rfl)
theorem dX1_mend_71 : decode cX1_mend 71 = .ok (.goto 16, 3) := dk_167 0 16 (dk_at dksX1_mend_3 0 rfl rfl)
theorem dX1_mend_74 : decode cX1_mend 74 = .ok (.aload_n 2, 1) := dk_44 (dk_at dksX1_mend_3 3 rfl rfl)
theorem dX1_mend_75 : decode cX1_mend 75 = .ok (.dup, 1) := dk_89 (dk_at dksX1_mend_3 4 rfl rfl)
theorem dX1_mend_76 : decode cX1_mend 76 = .ok (.getfield 258, 3) := dk_180 1 2 (dk_at dksX1_mend_3 5 rfl rfl)
theorem dX1_mend_79 : decode cX1_mend 79 = .ok (.aload_n 1, 1) := dk_43 (dk_at dksX1_mend_3 8 rfl rfl)
theorem dX1_mend_80 : decode cX1_mend 80 = .ok (.getfield 429, 3) := dk_180 1 173 (dk_at dksX1_mend_3 9 rfl rfl)
theorem dX1_mend_83 : decode cX1_mend 83 = .ok (.iadd, 1) := dk_96 (dk_at dksX1_mend_3 12 rfl rfl)
theorem dX1_mend_84 : decode cX1_mend 84 = .ok (.putfield 258, 3) := dk_181 1 2 (dk_at dksX1_mend_3 13 rfl rfl)
theorem dX1_mend_87 : decode cX1_mend 87 = .ok (.aload_n 1, 1) := dk_43 (dk_at dksX1_mend_3 16 rfl rfl)
theorem dX1_mend_88 : decode cX1_mend 88 = .ok (.getfield 429, 3) := dk_180 1 173 (dk_at dksX1_mend_3 17 rfl rfl)
theorem dX1_mend_91 : decode cX1_mend 91 = .ok (.ireturn, 1) := dk_172 (dk_at dksX1_mend_3 20 rfl rfl)
abbrev cX1_dropLeast : ByteArray := prog_1_method_83_code
def yX1_dropLeast : MethodName := ⟨RX1, "dropLeast", "()I"⟩
def dkwX1_dropLeast_3 : List UInt8 := [192, 0, 130, 4, 181, 1, 5, 132, 2, 1, 167, 255, 206, 43, 180, 1, 175, 172]
abbrev dktX1_dropLeast_3 : List UInt8 := dkwX1_dropLeast_3 ++ []
def dkwX1_dropLeast_2 : List UInt8 := [180, 1, 85, 28, 184, 1, 21, 153, 0, 23, 42, 180, 0, 84, 180, 0, 117, 28, 185, 0, 126, 2, 0]
abbrev dktX1_dropLeast_2 : List UInt8 := dkwX1_dropLeast_2 ++ dktX1_dropLeast_3
def dkwX1_dropLeast_1 : List UInt8 := [182, 1, 160, 3, 61, 28, 42, 180, 0, 84, 180, 0, 117, 185, 0, 121, 1, 0, 162, 0, 40, 43]
abbrev dktX1_dropLeast_1 : List UInt8 := dkwX1_dropLeast_1 ++ dktX1_dropLeast_2
def dkwX1_dropLeast_0 : List UInt8 := [42, 182, 0, 106, 87, 42, 182, 1, 94, 76, 43, 198, 0, 7, 4, 167, 0, 4, 3, 184, 0, 198, 42]
abbrev dktX1_dropLeast_0 : List UInt8 := dkwX1_dropLeast_0 ++ dktX1_dropLeast_1
theorem dksX1_dropLeast_0 : cX1_dropLeast.data.toList.drop 0 = dktX1_dropLeast_0 := by decide +kernel
theorem dksX1_dropLeast_1 : cX1_dropLeast.data.toList.drop 23 = dktX1_dropLeast_1 := dk_seg dksX1_dropLeast_0 23 rfl rfl
theorem dksX1_dropLeast_2 : cX1_dropLeast.data.toList.drop 45 = dktX1_dropLeast_2 := dk_seg dksX1_dropLeast_1 22 rfl rfl
theorem dksX1_dropLeast_3 : cX1_dropLeast.data.toList.drop 68 = dktX1_dropLeast_3 := dk_seg dksX1_dropLeast_2 23 rfl rfl
theorem dX1_dropLeast_0 : decode cX1_dropLeast 0 = .ok (.aload_n 0, 1) := dk_42 (dk_at dksX1_dropLeast_0 0 rfl rfl)
theorem dX1_dropLeast_1 : decode cX1_dropLeast 1 = .ok (.invokevirtual 106, 3) := dk_182 0 106 (dk_at dksX1_dropLeast_0 1 rfl rfl)
theorem dX1_dropLeast_4 : decode cX1_dropLeast 4 = .ok (.pop, 1) := dk_87 (dk_at dksX1_dropLeast_0 4 rfl rfl)
theorem dX1_dropLeast_5 : decode cX1_dropLeast 5 = .ok (.aload_n 0, 1) := dk_42 (dk_at dksX1_dropLeast_0 5 rfl rfl)
theorem dX1_dropLeast_6 : decode cX1_dropLeast 6 = .ok (.invokevirtual 350, 3) := dk_182 1 94 (dk_at dksX1_dropLeast_0 6 rfl rfl)
theorem dX1_dropLeast_9 : decode cX1_dropLeast 9 = .ok (.astore_n 1, 1) := dk_76 (dk_at dksX1_dropLeast_0 9 rfl rfl)
theorem dX1_dropLeast_10 : decode cX1_dropLeast 10 = .ok (.aload_n 1, 1) := dk_43 (dk_at dksX1_dropLeast_0 10 rfl rfl)
theorem dX1_dropLeast_11 : decode cX1_dropLeast 11 = .ok (.ifnull 7, 3) := dk_198 0 7 (dk_at dksX1_dropLeast_0 11 rfl rfl)
theorem dX1_dropLeast_14 : decode cX1_dropLeast 14 = .ok (.iconst 1, 1) := dk_4 (dk_at dksX1_dropLeast_0 14 rfl rfl)
theorem dX1_dropLeast_15 : decode cX1_dropLeast 15 = .ok (.goto 4, 3) := dk_167 0 4 (dk_at dksX1_dropLeast_0 15 rfl rfl)
theorem dX1_dropLeast_18 : decode cX1_dropLeast 18 = .ok (.iconst 0, 1) := dk_3 (dk_at dksX1_dropLeast_0 18 rfl rfl)
theorem dX1_dropLeast_19 : decode cX1_dropLeast 19 = .ok (.invokestatic 198, 3) := dk_184 0 198 (dk_at dksX1_dropLeast_0 19 rfl rfl)
theorem dX1_dropLeast_22 : decode cX1_dropLeast 22 = .ok (.aload_n 0, 1) := dk_42 (dk_at dksX1_dropLeast_0 22 rfl rfl)
theorem dX1_dropLeast_23 : decode cX1_dropLeast 23 = .ok (.invokevirtual 416, 3) := dk_182 1 160 (dk_at dksX1_dropLeast_1 0 rfl rfl)
theorem dX1_dropLeast_26 : decode cX1_dropLeast 26 = .ok (.iconst 0, 1) := dk_3 (dk_at dksX1_dropLeast_1 3 rfl rfl)
theorem dX1_dropLeast_27 : decode cX1_dropLeast 27 = .ok (.istore_n 2, 1) := dk_61 (dk_at dksX1_dropLeast_1 4 rfl rfl)
theorem dX1_dropLeast_28 : decode cX1_dropLeast 28 = .ok (.iload_n 2, 1) := dk_28 (dk_at dksX1_dropLeast_1 5 rfl rfl)
theorem dX1_dropLeast_29 : decode cX1_dropLeast 29 = .ok (.aload_n 0, 1) := dk_42 (dk_at dksX1_dropLeast_1 6 rfl rfl)
theorem dX1_dropLeast_30 : decode cX1_dropLeast 30 = .ok (.getfield 84, 3) := dk_180 0 84 (dk_at dksX1_dropLeast_1 7 rfl rfl)
theorem dX1_dropLeast_33 : decode cX1_dropLeast 33 = .ok (.getfield 117, 3) := dk_180 0 117 (dk_at dksX1_dropLeast_1 10 rfl rfl)
theorem dX1_dropLeast_36 : decode cX1_dropLeast 36 = .ok (.invokeinterface 121 1, 5) := by decide +kernel
theorem dX1_dropLeast_41 : decode cX1_dropLeast 41 = .ok (.if_icmp .ge 40, 3) := dk_162 0 40 (dk_at dksX1_dropLeast_1 18 rfl rfl)
theorem dX1_dropLeast_44 : decode cX1_dropLeast 44 = .ok (.aload_n 1, 1) := dk_43 (dk_at dksX1_dropLeast_1 21 rfl rfl)
theorem dX1_dropLeast_45 : decode cX1_dropLeast 45 = .ok (.getfield 341, 3) := dk_180 1 85 (dk_at dksX1_dropLeast_2 0 rfl rfl)
theorem dX1_dropLeast_48 : decode cX1_dropLeast 48 = .ok (.iload_n 2, 1) := dk_28 (dk_at dksX1_dropLeast_2 3 rfl rfl)
theorem dX1_dropLeast_49 : decode cX1_dropLeast 49 = .ok (.invokestatic 277, 3) := dk_184 1 21 (dk_at dksX1_dropLeast_2 4 rfl rfl)
theorem dX1_dropLeast_52 : decode cX1_dropLeast 52 = .ok (.ifCond .eq 23, 3) := dk_153 0 23 (dk_at dksX1_dropLeast_2 7 rfl rfl)
theorem dX1_dropLeast_55 : decode cX1_dropLeast 55 = .ok (.aload_n 0, 1) := dk_42 (dk_at dksX1_dropLeast_2 10 rfl rfl)
theorem dX1_dropLeast_56 : decode cX1_dropLeast 56 = .ok (.getfield 84, 3) := dk_180 0 84 (dk_at dksX1_dropLeast_2 11 rfl rfl)
theorem dX1_dropLeast_59 : decode cX1_dropLeast 59 = .ok (.getfield 117, 3) := dk_180 0 117 (dk_at dksX1_dropLeast_2 14 rfl rfl)
theorem dX1_dropLeast_62 : decode cX1_dropLeast 62 = .ok (.iload_n 2, 1) := dk_28 (dk_at dksX1_dropLeast_2 17 rfl rfl)
theorem dX1_dropLeast_63 : decode cX1_dropLeast 63 = .ok (.invokeinterface 126 2, 5) := by decide +kernel
theorem dX1_dropLeast_68 : decode cX1_dropLeast 68 = .ok (.checkcast 130, 3) := dk_192 0 130 (dk_at dksX1_dropLeast_3 0 rfl rfl)
theorem dX1_dropLeast_71 : decode cX1_dropLeast 71 = .ok (.iconst 1, 1) := dk_4 (dk_at dksX1_dropLeast_3 3 rfl rfl)
theorem dX1_dropLeast_72 : decode cX1_dropLeast 72 = .ok (.putfield 261, 3) := dk_181 1 5 (dk_at dksX1_dropLeast_3 4 rfl rfl)
theorem dX1_dropLeast_75 : decode cX1_dropLeast 75 = .ok (.iinc 2 1, 3) := dk_132 2 1 (dk_at dksX1_dropLeast_3 7 rfl rfl)
theorem dX1_dropLeast_78 : decode cX1_dropLeast 78 = .ok (.goto (-50), 3) := dk_167 255 206 (dk_at dksX1_dropLeast_3 10 rfl rfl)
theorem dX1_dropLeast_81 : decode cX1_dropLeast 81 = .ok (.aload_n 1, 1) := dk_43 (dk_at dksX1_dropLeast_3 13 rfl rfl)
theorem dX1_dropLeast_82 : decode cX1_dropLeast 82 = .ok (.getfield 431, 3) := dk_180 1 175 (dk_at dksX1_dropLeast_3 14 rfl rfl)
theorem dX1_dropLeast_85 : decode cX1_dropLeast 85 = .ok (.ireturn, 1) := dk_172 (dk_at dksX1_dropLeast_3 17 rfl rfl)
abbrev cX1_undo : ByteArray := prog_1_method_84_code
def yX1_undo : MethodName := ⟨RX1, "undo", "()I"⟩
def dkwX1_undo_1 : List UInt8 := [182, 1, 177, 192, 0, 4, 181, 0, 84, 42, 180, 0, 56, 182, 1, 149, 172]
abbrev dktX1_undo_1 : List UInt8 := dkwX1_undo_1 ++ []
def dkwX1_undo_0 : List UInt8 := [42, 180, 0, 56, 182, 1, 176, 154, 0, 7, 4, 167, 0, 4, 3, 184, 0, 88, 42, 42, 180, 0, 56]
abbrev dktX1_undo_0 : List UInt8 := dkwX1_undo_0 ++ dktX1_undo_1
theorem dksX1_undo_0 : cX1_undo.data.toList.drop 0 = dktX1_undo_0 := by decide +kernel
theorem dksX1_undo_1 : cX1_undo.data.toList.drop 23 = dktX1_undo_1 := dk_seg dksX1_undo_0 23 rfl rfl
theorem dX1_undo_0 : decode cX1_undo 0 = .ok (.aload_n 0, 1) := dk_42 (dk_at dksX1_undo_0 0 rfl rfl)
theorem dX1_undo_1 : decode cX1_undo 1 = .ok (.getfield 56, 3) := dk_180 0 56 (dk_at dksX1_undo_0 1 rfl rfl)
theorem dX1_undo_4 : decode cX1_undo 4 = .ok (.invokevirtual 432, 3) := dk_182 1 176 (dk_at dksX1_undo_0 4 rfl rfl)
theorem dX1_undo_7 : decode cX1_undo 7 = .ok (.ifCond .ne 7, 3) := dk_154 0 7 (dk_at dksX1_undo_0 7 rfl rfl)
theorem dX1_undo_10 : decode cX1_undo 10 = .ok (.iconst 1, 1) := dk_4 (dk_at dksX1_undo_0 10 rfl rfl)
theorem dX1_undo_11 : decode cX1_undo 11 = .ok (.goto 4, 3) := dk_167 0 4 (dk_at dksX1_undo_0 11 rfl rfl)
theorem dX1_undo_14 : decode cX1_undo 14 = .ok (.iconst 0, 1) := dk_3 (dk_at dksX1_undo_0 14 rfl rfl)
theorem dX1_undo_15 : decode cX1_undo 15 = .ok (.invokestatic 88, 3) := dk_184 0 88 (dk_at dksX1_undo_0 15 rfl rfl)
theorem dX1_undo_18 : decode cX1_undo 18 = .ok (.aload_n 0, 1) := dk_42 (dk_at dksX1_undo_0 18 rfl rfl)
theorem dX1_undo_19 : decode cX1_undo 19 = .ok (.aload_n 0, 1) := dk_42 (dk_at dksX1_undo_0 19 rfl rfl)
theorem dX1_undo_20 : decode cX1_undo 20 = .ok (.getfield 56, 3) := dk_180 0 56 (dk_at dksX1_undo_0 20 rfl rfl)
theorem dX1_undo_23 : decode cX1_undo 23 = .ok (.invokevirtual 433, 3) := dk_182 1 177 (dk_at dksX1_undo_1 0 rfl rfl)
theorem dX1_undo_26 : decode cX1_undo 26 = .ok (.checkcast 4, 3) := dk_192 0 4 (dk_at dksX1_undo_1 3 rfl rfl)
theorem dX1_undo_29 : decode cX1_undo 29 = .ok (.putfield 84, 3) := dk_181 0 84 (dk_at dksX1_undo_1 6 rfl rfl)
theorem dX1_undo_32 : decode cX1_undo 32 = .ok (.aload_n 0, 1) := dk_42 (dk_at dksX1_undo_1 9 rfl rfl)
theorem dX1_undo_33 : decode cX1_undo 33 = .ok (.getfield 56, 3) := dk_180 0 56 (dk_at dksX1_undo_1 10 rfl rfl)
theorem dX1_undo_36 : decode cX1_undo 36 = .ok (.invokevirtual 405, 3) := dk_182 1 149 (dk_at dksX1_undo_1 13 rfl rfl)
theorem dX1_undo_39 : decode cX1_undo 39 = .ok (.ireturn, 1) := dk_172 (dk_at dksX1_undo_1 16 rfl rfl)
abbrev cX1_save : ByteArray := prog_1_method_86_code
def yX1_save : MethodName := ⟨RX1, "save", "(I)I"⟩
def dkwX1_save_1 : List UInt8 := [180, 0, 84, 180, 0, 117, 185, 0, 121, 1, 0, 172]
abbrev dktX1_save_1 : List UInt8 := dkwX1_save_1 ++ []
def dkwX1_save_0 : List UInt8 := [42, 182, 0, 106, 87, 27, 5, 184, 0, 113, 42, 180, 0, 60, 27, 42, 180, 0, 84, 182, 1, 153, 83, 42]
abbrev dktX1_save_0 : List UInt8 := dkwX1_save_0 ++ dktX1_save_1
theorem dksX1_save_0 : cX1_save.data.toList.drop 0 = dktX1_save_0 := by decide +kernel
theorem dksX1_save_1 : cX1_save.data.toList.drop 24 = dktX1_save_1 := dk_seg dksX1_save_0 24 rfl rfl
theorem dX1_save_0 : decode cX1_save 0 = .ok (.aload_n 0, 1) := dk_42 (dk_at dksX1_save_0 0 rfl rfl)
theorem dX1_save_1 : decode cX1_save 1 = .ok (.invokevirtual 106, 3) := dk_182 0 106 (dk_at dksX1_save_0 1 rfl rfl)
theorem dX1_save_4 : decode cX1_save 4 = .ok (.pop, 1) := dk_87 (dk_at dksX1_save_0 4 rfl rfl)
theorem dX1_save_5 : decode cX1_save 5 = .ok (.iload_n 1, 1) := dk_27 (dk_at dksX1_save_0 5 rfl rfl)
theorem dX1_save_6 : decode cX1_save 6 = .ok (.iconst 2, 1) := dk_5 (dk_at dksX1_save_0 6 rfl rfl)
theorem dX1_save_7 : decode cX1_save 7 = .ok (.invokestatic 113, 3) := dk_184 0 113 (dk_at dksX1_save_0 7 rfl rfl)
theorem dX1_save_10 : decode cX1_save 10 = .ok (.aload_n 0, 1) := dk_42 (dk_at dksX1_save_0 10 rfl rfl)
theorem dX1_save_11 : decode cX1_save 11 = .ok (.getfield 60, 3) := dk_180 0 60 (dk_at dksX1_save_0 11 rfl rfl)
theorem dX1_save_14 : decode cX1_save 14 = .ok (.iload_n 1, 1) := dk_27 (dk_at dksX1_save_0 14 rfl rfl)
theorem dX1_save_15 : decode cX1_save 15 = .ok (.aload_n 0, 1) := dk_42 (dk_at dksX1_save_0 15 rfl rfl)
theorem dX1_save_16 : decode cX1_save 16 = .ok (.getfield 84, 3) := dk_180 0 84 (dk_at dksX1_save_0 16 rfl rfl)
theorem dX1_save_19 : decode cX1_save 19 = .ok (.invokevirtual 409, 3) := dk_182 1 153 (dk_at dksX1_save_0 19 rfl rfl)
theorem dX1_save_22 : decode cX1_save 22 = .ok (.aastore, 1) := dk_83 (dk_at dksX1_save_0 22 rfl rfl)
theorem dX1_save_23 : decode cX1_save 23 = .ok (.aload_n 0, 1) := dk_42 (dk_at dksX1_save_0 23 rfl rfl)
theorem dX1_save_24 : decode cX1_save 24 = .ok (.getfield 84, 3) := dk_180 0 84 (dk_at dksX1_save_1 0 rfl rfl)
theorem dX1_save_27 : decode cX1_save 27 = .ok (.getfield 117, 3) := dk_180 0 117 (dk_at dksX1_save_1 3 rfl rfl)
theorem dX1_save_30 : decode cX1_save 30 = .ok (.invokeinterface 121 1, 5) := by decide +kernel
theorem dX1_save_35 : decode cX1_save 35 = .ok (.ireturn, 1) := dk_172 (dk_at dksX1_save_1 11 rfl rfl)
abbrev cX1_restore : ByteArray := prog_1_method_87_code
def yX1_restore : MethodName := ⟨RX1, "restore", "(I)I"⟩
def dkwX1_restore_2 : List UInt8 := [180, 0, 117, 185, 0, 121, 1, 0, 172]
abbrev dktX1_restore_2 : List UInt8 := dkwX1_restore_2 ++ []
def dkwX1_restore_1 : List UInt8 := [180, 0, 60, 27, 50, 182, 1, 153, 181, 0, 84, 42, 180, 0, 56, 182, 0, 159, 42, 180, 0, 84]
abbrev dktX1_restore_1 : List UInt8 := dkwX1_restore_1 ++ dktX1_restore_2
def dkwX1_restore_0 : List UInt8 := [27, 5, 184, 0, 113, 42, 180, 0, 60, 27, 50, 198, 0, 7, 4, 167, 0, 4, 3, 184, 0, 88, 42, 42]
abbrev dktX1_restore_0 : List UInt8 := dkwX1_restore_0 ++ dktX1_restore_1
theorem dksX1_restore_0 : cX1_restore.data.toList.drop 0 = dktX1_restore_0 := by decide +kernel
theorem dksX1_restore_1 : cX1_restore.data.toList.drop 24 = dktX1_restore_1 := dk_seg dksX1_restore_0 24 rfl rfl
theorem dksX1_restore_2 : cX1_restore.data.toList.drop 46 = dktX1_restore_2 := dk_seg dksX1_restore_1 22 rfl rfl
theorem dX1_restore_0 : decode cX1_restore 0 = .ok (.iload_n 1, 1) := dk_27 (dk_at dksX1_restore_0 0 rfl rfl)
theorem dX1_restore_1 : decode cX1_restore 1 = .ok (.iconst 2, 1) := dk_5 (dk_at dksX1_restore_0 1 rfl rfl)
theorem dX1_restore_2 : decode cX1_restore 2 = .ok (.invokestatic 113, 3) := dk_184 0 113 (dk_at dksX1_restore_0 2 rfl rfl)
theorem dX1_restore_5 : decode cX1_restore 5 = .ok (.aload_n 0, 1) := dk_42 (dk_at dksX1_restore_0 5 rfl rfl)
theorem dX1_restore_6 : decode cX1_restore 6 = .ok (.getfield 60, 3) := dk_180 0 60 (dk_at dksX1_restore_0 6 rfl rfl)
theorem dX1_restore_9 : decode cX1_restore 9 = .ok (.iload_n 1, 1) := dk_27 (dk_at dksX1_restore_0 9 rfl rfl)
theorem dX1_restore_10 : decode cX1_restore 10 = .ok (.aaload, 1) := dk_50 (dk_at dksX1_restore_0 10 rfl rfl)
theorem dX1_restore_11 : decode cX1_restore 11 = .ok (.ifnull 7, 3) := dk_198 0 7 (dk_at dksX1_restore_0 11 rfl rfl)
theorem dX1_restore_14 : decode cX1_restore 14 = .ok (.iconst 1, 1) := dk_4 (dk_at dksX1_restore_0 14 rfl rfl)
theorem dX1_restore_15 : decode cX1_restore 15 = .ok (.goto 4, 3) := dk_167 0 4 (dk_at dksX1_restore_0 15 rfl rfl)
theorem dX1_restore_18 : decode cX1_restore 18 = .ok (.iconst 0, 1) := dk_3 (dk_at dksX1_restore_0 18 rfl rfl)
theorem dX1_restore_19 : decode cX1_restore 19 = .ok (.invokestatic 88, 3) := dk_184 0 88 (dk_at dksX1_restore_0 19 rfl rfl)
theorem dX1_restore_22 : decode cX1_restore 22 = .ok (.aload_n 0, 1) := dk_42 (dk_at dksX1_restore_0 22 rfl rfl)
theorem dX1_restore_23 : decode cX1_restore 23 = .ok (.aload_n 0, 1) := dk_42 (dk_at dksX1_restore_0 23 rfl rfl)
theorem dX1_restore_24 : decode cX1_restore 24 = .ok (.getfield 60, 3) := dk_180 0 60 (dk_at dksX1_restore_1 0 rfl rfl)
theorem dX1_restore_27 : decode cX1_restore 27 = .ok (.iload_n 1, 1) := dk_27 (dk_at dksX1_restore_1 3 rfl rfl)
theorem dX1_restore_28 : decode cX1_restore 28 = .ok (.aaload, 1) := dk_50 (dk_at dksX1_restore_1 4 rfl rfl)
theorem dX1_restore_29 : decode cX1_restore 29 = .ok (.invokevirtual 409, 3) := dk_182 1 153 (dk_at dksX1_restore_1 5 rfl rfl)
theorem dX1_restore_32 : decode cX1_restore 32 = .ok (.putfield 84, 3) := dk_181 0 84 (dk_at dksX1_restore_1 8 rfl rfl)
theorem dX1_restore_35 : decode cX1_restore 35 = .ok (.aload_n 0, 1) := dk_42 (dk_at dksX1_restore_1 11 rfl rfl)
theorem dX1_restore_36 : decode cX1_restore 36 = .ok (.getfield 56, 3) := dk_180 0 56 (dk_at dksX1_restore_1 12 rfl rfl)
theorem dX1_restore_39 : decode cX1_restore 39 = .ok (.invokevirtual 159, 3) := dk_182 0 159 (dk_at dksX1_restore_1 15 rfl rfl)
theorem dX1_restore_42 : decode cX1_restore 42 = .ok (.aload_n 0, 1) := dk_42 (dk_at dksX1_restore_1 18 rfl rfl)
theorem dX1_restore_43 : decode cX1_restore 43 = .ok (.getfield 84, 3) := dk_180 0 84 (dk_at dksX1_restore_1 19 rfl rfl)
theorem dX1_restore_46 : decode cX1_restore 46 = .ok (.getfield 117, 3) := dk_180 0 117 (dk_at dksX1_restore_2 0 rfl rfl)
theorem dX1_restore_49 : decode cX1_restore 49 = .ok (.invokeinterface 121 1, 5) := by decide +kernel
theorem dX1_restore_54 : decode cX1_restore 54 = .ok (.ireturn, 1) := dk_172 (dk_at dksX1_restore_2 8 rfl rfl)
