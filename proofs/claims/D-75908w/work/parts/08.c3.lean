/-! code of X2 -/
set_option maxRecDepth 100000
abbrev cX2_init : ByteArray := prog_16_method_1_code
def yX2_init : MethodName := ⟨RX2, "<init>", "()V"⟩
def dkwX2_init_7 : List UInt8 := [181, 0, 70, 177]
abbrev dktX2_init_7 : List UInt8 := dkwX2_init_7 ++ []
def dkwX2_init_6 : List UInt8 := [42, 16, 10, 188, 10, 181, 0, 64, 42, 16, 10, 188, 10, 181, 0, 67, 42, 17, 1, 44, 188, 8]
abbrev dktX2_init_6 : List UInt8 := dkwX2_init_6 ++ dktX2_init_7
def dkwX2_init_5 : List UInt8 := [16, 100, 188, 10, 181, 0, 55, 42, 16, 100, 188, 10, 181, 0, 58, 42, 17, 4, 76, 188, 10, 181, 0, 61]
abbrev dktX2_init_5 : List UInt8 := dkwX2_init_5 ++ dktX2_init_6
def dkwX2_init_4 : List UInt8 := [16, 80, 188, 10, 181, 0, 46, 42, 16, 80, 188, 10, 181, 0, 49, 42, 16, 10, 188, 10, 181, 0, 52, 42]
abbrev dktX2_init_4 : List UInt8 := dkwX2_init_4 ++ dktX2_init_5
def dkwX2_init_3 : List UInt8 := [5, 188, 4, 181, 0, 36, 42, 16, 80, 188, 10, 181, 0, 40, 42, 16, 80, 188, 10, 181, 0, 43, 42]
abbrev dktX2_init_3 : List UInt8 := dkwX2_init_3 ++ dktX2_init_4
def dkwX2_init_2 : List UInt8 := [188, 10, 181, 0, 27, 42, 17, 5, 128, 188, 10, 181, 0, 30, 42, 17, 1, 96, 188, 10, 181, 0, 33, 42]
abbrev dktX2_init_2 : List UInt8 := dkwX2_init_2 ++ dktX2_init_3
def dkwX2_init_1 : List UInt8 := [181, 0, 17, 42, 16, 80, 188, 8, 181, 0, 20, 42, 17, 0, 176, 188, 10, 181, 0, 23, 42, 17, 0, 176]
abbrev dktX2_init_1 : List UInt8 := dkwX2_init_1 ++ dktX2_init_2
def dkwX2_init_0 : List UInt8 := [42, 183, 0, 1, 42, 17, 2, 188, 188, 8, 181, 0, 9, 42, 2, 181, 0, 13, 42, 16, 80, 188, 8]
abbrev dktX2_init_0 : List UInt8 := dkwX2_init_0 ++ dktX2_init_1
theorem dksX2_init_0 : cX2_init.data.toList.drop 0 = dktX2_init_0 := by decide +kernel
theorem dksX2_init_1 : cX2_init.data.toList.drop 23 = dktX2_init_1 := dk_seg dksX2_init_0 23 rfl rfl
theorem dksX2_init_2 : cX2_init.data.toList.drop 47 = dktX2_init_2 := dk_seg dksX2_init_1 24 rfl rfl
theorem dksX2_init_3 : cX2_init.data.toList.drop 71 = dktX2_init_3 := dk_seg dksX2_init_2 24 rfl rfl
theorem dksX2_init_4 : cX2_init.data.toList.drop 94 = dktX2_init_4 := dk_seg dksX2_init_3 23 rfl rfl
theorem dksX2_init_5 : cX2_init.data.toList.drop 118 = dktX2_init_5 := dk_seg dksX2_init_4 24 rfl rfl
theorem dksX2_init_6 : cX2_init.data.toList.drop 142 = dktX2_init_6 := dk_seg dksX2_init_5 24 rfl rfl
theorem dksX2_init_7 : cX2_init.data.toList.drop 164 = dktX2_init_7 := dk_seg dksX2_init_6 22 rfl rfl
theorem dX2_init_0 : decode cX2_init 0 = .ok (.aload_n 0, 1) := dk_42 (dk_at dksX2_init_0 0 rfl rfl)
theorem dX2_init_1 : decode cX2_init 1 = .ok (.invokespecial 1, 3) := dk_183 0 1 (dk_at dksX2_init_0 1 rfl rfl)
theorem dX2_init_4 : decode cX2_init 4 = .ok (.aload_n 0, 1) := dk_42 (dk_at dksX2_init_0 4 rfl rfl)
theorem dX2_init_5 : decode cX2_init 5 = .ok (.sipush 700, 3) := dk_17 2 188 (dk_at dksX2_init_0 5 rfl rfl)
theorem dX2_init_8 : decode cX2_init 8 = .ok (.newarray .byte, 2) := dk_188_8 (dk_at dksX2_init_0 8 rfl rfl)
theorem dX2_init_10 : decode cX2_init 10 = .ok (.putfield 9, 3) := dk_181 0 9 (dk_at dksX2_init_0 10 rfl rfl)
theorem dX2_init_13 : decode cX2_init 13 = .ok (.aload_n 0, 1) := dk_42 (dk_at dksX2_init_0 13 rfl rfl)
theorem dX2_init_14 : decode cX2_init 14 = .ok (.iconst (-1), 1) := dk_2 (dk_at dksX2_init_0 14 rfl rfl)
theorem dX2_init_15 : decode cX2_init 15 = .ok (.putfield 13, 3) := dk_181 0 13 (dk_at dksX2_init_0 15 rfl rfl)
theorem dX2_init_18 : decode cX2_init 18 = .ok (.aload_n 0, 1) := dk_42 (dk_at dksX2_init_0 18 rfl rfl)
theorem dX2_init_19 : decode cX2_init 19 = .ok (.bipush 80, 2) := dk_16 80 (dk_at dksX2_init_0 19 rfl rfl)
theorem dX2_init_21 : decode cX2_init 21 = .ok (.newarray .byte, 2) := dk_188_8 (dk_at dksX2_init_0 21 rfl rfl)
theorem dX2_init_23 : decode cX2_init 23 = .ok (.putfield 17, 3) := dk_181 0 17 (dk_at dksX2_init_1 0 rfl rfl)
theorem dX2_init_26 : decode cX2_init 26 = .ok (.aload_n 0, 1) := dk_42 (dk_at dksX2_init_1 3 rfl rfl)
theorem dX2_init_27 : decode cX2_init 27 = .ok (.bipush 80, 2) := dk_16 80 (dk_at dksX2_init_1 4 rfl rfl)
theorem dX2_init_29 : decode cX2_init 29 = .ok (.newarray .byte, 2) := dk_188_8 (dk_at dksX2_init_1 6 rfl rfl)
theorem dX2_init_31 : decode cX2_init 31 = .ok (.putfield 20, 3) := dk_181 0 20 (dk_at dksX2_init_1 8 rfl rfl)
theorem dX2_init_34 : decode cX2_init 34 = .ok (.aload_n 0, 1) := dk_42 (dk_at dksX2_init_1 11 rfl rfl)
theorem dX2_init_35 : decode cX2_init 35 = .ok (.sipush 176, 3) := dk_17 0 176 (dk_at dksX2_init_1 12 rfl rfl)
theorem dX2_init_38 : decode cX2_init 38 = .ok (.newarray .int, 2) := dk_188_10 (dk_at dksX2_init_1 15 rfl rfl)
theorem dX2_init_40 : decode cX2_init 40 = .ok (.putfield 23, 3) := dk_181 0 23 (dk_at dksX2_init_1 17 rfl rfl)
theorem dX2_init_43 : decode cX2_init 43 = .ok (.aload_n 0, 1) := dk_42 (dk_at dksX2_init_1 20 rfl rfl)
theorem dX2_init_44 : decode cX2_init 44 = .ok (.sipush 176, 3) := dk_17 0 176 (dk_at dksX2_init_1 21 rfl rfl)
theorem dX2_init_47 : decode cX2_init 47 = .ok (.newarray .int, 2) := dk_188_10 (dk_at dksX2_init_2 0 rfl rfl)
theorem dX2_init_49 : decode cX2_init 49 = .ok (.putfield 27, 3) := dk_181 0 27 (dk_at dksX2_init_2 2 rfl rfl)
theorem dX2_init_52 : decode cX2_init 52 = .ok (.aload_n 0, 1) := dk_42 (dk_at dksX2_init_2 5 rfl rfl)
theorem dX2_init_53 : decode cX2_init 53 = .ok (.sipush 1408, 3) := dk_17 5 128 (dk_at dksX2_init_2 6 rfl rfl)
theorem dX2_init_56 : decode cX2_init 56 = .ok (.newarray .int, 2) := dk_188_10 (dk_at dksX2_init_2 9 rfl rfl)
theorem dX2_init_58 : decode cX2_init 58 = .ok (.putfield 30, 3) := dk_181 0 30 (dk_at dksX2_init_2 11 rfl rfl)
theorem dX2_init_61 : decode cX2_init 61 = .ok (.aload_n 0, 1) := dk_42 (dk_at dksX2_init_2 14 rfl rfl)
theorem dX2_init_62 : decode cX2_init 62 = .ok (.sipush 352, 3) := dk_17 1 96 (dk_at dksX2_init_2 15 rfl rfl)
theorem dX2_init_65 : decode cX2_init 65 = .ok (.newarray .int, 2) := dk_188_10 (dk_at dksX2_init_2 18 rfl rfl)
theorem dX2_init_67 : decode cX2_init 67 = .ok (.putfield 33, 3) := dk_181 0 33 (dk_at dksX2_init_2 20 rfl rfl)
theorem dX2_init_70 : decode cX2_init 70 = .ok (.aload_n 0, 1) := dk_42 (dk_at dksX2_init_2 23 rfl rfl)
theorem dX2_init_71 : decode cX2_init 71 = .ok (.iconst 2, 1) := dk_5 (dk_at dksX2_init_3 0 rfl rfl)
theorem dX2_init_72 : decode cX2_init 72 = .ok (.newarray .boolean, 2) := dk_188_4 (dk_at dksX2_init_3 1 rfl rfl)
theorem dX2_init_74 : decode cX2_init 74 = .ok (.putfield 36, 3) := dk_181 0 36 (dk_at dksX2_init_3 3 rfl rfl)
theorem dX2_init_77 : decode cX2_init 77 = .ok (.aload_n 0, 1) := dk_42 (dk_at dksX2_init_3 6 rfl rfl)
theorem dX2_init_78 : decode cX2_init 78 = .ok (.bipush 80, 2) := dk_16 80 (dk_at dksX2_init_3 7 rfl rfl)
theorem dX2_init_80 : decode cX2_init 80 = .ok (.newarray .int, 2) := dk_188_10 (dk_at dksX2_init_3 9 rfl rfl)
theorem dX2_init_82 : decode cX2_init 82 = .ok (.putfield 40, 3) := dk_181 0 40 (dk_at dksX2_init_3 11 rfl rfl)
theorem dX2_init_85 : decode cX2_init 85 = .ok (.aload_n 0, 1) := dk_42 (dk_at dksX2_init_3 14 rfl rfl)
theorem dX2_init_86 : decode cX2_init 86 = .ok (.bipush 80, 2) := dk_16 80 (dk_at dksX2_init_3 15 rfl rfl)
theorem dX2_init_88 : decode cX2_init 88 = .ok (.newarray .int, 2) := dk_188_10 (dk_at dksX2_init_3 17 rfl rfl)
theorem dX2_init_90 : decode cX2_init 90 = .ok (.putfield 43, 3) := dk_181 0 43 (dk_at dksX2_init_3 19 rfl rfl)
theorem dX2_init_93 : decode cX2_init 93 = .ok (.aload_n 0, 1) := dk_42 (dk_at dksX2_init_3 22 rfl rfl)
theorem dX2_init_94 : decode cX2_init 94 = .ok (.bipush 80, 2) := dk_16 80 (dk_at dksX2_init_4 0 rfl rfl)
theorem dX2_init_96 : decode cX2_init 96 = .ok (.newarray .int, 2) := dk_188_10 (dk_at dksX2_init_4 2 rfl rfl)
theorem dX2_init_98 : decode cX2_init 98 = .ok (.putfield 46, 3) := dk_181 0 46 (dk_at dksX2_init_4 4 rfl rfl)
theorem dX2_init_101 : decode cX2_init 101 = .ok (.aload_n 0, 1) := dk_42 (dk_at dksX2_init_4 7 rfl rfl)
theorem dX2_init_102 : decode cX2_init 102 = .ok (.bipush 80, 2) := dk_16 80 (dk_at dksX2_init_4 8 rfl rfl)
theorem dX2_init_104 : decode cX2_init 104 = .ok (.newarray .int, 2) := dk_188_10 (dk_at dksX2_init_4 10 rfl rfl)
theorem dX2_init_106 : decode cX2_init 106 = .ok (.putfield 49, 3) := dk_181 0 49 (dk_at dksX2_init_4 12 rfl rfl)
theorem dX2_init_109 : decode cX2_init 109 = .ok (.aload_n 0, 1) := dk_42 (dk_at dksX2_init_4 15 rfl rfl)
theorem dX2_init_110 : decode cX2_init 110 = .ok (.bipush 10, 2) := dk_16 10 (dk_at dksX2_init_4 16 rfl rfl)
theorem dX2_init_112 : decode cX2_init 112 = .ok (.newarray .int, 2) := dk_188_10 (dk_at dksX2_init_4 18 rfl rfl)
theorem dX2_init_114 : decode cX2_init 114 = .ok (.putfield 52, 3) := dk_181 0 52 (dk_at dksX2_init_4 20 rfl rfl)
theorem dX2_init_117 : decode cX2_init 117 = .ok (.aload_n 0, 1) := dk_42 (dk_at dksX2_init_4 23 rfl rfl)
theorem dX2_init_118 : decode cX2_init 118 = .ok (.bipush 100, 2) := dk_16 100 (dk_at dksX2_init_5 0 rfl rfl)
theorem dX2_init_120 : decode cX2_init 120 = .ok (.newarray .int, 2) := dk_188_10 (dk_at dksX2_init_5 2 rfl rfl)
theorem dX2_init_122 : decode cX2_init 122 = .ok (.putfield 55, 3) := dk_181 0 55 (dk_at dksX2_init_5 4 rfl rfl)
theorem dX2_init_125 : decode cX2_init 125 = .ok (.aload_n 0, 1) := dk_42 (dk_at dksX2_init_5 7 rfl rfl)
theorem dX2_init_126 : decode cX2_init 126 = .ok (.bipush 100, 2) := dk_16 100 (dk_at dksX2_init_5 8 rfl rfl)
theorem dX2_init_128 : decode cX2_init 128 = .ok (.newarray .int, 2) := dk_188_10 (dk_at dksX2_init_5 10 rfl rfl)
theorem dX2_init_130 : decode cX2_init 130 = .ok (.putfield 58, 3) := dk_181 0 58 (dk_at dksX2_init_5 12 rfl rfl)
theorem dX2_init_133 : decode cX2_init 133 = .ok (.aload_n 0, 1) := dk_42 (dk_at dksX2_init_5 15 rfl rfl)
theorem dX2_init_134 : decode cX2_init 134 = .ok (.sipush 1100, 3) := dk_17 4 76 (dk_at dksX2_init_5 16 rfl rfl)
theorem dX2_init_137 : decode cX2_init 137 = .ok (.newarray .int, 2) := dk_188_10 (dk_at dksX2_init_5 19 rfl rfl)
theorem dX2_init_139 : decode cX2_init 139 = .ok (.putfield 61, 3) := dk_181 0 61 (dk_at dksX2_init_5 21 rfl rfl)
theorem dX2_init_142 : decode cX2_init 142 = .ok (.aload_n 0, 1) := dk_42 (dk_at dksX2_init_6 0 rfl rfl)
theorem dX2_init_143 : decode cX2_init 143 = .ok (.bipush 10, 2) := dk_16 10 (dk_at dksX2_init_6 1 rfl rfl)
theorem dX2_init_145 : decode cX2_init 145 = .ok (.newarray .int, 2) := dk_188_10 (dk_at dksX2_init_6 3 rfl rfl)
theorem dX2_init_147 : decode cX2_init 147 = .ok (.putfield 64, 3) := dk_181 0 64 (dk_at dksX2_init_6 5 rfl rfl)
theorem dX2_init_150 : decode cX2_init 150 = .ok (.aload_n 0, 1) := dk_42 (dk_at dksX2_init_6 8 rfl rfl)
theorem dX2_init_151 : decode cX2_init 151 = .ok (.bipush 10, 2) := dk_16 10 (dk_at dksX2_init_6 9 rfl rfl)
theorem dX2_init_153 : decode cX2_init 153 = .ok (.newarray .int, 2) := dk_188_10 (dk_at dksX2_init_6 11 rfl rfl)
theorem dX2_init_155 : decode cX2_init 155 = .ok (.putfield 67, 3) := dk_181 0 67 (dk_at dksX2_init_6 13 rfl rfl)
theorem dX2_init_158 : decode cX2_init 158 = .ok (.aload_n 0, 1) := dk_42 (dk_at dksX2_init_6 16 rfl rfl)
theorem dX2_init_159 : decode cX2_init 159 = .ok (.sipush 300, 3) := dk_17 1 44 (dk_at dksX2_init_6 17 rfl rfl)
theorem dX2_init_162 : decode cX2_init 162 = .ok (.newarray .byte, 2) := dk_188_8 (dk_at dksX2_init_6 20 rfl rfl)
theorem dX2_init_164 : decode cX2_init 164 = .ok (.putfield 70, 3) := dk_181 0 70 (dk_at dksX2_init_7 0 rfl rfl)
theorem dX2_init_167 : decode cX2_init 167 = .ok (.return_, 1) := dk_177 (dk_at dksX2_init_7 3 rfl rfl)
abbrev cX2_thrown : ByteArray := prog_16_method_2_code
def yX2_thrown : MethodName := ⟨RX2, "thrown", "()I"⟩
theorem dX2_thrown_0 : decode cX2_thrown 0 = .ok (.aload_n 0, 1) := by decide +kernel
theorem dX2_thrown_1 : decode cX2_thrown 1 = .ok (.getfield 73, 3) := by decide +kernel
theorem dX2_thrown_4 : decode cX2_thrown 4 = .ok (.ireturn, 1) := by decide +kernel
abbrev cX2_append : ByteArray := prog_16_method_5_code
def yX2_append : MethodName := ⟨RX2, "append", "(IIIII)I"⟩
def dkwX2_append_2 : List UInt8 := [172]
abbrev dktX2_append_2 : List UInt8 := dkwX2_append_2 ++ []
def dkwX2_append_1 : List UInt8 := [182, 0, 79, 42, 29, 182, 0, 79, 42, 21, 4, 182, 0, 79, 42, 21, 5, 182, 0, 79, 42, 180, 0, 76]
abbrev dktX2_append_1 : List UInt8 := dkwX2_append_1 ++ dktX2_append_2
def dkwX2_append_0 : List UInt8 := [42, 3, 181, 0, 73, 42, 180, 0, 76, 17, 2, 168, 164, 0, 5, 2, 172, 42, 27, 182, 0, 79, 42, 28]
abbrev dktX2_append_0 : List UInt8 := dkwX2_append_0 ++ dktX2_append_1
theorem dksX2_append_0 : cX2_append.data.toList.drop 0 = dktX2_append_0 := by decide +kernel
theorem dksX2_append_1 : cX2_append.data.toList.drop 24 = dktX2_append_1 := dk_seg dksX2_append_0 24 rfl rfl
theorem dksX2_append_2 : cX2_append.data.toList.drop 48 = dktX2_append_2 := dk_seg dksX2_append_1 24 rfl rfl
theorem dX2_append_0 : decode cX2_append 0 = .ok (.aload_n 0, 1) := dk_42 (dk_at dksX2_append_0 0 rfl rfl)
theorem dX2_append_1 : decode cX2_append 1 = .ok (.iconst 0, 1) := dk_3 (dk_at dksX2_append_0 1 rfl rfl)
theorem dX2_append_2 : decode cX2_append 2 = .ok (.putfield 73, 3) := dk_181 0 73 (dk_at dksX2_append_0 2 rfl rfl)
theorem dX2_append_5 : decode cX2_append 5 = .ok (.aload_n 0, 1) := dk_42 (dk_at dksX2_append_0 5 rfl rfl)
theorem dX2_append_6 : decode cX2_append 6 = .ok (.getfield 76, 3) := dk_180 0 76 (dk_at dksX2_append_0 6 rfl rfl)
theorem dX2_append_9 : decode cX2_append 9 = .ok (.sipush 680, 3) := dk_17 2 168 (dk_at dksX2_append_0 9 rfl rfl)
theorem dX2_append_12 : decode cX2_append 12 = .ok (.if_icmp .le 5, 3) := dk_164 0 5 (dk_at dksX2_append_0 12 rfl rfl)
theorem dX2_append_15 : decode cX2_append 15 = .ok (.iconst (-1), 1) := dk_2 (dk_at dksX2_append_0 15 rfl rfl)
theorem dX2_append_16 : decode cX2_append 16 = .ok (.ireturn, 1) := dk_172 (dk_at dksX2_append_0 16 rfl rfl)
theorem dX2_append_17 : decode cX2_append 17 = .ok (.aload_n 0, 1) := dk_42 (dk_at dksX2_append_0 17 rfl rfl)
theorem dX2_append_18 : decode cX2_append 18 = .ok (.iload_n 1, 1) := dk_27 (dk_at dksX2_append_0 18 rfl rfl)
theorem dX2_append_19 : decode cX2_append 19 = .ok (.invokevirtual 79, 3) := dk_182 0 79 (dk_at dksX2_append_0 19 rfl rfl)
theorem dX2_append_22 : decode cX2_append 22 = .ok (.aload_n 0, 1) := dk_42 (dk_at dksX2_append_0 22 rfl rfl)
theorem dX2_append_23 : decode cX2_append 23 = .ok (.iload_n 2, 1) := dk_28 (dk_at dksX2_append_0 23 rfl rfl)
theorem dX2_append_24 : decode cX2_append 24 = .ok (.invokevirtual 79, 3) := dk_182 0 79 (dk_at dksX2_append_1 0 rfl rfl)
theorem dX2_append_27 : decode cX2_append 27 = .ok (.aload_n 0, 1) := dk_42 (dk_at dksX2_append_1 3 rfl rfl)
theorem dX2_append_28 : decode cX2_append 28 = .ok (.iload_n 3, 1) := dk_29 (dk_at dksX2_append_1 4 rfl rfl)
theorem dX2_append_29 : decode cX2_append 29 = .ok (.invokevirtual 79, 3) := dk_182 0 79 (dk_at dksX2_append_1 5 rfl rfl)
theorem dX2_append_32 : decode cX2_append 32 = .ok (.aload_n 0, 1) := dk_42 (dk_at dksX2_append_1 8 rfl rfl)
theorem dX2_append_33 : decode cX2_append 33 = .ok (.iload 4, 2) := dk_21 4 (dk_at dksX2_append_1 9 rfl rfl)
theorem dX2_append_35 : decode cX2_append 35 = .ok (.invokevirtual 79, 3) := dk_182 0 79 (dk_at dksX2_append_1 11 rfl rfl)
theorem dX2_append_38 : decode cX2_append 38 = .ok (.aload_n 0, 1) := dk_42 (dk_at dksX2_append_1 14 rfl rfl)
theorem dX2_append_39 : decode cX2_append 39 = .ok (.iload 5, 2) := dk_21 5 (dk_at dksX2_append_1 15 rfl rfl)
theorem dX2_append_41 : decode cX2_append 41 = .ok (.invokevirtual 79, 3) := dk_182 0 79 (dk_at dksX2_append_1 17 rfl rfl)
theorem dX2_append_44 : decode cX2_append 44 = .ok (.aload_n 0, 1) := dk_42 (dk_at dksX2_append_1 20 rfl rfl)
theorem dX2_append_45 : decode cX2_append 45 = .ok (.getfield 76, 3) := dk_180 0 76 (dk_at dksX2_append_1 21 rfl rfl)
theorem dX2_append_48 : decode cX2_append 48 = .ok (.ireturn, 1) := dk_172 (dk_at dksX2_append_2 0 rfl rfl)
abbrev cX2_four : ByteArray := prog_16_method_6_code
def yX2_four : MethodName := ⟨RX2, "four", "(I)V"⟩
def dkwX2_four_1 : List UInt8 := [180, 0, 76, 4, 96, 181, 0, 76, 132, 2, 255, 167, 255, 223, 177]
abbrev dktX2_four_1 : List UInt8 := dkwX2_four_1 ++ []
def dkwX2_four_0 : List UInt8 := [6, 61, 28, 155, 0, 35, 42, 180, 0, 9, 42, 180, 0, 76, 27, 16, 8, 28, 104, 122, 145, 84, 42, 89]
abbrev dktX2_four_0 : List UInt8 := dkwX2_four_0 ++ dktX2_four_1
theorem dksX2_four_0 : cX2_four.data.toList.drop 0 = dktX2_four_0 := by decide +kernel
theorem dksX2_four_1 : cX2_four.data.toList.drop 24 = dktX2_four_1 := dk_seg dksX2_four_0 24 rfl rfl
theorem dX2_four_0 : decode cX2_four 0 = .ok (.iconst 3, 1) := dk_6 (dk_at dksX2_four_0 0 rfl rfl)
theorem dX2_four_1 : decode cX2_four 1 = .ok (.istore_n 2, 1) := dk_61 (dk_at dksX2_four_0 1 rfl rfl)
theorem dX2_four_2 : decode cX2_four 2 = .ok (.iload_n 2, 1) := dk_28 (dk_at dksX2_four_0 2 rfl rfl)
theorem dX2_four_3 : decode cX2_four 3 = .ok (.ifCond .lt 35, 3) := dk_155 0 35 (dk_at dksX2_four_0 3 rfl rfl)
theorem dX2_four_6 : decode cX2_four 6 = .ok (.aload_n 0, 1) := dk_42 (dk_at dksX2_four_0 6 rfl rfl)
theorem dX2_four_7 : decode cX2_four 7 = .ok (.getfield 9, 3) := dk_180 0 9 (dk_at dksX2_four_0 7 rfl rfl)
theorem dX2_four_10 : decode cX2_four 10 = .ok (.aload_n 0, 1) := dk_42 (dk_at dksX2_four_0 10 rfl rfl)
theorem dX2_four_11 : decode cX2_four 11 = .ok (.getfield 76, 3) := dk_180 0 76 (dk_at dksX2_four_0 11 rfl rfl)
theorem dX2_four_14 : decode cX2_four 14 = .ok (.iload_n 1, 1) := dk_27 (dk_at dksX2_four_0 14 rfl rfl)
theorem dX2_four_15 : decode cX2_four 15 = .ok (.bipush 8, 2) := dk_16 8 (dk_at dksX2_four_0 15 rfl rfl)
theorem dX2_four_17 : decode cX2_four 17 = .ok (.iload_n 2, 1) := dk_28 (dk_at dksX2_four_0 17 rfl rfl)
theorem dX2_four_18 : decode cX2_four 18 = .ok (.imul, 1) := dk_104 (dk_at dksX2_four_0 18 rfl rfl)
theorem dX2_four_19 : decode cX2_four 19 = .ok (.ishr, 1) := dk_122 (dk_at dksX2_four_0 19 rfl rfl)
theorem dX2_four_20 : decode cX2_four 20 = .ok (.i2b, 1) := dk_145 (dk_at dksX2_four_0 20 rfl rfl)
theorem dX2_four_21 : decode cX2_four 21 = .ok (.bastore, 1) := dk_84 (dk_at dksX2_four_0 21 rfl rfl)
theorem dX2_four_22 : decode cX2_four 22 = .ok (.aload_n 0, 1) := dk_42 (dk_at dksX2_four_0 22 rfl rfl)
theorem dX2_four_23 : decode cX2_four 23 = .ok (.dup, 1) := dk_89 (dk_at dksX2_four_0 23 rfl rfl)
theorem dX2_four_24 : decode cX2_four 24 = .ok (.getfield 76, 3) := dk_180 0 76 (dk_at dksX2_four_1 0 rfl rfl)
theorem dX2_four_27 : decode cX2_four 27 = .ok (.iconst 1, 1) := dk_4 (dk_at dksX2_four_1 3 rfl rfl)
theorem dX2_four_28 : decode cX2_four 28 = .ok (.iadd, 1) := dk_96 (dk_at dksX2_four_1 4 rfl rfl)
theorem dX2_four_29 : decode cX2_four 29 = .ok (.putfield 76, 3) := dk_181 0 76 (dk_at dksX2_four_1 5 rfl rfl)
theorem dX2_four_32 : decode cX2_four 32 = .ok (.iinc 2 (-1), 3) := dk_132 2 255 (dk_at dksX2_four_1 8 rfl rfl)
theorem dX2_four_35 : decode cX2_four 35 = .ok (.goto (-33), 3) := dk_167 255 223 (dk_at dksX2_four_1 11 rfl rfl)
theorem dX2_four_38 : decode cX2_four 38 = .ok (.return_, 1) := dk_177 (dk_at dksX2_four_1 14 rfl rfl)
abbrev cX2_parseError : ByteArray := prog_16_method_7_code
def yX2_parseError : MethodName := ⟨RX2, "parseError", "()I"⟩
def dkwX2_parseError_0 : List UInt8 := [42, 3, 181, 0, 73, 42, 180, 0, 83, 172]
abbrev dktX2_parseError_0 : List UInt8 := dkwX2_parseError_0 ++ []
theorem dksX2_parseError_0 : cX2_parseError.data.toList.drop 0 = dktX2_parseError_0 := by decide +kernel
theorem dX2_parseError_0 : decode cX2_parseError 0 = .ok (.aload_n 0, 1) := dk_42 (dk_at dksX2_parseError_0 0 rfl rfl)
theorem dX2_parseError_1 : decode cX2_parseError 1 = .ok (.iconst 0, 1) := dk_3 (dk_at dksX2_parseError_0 1 rfl rfl)
theorem dX2_parseError_2 : decode cX2_parseError 2 = .ok (.putfield 73, 3) := dk_181 0 73 (dk_at dksX2_parseError_0 2 rfl rfl)
theorem dX2_parseError_5 : decode cX2_parseError 5 = .ok (.aload_n 0, 1) := dk_42 (dk_at dksX2_parseError_0 5 rfl rfl)
theorem dX2_parseError_6 : decode cX2_parseError 6 = .ok (.getfield 83, 3) := dk_180 0 83 (dk_at dksX2_parseError_0 6 rfl rfl)
theorem dX2_parseError_9 : decode cX2_parseError 9 = .ok (.ireturn, 1) := dk_172 (dk_at dksX2_parseError_0 9 rfl rfl)
abbrev cX2_errorPosition : ByteArray := prog_16_method_8_code
def yX2_errorPosition : MethodName := ⟨RX2, "errorPosition", "()I"⟩
def dkwX2_errorPosition_0 : List UInt8 := [42, 3, 181, 0, 73, 42, 180, 0, 13, 172]
abbrev dktX2_errorPosition_0 : List UInt8 := dkwX2_errorPosition_0 ++ []
theorem dksX2_errorPosition_0 : cX2_errorPosition.data.toList.drop 0 = dktX2_errorPosition_0 := by decide +kernel
theorem dX2_errorPosition_0 : decode cX2_errorPosition 0 = .ok (.aload_n 0, 1) := dk_42 (dk_at dksX2_errorPosition_0 0 rfl rfl)
theorem dX2_errorPosition_1 : decode cX2_errorPosition 1 = .ok (.iconst 0, 1) := dk_3 (dk_at dksX2_errorPosition_0 1 rfl rfl)
theorem dX2_errorPosition_2 : decode cX2_errorPosition 2 = .ok (.putfield 73, 3) := dk_181 0 73 (dk_at dksX2_errorPosition_0 2 rfl rfl)
theorem dX2_errorPosition_5 : decode cX2_errorPosition 5 = .ok (.aload_n 0, 1) := dk_42 (dk_at dksX2_errorPosition_0 5 rfl rfl)
theorem dX2_errorPosition_6 : decode cX2_errorPosition 6 = .ok (.getfield 13, 3) := dk_180 0 13 (dk_at dksX2_errorPosition_0 6 rfl rfl)
theorem dX2_errorPosition_9 : decode cX2_errorPosition 9 = .ok (.ireturn, 1) := dk_172 (dk_at dksX2_errorPosition_0 9 rfl rfl)
abbrev cX2_buffered : ByteArray := prog_16_method_9_code
def yX2_buffered : MethodName := ⟨RX2, "buffered", "()I"⟩
def dkwX2_buffered_0 : List UInt8 := [42, 3, 181, 0, 73, 42, 180, 0, 76, 172]
abbrev dktX2_buffered_0 : List UInt8 := dkwX2_buffered_0 ++ []
theorem dksX2_buffered_0 : cX2_buffered.data.toList.drop 0 = dktX2_buffered_0 := by decide +kernel
theorem dX2_buffered_0 : decode cX2_buffered 0 = .ok (.aload_n 0, 1) := dk_42 (dk_at dksX2_buffered_0 0 rfl rfl)
theorem dX2_buffered_1 : decode cX2_buffered 1 = .ok (.iconst 0, 1) := dk_3 (dk_at dksX2_buffered_0 1 rfl rfl)
theorem dX2_buffered_2 : decode cX2_buffered 2 = .ok (.putfield 73, 3) := dk_181 0 73 (dk_at dksX2_buffered_0 2 rfl rfl)
theorem dX2_buffered_5 : decode cX2_buffered 5 = .ok (.aload_n 0, 1) := dk_42 (dk_at dksX2_buffered_0 5 rfl rfl)
theorem dX2_buffered_6 : decode cX2_buffered 6 = .ok (.getfield 76, 3) := dk_180 0 76 (dk_at dksX2_buffered_0 6 rfl rfl)
theorem dX2_buffered_9 : decode cX2_buffered 9 = .ok (.ireturn, 1) := dk_172 (dk_at dksX2_buffered_0 9 rfl rfl)
abbrev cX2_load : ByteArray := prog_16_method_27_code
def yX2_load : MethodName := ⟨RX2, "load", "(I)I"⟩
def dkwX2_load_9 : List UInt8 := [181, 0, 211, 42, 180, 0, 36, 3, 3, 84, 42, 180, 0, 36, 4, 3, 84, 42, 180, 0, 23, 3, 46, 172]
abbrev dktX2_load_9 : List UInt8 := dkwX2_load_9 ++ []
def dkwX2_load_8 : List UInt8 := [51, 84, 132, 2, 1, 167, 255, 232, 42, 5, 181, 0, 73, 3, 172, 42, 4, 181, 0, 207, 42, 3]
abbrev dktX2_load_8 : List UInt8 := dkwX2_load_8 ++ dktX2_load_9
def dkwX2_load_7 : List UInt8 := [184, 0, 200, 3, 61, 28, 42, 180, 0, 17, 190, 162, 0, 21, 42, 180, 0, 17, 28, 42, 180, 0, 20, 28]
abbrev dktX2_load_7 : List UInt8 := dkwX2_load_7 ++ dktX2_load_8
def dkwX2_load_6 : List UInt8 := [167, 255, 239, 42, 182, 0, 204, 42, 180, 0, 83, 158, 0, 52, 42, 180, 0, 27, 3, 42, 180, 0, 23, 3]
abbrev dktX2_load_6 : List UInt8 := dkwX2_load_6 ++ dktX2_load_7
def dkwX2_load_5 : List UInt8 := [167, 255, 232, 3, 61, 28, 17, 0, 176, 162, 0, 16, 42, 180, 0, 23, 28, 3, 79, 132, 2, 1]
abbrev dktX2_load_5 : List UInt8 := dkwX2_load_5 ++ dktX2_load_6
def dkwX2_load_4 : List UInt8 := [180, 0, 17, 190, 162, 0, 21, 42, 180, 0, 20, 28, 42, 180, 0, 17, 28, 51, 84, 132, 2, 1]
abbrev dktX2_load_4 : List UInt8 := dkwX2_load_4 ++ dktX2_load_5
def dkwX2_load_3 : List UInt8 := [42, 3, 181, 0, 155, 42, 180, 0, 23, 3, 42, 180, 0, 27, 3, 184, 0, 200, 3, 61, 28, 42]
abbrev dktX2_load_3 : List UInt8 := dkwX2_load_3 ++ dktX2_load_4
def dkwX2_load_2 : List UInt8 := [3, 181, 0, 83, 42, 2, 181, 0, 13, 42, 4, 181, 0, 165, 42, 4, 181, 0, 168, 42, 4, 181, 0, 171]
abbrev dktX2_load_2 : List UInt8 := dkwX2_load_2 ++ dktX2_load_3
def dkwX2_load_1 : List UInt8 := [180, 0, 73, 158, 0, 5, 3, 172, 42, 27, 181, 0, 86, 42, 3, 181, 0, 89, 42, 3, 181, 0, 76, 42]
abbrev dktX2_load_1 : List UInt8 := dkwX2_load_1 ++ dktX2_load_2
def dkwX2_load_0 : List UInt8 := [42, 27, 3, 42, 180, 0, 76, 184, 0, 102, 153, 0, 7, 3, 167, 0, 4, 4, 181, 0, 73, 42]
abbrev dktX2_load_0 : List UInt8 := dkwX2_load_0 ++ dktX2_load_1
theorem dksX2_load_0 : cX2_load.data.toList.drop 0 = dktX2_load_0 := by decide +kernel
theorem dksX2_load_1 : cX2_load.data.toList.drop 22 = dktX2_load_1 := dk_seg dksX2_load_0 22 rfl rfl
theorem dksX2_load_2 : cX2_load.data.toList.drop 46 = dktX2_load_2 := dk_seg dksX2_load_1 24 rfl rfl
theorem dksX2_load_3 : cX2_load.data.toList.drop 70 = dktX2_load_3 := dk_seg dksX2_load_2 24 rfl rfl
theorem dksX2_load_4 : cX2_load.data.toList.drop 92 = dktX2_load_4 := dk_seg dksX2_load_3 22 rfl rfl
theorem dksX2_load_5 : cX2_load.data.toList.drop 114 = dktX2_load_5 := dk_seg dksX2_load_4 22 rfl rfl
theorem dksX2_load_6 : cX2_load.data.toList.drop 136 = dktX2_load_6 := dk_seg dksX2_load_5 22 rfl rfl
theorem dksX2_load_7 : cX2_load.data.toList.drop 160 = dktX2_load_7 := dk_seg dksX2_load_6 24 rfl rfl
theorem dksX2_load_8 : cX2_load.data.toList.drop 184 = dktX2_load_8 := dk_seg dksX2_load_7 24 rfl rfl
theorem dksX2_load_9 : cX2_load.data.toList.drop 206 = dktX2_load_9 := dk_seg dksX2_load_8 22 rfl rfl
theorem dX2_load_0 : decode cX2_load 0 = .ok (.aload_n 0, 1) := dk_42 (dk_at dksX2_load_0 0 rfl rfl)
theorem dX2_load_1 : decode cX2_load 1 = .ok (.iload_n 1, 1) := dk_27 (dk_at dksX2_load_0 1 rfl rfl)
theorem dX2_load_2 : decode cX2_load 2 = .ok (.iconst 0, 1) := dk_3 (dk_at dksX2_load_0 2 rfl rfl)
theorem dX2_load_3 : decode cX2_load 3 = .ok (.aload_n 0, 1) := dk_42 (dk_at dksX2_load_0 3 rfl rfl)
theorem dX2_load_4 : decode cX2_load 4 = .ok (.getfield 76, 3) := dk_180 0 76 (dk_at dksX2_load_0 4 rfl rfl)
theorem dX2_load_7 : decode cX2_load 7 = .ok (.invokestatic 102, 3) := dk_184 0 102 (dk_at dksX2_load_0 7 rfl rfl)
theorem dX2_load_10 : decode cX2_load 10 = .ok (.ifCond .eq 7, 3) := dk_153 0 7 (dk_at dksX2_load_0 10 rfl rfl)
theorem dX2_load_13 : decode cX2_load 13 = .ok (.iconst 0, 1) := dk_3 (dk_at dksX2_load_0 13 rfl rfl)
theorem dX2_load_14 : decode cX2_load 14 = .ok (.goto 4, 3) := dk_167 0 4 (dk_at dksX2_load_0 14 rfl rfl)
theorem dX2_load_17 : decode cX2_load 17 = .ok (.iconst 1, 1) := dk_4 (dk_at dksX2_load_0 17 rfl rfl)
theorem dX2_load_18 : decode cX2_load 18 = .ok (.putfield 73, 3) := dk_181 0 73 (dk_at dksX2_load_0 18 rfl rfl)
theorem dX2_load_21 : decode cX2_load 21 = .ok (.aload_n 0, 1) := dk_42 (dk_at dksX2_load_0 21 rfl rfl)
theorem dX2_load_22 : decode cX2_load 22 = .ok (.getfield 73, 3) := dk_180 0 73 (dk_at dksX2_load_1 0 rfl rfl)
theorem dX2_load_25 : decode cX2_load 25 = .ok (.ifCond .le 5, 3) := dk_158 0 5 (dk_at dksX2_load_1 3 rfl rfl)
theorem dX2_load_28 : decode cX2_load 28 = .ok (.iconst 0, 1) := dk_3 (dk_at dksX2_load_1 6 rfl rfl)
theorem dX2_load_29 : decode cX2_load 29 = .ok (.ireturn, 1) := dk_172 (dk_at dksX2_load_1 7 rfl rfl)
theorem dX2_load_30 : decode cX2_load 30 = .ok (.aload_n 0, 1) := dk_42 (dk_at dksX2_load_1 8 rfl rfl)
theorem dX2_load_31 : decode cX2_load 31 = .ok (.iload_n 1, 1) := dk_27 (dk_at dksX2_load_1 9 rfl rfl)
theorem dX2_load_32 : decode cX2_load 32 = .ok (.putfield 86, 3) := dk_181 0 86 (dk_at dksX2_load_1 10 rfl rfl)
theorem dX2_load_35 : decode cX2_load 35 = .ok (.aload_n 0, 1) := dk_42 (dk_at dksX2_load_1 13 rfl rfl)
theorem dX2_load_36 : decode cX2_load 36 = .ok (.iconst 0, 1) := dk_3 (dk_at dksX2_load_1 14 rfl rfl)
theorem dX2_load_37 : decode cX2_load 37 = .ok (.putfield 89, 3) := dk_181 0 89 (dk_at dksX2_load_1 15 rfl rfl)
theorem dX2_load_40 : decode cX2_load 40 = .ok (.aload_n 0, 1) := dk_42 (dk_at dksX2_load_1 18 rfl rfl)
theorem dX2_load_41 : decode cX2_load 41 = .ok (.iconst 0, 1) := dk_3 (dk_at dksX2_load_1 19 rfl rfl)
theorem dX2_load_42 : decode cX2_load 42 = .ok (.putfield 76, 3) := dk_181 0 76 (dk_at dksX2_load_1 20 rfl rfl)
theorem dX2_load_45 : decode cX2_load 45 = .ok (.aload_n 0, 1) := dk_42 (dk_at dksX2_load_1 23 rfl rfl)
theorem dX2_load_46 : decode cX2_load 46 = .ok (.iconst 0, 1) := dk_3 (dk_at dksX2_load_2 0 rfl rfl)
theorem dX2_load_47 : decode cX2_load 47 = .ok (.putfield 83, 3) := dk_181 0 83 (dk_at dksX2_load_2 1 rfl rfl)
theorem dX2_load_50 : decode cX2_load 50 = .ok (.aload_n 0, 1) := dk_42 (dk_at dksX2_load_2 4 rfl rfl)
theorem dX2_load_51 : decode cX2_load 51 = .ok (.iconst (-1), 1) := dk_2 (dk_at dksX2_load_2 5 rfl rfl)
theorem dX2_load_52 : decode cX2_load 52 = .ok (.putfield 13, 3) := dk_181 0 13 (dk_at dksX2_load_2 6 rfl rfl)
theorem dX2_load_55 : decode cX2_load 55 = .ok (.aload_n 0, 1) := dk_42 (dk_at dksX2_load_2 9 rfl rfl)
theorem dX2_load_56 : decode cX2_load 56 = .ok (.iconst 1, 1) := dk_4 (dk_at dksX2_load_2 10 rfl rfl)
theorem dX2_load_57 : decode cX2_load 57 = .ok (.putfield 165, 3) := dk_181 0 165 (dk_at dksX2_load_2 11 rfl rfl)
theorem dX2_load_60 : decode cX2_load 60 = .ok (.aload_n 0, 1) := dk_42 (dk_at dksX2_load_2 14 rfl rfl)
theorem dX2_load_61 : decode cX2_load 61 = .ok (.iconst 1, 1) := dk_4 (dk_at dksX2_load_2 15 rfl rfl)
theorem dX2_load_62 : decode cX2_load 62 = .ok (.putfield 168, 3) := dk_181 0 168 (dk_at dksX2_load_2 16 rfl rfl)
theorem dX2_load_65 : decode cX2_load 65 = .ok (.aload_n 0, 1) := dk_42 (dk_at dksX2_load_2 19 rfl rfl)
theorem dX2_load_66 : decode cX2_load 66 = .ok (.iconst 1, 1) := dk_4 (dk_at dksX2_load_2 20 rfl rfl)
theorem dX2_load_67 : decode cX2_load 67 = .ok (.putfield 171, 3) := dk_181 0 171 (dk_at dksX2_load_2 21 rfl rfl)
theorem dX2_load_70 : decode cX2_load 70 = .ok (.aload_n 0, 1) := dk_42 (dk_at dksX2_load_3 0 rfl rfl)
theorem dX2_load_71 : decode cX2_load 71 = .ok (.iconst 0, 1) := dk_3 (dk_at dksX2_load_3 1 rfl rfl)
theorem dX2_load_72 : decode cX2_load 72 = .ok (.putfield 155, 3) := dk_181 0 155 (dk_at dksX2_load_3 2 rfl rfl)
theorem dX2_load_75 : decode cX2_load 75 = .ok (.aload_n 0, 1) := dk_42 (dk_at dksX2_load_3 5 rfl rfl)
theorem dX2_load_76 : decode cX2_load 76 = .ok (.getfield 23, 3) := dk_180 0 23 (dk_at dksX2_load_3 6 rfl rfl)
theorem dX2_load_79 : decode cX2_load 79 = .ok (.iconst 0, 1) := dk_3 (dk_at dksX2_load_3 9 rfl rfl)
theorem dX2_load_80 : decode cX2_load 80 = .ok (.aload_n 0, 1) := dk_42 (dk_at dksX2_load_3 10 rfl rfl)
theorem dX2_load_81 : decode cX2_load 81 = .ok (.getfield 27, 3) := dk_180 0 27 (dk_at dksX2_load_3 11 rfl rfl)
theorem dX2_load_84 : decode cX2_load 84 = .ok (.iconst 0, 1) := dk_3 (dk_at dksX2_load_3 14 rfl rfl)
theorem dX2_load_85 : decode cX2_load 85 = .ok (.invokestatic 200, 3) := dk_184 0 200 (dk_at dksX2_load_3 15 rfl rfl)
theorem dX2_load_88 : decode cX2_load 88 = .ok (.iconst 0, 1) := dk_3 (dk_at dksX2_load_3 18 rfl rfl)
theorem dX2_load_89 : decode cX2_load 89 = .ok (.istore_n 2, 1) := dk_61 (dk_at dksX2_load_3 19 rfl rfl)
theorem dX2_load_90 : decode cX2_load 90 = .ok (.iload_n 2, 1) := dk_28 (dk_at dksX2_load_3 20 rfl rfl)
theorem dX2_load_91 : decode cX2_load 91 = .ok (.aload_n 0, 1) := dk_42 (dk_at dksX2_load_3 21 rfl rfl)
theorem dX2_load_92 : decode cX2_load 92 = .ok (.getfield 17, 3) := dk_180 0 17 (dk_at dksX2_load_4 0 rfl rfl)
theorem dX2_load_95 : decode cX2_load 95 = .ok (.arraylength, 1) := dk_190 (dk_at dksX2_load_4 3 rfl rfl)
theorem dX2_load_96 : decode cX2_load 96 = .ok (.if_icmp .ge 21, 3) := dk_162 0 21 (dk_at dksX2_load_4 4 rfl rfl)
theorem dX2_load_99 : decode cX2_load 99 = .ok (.aload_n 0, 1) := dk_42 (dk_at dksX2_load_4 7 rfl rfl)
theorem dX2_load_100 : decode cX2_load 100 = .ok (.getfield 20, 3) := dk_180 0 20 (dk_at dksX2_load_4 8 rfl rfl)
theorem dX2_load_103 : decode cX2_load 103 = .ok (.iload_n 2, 1) := dk_28 (dk_at dksX2_load_4 11 rfl rfl)
theorem dX2_load_104 : decode cX2_load 104 = .ok (.aload_n 0, 1) := dk_42 (dk_at dksX2_load_4 12 rfl rfl)
theorem dX2_load_105 : decode cX2_load 105 = .ok (.getfield 17, 3) := dk_180 0 17 (dk_at dksX2_load_4 13 rfl rfl)
theorem dX2_load_108 : decode cX2_load 108 = .ok (.iload_n 2, 1) := dk_28 (dk_at dksX2_load_4 16 rfl rfl)
theorem dX2_load_109 : decode cX2_load 109 = .ok (.baload, 1) := dk_51 (dk_at dksX2_load_4 17 rfl rfl)
theorem dX2_load_110 : decode cX2_load 110 = .ok (.bastore, 1) := dk_84 (dk_at dksX2_load_4 18 rfl rfl)
theorem dX2_load_111 : decode cX2_load 111 = .ok (.iinc 2 1, 3) := dk_132 2 1 (dk_at dksX2_load_4 19 rfl rfl)
theorem dX2_load_114 : decode cX2_load 114 = .ok (.goto (-24), 3) := dk_167 255 232 (dk_at dksX2_load_5 0 rfl rfl)
theorem dX2_load_117 : decode cX2_load 117 = .ok (.iconst 0, 1) := dk_3 (dk_at dksX2_load_5 3 rfl rfl)
theorem dX2_load_118 : decode cX2_load 118 = .ok (.istore_n 2, 1) := dk_61 (dk_at dksX2_load_5 4 rfl rfl)
theorem dX2_load_119 : decode cX2_load 119 = .ok (.iload_n 2, 1) := dk_28 (dk_at dksX2_load_5 5 rfl rfl)
theorem dX2_load_120 : decode cX2_load 120 = .ok (.sipush 176, 3) := dk_17 0 176 (dk_at dksX2_load_5 6 rfl rfl)
theorem dX2_load_123 : decode cX2_load 123 = .ok (.if_icmp .ge 16, 3) := dk_162 0 16 (dk_at dksX2_load_5 9 rfl rfl)
theorem dX2_load_126 : decode cX2_load 126 = .ok (.aload_n 0, 1) := dk_42 (dk_at dksX2_load_5 12 rfl rfl)
theorem dX2_load_127 : decode cX2_load 127 = .ok (.getfield 23, 3) := dk_180 0 23 (dk_at dksX2_load_5 13 rfl rfl)
theorem dX2_load_130 : decode cX2_load 130 = .ok (.iload_n 2, 1) := dk_28 (dk_at dksX2_load_5 16 rfl rfl)
theorem dX2_load_131 : decode cX2_load 131 = .ok (.iconst 0, 1) := dk_3 (dk_at dksX2_load_5 17 rfl rfl)
theorem dX2_load_132 : decode cX2_load 132 = .ok (.iastore, 1) := dk_79 (dk_at dksX2_load_5 18 rfl rfl)
theorem dX2_load_133 : decode cX2_load 133 = .ok (.iinc 2 1, 3) := dk_132 2 1 (dk_at dksX2_load_5 19 rfl rfl)
theorem dX2_load_136 : decode cX2_load 136 = .ok (.goto (-17), 3) := dk_167 255 239 (dk_at dksX2_load_6 0 rfl rfl)
theorem dX2_load_139 : decode cX2_load 139 = .ok (.aload_n 0, 1) := dk_42 (dk_at dksX2_load_6 3 rfl rfl)
theorem dX2_load_140 : decode cX2_load 140 = .ok (.invokevirtual 204, 3) := dk_182 0 204 (dk_at dksX2_load_6 4 rfl rfl)
theorem dX2_load_143 : decode cX2_load 143 = .ok (.aload_n 0, 1) := dk_42 (dk_at dksX2_load_6 7 rfl rfl)
theorem dX2_load_144 : decode cX2_load 144 = .ok (.getfield 83, 3) := dk_180 0 83 (dk_at dksX2_load_6 8 rfl rfl)
theorem dX2_load_147 : decode cX2_load 147 = .ok (.ifCond .le 52, 3) := dk_158 0 52 (dk_at dksX2_load_6 11 rfl rfl)
theorem dX2_load_150 : decode cX2_load 150 = .ok (.aload_n 0, 1) := dk_42 (dk_at dksX2_load_6 14 rfl rfl)
theorem dX2_load_151 : decode cX2_load 151 = .ok (.getfield 27, 3) := dk_180 0 27 (dk_at dksX2_load_6 15 rfl rfl)
theorem dX2_load_154 : decode cX2_load 154 = .ok (.iconst 0, 1) := dk_3 (dk_at dksX2_load_6 18 rfl rfl)
theorem dX2_load_155 : decode cX2_load 155 = .ok (.aload_n 0, 1) := dk_42 (dk_at dksX2_load_6 19 rfl rfl)
theorem dX2_load_156 : decode cX2_load 156 = .ok (.getfield 23, 3) := dk_180 0 23 (dk_at dksX2_load_6 20 rfl rfl)
theorem dX2_load_159 : decode cX2_load 159 = .ok (.iconst 0, 1) := dk_3 (dk_at dksX2_load_6 23 rfl rfl)
theorem dX2_load_160 : decode cX2_load 160 = .ok (.invokestatic 200, 3) := dk_184 0 200 (dk_at dksX2_load_7 0 rfl rfl)
theorem dX2_load_163 : decode cX2_load 163 = .ok (.iconst 0, 1) := dk_3 (dk_at dksX2_load_7 3 rfl rfl)
theorem dX2_load_164 : decode cX2_load 164 = .ok (.istore_n 2, 1) := dk_61 (dk_at dksX2_load_7 4 rfl rfl)
theorem dX2_load_165 : decode cX2_load 165 = .ok (.iload_n 2, 1) := dk_28 (dk_at dksX2_load_7 5 rfl rfl)
theorem dX2_load_166 : decode cX2_load 166 = .ok (.aload_n 0, 1) := dk_42 (dk_at dksX2_load_7 6 rfl rfl)
theorem dX2_load_167 : decode cX2_load 167 = .ok (.getfield 17, 3) := dk_180 0 17 (dk_at dksX2_load_7 7 rfl rfl)
theorem dX2_load_170 : decode cX2_load 170 = .ok (.arraylength, 1) := dk_190 (dk_at dksX2_load_7 10 rfl rfl)
theorem dX2_load_171 : decode cX2_load 171 = .ok (.if_icmp .ge 21, 3) := dk_162 0 21 (dk_at dksX2_load_7 11 rfl rfl)
theorem dX2_load_174 : decode cX2_load 174 = .ok (.aload_n 0, 1) := dk_42 (dk_at dksX2_load_7 14 rfl rfl)
theorem dX2_load_175 : decode cX2_load 175 = .ok (.getfield 17, 3) := dk_180 0 17 (dk_at dksX2_load_7 15 rfl rfl)
theorem dX2_load_178 : decode cX2_load 178 = .ok (.iload_n 2, 1) := dk_28 (dk_at dksX2_load_7 18 rfl rfl)
theorem dX2_load_179 : decode cX2_load 179 = .ok (.aload_n 0, 1) := dk_42 (dk_at dksX2_load_7 19 rfl rfl)
theorem dX2_load_180 : decode cX2_load 180 = .ok (.getfield 20, 3) := dk_180 0 20 (dk_at dksX2_load_7 20 rfl rfl)
theorem dX2_load_183 : decode cX2_load 183 = .ok (.iload_n 2, 1) := dk_28 (dk_at dksX2_load_7 23 rfl rfl)
theorem dX2_load_184 : decode cX2_load 184 = .ok (.baload, 1) := dk_51 (dk_at dksX2_load_8 0 rfl rfl)
theorem dX2_load_185 : decode cX2_load 185 = .ok (.bastore, 1) := dk_84 (dk_at dksX2_load_8 1 rfl rfl)
theorem dX2_load_186 : decode cX2_load 186 = .ok (.iinc 2 1, 3) := dk_132 2 1 (dk_at dksX2_load_8 2 rfl rfl)
theorem dX2_load_189 : decode cX2_load 189 = .ok (.goto (-24), 3) := dk_167 255 232 (dk_at dksX2_load_8 5 rfl rfl)
theorem dX2_load_192 : decode cX2_load 192 = .ok (.aload_n 0, 1) := dk_42 (dk_at dksX2_load_8 8 rfl rfl)
theorem dX2_load_193 : decode cX2_load 193 = .ok (.iconst 2, 1) := dk_5 (dk_at dksX2_load_8 9 rfl rfl)
theorem dX2_load_194 : decode cX2_load 194 = .ok (.putfield 73, 3) := dk_181 0 73 (dk_at dksX2_load_8 10 rfl rfl)
theorem dX2_load_197 : decode cX2_load 197 = .ok (.iconst 0, 1) := dk_3 (dk_at dksX2_load_8 13 rfl rfl)
theorem dX2_load_198 : decode cX2_load 198 = .ok (.ireturn, 1) := dk_172 (dk_at dksX2_load_8 14 rfl rfl)
theorem dX2_load_199 : decode cX2_load 199 = .ok (.aload_n 0, 1) := dk_42 (dk_at dksX2_load_8 15 rfl rfl)
theorem dX2_load_200 : decode cX2_load 200 = .ok (.iconst 1, 1) := dk_4 (dk_at dksX2_load_8 16 rfl rfl)
theorem dX2_load_201 : decode cX2_load 201 = .ok (.putfield 207, 3) := dk_181 0 207 (dk_at dksX2_load_8 17 rfl rfl)
theorem dX2_load_204 : decode cX2_load 204 = .ok (.aload_n 0, 1) := dk_42 (dk_at dksX2_load_8 20 rfl rfl)
theorem dX2_load_205 : decode cX2_load 205 = .ok (.iconst 0, 1) := dk_3 (dk_at dksX2_load_8 21 rfl rfl)
theorem dX2_load_206 : decode cX2_load 206 = .ok (.putfield 211, 3) := dk_181 0 211 (dk_at dksX2_load_9 0 rfl rfl)
theorem dX2_load_209 : decode cX2_load 209 = .ok (.aload_n 0, 1) := dk_42 (dk_at dksX2_load_9 3 rfl rfl)
theorem dX2_load_210 : decode cX2_load 210 = .ok (.getfield 36, 3) := dk_180 0 36 (dk_at dksX2_load_9 4 rfl rfl)
theorem dX2_load_213 : decode cX2_load 213 = .ok (.iconst 0, 1) := dk_3 (dk_at dksX2_load_9 7 rfl rfl)
theorem dX2_load_214 : decode cX2_load 214 = .ok (.iconst 0, 1) := dk_3 (dk_at dksX2_load_9 8 rfl rfl)
theorem dX2_load_215 : decode cX2_load 215 = .ok (.bastore, 1) := dk_84 (dk_at dksX2_load_9 9 rfl rfl)
theorem dX2_load_216 : decode cX2_load 216 = .ok (.aload_n 0, 1) := dk_42 (dk_at dksX2_load_9 10 rfl rfl)
theorem dX2_load_217 : decode cX2_load 217 = .ok (.getfield 36, 3) := dk_180 0 36 (dk_at dksX2_load_9 11 rfl rfl)
theorem dX2_load_220 : decode cX2_load 220 = .ok (.iconst 1, 1) := dk_4 (dk_at dksX2_load_9 14 rfl rfl)
theorem dX2_load_221 : decode cX2_load 221 = .ok (.iconst 0, 1) := dk_3 (dk_at dksX2_load_9 15 rfl rfl)
theorem dX2_load_222 : decode cX2_load 222 = .ok (.bastore, 1) := dk_84 (dk_at dksX2_load_9 16 rfl rfl)
theorem dX2_load_223 : decode cX2_load 223 = .ok (.aload_n 0, 1) := dk_42 (dk_at dksX2_load_9 17 rfl rfl)
theorem dX2_load_224 : decode cX2_load 224 = .ok (.getfield 23, 3) := dk_180 0 23 (dk_at dksX2_load_9 18 rfl rfl)
theorem dX2_load_227 : decode cX2_load 227 = .ok (.iconst 0, 1) := dk_3 (dk_at dksX2_load_9 21 rfl rfl)
theorem dX2_load_228 : decode cX2_load 228 = .ok (.iaload, 1) := dk_46 (dk_at dksX2_load_9 22 rfl rfl)
theorem dX2_load_229 : decode cX2_load 229 = .ok (.ireturn, 1) := dk_172 (dk_at dksX2_load_9 23 rfl rfl)
abbrev cX2_in : ByteArray := prog_16_method_3_code
def yX2_in : MethodName := ⟨RX2, "in", "(III)Z"⟩
def dkwX2_in_0 : List UInt8 := [27, 26, 163, 0, 12, 26, 28, 163, 0, 7, 4, 167, 0, 4, 3, 172]
abbrev dktX2_in_0 : List UInt8 := dkwX2_in_0 ++ []
theorem dksX2_in_0 : cX2_in.data.toList.drop 0 = dktX2_in_0 := by decide +kernel
theorem dX2_in_0 : decode cX2_in 0 = .ok (.iload_n 1, 1) := dk_27 (dk_at dksX2_in_0 0 rfl rfl)
theorem dX2_in_1 : decode cX2_in 1 = .ok (.iload_n 0, 1) := dk_26 (dk_at dksX2_in_0 1 rfl rfl)
theorem dX2_in_2 : decode cX2_in 2 = .ok (.if_icmp .gt 12, 3) := dk_163 0 12 (dk_at dksX2_in_0 2 rfl rfl)
theorem dX2_in_5 : decode cX2_in 5 = .ok (.iload_n 0, 1) := dk_26 (dk_at dksX2_in_0 5 rfl rfl)
theorem dX2_in_6 : decode cX2_in 6 = .ok (.iload_n 2, 1) := dk_28 (dk_at dksX2_in_0 6 rfl rfl)
theorem dX2_in_7 : decode cX2_in 7 = .ok (.if_icmp .gt 7, 3) := dk_163 0 7 (dk_at dksX2_in_0 7 rfl rfl)
theorem dX2_in_10 : decode cX2_in 10 = .ok (.iconst 1, 1) := dk_4 (dk_at dksX2_in_0 10 rfl rfl)
theorem dX2_in_11 : decode cX2_in 11 = .ok (.goto 4, 3) := dk_167 0 4 (dk_at dksX2_in_0 11 rfl rfl)
theorem dX2_in_14 : decode cX2_in 14 = .ok (.iconst 0, 1) := dk_3 (dk_at dksX2_in_0 14 rfl rfl)
theorem dX2_in_15 : decode cX2_in 15 = .ok (.ireturn, 1) := dk_172 (dk_at dksX2_in_0 15 rfl rfl)
abbrev cX2_copies : ByteArray := prog_16_method_28_code
def yX2_copies : MethodName := ⟨RX2, "copies", "([II[II)V"⟩
def dkwX2_copies_1 : List UInt8 := [132, 4, 1, 167, 255, 233, 177]
abbrev dktX2_copies_1 : List UInt8 := dkwX2_copies_1 ++ []
def dkwX2_copies_0 : List UInt8 := [3, 54, 4, 21, 4, 17, 0, 176, 162, 0, 21, 44, 29, 21, 4, 96, 42, 27, 21, 4, 96, 46, 79]
abbrev dktX2_copies_0 : List UInt8 := dkwX2_copies_0 ++ dktX2_copies_1
theorem dksX2_copies_0 : cX2_copies.data.toList.drop 0 = dktX2_copies_0 := by decide +kernel
theorem dksX2_copies_1 : cX2_copies.data.toList.drop 23 = dktX2_copies_1 := dk_seg dksX2_copies_0 23 rfl rfl
theorem dX2_copies_0 : decode cX2_copies 0 = .ok (.iconst 0, 1) := dk_3 (dk_at dksX2_copies_0 0 rfl rfl)
theorem dX2_copies_1 : decode cX2_copies 1 = .ok (.istore 4, 2) := dk_54 4 (dk_at dksX2_copies_0 1 rfl rfl)
theorem dX2_copies_3 : decode cX2_copies 3 = .ok (.iload 4, 2) := dk_21 4 (dk_at dksX2_copies_0 3 rfl rfl)
theorem dX2_copies_5 : decode cX2_copies 5 = .ok (.sipush 176, 3) := dk_17 0 176 (dk_at dksX2_copies_0 5 rfl rfl)
theorem dX2_copies_8 : decode cX2_copies 8 = .ok (.if_icmp .ge 21, 3) := dk_162 0 21 (dk_at dksX2_copies_0 8 rfl rfl)
theorem dX2_copies_11 : decode cX2_copies 11 = .ok (.aload_n 2, 1) := dk_44 (dk_at dksX2_copies_0 11 rfl rfl)
theorem dX2_copies_12 : decode cX2_copies 12 = .ok (.iload_n 3, 1) := dk_29 (dk_at dksX2_copies_0 12 rfl rfl)
theorem dX2_copies_13 : decode cX2_copies 13 = .ok (.iload 4, 2) := dk_21 4 (dk_at dksX2_copies_0 13 rfl rfl)
theorem dX2_copies_15 : decode cX2_copies 15 = .ok (.iadd, 1) := dk_96 (dk_at dksX2_copies_0 15 rfl rfl)
theorem dX2_copies_16 : decode cX2_copies 16 = .ok (.aload_n 0, 1) := dk_42 (dk_at dksX2_copies_0 16 rfl rfl)
theorem dX2_copies_17 : decode cX2_copies 17 = .ok (.iload_n 1, 1) := dk_27 (dk_at dksX2_copies_0 17 rfl rfl)
theorem dX2_copies_18 : decode cX2_copies 18 = .ok (.iload 4, 2) := dk_21 4 (dk_at dksX2_copies_0 18 rfl rfl)
theorem dX2_copies_20 : decode cX2_copies 20 = .ok (.iadd, 1) := dk_96 (dk_at dksX2_copies_0 20 rfl rfl)
theorem dX2_copies_21 : decode cX2_copies 21 = .ok (.iaload, 1) := dk_46 (dk_at dksX2_copies_0 21 rfl rfl)
theorem dX2_copies_22 : decode cX2_copies 22 = .ok (.iastore, 1) := dk_79 (dk_at dksX2_copies_0 22 rfl rfl)
theorem dX2_copies_23 : decode cX2_copies 23 = .ok (.iinc 4 1, 3) := dk_132 4 1 (dk_at dksX2_copies_1 0 rfl rfl)
theorem dX2_copies_26 : decode cX2_copies 26 = .ok (.goto (-23), 3) := dk_167 255 233 (dk_at dksX2_copies_1 3 rfl rfl)
theorem dX2_copies_29 : decode cX2_copies 29 = .ok (.return_, 1) := dk_177 (dk_at dksX2_copies_1 6 rfl rfl)
abbrev cX2_readText : ByteArray := prog_16_method_26_code
def yX2_readText : MethodName := ⟨RX2, "readText", "()V"⟩
def dkwX2_readText_6 : List UInt8 := [180, 0, 99, 7, 159, 0, 8, 42, 4, 182, 0, 119, 177]
abbrev dktX2_readText_6 : List UInt8 := dkwX2_readText_6 ++ []
def dkwX2_readText_5 : List UInt8 := [18, 195, 182, 0, 151, 153, 0, 10, 42, 182, 0, 197, 167, 255, 160, 42, 4, 182, 0, 119, 167, 255, 152, 42]
abbrev dktX2_readText_5 : List UInt8 := dkwX2_readText_5 ++ dktX2_readText_6
def dkwX2_readText_4 : List UInt8 := [42, 182, 0, 187, 167, 255, 192, 42, 18, 190, 182, 0, 151, 153, 0, 10, 42, 182, 0, 192, 167, 255, 176, 42]
abbrev dktX2_readText_4 : List UInt8 := dkwX2_readText_4 ++ dktX2_readText_5
def dkwX2_readText_3 : List UInt8 := [18, 180, 182, 0, 151, 153, 0, 10, 42, 182, 0, 182, 167, 255, 208, 42, 18, 185, 182, 0, 151, 153, 0, 10]
abbrev dktX2_readText_3 : List UInt8 := dkwX2_readText_3 ++ dktX2_readText_4
def dkwX2_readText_2 : List UInt8 := [160, 0, 95, 42, 182, 0, 122, 42, 18, 176, 182, 0, 151, 153, 0, 10, 42, 182, 0, 177, 167, 255, 224, 42]
abbrev dktX2_readText_2 : List UInt8 := dkwX2_readText_2 ++ dktX2_readText_3
def dkwX2_readText_1 : List UInt8 := [182, 0, 139, 42, 180, 0, 23, 17, 0, 146, 3, 79, 42, 180, 0, 83, 154, 0, 103, 42, 180, 0, 99, 6]
abbrev dktX2_readText_1 : List UInt8 := dkwX2_readText_1 ++ dktX2_readText_2
def dkwX2_readText_0 : List UInt8 := [42, 182, 0, 122, 42, 18, 174, 182, 0, 151, 154, 0, 8, 42, 4, 182, 0, 119, 42, 182, 0, 122, 42]
abbrev dktX2_readText_0 : List UInt8 := dkwX2_readText_0 ++ dktX2_readText_1
theorem dksX2_readText_0 : cX2_readText.data.toList.drop 0 = dktX2_readText_0 := by decide +kernel
theorem dksX2_readText_1 : cX2_readText.data.toList.drop 23 = dktX2_readText_1 := dk_seg dksX2_readText_0 23 rfl rfl
theorem dksX2_readText_2 : cX2_readText.data.toList.drop 47 = dktX2_readText_2 := dk_seg dksX2_readText_1 24 rfl rfl
theorem dksX2_readText_3 : cX2_readText.data.toList.drop 71 = dktX2_readText_3 := dk_seg dksX2_readText_2 24 rfl rfl
theorem dksX2_readText_4 : cX2_readText.data.toList.drop 95 = dktX2_readText_4 := dk_seg dksX2_readText_3 24 rfl rfl
theorem dksX2_readText_5 : cX2_readText.data.toList.drop 119 = dktX2_readText_5 := dk_seg dksX2_readText_4 24 rfl rfl
theorem dksX2_readText_6 : cX2_readText.data.toList.drop 143 = dktX2_readText_6 := dk_seg dksX2_readText_5 24 rfl rfl
theorem dX2_readText_0 : decode cX2_readText 0 = .ok (.aload_n 0, 1) := dk_42 (dk_at dksX2_readText_0 0 rfl rfl)
theorem dX2_readText_1 : decode cX2_readText 1 = .ok (.invokevirtual 122, 3) := dk_182 0 122 (dk_at dksX2_readText_0 1 rfl rfl)
theorem dX2_readText_4 : decode cX2_readText 4 = .ok (.aload_n 0, 1) := dk_42 (dk_at dksX2_readText_0 4 rfl rfl)
theorem dX2_readText_5 : decode cX2_readText 5 = .ok (.ldc 174, 2) := dk_18 174 (dk_at dksX2_readText_0 5 rfl rfl)
theorem dX2_readText_7 : decode cX2_readText 7 = .ok (.invokevirtual 151, 3) := dk_182 0 151 (dk_at dksX2_readText_0 7 rfl rfl)
theorem dX2_readText_10 : decode cX2_readText 10 = .ok (.ifCond .ne 8, 3) := dk_154 0 8 (dk_at dksX2_readText_0 10 rfl rfl)
theorem dX2_readText_13 : decode cX2_readText 13 = .ok (.aload_n 0, 1) := dk_42 (dk_at dksX2_readText_0 13 rfl rfl)
theorem dX2_readText_14 : decode cX2_readText 14 = .ok (.iconst 1, 1) := dk_4 (dk_at dksX2_readText_0 14 rfl rfl)
theorem dX2_readText_15 : decode cX2_readText 15 = .ok (.invokevirtual 119, 3) := dk_182 0 119 (dk_at dksX2_readText_0 15 rfl rfl)
theorem dX2_readText_18 : decode cX2_readText 18 = .ok (.aload_n 0, 1) := dk_42 (dk_at dksX2_readText_0 18 rfl rfl)
theorem dX2_readText_19 : decode cX2_readText 19 = .ok (.invokevirtual 122, 3) := dk_182 0 122 (dk_at dksX2_readText_0 19 rfl rfl)
theorem dX2_readText_22 : decode cX2_readText 22 = .ok (.aload_n 0, 1) := dk_42 (dk_at dksX2_readText_0 22 rfl rfl)
theorem dX2_readText_23 : decode cX2_readText 23 = .ok (.invokevirtual 139, 3) := dk_182 0 139 (dk_at dksX2_readText_1 0 rfl rfl)
theorem dX2_readText_26 : decode cX2_readText 26 = .ok (.aload_n 0, 1) := dk_42 (dk_at dksX2_readText_1 3 rfl rfl)
theorem dX2_readText_27 : decode cX2_readText 27 = .ok (.getfield 23, 3) := dk_180 0 23 (dk_at dksX2_readText_1 4 rfl rfl)
theorem dX2_readText_30 : decode cX2_readText 30 = .ok (.sipush 146, 3) := dk_17 0 146 (dk_at dksX2_readText_1 7 rfl rfl)
theorem dX2_readText_33 : decode cX2_readText 33 = .ok (.iconst 0, 1) := dk_3 (dk_at dksX2_readText_1 10 rfl rfl)
theorem dX2_readText_34 : decode cX2_readText 34 = .ok (.iastore, 1) := dk_79 (dk_at dksX2_readText_1 11 rfl rfl)
theorem dX2_readText_35 : decode cX2_readText 35 = .ok (.aload_n 0, 1) := dk_42 (dk_at dksX2_readText_1 12 rfl rfl)
theorem dX2_readText_36 : decode cX2_readText 36 = .ok (.getfield 83, 3) := dk_180 0 83 (dk_at dksX2_readText_1 13 rfl rfl)
theorem dX2_readText_39 : decode cX2_readText 39 = .ok (.ifCond .ne 103, 3) := dk_154 0 103 (dk_at dksX2_readText_1 16 rfl rfl)
theorem dX2_readText_42 : decode cX2_readText 42 = .ok (.aload_n 0, 1) := dk_42 (dk_at dksX2_readText_1 19 rfl rfl)
theorem dX2_readText_43 : decode cX2_readText 43 = .ok (.getfield 99, 3) := dk_180 0 99 (dk_at dksX2_readText_1 20 rfl rfl)
theorem dX2_readText_46 : decode cX2_readText 46 = .ok (.iconst 3, 1) := dk_6 (dk_at dksX2_readText_1 23 rfl rfl)
theorem dX2_readText_47 : decode cX2_readText 47 = .ok (.if_icmp .ne 95, 3) := dk_160 0 95 (dk_at dksX2_readText_2 0 rfl rfl)
theorem dX2_readText_50 : decode cX2_readText 50 = .ok (.aload_n 0, 1) := dk_42 (dk_at dksX2_readText_2 3 rfl rfl)
theorem dX2_readText_51 : decode cX2_readText 51 = .ok (.invokevirtual 122, 3) := dk_182 0 122 (dk_at dksX2_readText_2 4 rfl rfl)
theorem dX2_readText_54 : decode cX2_readText 54 = .ok (.aload_n 0, 1) := dk_42 (dk_at dksX2_readText_2 7 rfl rfl)
theorem dX2_readText_55 : decode cX2_readText 55 = .ok (.ldc 176, 2) := dk_18 176 (dk_at dksX2_readText_2 8 rfl rfl)
theorem dX2_readText_57 : decode cX2_readText 57 = .ok (.invokevirtual 151, 3) := dk_182 0 151 (dk_at dksX2_readText_2 10 rfl rfl)
theorem dX2_readText_60 : decode cX2_readText 60 = .ok (.ifCond .eq 10, 3) := dk_153 0 10 (dk_at dksX2_readText_2 13 rfl rfl)
theorem dX2_readText_63 : decode cX2_readText 63 = .ok (.aload_n 0, 1) := dk_42 (dk_at dksX2_readText_2 16 rfl rfl)
theorem dX2_readText_64 : decode cX2_readText 64 = .ok (.invokevirtual 177, 3) := dk_182 0 177 (dk_at dksX2_readText_2 17 rfl rfl)
theorem dX2_readText_67 : decode cX2_readText 67 = .ok (.goto (-32), 3) := dk_167 255 224 (dk_at dksX2_readText_2 20 rfl rfl)
theorem dX2_readText_70 : decode cX2_readText 70 = .ok (.aload_n 0, 1) := dk_42 (dk_at dksX2_readText_2 23 rfl rfl)
theorem dX2_readText_71 : decode cX2_readText 71 = .ok (.ldc 180, 2) := dk_18 180 (dk_at dksX2_readText_3 0 rfl rfl)
theorem dX2_readText_73 : decode cX2_readText 73 = .ok (.invokevirtual 151, 3) := dk_182 0 151 (dk_at dksX2_readText_3 2 rfl rfl)
theorem dX2_readText_76 : decode cX2_readText 76 = .ok (.ifCond .eq 10, 3) := dk_153 0 10 (dk_at dksX2_readText_3 5 rfl rfl)
theorem dX2_readText_79 : decode cX2_readText 79 = .ok (.aload_n 0, 1) := dk_42 (dk_at dksX2_readText_3 8 rfl rfl)
theorem dX2_readText_80 : decode cX2_readText 80 = .ok (.invokevirtual 182, 3) := dk_182 0 182 (dk_at dksX2_readText_3 9 rfl rfl)
theorem dX2_readText_83 : decode cX2_readText 83 = .ok (.goto (-48), 3) := dk_167 255 208 (dk_at dksX2_readText_3 12 rfl rfl)
theorem dX2_readText_86 : decode cX2_readText 86 = .ok (.aload_n 0, 1) := dk_42 (dk_at dksX2_readText_3 15 rfl rfl)
theorem dX2_readText_87 : decode cX2_readText 87 = .ok (.ldc 185, 2) := dk_18 185 (dk_at dksX2_readText_3 16 rfl rfl)
theorem dX2_readText_89 : decode cX2_readText 89 = .ok (.invokevirtual 151, 3) := dk_182 0 151 (dk_at dksX2_readText_3 18 rfl rfl)
theorem dX2_readText_92 : decode cX2_readText 92 = .ok (.ifCond .eq 10, 3) := dk_153 0 10 (dk_at dksX2_readText_3 21 rfl rfl)
theorem dX2_readText_95 : decode cX2_readText 95 = .ok (.aload_n 0, 1) := dk_42 (dk_at dksX2_readText_4 0 rfl rfl)
theorem dX2_readText_96 : decode cX2_readText 96 = .ok (.invokevirtual 187, 3) := dk_182 0 187 (dk_at dksX2_readText_4 1 rfl rfl)
theorem dX2_readText_99 : decode cX2_readText 99 = .ok (.goto (-64), 3) := dk_167 255 192 (dk_at dksX2_readText_4 4 rfl rfl)
theorem dX2_readText_102 : decode cX2_readText 102 = .ok (.aload_n 0, 1) := dk_42 (dk_at dksX2_readText_4 7 rfl rfl)
theorem dX2_readText_103 : decode cX2_readText 103 = .ok (.ldc 190, 2) := dk_18 190 (dk_at dksX2_readText_4 8 rfl rfl)
theorem dX2_readText_105 : decode cX2_readText 105 = .ok (.invokevirtual 151, 3) := dk_182 0 151 (dk_at dksX2_readText_4 10 rfl rfl)
theorem dX2_readText_108 : decode cX2_readText 108 = .ok (.ifCond .eq 10, 3) := dk_153 0 10 (dk_at dksX2_readText_4 13 rfl rfl)
theorem dX2_readText_111 : decode cX2_readText 111 = .ok (.aload_n 0, 1) := dk_42 (dk_at dksX2_readText_4 16 rfl rfl)
theorem dX2_readText_112 : decode cX2_readText 112 = .ok (.invokevirtual 192, 3) := dk_182 0 192 (dk_at dksX2_readText_4 17 rfl rfl)
theorem dX2_readText_115 : decode cX2_readText 115 = .ok (.goto (-80), 3) := dk_167 255 176 (dk_at dksX2_readText_4 20 rfl rfl)
theorem dX2_readText_118 : decode cX2_readText 118 = .ok (.aload_n 0, 1) := dk_42 (dk_at dksX2_readText_4 23 rfl rfl)
theorem dX2_readText_119 : decode cX2_readText 119 = .ok (.ldc 195, 2) := dk_18 195 (dk_at dksX2_readText_5 0 rfl rfl)
theorem dX2_readText_121 : decode cX2_readText 121 = .ok (.invokevirtual 151, 3) := dk_182 0 151 (dk_at dksX2_readText_5 2 rfl rfl)
theorem dX2_readText_124 : decode cX2_readText 124 = .ok (.ifCond .eq 10, 3) := dk_153 0 10 (dk_at dksX2_readText_5 5 rfl rfl)
theorem dX2_readText_127 : decode cX2_readText 127 = .ok (.aload_n 0, 1) := dk_42 (dk_at dksX2_readText_5 8 rfl rfl)
theorem dX2_readText_128 : decode cX2_readText 128 = .ok (.invokevirtual 197, 3) := dk_182 0 197 (dk_at dksX2_readText_5 9 rfl rfl)
theorem dX2_readText_131 : decode cX2_readText 131 = .ok (.goto (-96), 3) := dk_167 255 160 (dk_at dksX2_readText_5 12 rfl rfl)
theorem dX2_readText_134 : decode cX2_readText 134 = .ok (.aload_n 0, 1) := dk_42 (dk_at dksX2_readText_5 15 rfl rfl)
theorem dX2_readText_135 : decode cX2_readText 135 = .ok (.iconst 1, 1) := dk_4 (dk_at dksX2_readText_5 16 rfl rfl)
theorem dX2_readText_136 : decode cX2_readText 136 = .ok (.invokevirtual 119, 3) := dk_182 0 119 (dk_at dksX2_readText_5 17 rfl rfl)
theorem dX2_readText_139 : decode cX2_readText 139 = .ok (.goto (-104), 3) := dk_167 255 152 (dk_at dksX2_readText_5 20 rfl rfl)
theorem dX2_readText_142 : decode cX2_readText 142 = .ok (.aload_n 0, 1) := dk_42 (dk_at dksX2_readText_5 23 rfl rfl)
theorem dX2_readText_143 : decode cX2_readText 143 = .ok (.getfield 99, 3) := dk_180 0 99 (dk_at dksX2_readText_6 0 rfl rfl)
theorem dX2_readText_146 : decode cX2_readText 146 = .ok (.iconst 4, 1) := dk_7 (dk_at dksX2_readText_6 3 rfl rfl)
theorem dX2_readText_147 : decode cX2_readText 147 = .ok (.if_icmp .eq 8, 3) := dk_159 0 8 (dk_at dksX2_readText_6 4 rfl rfl)
theorem dX2_readText_150 : decode cX2_readText 150 = .ok (.aload_n 0, 1) := dk_42 (dk_at dksX2_readText_6 7 rfl rfl)
theorem dX2_readText_151 : decode cX2_readText 151 = .ok (.iconst 1, 1) := dk_4 (dk_at dksX2_readText_6 8 rfl rfl)
theorem dX2_readText_152 : decode cX2_readText 152 = .ok (.invokevirtual 119, 3) := dk_182 0 119 (dk_at dksX2_readText_6 9 rfl rfl)
theorem dX2_readText_155 : decode cX2_readText 155 = .ok (.return_, 1) := dk_177 (dk_at dksX2_readText_6 12 rfl rfl)
abbrev cX2_nextToken : ByteArray := prog_16_method_11_code
def yX2_nextToken : MethodName := ⟨RX2, "nextToken", "()V"⟩
def dkwX2_nextToken_11 : List UInt8 := [4, 96, 181, 0, 89, 42, 27, 16, 59, 160, 0, 7, 6, 167, 0, 4, 3, 181, 0, 99, 177]
abbrev dktX2_nextToken_11 : List UInt8 := dkwX2_nextToken_11 ++ []
def dkwX2_nextToken_10 : List UInt8 := [180, 0, 96, 100, 6, 164, 0, 7, 3, 167, 0, 4, 5, 181, 0, 99, 167, 0, 28, 42, 89, 180, 0, 89]
abbrev dktX2_nextToken_10 : List UInt8 := dkwX2_nextToken_10 ++ dktX2_nextToken_11
def dkwX2_nextToken_9 : List UInt8 := [181, 0, 106, 42, 89, 180, 0, 89, 4, 96, 181, 0, 89, 167, 255, 185, 42, 42, 180, 0, 89, 42]
abbrev dktX2_nextToken_9 : List UInt8 := dkwX2_nextToken_9 ++ dktX2_nextToken_10
def dkwX2_nextToken_8 : List UInt8 := [42, 180, 0, 106, 104, 42, 42, 180, 0, 89, 182, 0, 92, 96, 16, 48, 100, 167, 0, 7, 42, 180, 0, 106]
abbrev dktX2_nextToken_8 : List UInt8 := dkwX2_nextToken_8 ++ dktX2_nextToken_9
def dkwX2_nextToken_7 : List UInt8 := [16, 57, 184, 0, 102, 153, 0, 59, 42, 42, 180, 0, 89, 42, 180, 0, 96, 100, 6, 162, 0, 25, 16, 10]
abbrev dktX2_nextToken_7 : List UInt8 := dkwX2_nextToken_7 ++ dktX2_nextToken_8
def dkwX2_nextToken_6 : List UInt8 := [16, 57, 184, 0, 102, 153, 0, 107, 42, 3, 181, 0, 106, 42, 42, 180, 0, 89, 182, 0, 92, 16, 48]
abbrev dktX2_nextToken_6 : List UInt8 := dkwX2_nextToken_6 ++ dktX2_nextToken_7
def dkwX2_nextToken_5 : List UInt8 := [42, 180, 0, 96, 100, 16, 8, 164, 0, 7, 3, 167, 0, 4, 4, 181, 0, 99, 167, 0, 143, 27, 16, 48]
abbrev dktX2_nextToken_5 : List UInt8 := dkwX2_nextToken_5 ++ dktX2_nextToken_6
def dkwX2_nextToken_4 : List UInt8 := [184, 0, 102, 153, 0, 16, 42, 89, 180, 0, 89, 4, 96, 181, 0, 89, 167, 255, 228, 42, 42, 180, 0, 89]
abbrev dktX2_nextToken_4 : List UInt8 := dkwX2_nextToken_4 ++ dktX2_nextToken_5
def dkwX2_nextToken_3 : List UInt8 := [16, 97, 16, 122, 184, 0, 102, 153, 0, 60, 42, 42, 180, 0, 89, 182, 0, 92, 16, 97, 16, 122]
abbrev dktX2_nextToken_3 : List UInt8 := dkwX2_nextToken_3 ++ dktX2_nextToken_4
def dkwX2_nextToken_2 : List UInt8 := [182, 0, 92, 60, 42, 180, 0, 89, 42, 180, 0, 86, 161, 0, 11, 42, 7, 181, 0, 99, 167, 0, 211, 27]
abbrev dktX2_nextToken_2 : List UInt8 := dkwX2_nextToken_2 ++ dktX2_nextToken_3
def dkwX2_nextToken_1 : List UInt8 := [180, 0, 89, 4, 96, 181, 0, 89, 167, 255, 233, 42, 42, 180, 0, 89, 181, 0, 96, 42, 42, 180, 0, 89]
abbrev dktX2_nextToken_1 : List UInt8 := dkwX2_nextToken_1 ++ dktX2_nextToken_2
def dkwX2_nextToken_0 : List UInt8 := [42, 180, 0, 83, 158, 0, 4, 177, 42, 42, 180, 0, 89, 182, 0, 92, 16, 32, 160, 0, 16, 42, 89]
abbrev dktX2_nextToken_0 : List UInt8 := dkwX2_nextToken_0 ++ dktX2_nextToken_1
theorem dksX2_nextToken_0 : cX2_nextToken.data.toList.drop 0 = dktX2_nextToken_0 := by decide +kernel
theorem dksX2_nextToken_1 : cX2_nextToken.data.toList.drop 23 = dktX2_nextToken_1 := dk_seg dksX2_nextToken_0 23 rfl rfl
theorem dksX2_nextToken_2 : cX2_nextToken.data.toList.drop 47 = dktX2_nextToken_2 := dk_seg dksX2_nextToken_1 24 rfl rfl
theorem dksX2_nextToken_3 : cX2_nextToken.data.toList.drop 71 = dktX2_nextToken_3 := dk_seg dksX2_nextToken_2 24 rfl rfl
theorem dksX2_nextToken_4 : cX2_nextToken.data.toList.drop 93 = dktX2_nextToken_4 := dk_seg dksX2_nextToken_3 22 rfl rfl
theorem dksX2_nextToken_5 : cX2_nextToken.data.toList.drop 117 = dktX2_nextToken_5 := dk_seg dksX2_nextToken_4 24 rfl rfl
theorem dksX2_nextToken_6 : cX2_nextToken.data.toList.drop 141 = dktX2_nextToken_6 := dk_seg dksX2_nextToken_5 24 rfl rfl
theorem dksX2_nextToken_7 : cX2_nextToken.data.toList.drop 164 = dktX2_nextToken_7 := dk_seg dksX2_nextToken_6 23 rfl rfl
theorem dksX2_nextToken_8 : cX2_nextToken.data.toList.drop 188 = dktX2_nextToken_8 := dk_seg dksX2_nextToken_7 24 rfl rfl
theorem dksX2_nextToken_9 : cX2_nextToken.data.toList.drop 212 = dktX2_nextToken_9 := dk_seg dksX2_nextToken_8 24 rfl rfl
theorem dksX2_nextToken_10 : cX2_nextToken.data.toList.drop 234 = dktX2_nextToken_10 := dk_seg dksX2_nextToken_9 22 rfl rfl
theorem dksX2_nextToken_11 : cX2_nextToken.data.toList.drop 258 = dktX2_nextToken_11 := dk_seg dksX2_nextToken_10 24 rfl rfl
theorem dX2_nextToken_0 : decode cX2_nextToken 0 = .ok (.aload_n 0, 1) := dk_42 (dk_at dksX2_nextToken_0 0 rfl rfl)
theorem dX2_nextToken_1 : decode cX2_nextToken 1 = .ok (.getfield 83, 3) := dk_180 0 83 (dk_at dksX2_nextToken_0 1 rfl rfl)
theorem dX2_nextToken_4 : decode cX2_nextToken 4 = .ok (.ifCond .le 4, 3) := dk_158 0 4 (dk_at dksX2_nextToken_0 4 rfl rfl)
theorem dX2_nextToken_7 : decode cX2_nextToken 7 = .ok (.return_, 1) := dk_177 (dk_at dksX2_nextToken_0 7 rfl rfl)
theorem dX2_nextToken_8 : decode cX2_nextToken 8 = .ok (.aload_n 0, 1) := dk_42 (dk_at dksX2_nextToken_0 8 rfl rfl)
theorem dX2_nextToken_9 : decode cX2_nextToken 9 = .ok (.aload_n 0, 1) := dk_42 (dk_at dksX2_nextToken_0 9 rfl rfl)
theorem dX2_nextToken_10 : decode cX2_nextToken 10 = .ok (.getfield 89, 3) := dk_180 0 89 (dk_at dksX2_nextToken_0 10 rfl rfl)
theorem dX2_nextToken_13 : decode cX2_nextToken 13 = .ok (.invokevirtual 92, 3) := dk_182 0 92 (dk_at dksX2_nextToken_0 13 rfl rfl)
theorem dX2_nextToken_16 : decode cX2_nextToken 16 = .ok (.bipush 32, 2) := dk_16 32 (dk_at dksX2_nextToken_0 16 rfl rfl)
theorem dX2_nextToken_18 : decode cX2_nextToken 18 = .ok (.if_icmp .ne 16, 3) := dk_160 0 16 (dk_at dksX2_nextToken_0 18 rfl rfl)
theorem dX2_nextToken_21 : decode cX2_nextToken 21 = .ok (.aload_n 0, 1) := dk_42 (dk_at dksX2_nextToken_0 21 rfl rfl)
theorem dX2_nextToken_22 : decode cX2_nextToken 22 = .ok (.dup, 1) := dk_89 (dk_at dksX2_nextToken_0 22 rfl rfl)
theorem dX2_nextToken_23 : decode cX2_nextToken 23 = .ok (.getfield 89, 3) := dk_180 0 89 (dk_at dksX2_nextToken_1 0 rfl rfl)
theorem dX2_nextToken_26 : decode cX2_nextToken 26 = .ok (.iconst 1, 1) := dk_4 (dk_at dksX2_nextToken_1 3 rfl rfl)
theorem dX2_nextToken_27 : decode cX2_nextToken 27 = .ok (.iadd, 1) := dk_96 (dk_at dksX2_nextToken_1 4 rfl rfl)
theorem dX2_nextToken_28 : decode cX2_nextToken 28 = .ok (.putfield 89, 3) := dk_181 0 89 (dk_at dksX2_nextToken_1 5 rfl rfl)
theorem dX2_nextToken_31 : decode cX2_nextToken 31 = .ok (.goto (-23), 3) := dk_167 255 233 (dk_at dksX2_nextToken_1 8 rfl rfl)
theorem dX2_nextToken_34 : decode cX2_nextToken 34 = .ok (.aload_n 0, 1) := dk_42 (dk_at dksX2_nextToken_1 11 rfl rfl)
theorem dX2_nextToken_35 : decode cX2_nextToken 35 = .ok (.aload_n 0, 1) := dk_42 (dk_at dksX2_nextToken_1 12 rfl rfl)
theorem dX2_nextToken_36 : decode cX2_nextToken 36 = .ok (.getfield 89, 3) := dk_180 0 89 (dk_at dksX2_nextToken_1 13 rfl rfl)
theorem dX2_nextToken_39 : decode cX2_nextToken 39 = .ok (.putfield 96, 3) := dk_181 0 96 (dk_at dksX2_nextToken_1 16 rfl rfl)
theorem dX2_nextToken_42 : decode cX2_nextToken 42 = .ok (.aload_n 0, 1) := dk_42 (dk_at dksX2_nextToken_1 19 rfl rfl)
theorem dX2_nextToken_43 : decode cX2_nextToken 43 = .ok (.aload_n 0, 1) := dk_42 (dk_at dksX2_nextToken_1 20 rfl rfl)
theorem dX2_nextToken_44 : decode cX2_nextToken 44 = .ok (.getfield 89, 3) := dk_180 0 89 (dk_at dksX2_nextToken_1 21 rfl rfl)
theorem dX2_nextToken_47 : decode cX2_nextToken 47 = .ok (.invokevirtual 92, 3) := dk_182 0 92 (dk_at dksX2_nextToken_2 0 rfl rfl)
theorem dX2_nextToken_50 : decode cX2_nextToken 50 = .ok (.istore_n 1, 1) := dk_60 (dk_at dksX2_nextToken_2 3 rfl rfl)
theorem dX2_nextToken_51 : decode cX2_nextToken 51 = .ok (.aload_n 0, 1) := dk_42 (dk_at dksX2_nextToken_2 4 rfl rfl)
theorem dX2_nextToken_52 : decode cX2_nextToken 52 = .ok (.getfield 89, 3) := dk_180 0 89 (dk_at dksX2_nextToken_2 5 rfl rfl)
theorem dX2_nextToken_55 : decode cX2_nextToken 55 = .ok (.aload_n 0, 1) := dk_42 (dk_at dksX2_nextToken_2 8 rfl rfl)
theorem dX2_nextToken_56 : decode cX2_nextToken 56 = .ok (.getfield 86, 3) := dk_180 0 86 (dk_at dksX2_nextToken_2 9 rfl rfl)
theorem dX2_nextToken_59 : decode cX2_nextToken 59 = .ok (.if_icmp .lt 11, 3) := dk_161 0 11 (dk_at dksX2_nextToken_2 12 rfl rfl)
theorem dX2_nextToken_62 : decode cX2_nextToken 62 = .ok (.aload_n 0, 1) := dk_42 (dk_at dksX2_nextToken_2 15 rfl rfl)
theorem dX2_nextToken_63 : decode cX2_nextToken 63 = .ok (.iconst 4, 1) := dk_7 (dk_at dksX2_nextToken_2 16 rfl rfl)
theorem dX2_nextToken_64 : decode cX2_nextToken 64 = .ok (.putfield 99, 3) := dk_181 0 99 (dk_at dksX2_nextToken_2 17 rfl rfl)
theorem dX2_nextToken_67 : decode cX2_nextToken 67 = .ok (.goto 211, 3) := dk_167 0 211 (dk_at dksX2_nextToken_2 20 rfl rfl)
theorem dX2_nextToken_70 : decode cX2_nextToken 70 = .ok (.iload_n 1, 1) := dk_27 (dk_at dksX2_nextToken_2 23 rfl rfl)
theorem dX2_nextToken_71 : decode cX2_nextToken 71 = .ok (.bipush 97, 2) := dk_16 97 (dk_at dksX2_nextToken_3 0 rfl rfl)
theorem dX2_nextToken_73 : decode cX2_nextToken 73 = .ok (.bipush 122, 2) := dk_16 122 (dk_at dksX2_nextToken_3 2 rfl rfl)
theorem dX2_nextToken_75 : decode cX2_nextToken 75 = .ok (.invokestatic 102, 3) := dk_184 0 102 (dk_at dksX2_nextToken_3 4 rfl rfl)
theorem dX2_nextToken_78 : decode cX2_nextToken 78 = .ok (.ifCond .eq 60, 3) := dk_153 0 60 (dk_at dksX2_nextToken_3 7 rfl rfl)
theorem dX2_nextToken_81 : decode cX2_nextToken 81 = .ok (.aload_n 0, 1) := dk_42 (dk_at dksX2_nextToken_3 10 rfl rfl)
theorem dX2_nextToken_82 : decode cX2_nextToken 82 = .ok (.aload_n 0, 1) := dk_42 (dk_at dksX2_nextToken_3 11 rfl rfl)
theorem dX2_nextToken_83 : decode cX2_nextToken 83 = .ok (.getfield 89, 3) := dk_180 0 89 (dk_at dksX2_nextToken_3 12 rfl rfl)
theorem dX2_nextToken_86 : decode cX2_nextToken 86 = .ok (.invokevirtual 92, 3) := dk_182 0 92 (dk_at dksX2_nextToken_3 15 rfl rfl)
theorem dX2_nextToken_89 : decode cX2_nextToken 89 = .ok (.bipush 97, 2) := dk_16 97 (dk_at dksX2_nextToken_3 18 rfl rfl)
theorem dX2_nextToken_91 : decode cX2_nextToken 91 = .ok (.bipush 122, 2) := dk_16 122 (dk_at dksX2_nextToken_3 20 rfl rfl)
theorem dX2_nextToken_93 : decode cX2_nextToken 93 = .ok (.invokestatic 102, 3) := dk_184 0 102 (dk_at dksX2_nextToken_4 0 rfl rfl)
theorem dX2_nextToken_96 : decode cX2_nextToken 96 = .ok (.ifCond .eq 16, 3) := dk_153 0 16 (dk_at dksX2_nextToken_4 3 rfl rfl)
theorem dX2_nextToken_99 : decode cX2_nextToken 99 = .ok (.aload_n 0, 1) := dk_42 (dk_at dksX2_nextToken_4 6 rfl rfl)
theorem dX2_nextToken_100 : decode cX2_nextToken 100 = .ok (.dup, 1) := dk_89 (dk_at dksX2_nextToken_4 7 rfl rfl)
theorem dX2_nextToken_101 : decode cX2_nextToken 101 = .ok (.getfield 89, 3) := dk_180 0 89 (dk_at dksX2_nextToken_4 8 rfl rfl)
theorem dX2_nextToken_104 : decode cX2_nextToken 104 = .ok (.iconst 1, 1) := dk_4 (dk_at dksX2_nextToken_4 11 rfl rfl)
theorem dX2_nextToken_105 : decode cX2_nextToken 105 = .ok (.iadd, 1) := dk_96 (dk_at dksX2_nextToken_4 12 rfl rfl)
theorem dX2_nextToken_106 : decode cX2_nextToken 106 = .ok (.putfield 89, 3) := dk_181 0 89 (dk_at dksX2_nextToken_4 13 rfl rfl)
theorem dX2_nextToken_109 : decode cX2_nextToken 109 = .ok (.goto (-28), 3) := dk_167 255 228 (dk_at dksX2_nextToken_4 16 rfl rfl)
theorem dX2_nextToken_112 : decode cX2_nextToken 112 = .ok (.aload_n 0, 1) := dk_42 (dk_at dksX2_nextToken_4 19 rfl rfl)
theorem dX2_nextToken_113 : decode cX2_nextToken 113 = .ok (.aload_n 0, 1) := dk_42 (dk_at dksX2_nextToken_4 20 rfl rfl)
theorem dX2_nextToken_114 : decode cX2_nextToken 114 = .ok (.getfield 89, 3) := dk_180 0 89 (dk_at dksX2_nextToken_4 21 rfl rfl)
theorem dX2_nextToken_117 : decode cX2_nextToken 117 = .ok (.aload_n 0, 1) := dk_42 (dk_at dksX2_nextToken_5 0 rfl rfl)
theorem dX2_nextToken_118 : decode cX2_nextToken 118 = .ok (.getfield 96, 3) := dk_180 0 96 (dk_at dksX2_nextToken_5 1 rfl rfl)
theorem dX2_nextToken_121 : decode cX2_nextToken 121 = .ok (.isub, 1) := dk_100 (dk_at dksX2_nextToken_5 4 rfl rfl)
theorem dX2_nextToken_122 : decode cX2_nextToken 122 = .ok (.bipush 8, 2) := dk_16 8 (dk_at dksX2_nextToken_5 5 rfl rfl)
theorem dX2_nextToken_124 : decode cX2_nextToken 124 = .ok (.if_icmp .le 7, 3) := dk_164 0 7 (dk_at dksX2_nextToken_5 7 rfl rfl)
theorem dX2_nextToken_127 : decode cX2_nextToken 127 = .ok (.iconst 0, 1) := dk_3 (dk_at dksX2_nextToken_5 10 rfl rfl)
theorem dX2_nextToken_128 : decode cX2_nextToken 128 = .ok (.goto 4, 3) := dk_167 0 4 (dk_at dksX2_nextToken_5 11 rfl rfl)
theorem dX2_nextToken_131 : decode cX2_nextToken 131 = .ok (.iconst 1, 1) := dk_4 (dk_at dksX2_nextToken_5 14 rfl rfl)
theorem dX2_nextToken_132 : decode cX2_nextToken 132 = .ok (.putfield 99, 3) := dk_181 0 99 (dk_at dksX2_nextToken_5 15 rfl rfl)
theorem dX2_nextToken_135 : decode cX2_nextToken 135 = .ok (.goto 143, 3) := dk_167 0 143 (dk_at dksX2_nextToken_5 18 rfl rfl)
theorem dX2_nextToken_138 : decode cX2_nextToken 138 = .ok (.iload_n 1, 1) := dk_27 (dk_at dksX2_nextToken_5 21 rfl rfl)
theorem dX2_nextToken_139 : decode cX2_nextToken 139 = .ok (.bipush 48, 2) := dk_16 48 (dk_at dksX2_nextToken_5 22 rfl rfl)
theorem dX2_nextToken_141 : decode cX2_nextToken 141 = .ok (.bipush 57, 2) := dk_16 57 (dk_at dksX2_nextToken_6 0 rfl rfl)
theorem dX2_nextToken_143 : decode cX2_nextToken 143 = .ok (.invokestatic 102, 3) := dk_184 0 102 (dk_at dksX2_nextToken_6 2 rfl rfl)
theorem dX2_nextToken_146 : decode cX2_nextToken 146 = .ok (.ifCond .eq 107, 3) := dk_153 0 107 (dk_at dksX2_nextToken_6 5 rfl rfl)
theorem dX2_nextToken_149 : decode cX2_nextToken 149 = .ok (.aload_n 0, 1) := dk_42 (dk_at dksX2_nextToken_6 8 rfl rfl)
theorem dX2_nextToken_150 : decode cX2_nextToken 150 = .ok (.iconst 0, 1) := dk_3 (dk_at dksX2_nextToken_6 9 rfl rfl)
theorem dX2_nextToken_151 : decode cX2_nextToken 151 = .ok (.putfield 106, 3) := dk_181 0 106 (dk_at dksX2_nextToken_6 10 rfl rfl)
theorem dX2_nextToken_154 : decode cX2_nextToken 154 = .ok (.aload_n 0, 1) := dk_42 (dk_at dksX2_nextToken_6 13 rfl rfl)
theorem dX2_nextToken_155 : decode cX2_nextToken 155 = .ok (.aload_n 0, 1) := dk_42 (dk_at dksX2_nextToken_6 14 rfl rfl)
theorem dX2_nextToken_156 : decode cX2_nextToken 156 = .ok (.getfield 89, 3) := dk_180 0 89 (dk_at dksX2_nextToken_6 15 rfl rfl)
theorem dX2_nextToken_159 : decode cX2_nextToken 159 = .ok (.invokevirtual 92, 3) := dk_182 0 92 (dk_at dksX2_nextToken_6 18 rfl rfl)
theorem dX2_nextToken_162 : decode cX2_nextToken 162 = .ok (.bipush 48, 2) := dk_16 48 (dk_at dksX2_nextToken_6 21 rfl rfl)
theorem dX2_nextToken_164 : decode cX2_nextToken 164 = .ok (.bipush 57, 2) := dk_16 57 (dk_at dksX2_nextToken_7 0 rfl rfl)
theorem dX2_nextToken_166 : decode cX2_nextToken 166 = .ok (.invokestatic 102, 3) := dk_184 0 102 (dk_at dksX2_nextToken_7 2 rfl rfl)
theorem dX2_nextToken_169 : decode cX2_nextToken 169 = .ok (.ifCond .eq 59, 3) := dk_153 0 59 (dk_at dksX2_nextToken_7 5 rfl rfl)
theorem dX2_nextToken_172 : decode cX2_nextToken 172 = .ok (.aload_n 0, 1) := dk_42 (dk_at dksX2_nextToken_7 8 rfl rfl)
theorem dX2_nextToken_173 : decode cX2_nextToken 173 = .ok (.aload_n 0, 1) := dk_42 (dk_at dksX2_nextToken_7 9 rfl rfl)
theorem dX2_nextToken_174 : decode cX2_nextToken 174 = .ok (.getfield 89, 3) := dk_180 0 89 (dk_at dksX2_nextToken_7 10 rfl rfl)
theorem dX2_nextToken_177 : decode cX2_nextToken 177 = .ok (.aload_n 0, 1) := dk_42 (dk_at dksX2_nextToken_7 13 rfl rfl)
theorem dX2_nextToken_178 : decode cX2_nextToken 178 = .ok (.getfield 96, 3) := dk_180 0 96 (dk_at dksX2_nextToken_7 14 rfl rfl)
theorem dX2_nextToken_181 : decode cX2_nextToken 181 = .ok (.isub, 1) := dk_100 (dk_at dksX2_nextToken_7 17 rfl rfl)
theorem dX2_nextToken_182 : decode cX2_nextToken 182 = .ok (.iconst 3, 1) := dk_6 (dk_at dksX2_nextToken_7 18 rfl rfl)
theorem dX2_nextToken_183 : decode cX2_nextToken 183 = .ok (.if_icmp .ge 25, 3) := dk_162 0 25 (dk_at dksX2_nextToken_7 19 rfl rfl)
theorem dX2_nextToken_186 : decode cX2_nextToken 186 = .ok (.bipush 10, 2) := dk_16 10 (dk_at dksX2_nextToken_7 22 rfl rfl)
theorem dX2_nextToken_188 : decode cX2_nextToken 188 = .ok (.aload_n 0, 1) := dk_42 (dk_at dksX2_nextToken_8 0 rfl rfl)
theorem dX2_nextToken_189 : decode cX2_nextToken 189 = .ok (.getfield 106, 3) := dk_180 0 106 (dk_at dksX2_nextToken_8 1 rfl rfl)
theorem dX2_nextToken_192 : decode cX2_nextToken 192 = .ok (.imul, 1) := dk_104 (dk_at dksX2_nextToken_8 4 rfl rfl)
theorem dX2_nextToken_193 : decode cX2_nextToken 193 = .ok (.aload_n 0, 1) := dk_42 (dk_at dksX2_nextToken_8 5 rfl rfl)
theorem dX2_nextToken_194 : decode cX2_nextToken 194 = .ok (.aload_n 0, 1) := dk_42 (dk_at dksX2_nextToken_8 6 rfl rfl)
theorem dX2_nextToken_195 : decode cX2_nextToken 195 = .ok (.getfield 89, 3) := dk_180 0 89 (dk_at dksX2_nextToken_8 7 rfl rfl)
theorem dX2_nextToken_198 : decode cX2_nextToken 198 = .ok (.invokevirtual 92, 3) := dk_182 0 92 (dk_at dksX2_nextToken_8 10 rfl rfl)
theorem dX2_nextToken_201 : decode cX2_nextToken 201 = .ok (.iadd, 1) := dk_96 (dk_at dksX2_nextToken_8 13 rfl rfl)
theorem dX2_nextToken_202 : decode cX2_nextToken 202 = .ok (.bipush 48, 2) := dk_16 48 (dk_at dksX2_nextToken_8 14 rfl rfl)
theorem dX2_nextToken_204 : decode cX2_nextToken 204 = .ok (.isub, 1) := dk_100 (dk_at dksX2_nextToken_8 16 rfl rfl)
theorem dX2_nextToken_205 : decode cX2_nextToken 205 = .ok (.goto 7, 3) := dk_167 0 7 (dk_at dksX2_nextToken_8 17 rfl rfl)
theorem dX2_nextToken_208 : decode cX2_nextToken 208 = .ok (.aload_n 0, 1) := dk_42 (dk_at dksX2_nextToken_8 20 rfl rfl)
theorem dX2_nextToken_209 : decode cX2_nextToken 209 = .ok (.getfield 106, 3) := dk_180 0 106 (dk_at dksX2_nextToken_8 21 rfl rfl)
theorem dX2_nextToken_212 : decode cX2_nextToken 212 = .ok (.putfield 106, 3) := dk_181 0 106 (dk_at dksX2_nextToken_9 0 rfl rfl)
theorem dX2_nextToken_215 : decode cX2_nextToken 215 = .ok (.aload_n 0, 1) := dk_42 (dk_at dksX2_nextToken_9 3 rfl rfl)
theorem dX2_nextToken_216 : decode cX2_nextToken 216 = .ok (.dup, 1) := dk_89 (dk_at dksX2_nextToken_9 4 rfl rfl)
theorem dX2_nextToken_217 : decode cX2_nextToken 217 = .ok (.getfield 89, 3) := dk_180 0 89 (dk_at dksX2_nextToken_9 5 rfl rfl)
theorem dX2_nextToken_220 : decode cX2_nextToken 220 = .ok (.iconst 1, 1) := dk_4 (dk_at dksX2_nextToken_9 8 rfl rfl)
theorem dX2_nextToken_221 : decode cX2_nextToken 221 = .ok (.iadd, 1) := dk_96 (dk_at dksX2_nextToken_9 9 rfl rfl)
theorem dX2_nextToken_222 : decode cX2_nextToken 222 = .ok (.putfield 89, 3) := dk_181 0 89 (dk_at dksX2_nextToken_9 10 rfl rfl)
theorem dX2_nextToken_225 : decode cX2_nextToken 225 = .ok (.goto (-71), 3) := dk_167 255 185 (dk_at dksX2_nextToken_9 13 rfl rfl)
theorem dX2_nextToken_228 : decode cX2_nextToken 228 = .ok (.aload_n 0, 1) := dk_42 (dk_at dksX2_nextToken_9 16 rfl rfl)
theorem dX2_nextToken_229 : decode cX2_nextToken 229 = .ok (.aload_n 0, 1) := dk_42 (dk_at dksX2_nextToken_9 17 rfl rfl)
theorem dX2_nextToken_230 : decode cX2_nextToken 230 = .ok (.getfield 89, 3) := dk_180 0 89 (dk_at dksX2_nextToken_9 18 rfl rfl)
theorem dX2_nextToken_233 : decode cX2_nextToken 233 = .ok (.aload_n 0, 1) := dk_42 (dk_at dksX2_nextToken_9 21 rfl rfl)
theorem dX2_nextToken_234 : decode cX2_nextToken 234 = .ok (.getfield 96, 3) := dk_180 0 96 (dk_at dksX2_nextToken_10 0 rfl rfl)
theorem dX2_nextToken_237 : decode cX2_nextToken 237 = .ok (.isub, 1) := dk_100 (dk_at dksX2_nextToken_10 3 rfl rfl)
theorem dX2_nextToken_238 : decode cX2_nextToken 238 = .ok (.iconst 3, 1) := dk_6 (dk_at dksX2_nextToken_10 4 rfl rfl)
theorem dX2_nextToken_239 : decode cX2_nextToken 239 = .ok (.if_icmp .le 7, 3) := dk_164 0 7 (dk_at dksX2_nextToken_10 5 rfl rfl)
theorem dX2_nextToken_242 : decode cX2_nextToken 242 = .ok (.iconst 0, 1) := dk_3 (dk_at dksX2_nextToken_10 8 rfl rfl)
theorem dX2_nextToken_243 : decode cX2_nextToken 243 = .ok (.goto 4, 3) := dk_167 0 4 (dk_at dksX2_nextToken_10 9 rfl rfl)
theorem dX2_nextToken_246 : decode cX2_nextToken 246 = .ok (.iconst 2, 1) := dk_5 (dk_at dksX2_nextToken_10 12 rfl rfl)
theorem dX2_nextToken_247 : decode cX2_nextToken 247 = .ok (.putfield 99, 3) := dk_181 0 99 (dk_at dksX2_nextToken_10 13 rfl rfl)
theorem dX2_nextToken_250 : decode cX2_nextToken 250 = .ok (.goto 28, 3) := dk_167 0 28 (dk_at dksX2_nextToken_10 16 rfl rfl)
theorem dX2_nextToken_253 : decode cX2_nextToken 253 = .ok (.aload_n 0, 1) := dk_42 (dk_at dksX2_nextToken_10 19 rfl rfl)
theorem dX2_nextToken_254 : decode cX2_nextToken 254 = .ok (.dup, 1) := dk_89 (dk_at dksX2_nextToken_10 20 rfl rfl)
theorem dX2_nextToken_255 : decode cX2_nextToken 255 = .ok (.getfield 89, 3) := dk_180 0 89 (dk_at dksX2_nextToken_10 21 rfl rfl)
theorem dX2_nextToken_258 : decode cX2_nextToken 258 = .ok (.iconst 1, 1) := dk_4 (dk_at dksX2_nextToken_11 0 rfl rfl)
theorem dX2_nextToken_259 : decode cX2_nextToken 259 = .ok (.iadd, 1) := dk_96 (dk_at dksX2_nextToken_11 1 rfl rfl)
theorem dX2_nextToken_260 : decode cX2_nextToken 260 = .ok (.putfield 89, 3) := dk_181 0 89 (dk_at dksX2_nextToken_11 2 rfl rfl)
theorem dX2_nextToken_263 : decode cX2_nextToken 263 = .ok (.aload_n 0, 1) := dk_42 (dk_at dksX2_nextToken_11 5 rfl rfl)
theorem dX2_nextToken_264 : decode cX2_nextToken 264 = .ok (.iload_n 1, 1) := dk_27 (dk_at dksX2_nextToken_11 6 rfl rfl)
theorem dX2_nextToken_265 : decode cX2_nextToken 265 = .ok (.bipush 59, 2) := dk_16 59 (dk_at dksX2_nextToken_11 7 rfl rfl)
theorem dX2_nextToken_267 : decode cX2_nextToken 267 = .ok (.if_icmp .ne 7, 3) := dk_160 0 7 (dk_at dksX2_nextToken_11 9 rfl rfl)
theorem dX2_nextToken_270 : decode cX2_nextToken 270 = .ok (.iconst 3, 1) := dk_6 (dk_at dksX2_nextToken_11 12 rfl rfl)
theorem dX2_nextToken_271 : decode cX2_nextToken 271 = .ok (.goto 4, 3) := dk_167 0 4 (dk_at dksX2_nextToken_11 13 rfl rfl)
theorem dX2_nextToken_274 : decode cX2_nextToken 274 = .ok (.iconst 0, 1) := dk_3 (dk_at dksX2_nextToken_11 16 rfl rfl)
theorem dX2_nextToken_275 : decode cX2_nextToken 275 = .ok (.putfield 99, 3) := dk_181 0 99 (dk_at dksX2_nextToken_11 17 rfl rfl)
theorem dX2_nextToken_278 : decode cX2_nextToken 278 = .ok (.return_, 1) := dk_177 (dk_at dksX2_nextToken_11 20 rfl rfl)
abbrev cX2_byteAt : ByteArray := prog_16_method_10_code
def yX2_byteAt : MethodName := ⟨RX2, "byteAt", "(I)I"⟩
def dkwX2_byteAt_0 : List UInt8 := [27, 42, 180, 0, 86, 162, 0, 12, 42, 180, 0, 9, 27, 51, 167, 0, 4, 2, 172]
abbrev dktX2_byteAt_0 : List UInt8 := dkwX2_byteAt_0 ++ []
theorem dksX2_byteAt_0 : cX2_byteAt.data.toList.drop 0 = dktX2_byteAt_0 := by decide +kernel
theorem dX2_byteAt_0 : decode cX2_byteAt 0 = .ok (.iload_n 1, 1) := dk_27 (dk_at dksX2_byteAt_0 0 rfl rfl)
theorem dX2_byteAt_1 : decode cX2_byteAt 1 = .ok (.aload_n 0, 1) := dk_42 (dk_at dksX2_byteAt_0 1 rfl rfl)
theorem dX2_byteAt_2 : decode cX2_byteAt 2 = .ok (.getfield 86, 3) := dk_180 0 86 (dk_at dksX2_byteAt_0 2 rfl rfl)
theorem dX2_byteAt_5 : decode cX2_byteAt 5 = .ok (.if_icmp .ge 12, 3) := dk_162 0 12 (dk_at dksX2_byteAt_0 5 rfl rfl)
theorem dX2_byteAt_8 : decode cX2_byteAt 8 = .ok (.aload_n 0, 1) := dk_42 (dk_at dksX2_byteAt_0 8 rfl rfl)
theorem dX2_byteAt_9 : decode cX2_byteAt 9 = .ok (.getfield 9, 3) := dk_180 0 9 (dk_at dksX2_byteAt_0 9 rfl rfl)
theorem dX2_byteAt_12 : decode cX2_byteAt 12 = .ok (.iload_n 1, 1) := dk_27 (dk_at dksX2_byteAt_0 12 rfl rfl)
theorem dX2_byteAt_13 : decode cX2_byteAt 13 = .ok (.baload, 1) := dk_51 (dk_at dksX2_byteAt_0 13 rfl rfl)
theorem dX2_byteAt_14 : decode cX2_byteAt 14 = .ok (.goto 4, 3) := dk_167 0 4 (dk_at dksX2_byteAt_0 14 rfl rfl)
theorem dX2_byteAt_17 : decode cX2_byteAt 17 = .ok (.iconst (-1), 1) := dk_2 (dk_at dksX2_byteAt_0 17 rfl rfl)
theorem dX2_byteAt_18 : decode cX2_byteAt 18 = .ok (.ireturn, 1) := dk_172 (dk_at dksX2_byteAt_0 18 rfl rfl)
abbrev cX2_isWord : ByteArray := prog_16_method_12_code
def yX2_isWord : MethodName := ⟨RX2, "isWord", "(Ljava/lang/String;)Z"⟩
def dkwX2_isWord_2 : List UInt8 := [180, 0, 96, 28, 96, 51, 43, 28, 182, 0, 115, 159, 0, 5, 3, 172, 132, 2, 1, 167, 255, 224, 4, 172]
abbrev dktX2_isWord_2 : List UInt8 := dkwX2_isWord_2 ++ []
def dkwX2_isWord_1 : List UInt8 := [43, 182, 0, 109, 159, 0, 5, 3, 172, 3, 61, 28, 43, 182, 0, 109, 162, 0, 30, 42, 180, 0, 9, 42]
abbrev dktX2_isWord_1 : List UInt8 := dkwX2_isWord_1 ++ dktX2_isWord_2
def dkwX2_isWord_0 : List UInt8 := [42, 180, 0, 83, 157, 0, 27, 42, 180, 0, 99, 4, 160, 0, 19, 42, 180, 0, 89, 42, 180, 0, 96, 100]
abbrev dktX2_isWord_0 : List UInt8 := dkwX2_isWord_0 ++ dktX2_isWord_1
theorem dksX2_isWord_0 : cX2_isWord.data.toList.drop 0 = dktX2_isWord_0 := by decide +kernel
theorem dksX2_isWord_1 : cX2_isWord.data.toList.drop 24 = dktX2_isWord_1 := dk_seg dksX2_isWord_0 24 rfl rfl
theorem dksX2_isWord_2 : cX2_isWord.data.toList.drop 48 = dktX2_isWord_2 := dk_seg dksX2_isWord_1 24 rfl rfl
theorem dX2_isWord_0 : decode cX2_isWord 0 = .ok (.aload_n 0, 1) := dk_42 (dk_at dksX2_isWord_0 0 rfl rfl)
theorem dX2_isWord_1 : decode cX2_isWord 1 = .ok (.getfield 83, 3) := dk_180 0 83 (dk_at dksX2_isWord_0 1 rfl rfl)
theorem dX2_isWord_4 : decode cX2_isWord 4 = .ok (.ifCond .gt 27, 3) := dk_157 0 27 (dk_at dksX2_isWord_0 4 rfl rfl)
theorem dX2_isWord_7 : decode cX2_isWord 7 = .ok (.aload_n 0, 1) := dk_42 (dk_at dksX2_isWord_0 7 rfl rfl)
theorem dX2_isWord_8 : decode cX2_isWord 8 = .ok (.getfield 99, 3) := dk_180 0 99 (dk_at dksX2_isWord_0 8 rfl rfl)
theorem dX2_isWord_11 : decode cX2_isWord 11 = .ok (.iconst 1, 1) := dk_4 (dk_at dksX2_isWord_0 11 rfl rfl)
theorem dX2_isWord_12 : decode cX2_isWord 12 = .ok (.if_icmp .ne 19, 3) := dk_160 0 19 (dk_at dksX2_isWord_0 12 rfl rfl)
theorem dX2_isWord_15 : decode cX2_isWord 15 = .ok (.aload_n 0, 1) := dk_42 (dk_at dksX2_isWord_0 15 rfl rfl)
theorem dX2_isWord_16 : decode cX2_isWord 16 = .ok (.getfield 89, 3) := dk_180 0 89 (dk_at dksX2_isWord_0 16 rfl rfl)
theorem dX2_isWord_19 : decode cX2_isWord 19 = .ok (.aload_n 0, 1) := dk_42 (dk_at dksX2_isWord_0 19 rfl rfl)
theorem dX2_isWord_20 : decode cX2_isWord 20 = .ok (.getfield 96, 3) := dk_180 0 96 (dk_at dksX2_isWord_0 20 rfl rfl)
theorem dX2_isWord_23 : decode cX2_isWord 23 = .ok (.isub, 1) := dk_100 (dk_at dksX2_isWord_0 23 rfl rfl)
theorem dX2_isWord_24 : decode cX2_isWord 24 = .ok (.aload_n 1, 1) := dk_43 (dk_at dksX2_isWord_1 0 rfl rfl)
theorem dX2_isWord_25 : decode cX2_isWord 25 = .ok (.invokevirtual 109, 3) := dk_182 0 109 (dk_at dksX2_isWord_1 1 rfl rfl)
theorem dX2_isWord_28 : decode cX2_isWord 28 = .ok (.if_icmp .eq 5, 3) := dk_159 0 5 (dk_at dksX2_isWord_1 4 rfl rfl)
theorem dX2_isWord_31 : decode cX2_isWord 31 = .ok (.iconst 0, 1) := dk_3 (dk_at dksX2_isWord_1 7 rfl rfl)
theorem dX2_isWord_32 : decode cX2_isWord 32 = .ok (.ireturn, 1) := dk_172 (dk_at dksX2_isWord_1 8 rfl rfl)
theorem dX2_isWord_33 : decode cX2_isWord 33 = .ok (.iconst 0, 1) := dk_3 (dk_at dksX2_isWord_1 9 rfl rfl)
theorem dX2_isWord_34 : decode cX2_isWord 34 = .ok (.istore_n 2, 1) := dk_61 (dk_at dksX2_isWord_1 10 rfl rfl)
theorem dX2_isWord_35 : decode cX2_isWord 35 = .ok (.iload_n 2, 1) := dk_28 (dk_at dksX2_isWord_1 11 rfl rfl)
theorem dX2_isWord_36 : decode cX2_isWord 36 = .ok (.aload_n 1, 1) := dk_43 (dk_at dksX2_isWord_1 12 rfl rfl)
theorem dX2_isWord_37 : decode cX2_isWord 37 = .ok (.invokevirtual 109, 3) := dk_182 0 109 (dk_at dksX2_isWord_1 13 rfl rfl)
theorem dX2_isWord_40 : decode cX2_isWord 40 = .ok (.if_icmp .ge 30, 3) := dk_162 0 30 (dk_at dksX2_isWord_1 16 rfl rfl)
theorem dX2_isWord_43 : decode cX2_isWord 43 = .ok (.aload_n 0, 1) := dk_42 (dk_at dksX2_isWord_1 19 rfl rfl)
theorem dX2_isWord_44 : decode cX2_isWord 44 = .ok (.getfield 9, 3) := dk_180 0 9 (dk_at dksX2_isWord_1 20 rfl rfl)
theorem dX2_isWord_47 : decode cX2_isWord 47 = .ok (.aload_n 0, 1) := dk_42 (dk_at dksX2_isWord_1 23 rfl rfl)
theorem dX2_isWord_48 : decode cX2_isWord 48 = .ok (.getfield 96, 3) := dk_180 0 96 (dk_at dksX2_isWord_2 0 rfl rfl)
theorem dX2_isWord_51 : decode cX2_isWord 51 = .ok (.iload_n 2, 1) := dk_28 (dk_at dksX2_isWord_2 3 rfl rfl)
theorem dX2_isWord_52 : decode cX2_isWord 52 = .ok (.iadd, 1) := dk_96 (dk_at dksX2_isWord_2 4 rfl rfl)
theorem dX2_isWord_53 : decode cX2_isWord 53 = .ok (.baload, 1) := dk_51 (dk_at dksX2_isWord_2 5 rfl rfl)
theorem dX2_isWord_54 : decode cX2_isWord 54 = .ok (.aload_n 1, 1) := dk_43 (dk_at dksX2_isWord_2 6 rfl rfl)
theorem dX2_isWord_55 : decode cX2_isWord 55 = .ok (.iload_n 2, 1) := dk_28 (dk_at dksX2_isWord_2 7 rfl rfl)
theorem dX2_isWord_56 : decode cX2_isWord 56 = .ok (.invokevirtual 115, 3) := dk_182 0 115 (dk_at dksX2_isWord_2 8 rfl rfl)
theorem dX2_isWord_59 : decode cX2_isWord 59 = .ok (.if_icmp .eq 5, 3) := dk_159 0 5 (dk_at dksX2_isWord_2 11 rfl rfl)
theorem dX2_isWord_62 : decode cX2_isWord 62 = .ok (.iconst 0, 1) := dk_3 (dk_at dksX2_isWord_2 14 rfl rfl)
theorem dX2_isWord_63 : decode cX2_isWord 63 = .ok (.ireturn, 1) := dk_172 (dk_at dksX2_isWord_2 15 rfl rfl)
theorem dX2_isWord_64 : decode cX2_isWord 64 = .ok (.iinc 2 1, 3) := dk_132 2 1 (dk_at dksX2_isWord_2 16 rfl rfl)
theorem dX2_isWord_67 : decode cX2_isWord 67 = .ok (.goto (-32), 3) := dk_167 255 224 (dk_at dksX2_isWord_2 19 rfl rfl)
theorem dX2_isWord_70 : decode cX2_isWord 70 = .ok (.iconst 1, 1) := dk_4 (dk_at dksX2_isWord_2 22 rfl rfl)
theorem dX2_isWord_71 : decode cX2_isWord 71 = .ok (.ireturn, 1) := dk_172 (dk_at dksX2_isWord_2 23 rfl rfl)
abbrev cX2_faults : ByteArray := prog_16_method_13_code
def yX2_faults : MethodName := ⟨RX2, "faults", "(I)V"⟩
def dkwX2_faults_0 : List UInt8 := [42, 180, 0, 83, 158, 0, 4, 177, 42, 27, 181, 0, 83, 42, 42, 180, 0, 96, 181, 0, 13, 177]
abbrev dktX2_faults_0 : List UInt8 := dkwX2_faults_0 ++ []
theorem dksX2_faults_0 : cX2_faults.data.toList.drop 0 = dktX2_faults_0 := by decide +kernel
theorem dX2_faults_0 : decode cX2_faults 0 = .ok (.aload_n 0, 1) := dk_42 (dk_at dksX2_faults_0 0 rfl rfl)
theorem dX2_faults_1 : decode cX2_faults 1 = .ok (.getfield 83, 3) := dk_180 0 83 (dk_at dksX2_faults_0 1 rfl rfl)
theorem dX2_faults_4 : decode cX2_faults 4 = .ok (.ifCond .le 4, 3) := dk_158 0 4 (dk_at dksX2_faults_0 4 rfl rfl)
theorem dX2_faults_7 : decode cX2_faults 7 = .ok (.return_, 1) := dk_177 (dk_at dksX2_faults_0 7 rfl rfl)
theorem dX2_faults_8 : decode cX2_faults 8 = .ok (.aload_n 0, 1) := dk_42 (dk_at dksX2_faults_0 8 rfl rfl)
theorem dX2_faults_9 : decode cX2_faults 9 = .ok (.iload_n 1, 1) := dk_27 (dk_at dksX2_faults_0 9 rfl rfl)
theorem dX2_faults_10 : decode cX2_faults 10 = .ok (.putfield 83, 3) := dk_181 0 83 (dk_at dksX2_faults_0 10 rfl rfl)
theorem dX2_faults_13 : decode cX2_faults 13 = .ok (.aload_n 0, 1) := dk_42 (dk_at dksX2_faults_0 13 rfl rfl)
theorem dX2_faults_14 : decode cX2_faults 14 = .ok (.aload_n 0, 1) := dk_42 (dk_at dksX2_faults_0 14 rfl rfl)
theorem dX2_faults_15 : decode cX2_faults 15 = .ok (.getfield 96, 3) := dk_180 0 96 (dk_at dksX2_faults_0 15 rfl rfl)
theorem dX2_faults_18 : decode cX2_faults 18 = .ok (.putfield 13, 3) := dk_181 0 13 (dk_at dksX2_faults_0 18 rfl rfl)
theorem dX2_faults_21 : decode cX2_faults 21 = .ok (.return_, 1) := dk_177 (dk_at dksX2_faults_0 21 rfl rfl)
abbrev cX2_readName : ByteArray := prog_16_method_18_code
def yX2_readName : MethodName := ⟨RX2, "readName", "()V"⟩
def dkwX2_readName_6 : List UInt8 := [177]
abbrev dktX2_readName_6 : List UInt8 := dkwX2_readName_6 ++ []
def dkwX2_readName_5 : List UInt8 := [180, 0, 23, 17, 0, 166, 27, 96, 2, 79, 42, 180, 0, 23, 3, 92, 46, 4, 96, 79, 42, 182, 0, 122]
abbrev dktX2_readName_5 : List UInt8 := dkwX2_readName_5 ++ dktX2_readName_6
def dkwX2_readName_4 : List UInt8 := [51, 167, 0, 4, 3, 84, 132, 2, 1, 167, 255, 208, 42, 180, 0, 23, 17, 0, 146, 27, 96, 2, 79, 42]
abbrev dktX2_readName_4 : List UInt8 := dkwX2_readName_4 ++ dktX2_readName_5
def dkwX2_readName_3 : List UInt8 := [96, 42, 180, 0, 96, 28, 96, 42, 180, 0, 89, 162, 0, 17, 42, 180, 0, 9, 42, 180, 0, 96, 28, 96]
abbrev dktX2_readName_3 : List UInt8 := dkwX2_readName_3 ++ dktX2_readName_4
def dkwX2_readName_2 : List UInt8 := [42, 180, 0, 23, 3, 46, 60, 3, 61, 28, 16, 8, 162, 0, 48, 42, 180, 0, 17, 16, 8, 27, 104, 28]
abbrev dktX2_readName_2 : List UInt8 := dkwX2_readName_2 ++ dktX2_readName_3
def dkwX2_readName_1 : List UInt8 := [154, 0, 16, 42, 182, 0, 132, 2, 159, 0, 8, 42, 6, 182, 0, 119, 42, 180, 0, 83, 158, 0, 4, 177]
abbrev dktX2_readName_1 : List UInt8 := dkwX2_readName_1 ++ dktX2_readName_2
def dkwX2_readName_0 : List UInt8 := [42, 180, 0, 83, 154, 0, 16, 42, 180, 0, 99, 4, 159, 0, 8, 42, 4, 182, 0, 119, 42, 180, 0, 83]
abbrev dktX2_readName_0 : List UInt8 := dkwX2_readName_0 ++ dktX2_readName_1
theorem dksX2_readName_0 : cX2_readName.data.toList.drop 0 = dktX2_readName_0 := by decide +kernel
theorem dksX2_readName_1 : cX2_readName.data.toList.drop 24 = dktX2_readName_1 := dk_seg dksX2_readName_0 24 rfl rfl
theorem dksX2_readName_2 : cX2_readName.data.toList.drop 48 = dktX2_readName_2 := dk_seg dksX2_readName_1 24 rfl rfl
theorem dksX2_readName_3 : cX2_readName.data.toList.drop 72 = dktX2_readName_3 := dk_seg dksX2_readName_2 24 rfl rfl
theorem dksX2_readName_4 : cX2_readName.data.toList.drop 96 = dktX2_readName_4 := dk_seg dksX2_readName_3 24 rfl rfl
theorem dksX2_readName_5 : cX2_readName.data.toList.drop 120 = dktX2_readName_5 := dk_seg dksX2_readName_4 24 rfl rfl
theorem dksX2_readName_6 : cX2_readName.data.toList.drop 144 = dktX2_readName_6 := dk_seg dksX2_readName_5 24 rfl rfl
theorem dX2_readName_0 : decode cX2_readName 0 = .ok (.aload_n 0, 1) := dk_42 (dk_at dksX2_readName_0 0 rfl rfl)
theorem dX2_readName_1 : decode cX2_readName 1 = .ok (.getfield 83, 3) := dk_180 0 83 (dk_at dksX2_readName_0 1 rfl rfl)
theorem dX2_readName_4 : decode cX2_readName 4 = .ok (.ifCond .ne 16, 3) := dk_154 0 16 (dk_at dksX2_readName_0 4 rfl rfl)
theorem dX2_readName_7 : decode cX2_readName 7 = .ok (.aload_n 0, 1) := dk_42 (dk_at dksX2_readName_0 7 rfl rfl)
theorem dX2_readName_8 : decode cX2_readName 8 = .ok (.getfield 99, 3) := dk_180 0 99 (dk_at dksX2_readName_0 8 rfl rfl)
theorem dX2_readName_11 : decode cX2_readName 11 = .ok (.iconst 1, 1) := dk_4 (dk_at dksX2_readName_0 11 rfl rfl)
theorem dX2_readName_12 : decode cX2_readName 12 = .ok (.if_icmp .eq 8, 3) := dk_159 0 8 (dk_at dksX2_readName_0 12 rfl rfl)
theorem dX2_readName_15 : decode cX2_readName 15 = .ok (.aload_n 0, 1) := dk_42 (dk_at dksX2_readName_0 15 rfl rfl)
theorem dX2_readName_16 : decode cX2_readName 16 = .ok (.iconst 1, 1) := dk_4 (dk_at dksX2_readName_0 16 rfl rfl)
theorem dX2_readName_17 : decode cX2_readName 17 = .ok (.invokevirtual 119, 3) := dk_182 0 119 (dk_at dksX2_readName_0 17 rfl rfl)
theorem dX2_readName_20 : decode cX2_readName 20 = .ok (.aload_n 0, 1) := dk_42 (dk_at dksX2_readName_0 20 rfl rfl)
theorem dX2_readName_21 : decode cX2_readName 21 = .ok (.getfield 83, 3) := dk_180 0 83 (dk_at dksX2_readName_0 21 rfl rfl)
theorem dX2_readName_24 : decode cX2_readName 24 = .ok (.ifCond .ne 16, 3) := dk_154 0 16 (dk_at dksX2_readName_1 0 rfl rfl)
theorem dX2_readName_27 : decode cX2_readName 27 = .ok (.aload_n 0, 1) := dk_42 (dk_at dksX2_readName_1 3 rfl rfl)
theorem dX2_readName_28 : decode cX2_readName 28 = .ok (.invokevirtual 132, 3) := dk_182 0 132 (dk_at dksX2_readName_1 4 rfl rfl)
theorem dX2_readName_31 : decode cX2_readName 31 = .ok (.iconst (-1), 1) := dk_2 (dk_at dksX2_readName_1 7 rfl rfl)
theorem dX2_readName_32 : decode cX2_readName 32 = .ok (.if_icmp .eq 8, 3) := dk_159 0 8 (dk_at dksX2_readName_1 8 rfl rfl)
theorem dX2_readName_35 : decode cX2_readName 35 = .ok (.aload_n 0, 1) := dk_42 (dk_at dksX2_readName_1 11 rfl rfl)
theorem dX2_readName_36 : decode cX2_readName 36 = .ok (.iconst 3, 1) := dk_6 (dk_at dksX2_readName_1 12 rfl rfl)
theorem dX2_readName_37 : decode cX2_readName 37 = .ok (.invokevirtual 119, 3) := dk_182 0 119 (dk_at dksX2_readName_1 13 rfl rfl)
theorem dX2_readName_40 : decode cX2_readName 40 = .ok (.aload_n 0, 1) := dk_42 (dk_at dksX2_readName_1 16 rfl rfl)
theorem dX2_readName_41 : decode cX2_readName 41 = .ok (.getfield 83, 3) := dk_180 0 83 (dk_at dksX2_readName_1 17 rfl rfl)
theorem dX2_readName_44 : decode cX2_readName 44 = .ok (.ifCond .le 4, 3) := dk_158 0 4 (dk_at dksX2_readName_1 20 rfl rfl)
theorem dX2_readName_47 : decode cX2_readName 47 = .ok (.return_, 1) := dk_177 (dk_at dksX2_readName_1 23 rfl rfl)
theorem dX2_readName_48 : decode cX2_readName 48 = .ok (.aload_n 0, 1) := dk_42 (dk_at dksX2_readName_2 0 rfl rfl)
theorem dX2_readName_49 : decode cX2_readName 49 = .ok (.getfield 23, 3) := dk_180 0 23 (dk_at dksX2_readName_2 1 rfl rfl)
theorem dX2_readName_52 : decode cX2_readName 52 = .ok (.iconst 0, 1) := dk_3 (dk_at dksX2_readName_2 4 rfl rfl)
theorem dX2_readName_53 : decode cX2_readName 53 = .ok (.iaload, 1) := dk_46 (dk_at dksX2_readName_2 5 rfl rfl)
theorem dX2_readName_54 : decode cX2_readName 54 = .ok (.istore_n 1, 1) := dk_60 (dk_at dksX2_readName_2 6 rfl rfl)
theorem dX2_readName_55 : decode cX2_readName 55 = .ok (.iconst 0, 1) := dk_3 (dk_at dksX2_readName_2 7 rfl rfl)
theorem dX2_readName_56 : decode cX2_readName 56 = .ok (.istore_n 2, 1) := dk_61 (dk_at dksX2_readName_2 8 rfl rfl)
theorem dX2_readName_57 : decode cX2_readName 57 = .ok (.iload_n 2, 1) := dk_28 (dk_at dksX2_readName_2 9 rfl rfl)
theorem dX2_readName_58 : decode cX2_readName 58 = .ok (.bipush 8, 2) := dk_16 8 (dk_at dksX2_readName_2 10 rfl rfl)
theorem dX2_readName_60 : decode cX2_readName 60 = .ok (.if_icmp .ge 48, 3) := dk_162 0 48 (dk_at dksX2_readName_2 12 rfl rfl)
theorem dX2_readName_63 : decode cX2_readName 63 = .ok (.aload_n 0, 1) := dk_42 (dk_at dksX2_readName_2 15 rfl rfl)
theorem dX2_readName_64 : decode cX2_readName 64 = .ok (.getfield 17, 3) := dk_180 0 17 (dk_at dksX2_readName_2 16 rfl rfl)
theorem dX2_readName_67 : decode cX2_readName 67 = .ok (.bipush 8, 2) := dk_16 8 (dk_at dksX2_readName_2 19 rfl rfl)
theorem dX2_readName_69 : decode cX2_readName 69 = .ok (.iload_n 1, 1) := dk_27 (dk_at dksX2_readName_2 21 rfl rfl)
theorem dX2_readName_70 : decode cX2_readName 70 = .ok (.imul, 1) := dk_104 (dk_at dksX2_readName_2 22 rfl rfl)
theorem dX2_readName_71 : decode cX2_readName 71 = .ok (.iload_n 2, 1) := dk_28 (dk_at dksX2_readName_2 23 rfl rfl)
theorem dX2_readName_72 : decode cX2_readName 72 = .ok (.iadd, 1) := dk_96 (dk_at dksX2_readName_3 0 rfl rfl)
theorem dX2_readName_73 : decode cX2_readName 73 = .ok (.aload_n 0, 1) := dk_42 (dk_at dksX2_readName_3 1 rfl rfl)
theorem dX2_readName_74 : decode cX2_readName 74 = .ok (.getfield 96, 3) := dk_180 0 96 (dk_at dksX2_readName_3 2 rfl rfl)
theorem dX2_readName_77 : decode cX2_readName 77 = .ok (.iload_n 2, 1) := dk_28 (dk_at dksX2_readName_3 5 rfl rfl)
theorem dX2_readName_78 : decode cX2_readName 78 = .ok (.iadd, 1) := dk_96 (dk_at dksX2_readName_3 6 rfl rfl)
theorem dX2_readName_79 : decode cX2_readName 79 = .ok (.aload_n 0, 1) := dk_42 (dk_at dksX2_readName_3 7 rfl rfl)
theorem dX2_readName_80 : decode cX2_readName 80 = .ok (.getfield 89, 3) := dk_180 0 89 (dk_at dksX2_readName_3 8 rfl rfl)
theorem dX2_readName_83 : decode cX2_readName 83 = .ok (.if_icmp .ge 17, 3) := dk_162 0 17 (dk_at dksX2_readName_3 11 rfl rfl)
theorem dX2_readName_86 : decode cX2_readName 86 = .ok (.aload_n 0, 1) := dk_42 (dk_at dksX2_readName_3 14 rfl rfl)
theorem dX2_readName_87 : decode cX2_readName 87 = .ok (.getfield 9, 3) := dk_180 0 9 (dk_at dksX2_readName_3 15 rfl rfl)
theorem dX2_readName_90 : decode cX2_readName 90 = .ok (.aload_n 0, 1) := dk_42 (dk_at dksX2_readName_3 18 rfl rfl)
theorem dX2_readName_91 : decode cX2_readName 91 = .ok (.getfield 96, 3) := dk_180 0 96 (dk_at dksX2_readName_3 19 rfl rfl)
theorem dX2_readName_94 : decode cX2_readName 94 = .ok (.iload_n 2, 1) := dk_28 (dk_at dksX2_readName_3 22 rfl rfl)
theorem dX2_readName_95 : decode cX2_readName 95 = .ok (.iadd, 1) := dk_96 (dk_at dksX2_readName_3 23 rfl rfl)
theorem dX2_readName_96 : decode cX2_readName 96 = .ok (.baload, 1) := dk_51 (dk_at dksX2_readName_4 0 rfl rfl)
theorem dX2_readName_97 : decode cX2_readName 97 = .ok (.goto 4, 3) := dk_167 0 4 (dk_at dksX2_readName_4 1 rfl rfl)
theorem dX2_readName_100 : decode cX2_readName 100 = .ok (.iconst 0, 1) := dk_3 (dk_at dksX2_readName_4 4 rfl rfl)
theorem dX2_readName_101 : decode cX2_readName 101 = .ok (.bastore, 1) := dk_84 (dk_at dksX2_readName_4 5 rfl rfl)
theorem dX2_readName_102 : decode cX2_readName 102 = .ok (.iinc 2 1, 3) := dk_132 2 1 (dk_at dksX2_readName_4 6 rfl rfl)
theorem dX2_readName_105 : decode cX2_readName 105 = .ok (.goto (-48), 3) := dk_167 255 208 (dk_at dksX2_readName_4 9 rfl rfl)
theorem dX2_readName_108 : decode cX2_readName 108 = .ok (.aload_n 0, 1) := dk_42 (dk_at dksX2_readName_4 12 rfl rfl)
theorem dX2_readName_109 : decode cX2_readName 109 = .ok (.getfield 23, 3) := dk_180 0 23 (dk_at dksX2_readName_4 13 rfl rfl)
theorem dX2_readName_112 : decode cX2_readName 112 = .ok (.sipush 146, 3) := dk_17 0 146 (dk_at dksX2_readName_4 16 rfl rfl)
theorem dX2_readName_115 : decode cX2_readName 115 = .ok (.iload_n 1, 1) := dk_27 (dk_at dksX2_readName_4 19 rfl rfl)
theorem dX2_readName_116 : decode cX2_readName 116 = .ok (.iadd, 1) := dk_96 (dk_at dksX2_readName_4 20 rfl rfl)
theorem dX2_readName_117 : decode cX2_readName 117 = .ok (.iconst (-1), 1) := dk_2 (dk_at dksX2_readName_4 21 rfl rfl)
theorem dX2_readName_118 : decode cX2_readName 118 = .ok (.iastore, 1) := dk_79 (dk_at dksX2_readName_4 22 rfl rfl)
theorem dX2_readName_119 : decode cX2_readName 119 = .ok (.aload_n 0, 1) := dk_42 (dk_at dksX2_readName_4 23 rfl rfl)
theorem dX2_readName_120 : decode cX2_readName 120 = .ok (.getfield 23, 3) := dk_180 0 23 (dk_at dksX2_readName_5 0 rfl rfl)
theorem dX2_readName_123 : decode cX2_readName 123 = .ok (.sipush 166, 3) := dk_17 0 166 (dk_at dksX2_readName_5 3 rfl rfl)
theorem dX2_readName_126 : decode cX2_readName 126 = .ok (.iload_n 1, 1) := dk_27 (dk_at dksX2_readName_5 6 rfl rfl)
theorem dX2_readName_127 : decode cX2_readName 127 = .ok (.iadd, 1) := dk_96 (dk_at dksX2_readName_5 7 rfl rfl)
theorem dX2_readName_128 : decode cX2_readName 128 = .ok (.iconst (-1), 1) := dk_2 (dk_at dksX2_readName_5 8 rfl rfl)
theorem dX2_readName_129 : decode cX2_readName 129 = .ok (.iastore, 1) := dk_79 (dk_at dksX2_readName_5 9 rfl rfl)
theorem dX2_readName_130 : decode cX2_readName 130 = .ok (.aload_n 0, 1) := dk_42 (dk_at dksX2_readName_5 10 rfl rfl)
theorem dX2_readName_131 : decode cX2_readName 131 = .ok (.getfield 23, 3) := dk_180 0 23 (dk_at dksX2_readName_5 11 rfl rfl)
theorem dX2_readName_134 : decode cX2_readName 134 = .ok (.iconst 0, 1) := dk_3 (dk_at dksX2_readName_5 14 rfl rfl)
theorem dX2_readName_135 : decode cX2_readName 135 = .ok (.dup2, 1) := dk_92 (dk_at dksX2_readName_5 15 rfl rfl)
theorem dX2_readName_136 : decode cX2_readName 136 = .ok (.iaload, 1) := dk_46 (dk_at dksX2_readName_5 16 rfl rfl)
theorem dX2_readName_137 : decode cX2_readName 137 = .ok (.iconst 1, 1) := dk_4 (dk_at dksX2_readName_5 17 rfl rfl)
theorem dX2_readName_138 : decode cX2_readName 138 = .ok (.iadd, 1) := dk_96 (dk_at dksX2_readName_5 18 rfl rfl)
theorem dX2_readName_139 : decode cX2_readName 139 = .ok (.iastore, 1) := dk_79 (dk_at dksX2_readName_5 19 rfl rfl)
theorem dX2_readName_140 : decode cX2_readName 140 = .ok (.aload_n 0, 1) := dk_42 (dk_at dksX2_readName_5 20 rfl rfl)
theorem dX2_readName_141 : decode cX2_readName 141 = .ok (.invokevirtual 122, 3) := dk_182 0 122 (dk_at dksX2_readName_5 21 rfl rfl)
theorem dX2_readName_144 : decode cX2_readName 144 = .ok (.return_, 1) := dk_177 (dk_at dksX2_readName_6 0 rfl rfl)
abbrev cX2_eventHere : ByteArray := prog_16_method_17_code
def yX2_eventHere : MethodName := ⟨RX2, "eventHere", "()I"⟩
def dkwX2_eventHere_1 : List UInt8 := [132, 1, 1, 167, 255, 233, 2, 172]
abbrev dktX2_eventHere_1 : List UInt8 := dkwX2_eventHere_1 ++ []
def dkwX2_eventHere_0 : List UInt8 := [3, 60, 27, 42, 180, 0, 23, 3, 46, 162, 0, 19, 42, 27, 182, 0, 128, 153, 0, 5, 27, 172]
abbrev dktX2_eventHere_0 : List UInt8 := dkwX2_eventHere_0 ++ dktX2_eventHere_1
theorem dksX2_eventHere_0 : cX2_eventHere.data.toList.drop 0 = dktX2_eventHere_0 := by decide +kernel
theorem dksX2_eventHere_1 : cX2_eventHere.data.toList.drop 22 = dktX2_eventHere_1 := dk_seg dksX2_eventHere_0 22 rfl rfl
theorem dX2_eventHere_0 : decode cX2_eventHere 0 = .ok (.iconst 0, 1) := dk_3 (dk_at dksX2_eventHere_0 0 rfl rfl)
theorem dX2_eventHere_1 : decode cX2_eventHere 1 = .ok (.istore_n 1, 1) := dk_60 (dk_at dksX2_eventHere_0 1 rfl rfl)
theorem dX2_eventHere_2 : decode cX2_eventHere 2 = .ok (.iload_n 1, 1) := dk_27 (dk_at dksX2_eventHere_0 2 rfl rfl)
theorem dX2_eventHere_3 : decode cX2_eventHere 3 = .ok (.aload_n 0, 1) := dk_42 (dk_at dksX2_eventHere_0 3 rfl rfl)
theorem dX2_eventHere_4 : decode cX2_eventHere 4 = .ok (.getfield 23, 3) := dk_180 0 23 (dk_at dksX2_eventHere_0 4 rfl rfl)
theorem dX2_eventHere_7 : decode cX2_eventHere 7 = .ok (.iconst 0, 1) := dk_3 (dk_at dksX2_eventHere_0 7 rfl rfl)
theorem dX2_eventHere_8 : decode cX2_eventHere 8 = .ok (.iaload, 1) := dk_46 (dk_at dksX2_eventHere_0 8 rfl rfl)
theorem dX2_eventHere_9 : decode cX2_eventHere 9 = .ok (.if_icmp .ge 19, 3) := dk_162 0 19 (dk_at dksX2_eventHere_0 9 rfl rfl)
theorem dX2_eventHere_12 : decode cX2_eventHere 12 = .ok (.aload_n 0, 1) := dk_42 (dk_at dksX2_eventHere_0 12 rfl rfl)
theorem dX2_eventHere_13 : decode cX2_eventHere 13 = .ok (.iload_n 1, 1) := dk_27 (dk_at dksX2_eventHere_0 13 rfl rfl)
theorem dX2_eventHere_14 : decode cX2_eventHere 14 = .ok (.invokevirtual 128, 3) := dk_182 0 128 (dk_at dksX2_eventHere_0 14 rfl rfl)
theorem dX2_eventHere_17 : decode cX2_eventHere 17 = .ok (.ifCond .eq 5, 3) := dk_153 0 5 (dk_at dksX2_eventHere_0 17 rfl rfl)
theorem dX2_eventHere_20 : decode cX2_eventHere 20 = .ok (.iload_n 1, 1) := dk_27 (dk_at dksX2_eventHere_0 20 rfl rfl)
theorem dX2_eventHere_21 : decode cX2_eventHere 21 = .ok (.ireturn, 1) := dk_172 (dk_at dksX2_eventHere_0 21 rfl rfl)
theorem dX2_eventHere_22 : decode cX2_eventHere 22 = .ok (.iinc 1 1, 3) := dk_132 1 1 (dk_at dksX2_eventHere_1 0 rfl rfl)
theorem dX2_eventHere_25 : decode cX2_eventHere 25 = .ok (.goto (-23), 3) := dk_167 255 233 (dk_at dksX2_eventHere_1 3 rfl rfl)
theorem dX2_eventHere_28 : decode cX2_eventHere 28 = .ok (.iconst (-1), 1) := dk_2 (dk_at dksX2_eventHere_1 6 rfl rfl)
theorem dX2_eventHere_29 : decode cX2_eventHere 29 = .ok (.ireturn, 1) := dk_172 (dk_at dksX2_eventHere_1 7 rfl rfl)
abbrev cX2_isNamed : ByteArray := prog_16_method_16_code
def yX2_isNamed : MethodName := ⟨RX2, "isNamed", "(I)Z"⟩
def dkwX2_isNamed_2 : List UInt8 := [42, 180, 0, 9, 28, 51, 159, 0, 5, 3, 172, 132, 2, 1, 167, 255, 218, 4, 172]
abbrev dktX2_isNamed_2 : List UInt8 := dkwX2_isNamed_2 ++ []
def dkwX2_isNamed_1 : List UInt8 := [28, 42, 180, 0, 89, 162, 0, 36, 42, 180, 0, 17, 16, 8, 27, 104, 28, 96, 42, 180, 0, 96, 100, 51]
abbrev dktX2_isNamed_1 : List UInt8 := dkwX2_isNamed_1 ++ dktX2_isNamed_2
def dkwX2_isNamed_0 : List UInt8 := [42, 27, 182, 0, 125, 42, 180, 0, 89, 42, 180, 0, 96, 100, 159, 0, 5, 3, 172, 42, 180, 0, 96, 61]
abbrev dktX2_isNamed_0 : List UInt8 := dkwX2_isNamed_0 ++ dktX2_isNamed_1
theorem dksX2_isNamed_0 : cX2_isNamed.data.toList.drop 0 = dktX2_isNamed_0 := by decide +kernel
theorem dksX2_isNamed_1 : cX2_isNamed.data.toList.drop 24 = dktX2_isNamed_1 := dk_seg dksX2_isNamed_0 24 rfl rfl
theorem dksX2_isNamed_2 : cX2_isNamed.data.toList.drop 48 = dktX2_isNamed_2 := dk_seg dksX2_isNamed_1 24 rfl rfl
theorem dX2_isNamed_0 : decode cX2_isNamed 0 = .ok (.aload_n 0, 1) := dk_42 (dk_at dksX2_isNamed_0 0 rfl rfl)
theorem dX2_isNamed_1 : decode cX2_isNamed 1 = .ok (.iload_n 1, 1) := dk_27 (dk_at dksX2_isNamed_0 1 rfl rfl)
theorem dX2_isNamed_2 : decode cX2_isNamed 2 = .ok (.invokevirtual 125, 3) := dk_182 0 125 (dk_at dksX2_isNamed_0 2 rfl rfl)
theorem dX2_isNamed_5 : decode cX2_isNamed 5 = .ok (.aload_n 0, 1) := dk_42 (dk_at dksX2_isNamed_0 5 rfl rfl)
theorem dX2_isNamed_6 : decode cX2_isNamed 6 = .ok (.getfield 89, 3) := dk_180 0 89 (dk_at dksX2_isNamed_0 6 rfl rfl)
theorem dX2_isNamed_9 : decode cX2_isNamed 9 = .ok (.aload_n 0, 1) := dk_42 (dk_at dksX2_isNamed_0 9 rfl rfl)
theorem dX2_isNamed_10 : decode cX2_isNamed 10 = .ok (.getfield 96, 3) := dk_180 0 96 (dk_at dksX2_isNamed_0 10 rfl rfl)
theorem dX2_isNamed_13 : decode cX2_isNamed 13 = .ok (.isub, 1) := dk_100 (dk_at dksX2_isNamed_0 13 rfl rfl)
theorem dX2_isNamed_14 : decode cX2_isNamed 14 = .ok (.if_icmp .eq 5, 3) := dk_159 0 5 (dk_at dksX2_isNamed_0 14 rfl rfl)
theorem dX2_isNamed_17 : decode cX2_isNamed 17 = .ok (.iconst 0, 1) := dk_3 (dk_at dksX2_isNamed_0 17 rfl rfl)
theorem dX2_isNamed_18 : decode cX2_isNamed 18 = .ok (.ireturn, 1) := dk_172 (dk_at dksX2_isNamed_0 18 rfl rfl)
theorem dX2_isNamed_19 : decode cX2_isNamed 19 = .ok (.aload_n 0, 1) := dk_42 (dk_at dksX2_isNamed_0 19 rfl rfl)
theorem dX2_isNamed_20 : decode cX2_isNamed 20 = .ok (.getfield 96, 3) := dk_180 0 96 (dk_at dksX2_isNamed_0 20 rfl rfl)
theorem dX2_isNamed_23 : decode cX2_isNamed 23 = .ok (.istore_n 2, 1) := dk_61 (dk_at dksX2_isNamed_0 23 rfl rfl)
theorem dX2_isNamed_24 : decode cX2_isNamed 24 = .ok (.iload_n 2, 1) := dk_28 (dk_at dksX2_isNamed_1 0 rfl rfl)
theorem dX2_isNamed_25 : decode cX2_isNamed 25 = .ok (.aload_n 0, 1) := dk_42 (dk_at dksX2_isNamed_1 1 rfl rfl)
theorem dX2_isNamed_26 : decode cX2_isNamed 26 = .ok (.getfield 89, 3) := dk_180 0 89 (dk_at dksX2_isNamed_1 2 rfl rfl)
theorem dX2_isNamed_29 : decode cX2_isNamed 29 = .ok (.if_icmp .ge 36, 3) := dk_162 0 36 (dk_at dksX2_isNamed_1 5 rfl rfl)
theorem dX2_isNamed_32 : decode cX2_isNamed 32 = .ok (.aload_n 0, 1) := dk_42 (dk_at dksX2_isNamed_1 8 rfl rfl)
theorem dX2_isNamed_33 : decode cX2_isNamed 33 = .ok (.getfield 17, 3) := dk_180 0 17 (dk_at dksX2_isNamed_1 9 rfl rfl)
theorem dX2_isNamed_36 : decode cX2_isNamed 36 = .ok (.bipush 8, 2) := dk_16 8 (dk_at dksX2_isNamed_1 12 rfl rfl)
theorem dX2_isNamed_38 : decode cX2_isNamed 38 = .ok (.iload_n 1, 1) := dk_27 (dk_at dksX2_isNamed_1 14 rfl rfl)
theorem dX2_isNamed_39 : decode cX2_isNamed 39 = .ok (.imul, 1) := dk_104 (dk_at dksX2_isNamed_1 15 rfl rfl)
theorem dX2_isNamed_40 : decode cX2_isNamed 40 = .ok (.iload_n 2, 1) := dk_28 (dk_at dksX2_isNamed_1 16 rfl rfl)
theorem dX2_isNamed_41 : decode cX2_isNamed 41 = .ok (.iadd, 1) := dk_96 (dk_at dksX2_isNamed_1 17 rfl rfl)
theorem dX2_isNamed_42 : decode cX2_isNamed 42 = .ok (.aload_n 0, 1) := dk_42 (dk_at dksX2_isNamed_1 18 rfl rfl)
theorem dX2_isNamed_43 : decode cX2_isNamed 43 = .ok (.getfield 96, 3) := dk_180 0 96 (dk_at dksX2_isNamed_1 19 rfl rfl)
theorem dX2_isNamed_46 : decode cX2_isNamed 46 = .ok (.isub, 1) := dk_100 (dk_at dksX2_isNamed_1 22 rfl rfl)
theorem dX2_isNamed_47 : decode cX2_isNamed 47 = .ok (.baload, 1) := dk_51 (dk_at dksX2_isNamed_1 23 rfl rfl)
theorem dX2_isNamed_48 : decode cX2_isNamed 48 = .ok (.aload_n 0, 1) := dk_42 (dk_at dksX2_isNamed_2 0 rfl rfl)
theorem dX2_isNamed_49 : decode cX2_isNamed 49 = .ok (.getfield 9, 3) := dk_180 0 9 (dk_at dksX2_isNamed_2 1 rfl rfl)
theorem dX2_isNamed_52 : decode cX2_isNamed 52 = .ok (.iload_n 2, 1) := dk_28 (dk_at dksX2_isNamed_2 4 rfl rfl)
theorem dX2_isNamed_53 : decode cX2_isNamed 53 = .ok (.baload, 1) := dk_51 (dk_at dksX2_isNamed_2 5 rfl rfl)
theorem dX2_isNamed_54 : decode cX2_isNamed 54 = .ok (.if_icmp .eq 5, 3) := dk_159 0 5 (dk_at dksX2_isNamed_2 6 rfl rfl)
theorem dX2_isNamed_57 : decode cX2_isNamed 57 = .ok (.iconst 0, 1) := dk_3 (dk_at dksX2_isNamed_2 9 rfl rfl)
theorem dX2_isNamed_58 : decode cX2_isNamed 58 = .ok (.ireturn, 1) := dk_172 (dk_at dksX2_isNamed_2 10 rfl rfl)
theorem dX2_isNamed_59 : decode cX2_isNamed 59 = .ok (.iinc 2 1, 3) := dk_132 2 1 (dk_at dksX2_isNamed_2 11 rfl rfl)
theorem dX2_isNamed_62 : decode cX2_isNamed 62 = .ok (.goto (-38), 3) := dk_167 255 218 (dk_at dksX2_isNamed_2 14 rfl rfl)
theorem dX2_isNamed_65 : decode cX2_isNamed 65 = .ok (.iconst 1, 1) := dk_4 (dk_at dksX2_isNamed_2 17 rfl rfl)
theorem dX2_isNamed_66 : decode cX2_isNamed 66 = .ok (.ireturn, 1) := dk_172 (dk_at dksX2_isNamed_2 18 rfl rfl)
abbrev cX2_lettersOf : ByteArray := prog_16_method_15_code
def yX2_lettersOf : MethodName := ⟨RX2, "lettersOf", "(I)I"⟩
def dkwX2_lettersOf_1 : List UInt8 := [132, 2, 1, 167, 255, 233, 28, 172]
abbrev dktX2_lettersOf_1 : List UInt8 := dkwX2_lettersOf_1 ++ []
def dkwX2_lettersOf_0 : List UInt8 := [3, 61, 28, 16, 8, 162, 0, 23, 42, 180, 0, 17, 16, 8, 27, 104, 28, 96, 51, 153, 0, 9]
abbrev dktX2_lettersOf_0 : List UInt8 := dkwX2_lettersOf_0 ++ dktX2_lettersOf_1
theorem dksX2_lettersOf_0 : cX2_lettersOf.data.toList.drop 0 = dktX2_lettersOf_0 := by decide +kernel
theorem dksX2_lettersOf_1 : cX2_lettersOf.data.toList.drop 22 = dktX2_lettersOf_1 := dk_seg dksX2_lettersOf_0 22 rfl rfl
theorem dX2_lettersOf_0 : decode cX2_lettersOf 0 = .ok (.iconst 0, 1) := dk_3 (dk_at dksX2_lettersOf_0 0 rfl rfl)
theorem dX2_lettersOf_1 : decode cX2_lettersOf 1 = .ok (.istore_n 2, 1) := dk_61 (dk_at dksX2_lettersOf_0 1 rfl rfl)
theorem dX2_lettersOf_2 : decode cX2_lettersOf 2 = .ok (.iload_n 2, 1) := dk_28 (dk_at dksX2_lettersOf_0 2 rfl rfl)
theorem dX2_lettersOf_3 : decode cX2_lettersOf 3 = .ok (.bipush 8, 2) := dk_16 8 (dk_at dksX2_lettersOf_0 3 rfl rfl)
theorem dX2_lettersOf_5 : decode cX2_lettersOf 5 = .ok (.if_icmp .ge 23, 3) := dk_162 0 23 (dk_at dksX2_lettersOf_0 5 rfl rfl)
theorem dX2_lettersOf_8 : decode cX2_lettersOf 8 = .ok (.aload_n 0, 1) := dk_42 (dk_at dksX2_lettersOf_0 8 rfl rfl)
theorem dX2_lettersOf_9 : decode cX2_lettersOf 9 = .ok (.getfield 17, 3) := dk_180 0 17 (dk_at dksX2_lettersOf_0 9 rfl rfl)
theorem dX2_lettersOf_12 : decode cX2_lettersOf 12 = .ok (.bipush 8, 2) := dk_16 8 (dk_at dksX2_lettersOf_0 12 rfl rfl)
theorem dX2_lettersOf_14 : decode cX2_lettersOf 14 = .ok (.iload_n 1, 1) := dk_27 (dk_at dksX2_lettersOf_0 14 rfl rfl)
theorem dX2_lettersOf_15 : decode cX2_lettersOf 15 = .ok (.imul, 1) := dk_104 (dk_at dksX2_lettersOf_0 15 rfl rfl)
theorem dX2_lettersOf_16 : decode cX2_lettersOf 16 = .ok (.iload_n 2, 1) := dk_28 (dk_at dksX2_lettersOf_0 16 rfl rfl)
theorem dX2_lettersOf_17 : decode cX2_lettersOf 17 = .ok (.iadd, 1) := dk_96 (dk_at dksX2_lettersOf_0 17 rfl rfl)
theorem dX2_lettersOf_18 : decode cX2_lettersOf 18 = .ok (.baload, 1) := dk_51 (dk_at dksX2_lettersOf_0 18 rfl rfl)
theorem dX2_lettersOf_19 : decode cX2_lettersOf 19 = .ok (.ifCond .eq 9, 3) := dk_153 0 9 (dk_at dksX2_lettersOf_0 19 rfl rfl)
theorem dX2_lettersOf_22 : decode cX2_lettersOf 22 = .ok (.iinc 2 1, 3) := dk_132 2 1 (dk_at dksX2_lettersOf_1 0 rfl rfl)
theorem dX2_lettersOf_25 : decode cX2_lettersOf 25 = .ok (.goto (-23), 3) := dk_167 255 233 (dk_at dksX2_lettersOf_1 3 rfl rfl)
theorem dX2_lettersOf_28 : decode cX2_lettersOf 28 = .ok (.iload_n 2, 1) := dk_28 (dk_at dksX2_lettersOf_1 6 rfl rfl)
theorem dX2_lettersOf_29 : decode cX2_lettersOf 29 = .ok (.ireturn, 1) := dk_172 (dk_at dksX2_lettersOf_1 7 rfl rfl)
abbrev cX2_readEvent : ByteArray := prog_16_method_20_code
def yX2_readEvent : MethodName := ⟨RX2, "readEvent", "()V"⟩
def dkwX2_readEvent_1 : List UInt8 := [177]
abbrev dktX2_readEvent_1 : List UInt8 := dkwX2_readEvent_1 ++ []
def dkwX2_readEvent_0 : List UInt8 := [42, 180, 0, 23, 3, 46, 16, 10, 160, 0, 8, 42, 7, 182, 0, 119, 42, 182, 0, 122, 42, 182, 0, 139]
abbrev dktX2_readEvent_0 : List UInt8 := dkwX2_readEvent_0 ++ dktX2_readEvent_1
theorem dksX2_readEvent_0 : cX2_readEvent.data.toList.drop 0 = dktX2_readEvent_0 := by decide +kernel
theorem dksX2_readEvent_1 : cX2_readEvent.data.toList.drop 24 = dktX2_readEvent_1 := dk_seg dksX2_readEvent_0 24 rfl rfl
theorem dX2_readEvent_0 : decode cX2_readEvent 0 = .ok (.aload_n 0, 1) := dk_42 (dk_at dksX2_readEvent_0 0 rfl rfl)
theorem dX2_readEvent_1 : decode cX2_readEvent 1 = .ok (.getfield 23, 3) := dk_180 0 23 (dk_at dksX2_readEvent_0 1 rfl rfl)
theorem dX2_readEvent_4 : decode cX2_readEvent 4 = .ok (.iconst 0, 1) := dk_3 (dk_at dksX2_readEvent_0 4 rfl rfl)
theorem dX2_readEvent_5 : decode cX2_readEvent 5 = .ok (.iaload, 1) := dk_46 (dk_at dksX2_readEvent_0 5 rfl rfl)
theorem dX2_readEvent_6 : decode cX2_readEvent 6 = .ok (.bipush 10, 2) := dk_16 10 (dk_at dksX2_readEvent_0 6 rfl rfl)
theorem dX2_readEvent_8 : decode cX2_readEvent 8 = .ok (.if_icmp .ne 8, 3) := dk_160 0 8 (dk_at dksX2_readEvent_0 8 rfl rfl)
theorem dX2_readEvent_11 : decode cX2_readEvent 11 = .ok (.aload_n 0, 1) := dk_42 (dk_at dksX2_readEvent_0 11 rfl rfl)
theorem dX2_readEvent_12 : decode cX2_readEvent 12 = .ok (.iconst 4, 1) := dk_7 (dk_at dksX2_readEvent_0 12 rfl rfl)
theorem dX2_readEvent_13 : decode cX2_readEvent 13 = .ok (.invokevirtual 119, 3) := dk_182 0 119 (dk_at dksX2_readEvent_0 13 rfl rfl)
theorem dX2_readEvent_16 : decode cX2_readEvent 16 = .ok (.aload_n 0, 1) := dk_42 (dk_at dksX2_readEvent_0 16 rfl rfl)
theorem dX2_readEvent_17 : decode cX2_readEvent 17 = .ok (.invokevirtual 122, 3) := dk_182 0 122 (dk_at dksX2_readEvent_0 17 rfl rfl)
theorem dX2_readEvent_20 : decode cX2_readEvent 20 = .ok (.aload_n 0, 1) := dk_42 (dk_at dksX2_readEvent_0 20 rfl rfl)
theorem dX2_readEvent_21 : decode cX2_readEvent 21 = .ok (.invokevirtual 139, 3) := dk_182 0 139 (dk_at dksX2_readEvent_0 21 rfl rfl)
theorem dX2_readEvent_24 : decode cX2_readEvent 24 = .ok (.return_, 1) := dk_177 (dk_at dksX2_readEvent_1 0 rfl rfl)
abbrev cX2_readWindow : ByteArray := prog_16_method_21_code
def yX2_readWindow : MethodName := ⟨RX2, "readWindow", "()V"⟩
def dkwX2_readWindow_6 : List UInt8 := [27, 28, 29, 21, 4, 21, 5, 182, 0, 158, 87, 177]
abbrev dktX2_readWindow_6 : List UInt8 := dkwX2_readWindow_6 ++ []
def dkwX2_readWindow_5 : List UInt8 := [181, 0, 155, 42, 182, 0, 122, 42, 4, 16, 99, 182, 0, 145, 54, 5, 42, 180, 0, 83, 154, 0, 15, 42]
abbrev dktX2_readWindow_5 : List UInt8 := dkwX2_readWindow_5 ++ dktX2_readWindow_6
def dkwX2_readWindow_4 : List UInt8 := [153, 0, 40, 42, 180, 0, 155, 16, 10, 160, 0, 8, 42, 7, 182, 0, 119, 42, 89, 180, 0, 155, 4, 96]
abbrev dktX2_readWindow_4 : List UInt8 := dkwX2_readWindow_4 ++ dktX2_readWindow_5
def dkwX2_readWindow_3 : List UInt8 := [160, 0, 13, 42, 29, 17, 3, 231, 182, 0, 145, 54, 4, 3, 54, 5, 42, 18, 149, 182, 0, 151]
abbrev dktX2_readWindow_3 : List UInt8 := dkwX2_readWindow_3 ++ dktX2_readWindow_4
def dkwX2_readWindow_2 : List UInt8 := [3, 17, 3, 231, 182, 0, 145, 62, 2, 54, 4, 42, 180, 0, 83, 154, 0, 21, 42, 180, 0, 99, 5]
abbrev dktX2_readWindow_2 : List UInt8 := dkwX2_readWindow_2 ++ dktX2_readWindow_3
def dkwX2_readWindow_1 : List UInt8 := [182, 0, 142, 60, 42, 42, 180, 0, 83, 154, 0, 9, 4, 27, 120, 167, 0, 4, 3, 182, 0, 142, 61, 42]
abbrev dktX2_readWindow_1 : List UInt8 := dkwX2_readWindow_1 ++ dktX2_readWindow_2
def dkwX2_readWindow_0 : List UInt8 := [42, 180, 0, 23, 4, 46, 16, 20, 160, 0, 8, 42, 7, 182, 0, 119, 42, 182, 0, 122, 42, 3]
abbrev dktX2_readWindow_0 : List UInt8 := dkwX2_readWindow_0 ++ dktX2_readWindow_1
theorem dksX2_readWindow_0 : cX2_readWindow.data.toList.drop 0 = dktX2_readWindow_0 := by decide +kernel
theorem dksX2_readWindow_1 : cX2_readWindow.data.toList.drop 22 = dktX2_readWindow_1 := dk_seg dksX2_readWindow_0 22 rfl rfl
theorem dksX2_readWindow_2 : cX2_readWindow.data.toList.drop 46 = dktX2_readWindow_2 := dk_seg dksX2_readWindow_1 24 rfl rfl
theorem dksX2_readWindow_3 : cX2_readWindow.data.toList.drop 69 = dktX2_readWindow_3 := dk_seg dksX2_readWindow_2 23 rfl rfl
theorem dksX2_readWindow_4 : cX2_readWindow.data.toList.drop 91 = dktX2_readWindow_4 := dk_seg dksX2_readWindow_3 22 rfl rfl
theorem dksX2_readWindow_5 : cX2_readWindow.data.toList.drop 115 = dktX2_readWindow_5 := dk_seg dksX2_readWindow_4 24 rfl rfl
theorem dksX2_readWindow_6 : cX2_readWindow.data.toList.drop 139 = dktX2_readWindow_6 := dk_seg dksX2_readWindow_5 24 rfl rfl
theorem dX2_readWindow_0 : decode cX2_readWindow 0 = .ok (.aload_n 0, 1) := dk_42 (dk_at dksX2_readWindow_0 0 rfl rfl)
theorem dX2_readWindow_1 : decode cX2_readWindow 1 = .ok (.getfield 23, 3) := dk_180 0 23 (dk_at dksX2_readWindow_0 1 rfl rfl)
theorem dX2_readWindow_4 : decode cX2_readWindow 4 = .ok (.iconst 1, 1) := dk_4 (dk_at dksX2_readWindow_0 4 rfl rfl)
theorem dX2_readWindow_5 : decode cX2_readWindow 5 = .ok (.iaload, 1) := dk_46 (dk_at dksX2_readWindow_0 5 rfl rfl)
theorem dX2_readWindow_6 : decode cX2_readWindow 6 = .ok (.bipush 20, 2) := dk_16 20 (dk_at dksX2_readWindow_0 6 rfl rfl)
theorem dX2_readWindow_8 : decode cX2_readWindow 8 = .ok (.if_icmp .ne 8, 3) := dk_160 0 8 (dk_at dksX2_readWindow_0 8 rfl rfl)
theorem dX2_readWindow_11 : decode cX2_readWindow 11 = .ok (.aload_n 0, 1) := dk_42 (dk_at dksX2_readWindow_0 11 rfl rfl)
theorem dX2_readWindow_12 : decode cX2_readWindow 12 = .ok (.iconst 4, 1) := dk_7 (dk_at dksX2_readWindow_0 12 rfl rfl)
theorem dX2_readWindow_13 : decode cX2_readWindow 13 = .ok (.invokevirtual 119, 3) := dk_182 0 119 (dk_at dksX2_readWindow_0 13 rfl rfl)
theorem dX2_readWindow_16 : decode cX2_readWindow 16 = .ok (.aload_n 0, 1) := dk_42 (dk_at dksX2_readWindow_0 16 rfl rfl)
theorem dX2_readWindow_17 : decode cX2_readWindow 17 = .ok (.invokevirtual 122, 3) := dk_182 0 122 (dk_at dksX2_readWindow_0 17 rfl rfl)
theorem dX2_readWindow_20 : decode cX2_readWindow 20 = .ok (.aload_n 0, 1) := dk_42 (dk_at dksX2_readWindow_0 20 rfl rfl)
theorem dX2_readWindow_21 : decode cX2_readWindow 21 = .ok (.iconst 0, 1) := dk_3 (dk_at dksX2_readWindow_0 21 rfl rfl)
theorem dX2_readWindow_22 : decode cX2_readWindow 22 = .ok (.invokevirtual 142, 3) := dk_182 0 142 (dk_at dksX2_readWindow_1 0 rfl rfl)
theorem dX2_readWindow_25 : decode cX2_readWindow 25 = .ok (.istore_n 1, 1) := dk_60 (dk_at dksX2_readWindow_1 3 rfl rfl)
theorem dX2_readWindow_26 : decode cX2_readWindow 26 = .ok (.aload_n 0, 1) := dk_42 (dk_at dksX2_readWindow_1 4 rfl rfl)
theorem dX2_readWindow_27 : decode cX2_readWindow 27 = .ok (.aload_n 0, 1) := dk_42 (dk_at dksX2_readWindow_1 5 rfl rfl)
theorem dX2_readWindow_28 : decode cX2_readWindow 28 = .ok (.getfield 83, 3) := dk_180 0 83 (dk_at dksX2_readWindow_1 6 rfl rfl)
theorem dX2_readWindow_31 : decode cX2_readWindow 31 = .ok (.ifCond .ne 9, 3) := dk_154 0 9 (dk_at dksX2_readWindow_1 9 rfl rfl)
theorem dX2_readWindow_34 : decode cX2_readWindow 34 = .ok (.iconst 1, 1) := dk_4 (dk_at dksX2_readWindow_1 12 rfl rfl)
theorem dX2_readWindow_35 : decode cX2_readWindow 35 = .ok (.iload_n 1, 1) := dk_27 (dk_at dksX2_readWindow_1 13 rfl rfl)
theorem dX2_readWindow_36 : decode cX2_readWindow 36 = .ok (.ishl, 1) := dk_120 (dk_at dksX2_readWindow_1 14 rfl rfl)
theorem dX2_readWindow_37 : decode cX2_readWindow 37 = .ok (.goto 4, 3) := dk_167 0 4 (dk_at dksX2_readWindow_1 15 rfl rfl)
theorem dX2_readWindow_40 : decode cX2_readWindow 40 = .ok (.iconst 0, 1) := dk_3 (dk_at dksX2_readWindow_1 18 rfl rfl)
theorem dX2_readWindow_41 : decode cX2_readWindow 41 = .ok (.invokevirtual 142, 3) := dk_182 0 142 (dk_at dksX2_readWindow_1 19 rfl rfl)
theorem dX2_readWindow_44 : decode cX2_readWindow 44 = .ok (.istore_n 2, 1) := dk_61 (dk_at dksX2_readWindow_1 22 rfl rfl)
theorem dX2_readWindow_45 : decode cX2_readWindow 45 = .ok (.aload_n 0, 1) := dk_42 (dk_at dksX2_readWindow_1 23 rfl rfl)
theorem dX2_readWindow_46 : decode cX2_readWindow 46 = .ok (.iconst 0, 1) := dk_3 (dk_at dksX2_readWindow_2 0 rfl rfl)
theorem dX2_readWindow_47 : decode cX2_readWindow 47 = .ok (.sipush 999, 3) := dk_17 3 231 (dk_at dksX2_readWindow_2 1 rfl rfl)
theorem dX2_readWindow_50 : decode cX2_readWindow 50 = .ok (.invokevirtual 145, 3) := dk_182 0 145 (dk_at dksX2_readWindow_2 4 rfl rfl)
theorem dX2_readWindow_53 : decode cX2_readWindow 53 = .ok (.istore_n 3, 1) := dk_62 (dk_at dksX2_readWindow_2 7 rfl rfl)
theorem dX2_readWindow_54 : decode cX2_readWindow 54 = .ok (.iconst (-1), 1) := dk_2 (dk_at dksX2_readWindow_2 8 rfl rfl)
theorem dX2_readWindow_55 : decode cX2_readWindow 55 = .ok (.istore 4, 2) := dk_54 4 (dk_at dksX2_readWindow_2 9 rfl rfl)
theorem dX2_readWindow_57 : decode cX2_readWindow 57 = .ok (.aload_n 0, 1) := dk_42 (dk_at dksX2_readWindow_2 11 rfl rfl)
theorem dX2_readWindow_58 : decode cX2_readWindow 58 = .ok (.getfield 83, 3) := dk_180 0 83 (dk_at dksX2_readWindow_2 12 rfl rfl)
theorem dX2_readWindow_61 : decode cX2_readWindow 61 = .ok (.ifCond .ne 21, 3) := dk_154 0 21 (dk_at dksX2_readWindow_2 15 rfl rfl)
theorem dX2_readWindow_64 : decode cX2_readWindow 64 = .ok (.aload_n 0, 1) := dk_42 (dk_at dksX2_readWindow_2 18 rfl rfl)
theorem dX2_readWindow_65 : decode cX2_readWindow 65 = .ok (.getfield 99, 3) := dk_180 0 99 (dk_at dksX2_readWindow_2 19 rfl rfl)
theorem dX2_readWindow_68 : decode cX2_readWindow 68 = .ok (.iconst 2, 1) := dk_5 (dk_at dksX2_readWindow_2 22 rfl rfl)
theorem dX2_readWindow_69 : decode cX2_readWindow 69 = .ok (.if_icmp .ne 13, 3) := dk_160 0 13 (dk_at dksX2_readWindow_3 0 rfl rfl)
theorem dX2_readWindow_72 : decode cX2_readWindow 72 = .ok (.aload_n 0, 1) := dk_42 (dk_at dksX2_readWindow_3 3 rfl rfl)
theorem dX2_readWindow_73 : decode cX2_readWindow 73 = .ok (.iload_n 3, 1) := dk_29 (dk_at dksX2_readWindow_3 4 rfl rfl)
theorem dX2_readWindow_74 : decode cX2_readWindow 74 = .ok (.sipush 999, 3) := dk_17 3 231 (dk_at dksX2_readWindow_3 5 rfl rfl)
theorem dX2_readWindow_77 : decode cX2_readWindow 77 = .ok (.invokevirtual 145, 3) := dk_182 0 145 (dk_at dksX2_readWindow_3 8 rfl rfl)
theorem dX2_readWindow_80 : decode cX2_readWindow 80 = .ok (.istore 4, 2) := dk_54 4 (dk_at dksX2_readWindow_3 11 rfl rfl)
theorem dX2_readWindow_82 : decode cX2_readWindow 82 = .ok (.iconst 0, 1) := dk_3 (dk_at dksX2_readWindow_3 13 rfl rfl)
theorem dX2_readWindow_83 : decode cX2_readWindow 83 = .ok (.istore 5, 2) := dk_54 5 (dk_at dksX2_readWindow_3 14 rfl rfl)
theorem dX2_readWindow_85 : decode cX2_readWindow 85 = .ok (.aload_n 0, 1) := dk_42 (dk_at dksX2_readWindow_3 16 rfl rfl)
theorem dX2_readWindow_86 : decode cX2_readWindow 86 = .ok (.ldc 149, 2) := dk_18 149 (dk_at dksX2_readWindow_3 17 rfl rfl)
theorem dX2_readWindow_88 : decode cX2_readWindow 88 = .ok (.invokevirtual 151, 3) := dk_182 0 151 (dk_at dksX2_readWindow_3 19 rfl rfl)
theorem dX2_readWindow_91 : decode cX2_readWindow 91 = .ok (.ifCond .eq 40, 3) := dk_153 0 40 (dk_at dksX2_readWindow_4 0 rfl rfl)
theorem dX2_readWindow_94 : decode cX2_readWindow 94 = .ok (.aload_n 0, 1) := dk_42 (dk_at dksX2_readWindow_4 3 rfl rfl)
theorem dX2_readWindow_95 : decode cX2_readWindow 95 = .ok (.getfield 155, 3) := dk_180 0 155 (dk_at dksX2_readWindow_4 4 rfl rfl)
theorem dX2_readWindow_98 : decode cX2_readWindow 98 = .ok (.bipush 10, 2) := dk_16 10 (dk_at dksX2_readWindow_4 7 rfl rfl)
theorem dX2_readWindow_100 : decode cX2_readWindow 100 = .ok (.if_icmp .ne 8, 3) := dk_160 0 8 (dk_at dksX2_readWindow_4 9 rfl rfl)
theorem dX2_readWindow_103 : decode cX2_readWindow 103 = .ok (.aload_n 0, 1) := dk_42 (dk_at dksX2_readWindow_4 12 rfl rfl)
theorem dX2_readWindow_104 : decode cX2_readWindow 104 = .ok (.iconst 4, 1) := dk_7 (dk_at dksX2_readWindow_4 13 rfl rfl)
theorem dX2_readWindow_105 : decode cX2_readWindow 105 = .ok (.invokevirtual 119, 3) := dk_182 0 119 (dk_at dksX2_readWindow_4 14 rfl rfl)
theorem dX2_readWindow_108 : decode cX2_readWindow 108 = .ok (.aload_n 0, 1) := dk_42 (dk_at dksX2_readWindow_4 17 rfl rfl)
theorem dX2_readWindow_109 : decode cX2_readWindow 109 = .ok (.dup, 1) := dk_89 (dk_at dksX2_readWindow_4 18 rfl rfl)
theorem dX2_readWindow_110 : decode cX2_readWindow 110 = .ok (.getfield 155, 3) := dk_180 0 155 (dk_at dksX2_readWindow_4 19 rfl rfl)
theorem dX2_readWindow_113 : decode cX2_readWindow 113 = .ok (.iconst 1, 1) := dk_4 (dk_at dksX2_readWindow_4 22 rfl rfl)
theorem dX2_readWindow_114 : decode cX2_readWindow 114 = .ok (.iadd, 1) := dk_96 (dk_at dksX2_readWindow_4 23 rfl rfl)
theorem dX2_readWindow_115 : decode cX2_readWindow 115 = .ok (.putfield 155, 3) := dk_181 0 155 (dk_at dksX2_readWindow_5 0 rfl rfl)
theorem dX2_readWindow_118 : decode cX2_readWindow 118 = .ok (.aload_n 0, 1) := dk_42 (dk_at dksX2_readWindow_5 3 rfl rfl)
theorem dX2_readWindow_119 : decode cX2_readWindow 119 = .ok (.invokevirtual 122, 3) := dk_182 0 122 (dk_at dksX2_readWindow_5 4 rfl rfl)
theorem dX2_readWindow_122 : decode cX2_readWindow 122 = .ok (.aload_n 0, 1) := dk_42 (dk_at dksX2_readWindow_5 7 rfl rfl)
theorem dX2_readWindow_123 : decode cX2_readWindow 123 = .ok (.iconst 1, 1) := dk_4 (dk_at dksX2_readWindow_5 8 rfl rfl)
theorem dX2_readWindow_124 : decode cX2_readWindow 124 = .ok (.bipush 99, 2) := dk_16 99 (dk_at dksX2_readWindow_5 9 rfl rfl)
theorem dX2_readWindow_126 : decode cX2_readWindow 126 = .ok (.invokevirtual 145, 3) := dk_182 0 145 (dk_at dksX2_readWindow_5 11 rfl rfl)
theorem dX2_readWindow_129 : decode cX2_readWindow 129 = .ok (.istore 5, 2) := dk_54 5 (dk_at dksX2_readWindow_5 14 rfl rfl)
theorem dX2_readWindow_131 : decode cX2_readWindow 131 = .ok (.aload_n 0, 1) := dk_42 (dk_at dksX2_readWindow_5 16 rfl rfl)
theorem dX2_readWindow_132 : decode cX2_readWindow 132 = .ok (.getfield 83, 3) := dk_180 0 83 (dk_at dksX2_readWindow_5 17 rfl rfl)
theorem dX2_readWindow_135 : decode cX2_readWindow 135 = .ok (.ifCond .ne 15, 3) := dk_154 0 15 (dk_at dksX2_readWindow_5 20 rfl rfl)
theorem dX2_readWindow_138 : decode cX2_readWindow 138 = .ok (.aload_n 0, 1) := dk_42 (dk_at dksX2_readWindow_5 23 rfl rfl)
theorem dX2_readWindow_139 : decode cX2_readWindow 139 = .ok (.iload_n 1, 1) := dk_27 (dk_at dksX2_readWindow_6 0 rfl rfl)
theorem dX2_readWindow_140 : decode cX2_readWindow 140 = .ok (.iload_n 2, 1) := dk_28 (dk_at dksX2_readWindow_6 1 rfl rfl)
theorem dX2_readWindow_141 : decode cX2_readWindow 141 = .ok (.iload_n 3, 1) := dk_29 (dk_at dksX2_readWindow_6 2 rfl rfl)
theorem dX2_readWindow_142 : decode cX2_readWindow 142 = .ok (.iload 4, 2) := dk_21 4 (dk_at dksX2_readWindow_6 3 rfl rfl)
theorem dX2_readWindow_144 : decode cX2_readWindow 144 = .ok (.iload 5, 2) := dk_21 5 (dk_at dksX2_readWindow_6 5 rfl rfl)
theorem dX2_readWindow_146 : decode cX2_readWindow 146 = .ok (.invokevirtual 158, 3) := dk_182 0 158 (dk_at dksX2_readWindow_6 7 rfl rfl)
theorem dX2_readWindow_149 : decode cX2_readWindow 149 = .ok (.pop, 1) := dk_87 (dk_at dksX2_readWindow_6 10 rfl rfl)
theorem dX2_readWindow_150 : decode cX2_readWindow 150 = .ok (.return_, 1) := dk_177 (dk_at dksX2_readWindow_6 11 rfl rfl)
abbrev cX2_event : ByteArray := prog_16_method_19_code
def yX2_event : MethodName := ⟨RX2, "event", "(I)I"⟩
def dkwX2_event_2 : List UInt8 := [27, 28, 184, 0, 135, 153, 0, 8, 42, 6, 182, 0, 119, 42, 182, 0, 122, 28, 172]
abbrev dktX2_event_2 : List UInt8 := dkwX2_event_2 ++ []
def dkwX2_event_1 : List UInt8 := [154, 0, 10, 42, 182, 0, 132, 167, 0, 4, 3, 61, 42, 180, 0, 83, 154, 0, 21, 28, 2, 159, 0, 11]
abbrev dktX2_event_1 : List UInt8 := dkwX2_event_1 ++ dktX2_event_2
def dkwX2_event_0 : List UInt8 := [42, 180, 0, 83, 154, 0, 16, 42, 180, 0, 99, 4, 159, 0, 8, 42, 4, 182, 0, 119, 42, 180, 0, 83]
abbrev dktX2_event_0 : List UInt8 := dkwX2_event_0 ++ dktX2_event_1
theorem dksX2_event_0 : cX2_event.data.toList.drop 0 = dktX2_event_0 := by decide +kernel
theorem dksX2_event_1 : cX2_event.data.toList.drop 24 = dktX2_event_1 := dk_seg dksX2_event_0 24 rfl rfl
theorem dksX2_event_2 : cX2_event.data.toList.drop 48 = dktX2_event_2 := dk_seg dksX2_event_1 24 rfl rfl
theorem dX2_event_0 : decode cX2_event 0 = .ok (.aload_n 0, 1) := dk_42 (dk_at dksX2_event_0 0 rfl rfl)
theorem dX2_event_1 : decode cX2_event 1 = .ok (.getfield 83, 3) := dk_180 0 83 (dk_at dksX2_event_0 1 rfl rfl)
theorem dX2_event_4 : decode cX2_event 4 = .ok (.ifCond .ne 16, 3) := dk_154 0 16 (dk_at dksX2_event_0 4 rfl rfl)
theorem dX2_event_7 : decode cX2_event 7 = .ok (.aload_n 0, 1) := dk_42 (dk_at dksX2_event_0 7 rfl rfl)
theorem dX2_event_8 : decode cX2_event 8 = .ok (.getfield 99, 3) := dk_180 0 99 (dk_at dksX2_event_0 8 rfl rfl)
theorem dX2_event_11 : decode cX2_event 11 = .ok (.iconst 1, 1) := dk_4 (dk_at dksX2_event_0 11 rfl rfl)
theorem dX2_event_12 : decode cX2_event 12 = .ok (.if_icmp .eq 8, 3) := dk_159 0 8 (dk_at dksX2_event_0 12 rfl rfl)
theorem dX2_event_15 : decode cX2_event 15 = .ok (.aload_n 0, 1) := dk_42 (dk_at dksX2_event_0 15 rfl rfl)
theorem dX2_event_16 : decode cX2_event 16 = .ok (.iconst 1, 1) := dk_4 (dk_at dksX2_event_0 16 rfl rfl)
theorem dX2_event_17 : decode cX2_event 17 = .ok (.invokevirtual 119, 3) := dk_182 0 119 (dk_at dksX2_event_0 17 rfl rfl)
theorem dX2_event_20 : decode cX2_event 20 = .ok (.aload_n 0, 1) := dk_42 (dk_at dksX2_event_0 20 rfl rfl)
theorem dX2_event_21 : decode cX2_event 21 = .ok (.getfield 83, 3) := dk_180 0 83 (dk_at dksX2_event_0 21 rfl rfl)
theorem dX2_event_24 : decode cX2_event 24 = .ok (.ifCond .ne 10, 3) := dk_154 0 10 (dk_at dksX2_event_1 0 rfl rfl)
theorem dX2_event_27 : decode cX2_event 27 = .ok (.aload_n 0, 1) := dk_42 (dk_at dksX2_event_1 3 rfl rfl)
theorem dX2_event_28 : decode cX2_event 28 = .ok (.invokevirtual 132, 3) := dk_182 0 132 (dk_at dksX2_event_1 4 rfl rfl)
theorem dX2_event_31 : decode cX2_event 31 = .ok (.goto 4, 3) := dk_167 0 4 (dk_at dksX2_event_1 7 rfl rfl)
theorem dX2_event_34 : decode cX2_event 34 = .ok (.iconst 0, 1) := dk_3 (dk_at dksX2_event_1 10 rfl rfl)
theorem dX2_event_35 : decode cX2_event 35 = .ok (.istore_n 2, 1) := dk_61 (dk_at dksX2_event_1 11 rfl rfl)
theorem dX2_event_36 : decode cX2_event 36 = .ok (.aload_n 0, 1) := dk_42 (dk_at dksX2_event_1 12 rfl rfl)
theorem dX2_event_37 : decode cX2_event 37 = .ok (.getfield 83, 3) := dk_180 0 83 (dk_at dksX2_event_1 13 rfl rfl)
theorem dX2_event_40 : decode cX2_event 40 = .ok (.ifCond .ne 21, 3) := dk_154 0 21 (dk_at dksX2_event_1 16 rfl rfl)
theorem dX2_event_43 : decode cX2_event 43 = .ok (.iload_n 2, 1) := dk_28 (dk_at dksX2_event_1 19 rfl rfl)
theorem dX2_event_44 : decode cX2_event 44 = .ok (.iconst (-1), 1) := dk_2 (dk_at dksX2_event_1 20 rfl rfl)
theorem dX2_event_45 : decode cX2_event 45 = .ok (.if_icmp .eq 11, 3) := dk_159 0 11 (dk_at dksX2_event_1 21 rfl rfl)
theorem dX2_event_48 : decode cX2_event 48 = .ok (.iload_n 1, 1) := dk_27 (dk_at dksX2_event_2 0 rfl rfl)
theorem dX2_event_49 : decode cX2_event 49 = .ok (.iload_n 2, 1) := dk_28 (dk_at dksX2_event_2 1 rfl rfl)
theorem dX2_event_50 : decode cX2_event 50 = .ok (.invokestatic 135, 3) := dk_184 0 135 (dk_at dksX2_event_2 2 rfl rfl)
theorem dX2_event_53 : decode cX2_event 53 = .ok (.ifCond .eq 8, 3) := dk_153 0 8 (dk_at dksX2_event_2 5 rfl rfl)
theorem dX2_event_56 : decode cX2_event 56 = .ok (.aload_n 0, 1) := dk_42 (dk_at dksX2_event_2 8 rfl rfl)
theorem dX2_event_57 : decode cX2_event 57 = .ok (.iconst 3, 1) := dk_6 (dk_at dksX2_event_2 9 rfl rfl)
theorem dX2_event_58 : decode cX2_event 58 = .ok (.invokevirtual 119, 3) := dk_182 0 119 (dk_at dksX2_event_2 10 rfl rfl)
theorem dX2_event_61 : decode cX2_event 61 = .ok (.aload_n 0, 1) := dk_42 (dk_at dksX2_event_2 13 rfl rfl)
theorem dX2_event_62 : decode cX2_event 62 = .ok (.invokevirtual 122, 3) := dk_182 0 122 (dk_at dksX2_event_2 14 rfl rfl)
theorem dX2_event_65 : decode cX2_event 65 = .ok (.iload_n 2, 1) := dk_28 (dk_at dksX2_event_2 17 rfl rfl)
theorem dX2_event_66 : decode cX2_event 66 = .ok (.ireturn, 1) := dk_172 (dk_at dksX2_event_2 18 rfl rfl)
abbrev cX2_has : ByteArray := prog_16_method_4_code
def yX2_has : MethodName := ⟨RX2, "has", "(II)Z"⟩
def dkwX2_has_0 : List UInt8 := [26, 27, 122, 4, 126, 4, 160, 0, 7, 4, 167, 0, 4, 3, 172]
abbrev dktX2_has_0 : List UInt8 := dkwX2_has_0 ++ []
theorem dksX2_has_0 : cX2_has.data.toList.drop 0 = dktX2_has_0 := by decide +kernel
theorem dX2_has_0 : decode cX2_has 0 = .ok (.iload_n 0, 1) := dk_26 (dk_at dksX2_has_0 0 rfl rfl)
theorem dX2_has_1 : decode cX2_has 1 = .ok (.iload_n 1, 1) := dk_27 (dk_at dksX2_has_0 1 rfl rfl)
theorem dX2_has_2 : decode cX2_has 2 = .ok (.ishr, 1) := dk_122 (dk_at dksX2_has_0 2 rfl rfl)
theorem dX2_has_3 : decode cX2_has 3 = .ok (.iconst 1, 1) := dk_4 (dk_at dksX2_has_0 3 rfl rfl)
theorem dX2_has_4 : decode cX2_has 4 = .ok (.iand, 1) := dk_126 (dk_at dksX2_has_0 4 rfl rfl)
theorem dX2_has_5 : decode cX2_has 5 = .ok (.iconst 1, 1) := dk_4 (dk_at dksX2_has_0 5 rfl rfl)
theorem dX2_has_6 : decode cX2_has 6 = .ok (.if_icmp .ne 7, 3) := dk_160 0 7 (dk_at dksX2_has_0 6 rfl rfl)
theorem dX2_has_9 : decode cX2_has 9 = .ok (.iconst 1, 1) := dk_4 (dk_at dksX2_has_0 9 rfl rfl)
theorem dX2_has_10 : decode cX2_has 10 = .ok (.goto 4, 3) := dk_167 0 4 (dk_at dksX2_has_0 10 rfl rfl)
theorem dX2_has_13 : decode cX2_has 13 = .ok (.iconst 0, 1) := dk_3 (dk_at dksX2_has_0 13 rfl rfl)
theorem dX2_has_14 : decode cX2_has 14 = .ok (.ireturn, 1) := dk_172 (dk_at dksX2_has_0 14 rfl rfl)
abbrev cX2_number : ByteArray := prog_16_method_14_code
def yX2_number : MethodName := ⟨RX2, "number", "(II)I"⟩
def dkwX2_number_2 : List UInt8 := [154, 0, 10, 42, 180, 0, 106, 167, 0, 4, 27, 62, 42, 182, 0, 122, 29, 172]
abbrev dktX2_number_2 : List UInt8 := dkwX2_number_2 ++ []
def dkwX2_number_1 : List UInt8 := [154, 0, 20, 42, 180, 0, 106, 27, 28, 184, 0, 102, 154, 0, 8, 42, 5, 182, 0, 119, 42, 180, 0, 83]
abbrev dktX2_number_1 : List UInt8 := dkwX2_number_1 ++ dktX2_number_2
def dkwX2_number_0 : List UInt8 := [42, 180, 0, 83, 154, 0, 16, 42, 180, 0, 99, 5, 159, 0, 8, 42, 4, 182, 0, 119, 42, 180, 0, 83]
abbrev dktX2_number_0 : List UInt8 := dkwX2_number_0 ++ dktX2_number_1
theorem dksX2_number_0 : cX2_number.data.toList.drop 0 = dktX2_number_0 := by decide +kernel
theorem dksX2_number_1 : cX2_number.data.toList.drop 24 = dktX2_number_1 := dk_seg dksX2_number_0 24 rfl rfl
theorem dksX2_number_2 : cX2_number.data.toList.drop 48 = dktX2_number_2 := dk_seg dksX2_number_1 24 rfl rfl
theorem dX2_number_0 : decode cX2_number 0 = .ok (.aload_n 0, 1) := dk_42 (dk_at dksX2_number_0 0 rfl rfl)
theorem dX2_number_1 : decode cX2_number 1 = .ok (.getfield 83, 3) := dk_180 0 83 (dk_at dksX2_number_0 1 rfl rfl)
theorem dX2_number_4 : decode cX2_number 4 = .ok (.ifCond .ne 16, 3) := dk_154 0 16 (dk_at dksX2_number_0 4 rfl rfl)
theorem dX2_number_7 : decode cX2_number 7 = .ok (.aload_n 0, 1) := dk_42 (dk_at dksX2_number_0 7 rfl rfl)
theorem dX2_number_8 : decode cX2_number 8 = .ok (.getfield 99, 3) := dk_180 0 99 (dk_at dksX2_number_0 8 rfl rfl)
theorem dX2_number_11 : decode cX2_number 11 = .ok (.iconst 2, 1) := dk_5 (dk_at dksX2_number_0 11 rfl rfl)
theorem dX2_number_12 : decode cX2_number 12 = .ok (.if_icmp .eq 8, 3) := dk_159 0 8 (dk_at dksX2_number_0 12 rfl rfl)
theorem dX2_number_15 : decode cX2_number 15 = .ok (.aload_n 0, 1) := dk_42 (dk_at dksX2_number_0 15 rfl rfl)
theorem dX2_number_16 : decode cX2_number 16 = .ok (.iconst 1, 1) := dk_4 (dk_at dksX2_number_0 16 rfl rfl)
theorem dX2_number_17 : decode cX2_number 17 = .ok (.invokevirtual 119, 3) := dk_182 0 119 (dk_at dksX2_number_0 17 rfl rfl)
theorem dX2_number_20 : decode cX2_number 20 = .ok (.aload_n 0, 1) := dk_42 (dk_at dksX2_number_0 20 rfl rfl)
theorem dX2_number_21 : decode cX2_number 21 = .ok (.getfield 83, 3) := dk_180 0 83 (dk_at dksX2_number_0 21 rfl rfl)
theorem dX2_number_24 : decode cX2_number 24 = .ok (.ifCond .ne 20, 3) := dk_154 0 20 (dk_at dksX2_number_1 0 rfl rfl)
theorem dX2_number_27 : decode cX2_number 27 = .ok (.aload_n 0, 1) := dk_42 (dk_at dksX2_number_1 3 rfl rfl)
theorem dX2_number_28 : decode cX2_number 28 = .ok (.getfield 106, 3) := dk_180 0 106 (dk_at dksX2_number_1 4 rfl rfl)
theorem dX2_number_31 : decode cX2_number 31 = .ok (.iload_n 1, 1) := dk_27 (dk_at dksX2_number_1 7 rfl rfl)
theorem dX2_number_32 : decode cX2_number 32 = .ok (.iload_n 2, 1) := dk_28 (dk_at dksX2_number_1 8 rfl rfl)
theorem dX2_number_33 : decode cX2_number 33 = .ok (.invokestatic 102, 3) := dk_184 0 102 (dk_at dksX2_number_1 9 rfl rfl)
theorem dX2_number_36 : decode cX2_number 36 = .ok (.ifCond .ne 8, 3) := dk_154 0 8 (dk_at dksX2_number_1 12 rfl rfl)
theorem dX2_number_39 : decode cX2_number 39 = .ok (.aload_n 0, 1) := dk_42 (dk_at dksX2_number_1 15 rfl rfl)
theorem dX2_number_40 : decode cX2_number 40 = .ok (.iconst 2, 1) := dk_5 (dk_at dksX2_number_1 16 rfl rfl)
theorem dX2_number_41 : decode cX2_number 41 = .ok (.invokevirtual 119, 3) := dk_182 0 119 (dk_at dksX2_number_1 17 rfl rfl)
theorem dX2_number_44 : decode cX2_number 44 = .ok (.aload_n 0, 1) := dk_42 (dk_at dksX2_number_1 20 rfl rfl)
theorem dX2_number_45 : decode cX2_number 45 = .ok (.getfield 83, 3) := dk_180 0 83 (dk_at dksX2_number_1 21 rfl rfl)
theorem dX2_number_48 : decode cX2_number 48 = .ok (.ifCond .ne 10, 3) := dk_154 0 10 (dk_at dksX2_number_2 0 rfl rfl)
theorem dX2_number_51 : decode cX2_number 51 = .ok (.aload_n 0, 1) := dk_42 (dk_at dksX2_number_2 3 rfl rfl)
theorem dX2_number_52 : decode cX2_number 52 = .ok (.getfield 106, 3) := dk_180 0 106 (dk_at dksX2_number_2 4 rfl rfl)
theorem dX2_number_55 : decode cX2_number 55 = .ok (.goto 4, 3) := dk_167 0 4 (dk_at dksX2_number_2 7 rfl rfl)
theorem dX2_number_58 : decode cX2_number 58 = .ok (.iload_n 1, 1) := dk_27 (dk_at dksX2_number_2 10 rfl rfl)
theorem dX2_number_59 : decode cX2_number 59 = .ok (.istore_n 3, 1) := dk_62 (dk_at dksX2_number_2 11 rfl rfl)
theorem dX2_number_60 : decode cX2_number 60 = .ok (.aload_n 0, 1) := dk_42 (dk_at dksX2_number_2 12 rfl rfl)
theorem dX2_number_61 : decode cX2_number 61 = .ok (.invokevirtual 122, 3) := dk_182 0 122 (dk_at dksX2_number_2 13 rfl rfl)
theorem dX2_number_64 : decode cX2_number 64 = .ok (.iload_n 3, 1) := dk_29 (dk_at dksX2_number_2 16 rfl rfl)
theorem dX2_number_65 : decode cX2_number 65 = .ok (.ireturn, 1) := dk_172 (dk_at dksX2_number_2 17 rfl rfl)
abbrev cX2_lays : ByteArray := prog_16_method_22_code
def yX2_lays : MethodName := ⟨RX2, "lays", "(IIIII)I"⟩
def dkwX2_lays_3 : List UInt8 := [180, 0, 23, 21, 6, 8, 184, 0, 162, 3, 79, 42, 180, 0, 23, 4, 92, 46, 4, 96, 79, 21, 6, 172]
abbrev dktX2_lays_3 : List UInt8 := dkwX2_lays_3 ++ []
def dkwX2_lays_2 : List UInt8 := [21, 6, 6, 184, 0, 162, 21, 4, 79, 42, 180, 0, 23, 21, 6, 7, 184, 0, 162, 21, 5, 79, 42]
abbrev dktX2_lays_2 : List UInt8 := dkwX2_lays_2 ++ dktX2_lays_3
def dkwX2_lays_1 : List UInt8 := [21, 6, 4, 184, 0, 162, 28, 79, 42, 180, 0, 23, 21, 6, 5, 184, 0, 162, 29, 79, 42, 180, 0, 23]
abbrev dktX2_lays_1 : List UInt8 := dkwX2_lays_1 ++ dktX2_lays_2
def dkwX2_lays_0 : List UInt8 := [42, 180, 0, 23, 4, 46, 54, 6, 42, 180, 0, 23, 21, 6, 3, 184, 0, 162, 27, 79, 42, 180, 0, 23]
abbrev dktX2_lays_0 : List UInt8 := dkwX2_lays_0 ++ dktX2_lays_1
theorem dksX2_lays_0 : cX2_lays.data.toList.drop 0 = dktX2_lays_0 := by decide +kernel
theorem dksX2_lays_1 : cX2_lays.data.toList.drop 24 = dktX2_lays_1 := dk_seg dksX2_lays_0 24 rfl rfl
theorem dksX2_lays_2 : cX2_lays.data.toList.drop 48 = dktX2_lays_2 := dk_seg dksX2_lays_1 24 rfl rfl
theorem dksX2_lays_3 : cX2_lays.data.toList.drop 71 = dktX2_lays_3 := dk_seg dksX2_lays_2 23 rfl rfl
theorem dX2_lays_0 : decode cX2_lays 0 = .ok (.aload_n 0, 1) := dk_42 (dk_at dksX2_lays_0 0 rfl rfl)
theorem dX2_lays_1 : decode cX2_lays 1 = .ok (.getfield 23, 3) := dk_180 0 23 (dk_at dksX2_lays_0 1 rfl rfl)
theorem dX2_lays_4 : decode cX2_lays 4 = .ok (.iconst 1, 1) := dk_4 (dk_at dksX2_lays_0 4 rfl rfl)
theorem dX2_lays_5 : decode cX2_lays 5 = .ok (.iaload, 1) := dk_46 (dk_at dksX2_lays_0 5 rfl rfl)
theorem dX2_lays_6 : decode cX2_lays 6 = .ok (.istore 6, 2) := dk_54 6 (dk_at dksX2_lays_0 6 rfl rfl)
theorem dX2_lays_8 : decode cX2_lays 8 = .ok (.aload_n 0, 1) := dk_42 (dk_at dksX2_lays_0 8 rfl rfl)
theorem dX2_lays_9 : decode cX2_lays 9 = .ok (.getfield 23, 3) := dk_180 0 23 (dk_at dksX2_lays_0 9 rfl rfl)
theorem dX2_lays_12 : decode cX2_lays 12 = .ok (.iload 6, 2) := dk_21 6 (dk_at dksX2_lays_0 12 rfl rfl)
theorem dX2_lays_14 : decode cX2_lays 14 = .ok (.iconst 0, 1) := dk_3 (dk_at dksX2_lays_0 14 rfl rfl)
theorem dX2_lays_15 : decode cX2_lays 15 = .ok (.invokestatic 162, 3) := dk_184 0 162 (dk_at dksX2_lays_0 15 rfl rfl)
theorem dX2_lays_18 : decode cX2_lays 18 = .ok (.iload_n 1, 1) := dk_27 (dk_at dksX2_lays_0 18 rfl rfl)
theorem dX2_lays_19 : decode cX2_lays 19 = .ok (.iastore, 1) := dk_79 (dk_at dksX2_lays_0 19 rfl rfl)
theorem dX2_lays_20 : decode cX2_lays 20 = .ok (.aload_n 0, 1) := dk_42 (dk_at dksX2_lays_0 20 rfl rfl)
theorem dX2_lays_21 : decode cX2_lays 21 = .ok (.getfield 23, 3) := dk_180 0 23 (dk_at dksX2_lays_0 21 rfl rfl)
theorem dX2_lays_24 : decode cX2_lays 24 = .ok (.iload 6, 2) := dk_21 6 (dk_at dksX2_lays_1 0 rfl rfl)
theorem dX2_lays_26 : decode cX2_lays 26 = .ok (.iconst 1, 1) := dk_4 (dk_at dksX2_lays_1 2 rfl rfl)
theorem dX2_lays_27 : decode cX2_lays 27 = .ok (.invokestatic 162, 3) := dk_184 0 162 (dk_at dksX2_lays_1 3 rfl rfl)
theorem dX2_lays_30 : decode cX2_lays 30 = .ok (.iload_n 2, 1) := dk_28 (dk_at dksX2_lays_1 6 rfl rfl)
theorem dX2_lays_31 : decode cX2_lays 31 = .ok (.iastore, 1) := dk_79 (dk_at dksX2_lays_1 7 rfl rfl)
theorem dX2_lays_32 : decode cX2_lays 32 = .ok (.aload_n 0, 1) := dk_42 (dk_at dksX2_lays_1 8 rfl rfl)
theorem dX2_lays_33 : decode cX2_lays 33 = .ok (.getfield 23, 3) := dk_180 0 23 (dk_at dksX2_lays_1 9 rfl rfl)
theorem dX2_lays_36 : decode cX2_lays 36 = .ok (.iload 6, 2) := dk_21 6 (dk_at dksX2_lays_1 12 rfl rfl)
theorem dX2_lays_38 : decode cX2_lays 38 = .ok (.iconst 2, 1) := dk_5 (dk_at dksX2_lays_1 14 rfl rfl)
theorem dX2_lays_39 : decode cX2_lays 39 = .ok (.invokestatic 162, 3) := dk_184 0 162 (dk_at dksX2_lays_1 15 rfl rfl)
theorem dX2_lays_42 : decode cX2_lays 42 = .ok (.iload_n 3, 1) := dk_29 (dk_at dksX2_lays_1 18 rfl rfl)
theorem dX2_lays_43 : decode cX2_lays 43 = .ok (.iastore, 1) := dk_79 (dk_at dksX2_lays_1 19 rfl rfl)
theorem dX2_lays_44 : decode cX2_lays 44 = .ok (.aload_n 0, 1) := dk_42 (dk_at dksX2_lays_1 20 rfl rfl)
theorem dX2_lays_45 : decode cX2_lays 45 = .ok (.getfield 23, 3) := dk_180 0 23 (dk_at dksX2_lays_1 21 rfl rfl)
theorem dX2_lays_48 : decode cX2_lays 48 = .ok (.iload 6, 2) := dk_21 6 (dk_at dksX2_lays_2 0 rfl rfl)
theorem dX2_lays_50 : decode cX2_lays 50 = .ok (.iconst 3, 1) := dk_6 (dk_at dksX2_lays_2 2 rfl rfl)
theorem dX2_lays_51 : decode cX2_lays 51 = .ok (.invokestatic 162, 3) := dk_184 0 162 (dk_at dksX2_lays_2 3 rfl rfl)
theorem dX2_lays_54 : decode cX2_lays 54 = .ok (.iload 4, 2) := dk_21 4 (dk_at dksX2_lays_2 6 rfl rfl)
theorem dX2_lays_56 : decode cX2_lays 56 = .ok (.iastore, 1) := dk_79 (dk_at dksX2_lays_2 8 rfl rfl)
theorem dX2_lays_57 : decode cX2_lays 57 = .ok (.aload_n 0, 1) := dk_42 (dk_at dksX2_lays_2 9 rfl rfl)
theorem dX2_lays_58 : decode cX2_lays 58 = .ok (.getfield 23, 3) := dk_180 0 23 (dk_at dksX2_lays_2 10 rfl rfl)
theorem dX2_lays_61 : decode cX2_lays 61 = .ok (.iload 6, 2) := dk_21 6 (dk_at dksX2_lays_2 13 rfl rfl)
theorem dX2_lays_63 : decode cX2_lays 63 = .ok (.iconst 4, 1) := dk_7 (dk_at dksX2_lays_2 15 rfl rfl)
theorem dX2_lays_64 : decode cX2_lays 64 = .ok (.invokestatic 162, 3) := dk_184 0 162 (dk_at dksX2_lays_2 16 rfl rfl)
theorem dX2_lays_67 : decode cX2_lays 67 = .ok (.iload 5, 2) := dk_21 5 (dk_at dksX2_lays_2 19 rfl rfl)
theorem dX2_lays_69 : decode cX2_lays 69 = .ok (.iastore, 1) := dk_79 (dk_at dksX2_lays_2 21 rfl rfl)
theorem dX2_lays_70 : decode cX2_lays 70 = .ok (.aload_n 0, 1) := dk_42 (dk_at dksX2_lays_2 22 rfl rfl)
theorem dX2_lays_71 : decode cX2_lays 71 = .ok (.getfield 23, 3) := dk_180 0 23 (dk_at dksX2_lays_3 0 rfl rfl)
theorem dX2_lays_74 : decode cX2_lays 74 = .ok (.iload 6, 2) := dk_21 6 (dk_at dksX2_lays_3 3 rfl rfl)
theorem dX2_lays_76 : decode cX2_lays 76 = .ok (.iconst 5, 1) := dk_8 (dk_at dksX2_lays_3 5 rfl rfl)
theorem dX2_lays_77 : decode cX2_lays 77 = .ok (.invokestatic 162, 3) := dk_184 0 162 (dk_at dksX2_lays_3 6 rfl rfl)
theorem dX2_lays_80 : decode cX2_lays 80 = .ok (.iconst 0, 1) := dk_3 (dk_at dksX2_lays_3 9 rfl rfl)
theorem dX2_lays_81 : decode cX2_lays 81 = .ok (.iastore, 1) := dk_79 (dk_at dksX2_lays_3 10 rfl rfl)
theorem dX2_lays_82 : decode cX2_lays 82 = .ok (.aload_n 0, 1) := dk_42 (dk_at dksX2_lays_3 11 rfl rfl)
theorem dX2_lays_83 : decode cX2_lays 83 = .ok (.getfield 23, 3) := dk_180 0 23 (dk_at dksX2_lays_3 12 rfl rfl)
theorem dX2_lays_86 : decode cX2_lays 86 = .ok (.iconst 1, 1) := dk_4 (dk_at dksX2_lays_3 15 rfl rfl)
theorem dX2_lays_87 : decode cX2_lays 87 = .ok (.dup2, 1) := dk_92 (dk_at dksX2_lays_3 16 rfl rfl)
theorem dX2_lays_88 : decode cX2_lays 88 = .ok (.iaload, 1) := dk_46 (dk_at dksX2_lays_3 17 rfl rfl)
theorem dX2_lays_89 : decode cX2_lays 89 = .ok (.iconst 1, 1) := dk_4 (dk_at dksX2_lays_3 18 rfl rfl)
theorem dX2_lays_90 : decode cX2_lays 90 = .ok (.iadd, 1) := dk_96 (dk_at dksX2_lays_3 19 rfl rfl)
theorem dX2_lays_91 : decode cX2_lays 91 = .ok (.iastore, 1) := dk_79 (dk_at dksX2_lays_3 20 rfl rfl)
theorem dX2_lays_92 : decode cX2_lays 92 = .ok (.iload 6, 2) := dk_21 6 (dk_at dksX2_lays_3 21 rfl rfl)
theorem dX2_lays_94 : decode cX2_lays 94 = .ok (.ireturn, 1) := dk_172 (dk_at dksX2_lays_3 23 rfl rfl)
abbrev cX2_at : ByteArray := prog_16_method_29_code
def yX2_at : MethodName := ⟨RX2, "at", "(II)I"⟩
def dkwX2_at_0 : List UInt8 := [5, 16, 6, 26, 104, 96, 27, 96, 172]
abbrev dktX2_at_0 : List UInt8 := dkwX2_at_0 ++ []
theorem dksX2_at_0 : cX2_at.data.toList.drop 0 = dktX2_at_0 := by decide +kernel
theorem dX2_at_0 : decode cX2_at 0 = .ok (.iconst 2, 1) := dk_5 (dk_at dksX2_at_0 0 rfl rfl)
theorem dX2_at_1 : decode cX2_at 1 = .ok (.bipush 6, 2) := dk_16 6 (dk_at dksX2_at_0 1 rfl rfl)
theorem dX2_at_3 : decode cX2_at 3 = .ok (.iload_n 0, 1) := dk_26 (dk_at dksX2_at_0 3 rfl rfl)
theorem dX2_at_4 : decode cX2_at 4 = .ok (.imul, 1) := dk_104 (dk_at dksX2_at_0 4 rfl rfl)
theorem dX2_at_5 : decode cX2_at 5 = .ok (.iadd, 1) := dk_96 (dk_at dksX2_at_0 5 rfl rfl)
theorem dX2_at_6 : decode cX2_at 6 = .ok (.iload_n 1, 1) := dk_27 (dk_at dksX2_at_0 6 rfl rfl)
theorem dX2_at_7 : decode cX2_at 7 = .ok (.iadd, 1) := dk_96 (dk_at dksX2_at_0 7 rfl rfl)
theorem dX2_at_8 : decode cX2_at 8 = .ok (.ireturn, 1) := dk_172 (dk_at dksX2_at_0 8 rfl rfl)
abbrev cX2_readFix : ByteArray := prog_16_method_23_code
def yX2_readFix : MethodName := ⟨RX2, "readFix", "()V"⟩
def dkwX2_readFix_2 : List UInt8 := [17, 0, 146, 27, 96, 28, 79, 177]
abbrev dktX2_readFix_2 : List UInt8 := dkwX2_readFix_2 ++ []
def dkwX2_readFix_1 : List UInt8 := [180, 0, 83, 158, 0, 4, 177, 42, 89, 180, 0, 165, 4, 27, 120, 128, 181, 0, 165, 42, 180, 0, 23]
abbrev dktX2_readFix_1 : List UInt8 := dkwX2_readFix_1 ++ dktX2_readFix_2
def dkwX2_readFix_0 : List UInt8 := [42, 182, 0, 122, 42, 42, 180, 0, 165, 182, 0, 142, 60, 42, 3, 17, 3, 231, 182, 0, 145, 61, 42]
abbrev dktX2_readFix_0 : List UInt8 := dkwX2_readFix_0 ++ dktX2_readFix_1
theorem dksX2_readFix_0 : cX2_readFix.data.toList.drop 0 = dktX2_readFix_0 := by decide +kernel
theorem dksX2_readFix_1 : cX2_readFix.data.toList.drop 23 = dktX2_readFix_1 := dk_seg dksX2_readFix_0 23 rfl rfl
theorem dksX2_readFix_2 : cX2_readFix.data.toList.drop 46 = dktX2_readFix_2 := dk_seg dksX2_readFix_1 23 rfl rfl
theorem dX2_readFix_0 : decode cX2_readFix 0 = .ok (.aload_n 0, 1) := dk_42 (dk_at dksX2_readFix_0 0 rfl rfl)
theorem dX2_readFix_1 : decode cX2_readFix 1 = .ok (.invokevirtual 122, 3) := dk_182 0 122 (dk_at dksX2_readFix_0 1 rfl rfl)
theorem dX2_readFix_4 : decode cX2_readFix 4 = .ok (.aload_n 0, 1) := dk_42 (dk_at dksX2_readFix_0 4 rfl rfl)
theorem dX2_readFix_5 : decode cX2_readFix 5 = .ok (.aload_n 0, 1) := dk_42 (dk_at dksX2_readFix_0 5 rfl rfl)
theorem dX2_readFix_6 : decode cX2_readFix 6 = .ok (.getfield 165, 3) := dk_180 0 165 (dk_at dksX2_readFix_0 6 rfl rfl)
theorem dX2_readFix_9 : decode cX2_readFix 9 = .ok (.invokevirtual 142, 3) := dk_182 0 142 (dk_at dksX2_readFix_0 9 rfl rfl)
theorem dX2_readFix_12 : decode cX2_readFix 12 = .ok (.istore_n 1, 1) := dk_60 (dk_at dksX2_readFix_0 12 rfl rfl)
theorem dX2_readFix_13 : decode cX2_readFix 13 = .ok (.aload_n 0, 1) := dk_42 (dk_at dksX2_readFix_0 13 rfl rfl)
theorem dX2_readFix_14 : decode cX2_readFix 14 = .ok (.iconst 0, 1) := dk_3 (dk_at dksX2_readFix_0 14 rfl rfl)
theorem dX2_readFix_15 : decode cX2_readFix 15 = .ok (.sipush 999, 3) := dk_17 3 231 (dk_at dksX2_readFix_0 15 rfl rfl)
theorem dX2_readFix_18 : decode cX2_readFix 18 = .ok (.invokevirtual 145, 3) := dk_182 0 145 (dk_at dksX2_readFix_0 18 rfl rfl)
theorem dX2_readFix_21 : decode cX2_readFix 21 = .ok (.istore_n 2, 1) := dk_61 (dk_at dksX2_readFix_0 21 rfl rfl)
theorem dX2_readFix_22 : decode cX2_readFix 22 = .ok (.aload_n 0, 1) := dk_42 (dk_at dksX2_readFix_0 22 rfl rfl)
theorem dX2_readFix_23 : decode cX2_readFix 23 = .ok (.getfield 83, 3) := dk_180 0 83 (dk_at dksX2_readFix_1 0 rfl rfl)
theorem dX2_readFix_26 : decode cX2_readFix 26 = .ok (.ifCond .le 4, 3) := dk_158 0 4 (dk_at dksX2_readFix_1 3 rfl rfl)
theorem dX2_readFix_29 : decode cX2_readFix 29 = .ok (.return_, 1) := dk_177 (dk_at dksX2_readFix_1 6 rfl rfl)
theorem dX2_readFix_30 : decode cX2_readFix 30 = .ok (.aload_n 0, 1) := dk_42 (dk_at dksX2_readFix_1 7 rfl rfl)
theorem dX2_readFix_31 : decode cX2_readFix 31 = .ok (.dup, 1) := dk_89 (dk_at dksX2_readFix_1 8 rfl rfl)
theorem dX2_readFix_32 : decode cX2_readFix 32 = .ok (.getfield 165, 3) := dk_180 0 165 (dk_at dksX2_readFix_1 9 rfl rfl)
theorem dX2_readFix_35 : decode cX2_readFix 35 = .ok (.iconst 1, 1) := dk_4 (dk_at dksX2_readFix_1 12 rfl rfl)
theorem dX2_readFix_36 : decode cX2_readFix 36 = .ok (.iload_n 1, 1) := dk_27 (dk_at dksX2_readFix_1 13 rfl rfl)
theorem dX2_readFix_37 : decode cX2_readFix 37 = .ok (.ishl, 1) := dk_120 (dk_at dksX2_readFix_1 14 rfl rfl)
theorem dX2_readFix_38 : decode cX2_readFix 38 = .ok (.ior, 1) := dk_128 (dk_at dksX2_readFix_1 15 rfl rfl)
theorem dX2_readFix_39 : decode cX2_readFix 39 = .ok (.putfield 165, 3) := dk_181 0 165 (dk_at dksX2_readFix_1 16 rfl rfl)
theorem dX2_readFix_42 : decode cX2_readFix 42 = .ok (.aload_n 0, 1) := dk_42 (dk_at dksX2_readFix_1 19 rfl rfl)
theorem dX2_readFix_43 : decode cX2_readFix 43 = .ok (.getfield 23, 3) := dk_180 0 23 (dk_at dksX2_readFix_1 20 rfl rfl)
theorem dX2_readFix_46 : decode cX2_readFix 46 = .ok (.sipush 146, 3) := dk_17 0 146 (dk_at dksX2_readFix_2 0 rfl rfl)
theorem dX2_readFix_49 : decode cX2_readFix 49 = .ok (.iload_n 1, 1) := dk_27 (dk_at dksX2_readFix_2 3 rfl rfl)
theorem dX2_readFix_50 : decode cX2_readFix 50 = .ok (.iadd, 1) := dk_96 (dk_at dksX2_readFix_2 4 rfl rfl)
theorem dX2_readFix_51 : decode cX2_readFix 51 = .ok (.iload_n 2, 1) := dk_28 (dk_at dksX2_readFix_2 5 rfl rfl)
theorem dX2_readFix_52 : decode cX2_readFix 52 = .ok (.iastore, 1) := dk_79 (dk_at dksX2_readFix_2 6 rfl rfl)
theorem dX2_readFix_53 : decode cX2_readFix 53 = .ok (.return_, 1) := dk_177 (dk_at dksX2_readFix_2 7 rfl rfl)
abbrev cX2_readDelay : ByteArray := prog_16_method_24_code
def yX2_readDelay : MethodName := ⟨RX2, "readDelay", "()V"⟩
def dkwX2_readDelay_2 : List UInt8 := [17, 0, 156, 27, 96, 28, 79, 177]
abbrev dktX2_readDelay_2 : List UInt8 := dkwX2_readDelay_2 ++ []
def dkwX2_readDelay_1 : List UInt8 := [180, 0, 83, 158, 0, 4, 177, 42, 89, 180, 0, 168, 4, 27, 120, 128, 181, 0, 168, 42, 180, 0, 23]
abbrev dktX2_readDelay_1 : List UInt8 := dkwX2_readDelay_1 ++ dktX2_readDelay_2
def dkwX2_readDelay_0 : List UInt8 := [42, 182, 0, 122, 42, 42, 180, 0, 168, 182, 0, 142, 60, 42, 3, 16, 99, 182, 0, 145, 61, 42]
abbrev dktX2_readDelay_0 : List UInt8 := dkwX2_readDelay_0 ++ dktX2_readDelay_1
theorem dksX2_readDelay_0 : cX2_readDelay.data.toList.drop 0 = dktX2_readDelay_0 := by decide +kernel
theorem dksX2_readDelay_1 : cX2_readDelay.data.toList.drop 22 = dktX2_readDelay_1 := dk_seg dksX2_readDelay_0 22 rfl rfl
theorem dksX2_readDelay_2 : cX2_readDelay.data.toList.drop 45 = dktX2_readDelay_2 := dk_seg dksX2_readDelay_1 23 rfl rfl
theorem dX2_readDelay_0 : decode cX2_readDelay 0 = .ok (.aload_n 0, 1) := dk_42 (dk_at dksX2_readDelay_0 0 rfl rfl)
theorem dX2_readDelay_1 : decode cX2_readDelay 1 = .ok (.invokevirtual 122, 3) := dk_182 0 122 (dk_at dksX2_readDelay_0 1 rfl rfl)
theorem dX2_readDelay_4 : decode cX2_readDelay 4 = .ok (.aload_n 0, 1) := dk_42 (dk_at dksX2_readDelay_0 4 rfl rfl)
theorem dX2_readDelay_5 : decode cX2_readDelay 5 = .ok (.aload_n 0, 1) := dk_42 (dk_at dksX2_readDelay_0 5 rfl rfl)
theorem dX2_readDelay_6 : decode cX2_readDelay 6 = .ok (.getfield 168, 3) := dk_180 0 168 (dk_at dksX2_readDelay_0 6 rfl rfl)
theorem dX2_readDelay_9 : decode cX2_readDelay 9 = .ok (.invokevirtual 142, 3) := dk_182 0 142 (dk_at dksX2_readDelay_0 9 rfl rfl)
theorem dX2_readDelay_12 : decode cX2_readDelay 12 = .ok (.istore_n 1, 1) := dk_60 (dk_at dksX2_readDelay_0 12 rfl rfl)
theorem dX2_readDelay_13 : decode cX2_readDelay 13 = .ok (.aload_n 0, 1) := dk_42 (dk_at dksX2_readDelay_0 13 rfl rfl)
theorem dX2_readDelay_14 : decode cX2_readDelay 14 = .ok (.iconst 0, 1) := dk_3 (dk_at dksX2_readDelay_0 14 rfl rfl)
theorem dX2_readDelay_15 : decode cX2_readDelay 15 = .ok (.bipush 99, 2) := dk_16 99 (dk_at dksX2_readDelay_0 15 rfl rfl)
theorem dX2_readDelay_17 : decode cX2_readDelay 17 = .ok (.invokevirtual 145, 3) := dk_182 0 145 (dk_at dksX2_readDelay_0 17 rfl rfl)
theorem dX2_readDelay_20 : decode cX2_readDelay 20 = .ok (.istore_n 2, 1) := dk_61 (dk_at dksX2_readDelay_0 20 rfl rfl)
theorem dX2_readDelay_21 : decode cX2_readDelay 21 = .ok (.aload_n 0, 1) := dk_42 (dk_at dksX2_readDelay_0 21 rfl rfl)
theorem dX2_readDelay_22 : decode cX2_readDelay 22 = .ok (.getfield 83, 3) := dk_180 0 83 (dk_at dksX2_readDelay_1 0 rfl rfl)
theorem dX2_readDelay_25 : decode cX2_readDelay 25 = .ok (.ifCond .le 4, 3) := dk_158 0 4 (dk_at dksX2_readDelay_1 3 rfl rfl)
theorem dX2_readDelay_28 : decode cX2_readDelay 28 = .ok (.return_, 1) := dk_177 (dk_at dksX2_readDelay_1 6 rfl rfl)
theorem dX2_readDelay_29 : decode cX2_readDelay 29 = .ok (.aload_n 0, 1) := dk_42 (dk_at dksX2_readDelay_1 7 rfl rfl)
theorem dX2_readDelay_30 : decode cX2_readDelay 30 = .ok (.dup, 1) := dk_89 (dk_at dksX2_readDelay_1 8 rfl rfl)
theorem dX2_readDelay_31 : decode cX2_readDelay 31 = .ok (.getfield 168, 3) := dk_180 0 168 (dk_at dksX2_readDelay_1 9 rfl rfl)
theorem dX2_readDelay_34 : decode cX2_readDelay 34 = .ok (.iconst 1, 1) := dk_4 (dk_at dksX2_readDelay_1 12 rfl rfl)
theorem dX2_readDelay_35 : decode cX2_readDelay 35 = .ok (.iload_n 1, 1) := dk_27 (dk_at dksX2_readDelay_1 13 rfl rfl)
theorem dX2_readDelay_36 : decode cX2_readDelay 36 = .ok (.ishl, 1) := dk_120 (dk_at dksX2_readDelay_1 14 rfl rfl)
theorem dX2_readDelay_37 : decode cX2_readDelay 37 = .ok (.ior, 1) := dk_128 (dk_at dksX2_readDelay_1 15 rfl rfl)
theorem dX2_readDelay_38 : decode cX2_readDelay 38 = .ok (.putfield 168, 3) := dk_181 0 168 (dk_at dksX2_readDelay_1 16 rfl rfl)
theorem dX2_readDelay_41 : decode cX2_readDelay 41 = .ok (.aload_n 0, 1) := dk_42 (dk_at dksX2_readDelay_1 19 rfl rfl)
theorem dX2_readDelay_42 : decode cX2_readDelay 42 = .ok (.getfield 23, 3) := dk_180 0 23 (dk_at dksX2_readDelay_1 20 rfl rfl)
theorem dX2_readDelay_45 : decode cX2_readDelay 45 = .ok (.sipush 156, 3) := dk_17 0 156 (dk_at dksX2_readDelay_2 0 rfl rfl)
theorem dX2_readDelay_48 : decode cX2_readDelay 48 = .ok (.iload_n 1, 1) := dk_27 (dk_at dksX2_readDelay_2 3 rfl rfl)
theorem dX2_readDelay_49 : decode cX2_readDelay 49 = .ok (.iadd, 1) := dk_96 (dk_at dksX2_readDelay_2 4 rfl rfl)
theorem dX2_readDelay_50 : decode cX2_readDelay 50 = .ok (.iload_n 2, 1) := dk_28 (dk_at dksX2_readDelay_2 5 rfl rfl)
theorem dX2_readDelay_51 : decode cX2_readDelay 51 = .ok (.iastore, 1) := dk_79 (dk_at dksX2_readDelay_2 6 rfl rfl)
theorem dX2_readDelay_52 : decode cX2_readDelay 52 = .ok (.return_, 1) := dk_177 (dk_at dksX2_readDelay_2 7 rfl rfl)
abbrev cX2_readWish : ByteArray := prog_16_method_25_code
def yX2_readWish : MethodName := ⟨RX2, "readWish", "()V"⟩
def dkwX2_readWish_2 : List UInt8 := [17, 0, 166, 27, 96, 28, 79, 177]
abbrev dktX2_readWish_2 : List UInt8 := dkwX2_readWish_2 ++ []
def dkwX2_readWish_1 : List UInt8 := [180, 0, 83, 158, 0, 4, 177, 42, 89, 180, 0, 171, 4, 27, 120, 128, 181, 0, 171, 42, 180, 0, 23]
abbrev dktX2_readWish_1 : List UInt8 := dkwX2_readWish_1 ++ dktX2_readWish_2
def dkwX2_readWish_0 : List UInt8 := [42, 182, 0, 122, 42, 42, 180, 0, 171, 182, 0, 142, 60, 42, 3, 17, 3, 231, 182, 0, 145, 61, 42]
abbrev dktX2_readWish_0 : List UInt8 := dkwX2_readWish_0 ++ dktX2_readWish_1
theorem dksX2_readWish_0 : cX2_readWish.data.toList.drop 0 = dktX2_readWish_0 := by decide +kernel
theorem dksX2_readWish_1 : cX2_readWish.data.toList.drop 23 = dktX2_readWish_1 := dk_seg dksX2_readWish_0 23 rfl rfl
theorem dksX2_readWish_2 : cX2_readWish.data.toList.drop 46 = dktX2_readWish_2 := dk_seg dksX2_readWish_1 23 rfl rfl
theorem dX2_readWish_0 : decode cX2_readWish 0 = .ok (.aload_n 0, 1) := dk_42 (dk_at dksX2_readWish_0 0 rfl rfl)
theorem dX2_readWish_1 : decode cX2_readWish 1 = .ok (.invokevirtual 122, 3) := dk_182 0 122 (dk_at dksX2_readWish_0 1 rfl rfl)
theorem dX2_readWish_4 : decode cX2_readWish 4 = .ok (.aload_n 0, 1) := dk_42 (dk_at dksX2_readWish_0 4 rfl rfl)
theorem dX2_readWish_5 : decode cX2_readWish 5 = .ok (.aload_n 0, 1) := dk_42 (dk_at dksX2_readWish_0 5 rfl rfl)
theorem dX2_readWish_6 : decode cX2_readWish 6 = .ok (.getfield 171, 3) := dk_180 0 171 (dk_at dksX2_readWish_0 6 rfl rfl)
theorem dX2_readWish_9 : decode cX2_readWish 9 = .ok (.invokevirtual 142, 3) := dk_182 0 142 (dk_at dksX2_readWish_0 9 rfl rfl)
theorem dX2_readWish_12 : decode cX2_readWish 12 = .ok (.istore_n 1, 1) := dk_60 (dk_at dksX2_readWish_0 12 rfl rfl)
theorem dX2_readWish_13 : decode cX2_readWish 13 = .ok (.aload_n 0, 1) := dk_42 (dk_at dksX2_readWish_0 13 rfl rfl)
theorem dX2_readWish_14 : decode cX2_readWish 14 = .ok (.iconst 0, 1) := dk_3 (dk_at dksX2_readWish_0 14 rfl rfl)
theorem dX2_readWish_15 : decode cX2_readWish 15 = .ok (.sipush 999, 3) := dk_17 3 231 (dk_at dksX2_readWish_0 15 rfl rfl)
theorem dX2_readWish_18 : decode cX2_readWish 18 = .ok (.invokevirtual 145, 3) := dk_182 0 145 (dk_at dksX2_readWish_0 18 rfl rfl)
theorem dX2_readWish_21 : decode cX2_readWish 21 = .ok (.istore_n 2, 1) := dk_61 (dk_at dksX2_readWish_0 21 rfl rfl)
theorem dX2_readWish_22 : decode cX2_readWish 22 = .ok (.aload_n 0, 1) := dk_42 (dk_at dksX2_readWish_0 22 rfl rfl)
theorem dX2_readWish_23 : decode cX2_readWish 23 = .ok (.getfield 83, 3) := dk_180 0 83 (dk_at dksX2_readWish_1 0 rfl rfl)
theorem dX2_readWish_26 : decode cX2_readWish 26 = .ok (.ifCond .le 4, 3) := dk_158 0 4 (dk_at dksX2_readWish_1 3 rfl rfl)
theorem dX2_readWish_29 : decode cX2_readWish 29 = .ok (.return_, 1) := dk_177 (dk_at dksX2_readWish_1 6 rfl rfl)
theorem dX2_readWish_30 : decode cX2_readWish 30 = .ok (.aload_n 0, 1) := dk_42 (dk_at dksX2_readWish_1 7 rfl rfl)
theorem dX2_readWish_31 : decode cX2_readWish 31 = .ok (.dup, 1) := dk_89 (dk_at dksX2_readWish_1 8 rfl rfl)
theorem dX2_readWish_32 : decode cX2_readWish 32 = .ok (.getfield 171, 3) := dk_180 0 171 (dk_at dksX2_readWish_1 9 rfl rfl)
theorem dX2_readWish_35 : decode cX2_readWish 35 = .ok (.iconst 1, 1) := dk_4 (dk_at dksX2_readWish_1 12 rfl rfl)
theorem dX2_readWish_36 : decode cX2_readWish 36 = .ok (.iload_n 1, 1) := dk_27 (dk_at dksX2_readWish_1 13 rfl rfl)
theorem dX2_readWish_37 : decode cX2_readWish 37 = .ok (.ishl, 1) := dk_120 (dk_at dksX2_readWish_1 14 rfl rfl)
theorem dX2_readWish_38 : decode cX2_readWish 38 = .ok (.ior, 1) := dk_128 (dk_at dksX2_readWish_1 15 rfl rfl)
theorem dX2_readWish_39 : decode cX2_readWish 39 = .ok (.putfield 171, 3) := dk_181 0 171 (dk_at dksX2_readWish_1 16 rfl rfl)
theorem dX2_readWish_42 : decode cX2_readWish 42 = .ok (.aload_n 0, 1) := dk_42 (dk_at dksX2_readWish_1 19 rfl rfl)
theorem dX2_readWish_43 : decode cX2_readWish 43 = .ok (.getfield 23, 3) := dk_180 0 23 (dk_at dksX2_readWish_1 20 rfl rfl)
theorem dX2_readWish_46 : decode cX2_readWish 46 = .ok (.sipush 166, 3) := dk_17 0 166 (dk_at dksX2_readWish_2 0 rfl rfl)
theorem dX2_readWish_49 : decode cX2_readWish 49 = .ok (.iload_n 1, 1) := dk_27 (dk_at dksX2_readWish_2 3 rfl rfl)
theorem dX2_readWish_50 : decode cX2_readWish 50 = .ok (.iadd, 1) := dk_96 (dk_at dksX2_readWish_2 4 rfl rfl)
theorem dX2_readWish_51 : decode cX2_readWish 51 = .ok (.iload_n 2, 1) := dk_28 (dk_at dksX2_readWish_2 5 rfl rfl)
theorem dX2_readWish_52 : decode cX2_readWish 52 = .ok (.iastore, 1) := dk_79 (dk_at dksX2_readWish_2 6 rfl rfl)
theorem dX2_readWish_53 : decode cX2_readWish 53 = .ok (.return_, 1) := dk_177 (dk_at dksX2_readWish_2 7 rfl rfl)
abbrev cX2_events : ByteArray := prog_16_method_57_code
def yX2_events : MethodName := ⟨RX2, "events", "()I"⟩
def dkwX2_events_0 : List UInt8 := [42, 42, 182, 0, 230, 182, 1, 29, 172]
abbrev dktX2_events_0 : List UInt8 := dkwX2_events_0 ++ []
theorem dksX2_events_0 : cX2_events.data.toList.drop 0 = dktX2_events_0 := by decide +kernel
theorem dX2_events_0 : decode cX2_events 0 = .ok (.aload_n 0, 1) := dk_42 (dk_at dksX2_events_0 0 rfl rfl)
theorem dX2_events_1 : decode cX2_events 1 = .ok (.aload_n 0, 1) := dk_42 (dk_at dksX2_events_0 1 rfl rfl)
theorem dX2_events_2 : decode cX2_events 2 = .ok (.invokevirtual 230, 3) := dk_182 0 230 (dk_at dksX2_events_0 2 rfl rfl)
theorem dX2_events_5 : decode cX2_events 5 = .ok (.invokevirtual 285, 3) := dk_182 1 29 (dk_at dksX2_events_0 5 rfl rfl)
theorem dX2_events_8 : decode cX2_events 8 = .ok (.ireturn, 1) := dk_172 (dk_at dksX2_events_0 8 rfl rfl)
abbrev cX2_eventsNow : ByteArray := prog_16_method_31_code
def yX2_eventsNow : MethodName := ⟨RX2, "eventsNow", "()I"⟩
def dkwX2_eventsNow_0 : List UInt8 := [42, 180, 0, 23, 3, 46, 172]
abbrev dktX2_eventsNow_0 : List UInt8 := dkwX2_eventsNow_0 ++ []
theorem dksX2_eventsNow_0 : cX2_eventsNow.data.toList.drop 0 = dktX2_eventsNow_0 := by decide +kernel
theorem dX2_eventsNow_0 : decode cX2_eventsNow 0 = .ok (.aload_n 0, 1) := dk_42 (dk_at dksX2_eventsNow_0 0 rfl rfl)
theorem dX2_eventsNow_1 : decode cX2_eventsNow 1 = .ok (.getfield 23, 3) := dk_180 0 23 (dk_at dksX2_eventsNow_0 1 rfl rfl)
theorem dX2_eventsNow_4 : decode cX2_eventsNow 4 = .ok (.iconst 0, 1) := dk_3 (dk_at dksX2_eventsNow_0 4 rfl rfl)
theorem dX2_eventsNow_5 : decode cX2_eventsNow 5 = .ok (.iaload, 1) := dk_46 (dk_at dksX2_eventsNow_0 5 rfl rfl)
theorem dX2_eventsNow_6 : decode cX2_eventsNow 6 = .ok (.ireturn, 1) := dk_172 (dk_at dksX2_eventsNow_0 6 rfl rfl)
abbrev cX2_given : ByteArray := prog_16_method_56_code
def yX2_given : MethodName := ⟨RX2, "given", "(I)I"⟩
def dkwX2_given_0 : List UInt8 := [42, 3, 181, 0, 73, 42, 180, 0, 207, 153, 0, 7, 27, 167, 0, 4, 3, 172]
abbrev dktX2_given_0 : List UInt8 := dkwX2_given_0 ++ []
theorem dksX2_given_0 : cX2_given.data.toList.drop 0 = dktX2_given_0 := by decide +kernel
theorem dX2_given_0 : decode cX2_given 0 = .ok (.aload_n 0, 1) := dk_42 (dk_at dksX2_given_0 0 rfl rfl)
theorem dX2_given_1 : decode cX2_given 1 = .ok (.iconst 0, 1) := dk_3 (dk_at dksX2_given_0 1 rfl rfl)
theorem dX2_given_2 : decode cX2_given 2 = .ok (.putfield 73, 3) := dk_181 0 73 (dk_at dksX2_given_0 2 rfl rfl)
theorem dX2_given_5 : decode cX2_given 5 = .ok (.aload_n 0, 1) := dk_42 (dk_at dksX2_given_0 5 rfl rfl)
theorem dX2_given_6 : decode cX2_given 6 = .ok (.getfield 207, 3) := dk_180 0 207 (dk_at dksX2_given_0 6 rfl rfl)
theorem dX2_given_9 : decode cX2_given 9 = .ok (.ifCond .eq 7, 3) := dk_153 0 7 (dk_at dksX2_given_0 9 rfl rfl)
theorem dX2_given_12 : decode cX2_given 12 = .ok (.iload_n 1, 1) := dk_27 (dk_at dksX2_given_0 12 rfl rfl)
theorem dX2_given_13 : decode cX2_given 13 = .ok (.goto 4, 3) := dk_167 0 4 (dk_at dksX2_given_0 13 rfl rfl)
theorem dX2_given_16 : decode cX2_given 16 = .ok (.iconst 0, 1) := dk_3 (dk_at dksX2_given_0 16 rfl rfl)
theorem dX2_given_17 : decode cX2_given 17 = .ok (.ireturn, 1) := dk_172 (dk_at dksX2_given_0 17 rfl rfl)
abbrev cX2_windows : ByteArray := prog_16_method_58_code
def yX2_windows : MethodName := ⟨RX2, "windows", "()I"⟩
def dkwX2_windows_0 : List UInt8 := [42, 42, 182, 0, 220, 182, 1, 29, 172]
abbrev dktX2_windows_0 : List UInt8 := dkwX2_windows_0 ++ []
theorem dksX2_windows_0 : cX2_windows.data.toList.drop 0 = dktX2_windows_0 := by decide +kernel
theorem dX2_windows_0 : decode cX2_windows 0 = .ok (.aload_n 0, 1) := dk_42 (dk_at dksX2_windows_0 0 rfl rfl)
theorem dX2_windows_1 : decode cX2_windows 1 = .ok (.aload_n 0, 1) := dk_42 (dk_at dksX2_windows_0 1 rfl rfl)
theorem dX2_windows_2 : decode cX2_windows 2 = .ok (.invokevirtual 220, 3) := dk_182 0 220 (dk_at dksX2_windows_0 2 rfl rfl)
theorem dX2_windows_5 : decode cX2_windows 5 = .ok (.invokevirtual 285, 3) := dk_182 1 29 (dk_at dksX2_windows_0 5 rfl rfl)
theorem dX2_windows_8 : decode cX2_windows 8 = .ok (.ireturn, 1) := dk_172 (dk_at dksX2_windows_0 8 rfl rfl)
abbrev cX2_windowsNow : ByteArray := prog_16_method_32_code
def yX2_windowsNow : MethodName := ⟨RX2, "windowsNow", "()I"⟩
def dkwX2_windowsNow_0 : List UInt8 := [42, 180, 0, 23, 4, 46, 172]
abbrev dktX2_windowsNow_0 : List UInt8 := dkwX2_windowsNow_0 ++ []
theorem dksX2_windowsNow_0 : cX2_windowsNow.data.toList.drop 0 = dktX2_windowsNow_0 := by decide +kernel
theorem dX2_windowsNow_0 : decode cX2_windowsNow 0 = .ok (.aload_n 0, 1) := dk_42 (dk_at dksX2_windowsNow_0 0 rfl rfl)
theorem dX2_windowsNow_1 : decode cX2_windowsNow 1 = .ok (.getfield 23, 3) := dk_180 0 23 (dk_at dksX2_windowsNow_0 1 rfl rfl)
theorem dX2_windowsNow_4 : decode cX2_windowsNow 4 = .ok (.iconst 1, 1) := dk_4 (dk_at dksX2_windowsNow_0 4 rfl rfl)
theorem dX2_windowsNow_5 : decode cX2_windowsNow 5 = .ok (.iaload, 1) := dk_46 (dk_at dksX2_windowsNow_0 5 rfl rfl)
theorem dX2_windowsNow_6 : decode cX2_windowsNow 6 = .ok (.ireturn, 1) := dk_172 (dk_at dksX2_windowsNow_0 6 rfl rfl)
abbrev cX2_letter : ByteArray := prog_16_method_59_code
def yX2_letter : MethodName := ⟨RX2, "letter", "(II)I"⟩
def dkwX2_letter_2 : List UInt8 := [27, 104, 28, 96, 51, 167, 0, 4, 3, 172]
abbrev dktX2_letter_2 : List UInt8 := dkwX2_letter_2 ++ []
def dkwX2_letter_1 : List UInt8 := [100, 184, 0, 102, 153, 0, 7, 4, 167, 0, 4, 3, 182, 1, 35, 153, 0, 17, 42, 180, 0, 17, 16, 8]
abbrev dktX2_letter_1 : List UInt8 := dkwX2_letter_1 ++ dktX2_letter_2
def dkwX2_letter_0 : List UInt8 := [42, 42, 180, 0, 207, 153, 0, 30, 42, 27, 182, 1, 32, 153, 0, 22, 28, 3, 42, 27, 182, 0, 125, 4]
abbrev dktX2_letter_0 : List UInt8 := dkwX2_letter_0 ++ dktX2_letter_1
theorem dksX2_letter_0 : cX2_letter.data.toList.drop 0 = dktX2_letter_0 := by decide +kernel
theorem dksX2_letter_1 : cX2_letter.data.toList.drop 24 = dktX2_letter_1 := dk_seg dksX2_letter_0 24 rfl rfl
theorem dksX2_letter_2 : cX2_letter.data.toList.drop 48 = dktX2_letter_2 := dk_seg dksX2_letter_1 24 rfl rfl
theorem dX2_letter_0 : decode cX2_letter 0 = .ok (.aload_n 0, 1) := dk_42 (dk_at dksX2_letter_0 0 rfl rfl)
theorem dX2_letter_1 : decode cX2_letter 1 = .ok (.aload_n 0, 1) := dk_42 (dk_at dksX2_letter_0 1 rfl rfl)
theorem dX2_letter_2 : decode cX2_letter 2 = .ok (.getfield 207, 3) := dk_180 0 207 (dk_at dksX2_letter_0 2 rfl rfl)
theorem dX2_letter_5 : decode cX2_letter 5 = .ok (.ifCond .eq 30, 3) := dk_153 0 30 (dk_at dksX2_letter_0 5 rfl rfl)
theorem dX2_letter_8 : decode cX2_letter 8 = .ok (.aload_n 0, 1) := dk_42 (dk_at dksX2_letter_0 8 rfl rfl)
theorem dX2_letter_9 : decode cX2_letter 9 = .ok (.iload_n 1, 1) := dk_27 (dk_at dksX2_letter_0 9 rfl rfl)
theorem dX2_letter_10 : decode cX2_letter 10 = .ok (.invokevirtual 288, 3) := dk_182 1 32 (dk_at dksX2_letter_0 10 rfl rfl)
theorem dX2_letter_13 : decode cX2_letter 13 = .ok (.ifCond .eq 22, 3) := dk_153 0 22 (dk_at dksX2_letter_0 13 rfl rfl)
theorem dX2_letter_16 : decode cX2_letter 16 = .ok (.iload_n 2, 1) := dk_28 (dk_at dksX2_letter_0 16 rfl rfl)
theorem dX2_letter_17 : decode cX2_letter 17 = .ok (.iconst 0, 1) := dk_3 (dk_at dksX2_letter_0 17 rfl rfl)
theorem dX2_letter_18 : decode cX2_letter 18 = .ok (.aload_n 0, 1) := dk_42 (dk_at dksX2_letter_0 18 rfl rfl)
theorem dX2_letter_19 : decode cX2_letter 19 = .ok (.iload_n 1, 1) := dk_27 (dk_at dksX2_letter_0 19 rfl rfl)
theorem dX2_letter_20 : decode cX2_letter 20 = .ok (.invokevirtual 125, 3) := dk_182 0 125 (dk_at dksX2_letter_0 20 rfl rfl)
theorem dX2_letter_23 : decode cX2_letter 23 = .ok (.iconst 1, 1) := dk_4 (dk_at dksX2_letter_0 23 rfl rfl)
theorem dX2_letter_24 : decode cX2_letter 24 = .ok (.isub, 1) := dk_100 (dk_at dksX2_letter_1 0 rfl rfl)
theorem dX2_letter_25 : decode cX2_letter 25 = .ok (.invokestatic 102, 3) := dk_184 0 102 (dk_at dksX2_letter_1 1 rfl rfl)
theorem dX2_letter_28 : decode cX2_letter 28 = .ok (.ifCond .eq 7, 3) := dk_153 0 7 (dk_at dksX2_letter_1 4 rfl rfl)
theorem dX2_letter_31 : decode cX2_letter 31 = .ok (.iconst 1, 1) := dk_4 (dk_at dksX2_letter_1 7 rfl rfl)
theorem dX2_letter_32 : decode cX2_letter 32 = .ok (.goto 4, 3) := dk_167 0 4 (dk_at dksX2_letter_1 8 rfl rfl)
theorem dX2_letter_35 : decode cX2_letter 35 = .ok (.iconst 0, 1) := dk_3 (dk_at dksX2_letter_1 11 rfl rfl)
theorem dX2_letter_36 : decode cX2_letter 36 = .ok (.invokevirtual 291, 3) := dk_182 1 35 (dk_at dksX2_letter_1 12 rfl rfl)
theorem dX2_letter_39 : decode cX2_letter 39 = .ok (.ifCond .eq 17, 3) := dk_153 0 17 (dk_at dksX2_letter_1 15 rfl rfl)
theorem dX2_letter_42 : decode cX2_letter 42 = .ok (.aload_n 0, 1) := dk_42 (dk_at dksX2_letter_1 18 rfl rfl)
theorem dX2_letter_43 : decode cX2_letter 43 = .ok (.getfield 17, 3) := dk_180 0 17 (dk_at dksX2_letter_1 19 rfl rfl)
theorem dX2_letter_46 : decode cX2_letter 46 = .ok (.bipush 8, 2) := dk_16 8 (dk_at dksX2_letter_1 22 rfl rfl)
theorem dX2_letter_48 : decode cX2_letter 48 = .ok (.iload_n 1, 1) := dk_27 (dk_at dksX2_letter_2 0 rfl rfl)
theorem dX2_letter_49 : decode cX2_letter 49 = .ok (.imul, 1) := dk_104 (dk_at dksX2_letter_2 1 rfl rfl)
theorem dX2_letter_50 : decode cX2_letter 50 = .ok (.iload_n 2, 1) := dk_28 (dk_at dksX2_letter_2 2 rfl rfl)
theorem dX2_letter_51 : decode cX2_letter 51 = .ok (.iadd, 1) := dk_96 (dk_at dksX2_letter_2 3 rfl rfl)
theorem dX2_letter_52 : decode cX2_letter 52 = .ok (.baload, 1) := dk_51 (dk_at dksX2_letter_2 4 rfl rfl)
theorem dX2_letter_53 : decode cX2_letter 53 = .ok (.goto 4, 3) := dk_167 0 4 (dk_at dksX2_letter_2 5 rfl rfl)
theorem dX2_letter_56 : decode cX2_letter 56 = .ok (.iconst 0, 1) := dk_3 (dk_at dksX2_letter_2 8 rfl rfl)
theorem dX2_letter_57 : decode cX2_letter 57 = .ok (.ireturn, 1) := dk_172 (dk_at dksX2_letter_2 9 rfl rfl)
abbrev cX2_isEvent : ByteArray := prog_16_method_53_code
def yX2_isEvent : MethodName := ⟨RX2, "isEvent", "(I)Z"⟩
def dkwX2_isEvent_0 : List UInt8 := [27, 3, 42, 182, 0, 230, 4, 100, 184, 0, 102, 172]
abbrev dktX2_isEvent_0 : List UInt8 := dkwX2_isEvent_0 ++ []
theorem dksX2_isEvent_0 : cX2_isEvent.data.toList.drop 0 = dktX2_isEvent_0 := by decide +kernel
theorem dX2_isEvent_0 : decode cX2_isEvent 0 = .ok (.iload_n 1, 1) := dk_27 (dk_at dksX2_isEvent_0 0 rfl rfl)
theorem dX2_isEvent_1 : decode cX2_isEvent 1 = .ok (.iconst 0, 1) := dk_3 (dk_at dksX2_isEvent_0 1 rfl rfl)
theorem dX2_isEvent_2 : decode cX2_isEvent 2 = .ok (.aload_n 0, 1) := dk_42 (dk_at dksX2_isEvent_0 2 rfl rfl)
theorem dX2_isEvent_3 : decode cX2_isEvent 3 = .ok (.invokevirtual 230, 3) := dk_182 0 230 (dk_at dksX2_isEvent_0 3 rfl rfl)
theorem dX2_isEvent_6 : decode cX2_isEvent 6 = .ok (.iconst 1, 1) := dk_4 (dk_at dksX2_isEvent_0 6 rfl rfl)
theorem dX2_isEvent_7 : decode cX2_isEvent 7 = .ok (.isub, 1) := dk_100 (dk_at dksX2_isEvent_0 7 rfl rfl)
theorem dX2_isEvent_8 : decode cX2_isEvent 8 = .ok (.invokestatic 102, 3) := dk_184 0 102 (dk_at dksX2_isEvent_0 8 rfl rfl)
theorem dX2_isEvent_11 : decode cX2_isEvent 11 = .ok (.ireturn, 1) := dk_172 (dk_at dksX2_isEvent_0 11 rfl rfl)
abbrev cX2_mayAsk : ByteArray := prog_16_method_49_code
def yX2_mayAsk : MethodName := ⟨RX2, "mayAsk", "(Z)Z"⟩
def dkwX2_mayAsk_1 : List UInt8 := [42, 180, 0, 73, 154, 0, 7, 4, 167, 0, 4, 3, 172]
abbrev dktX2_mayAsk_1 : List UInt8 := dkwX2_mayAsk_1 ++ []
def dkwX2_mayAsk_0 : List UInt8 := [42, 42, 180, 0, 207, 154, 0, 7, 4, 167, 0, 12, 27, 153, 0, 7, 3, 167, 0, 4, 5, 181, 0, 73]
abbrev dktX2_mayAsk_0 : List UInt8 := dkwX2_mayAsk_0 ++ dktX2_mayAsk_1
theorem dksX2_mayAsk_0 : cX2_mayAsk.data.toList.drop 0 = dktX2_mayAsk_0 := by decide +kernel
theorem dksX2_mayAsk_1 : cX2_mayAsk.data.toList.drop 24 = dktX2_mayAsk_1 := dk_seg dksX2_mayAsk_0 24 rfl rfl
theorem dX2_mayAsk_0 : decode cX2_mayAsk 0 = .ok (.aload_n 0, 1) := dk_42 (dk_at dksX2_mayAsk_0 0 rfl rfl)
theorem dX2_mayAsk_1 : decode cX2_mayAsk 1 = .ok (.aload_n 0, 1) := dk_42 (dk_at dksX2_mayAsk_0 1 rfl rfl)
theorem dX2_mayAsk_2 : decode cX2_mayAsk 2 = .ok (.getfield 207, 3) := dk_180 0 207 (dk_at dksX2_mayAsk_0 2 rfl rfl)
theorem dX2_mayAsk_5 : decode cX2_mayAsk 5 = .ok (.ifCond .ne 7, 3) := dk_154 0 7 (dk_at dksX2_mayAsk_0 5 rfl rfl)
theorem dX2_mayAsk_8 : decode cX2_mayAsk 8 = .ok (.iconst 1, 1) := dk_4 (dk_at dksX2_mayAsk_0 8 rfl rfl)
theorem dX2_mayAsk_9 : decode cX2_mayAsk 9 = .ok (.goto 12, 3) := dk_167 0 12 (dk_at dksX2_mayAsk_0 9 rfl rfl)
theorem dX2_mayAsk_12 : decode cX2_mayAsk 12 = .ok (.iload_n 1, 1) := dk_27 (dk_at dksX2_mayAsk_0 12 rfl rfl)
theorem dX2_mayAsk_13 : decode cX2_mayAsk 13 = .ok (.ifCond .eq 7, 3) := dk_153 0 7 (dk_at dksX2_mayAsk_0 13 rfl rfl)
theorem dX2_mayAsk_16 : decode cX2_mayAsk 16 = .ok (.iconst 0, 1) := dk_3 (dk_at dksX2_mayAsk_0 16 rfl rfl)
theorem dX2_mayAsk_17 : decode cX2_mayAsk 17 = .ok (.goto 4, 3) := dk_167 0 4 (dk_at dksX2_mayAsk_0 17 rfl rfl)
theorem dX2_mayAsk_20 : decode cX2_mayAsk 20 = .ok (.iconst 2, 1) := dk_5 (dk_at dksX2_mayAsk_0 20 rfl rfl)
theorem dX2_mayAsk_21 : decode cX2_mayAsk 21 = .ok (.putfield 73, 3) := dk_181 0 73 (dk_at dksX2_mayAsk_0 21 rfl rfl)
theorem dX2_mayAsk_24 : decode cX2_mayAsk 24 = .ok (.aload_n 0, 1) := dk_42 (dk_at dksX2_mayAsk_1 0 rfl rfl)
theorem dX2_mayAsk_25 : decode cX2_mayAsk 25 = .ok (.getfield 73, 3) := dk_180 0 73 (dk_at dksX2_mayAsk_1 1 rfl rfl)
theorem dX2_mayAsk_28 : decode cX2_mayAsk 28 = .ok (.ifCond .ne 7, 3) := dk_154 0 7 (dk_at dksX2_mayAsk_1 4 rfl rfl)
theorem dX2_mayAsk_31 : decode cX2_mayAsk 31 = .ok (.iconst 1, 1) := dk_4 (dk_at dksX2_mayAsk_1 7 rfl rfl)
theorem dX2_mayAsk_32 : decode cX2_mayAsk 32 = .ok (.goto 4, 3) := dk_167 0 4 (dk_at dksX2_mayAsk_1 8 rfl rfl)
theorem dX2_mayAsk_35 : decode cX2_mayAsk 35 = .ok (.iconst 0, 1) := dk_3 (dk_at dksX2_mayAsk_1 11 rfl rfl)
theorem dX2_mayAsk_36 : decode cX2_mayAsk 36 = .ok (.ireturn, 1) := dk_172 (dk_at dksX2_mayAsk_1 12 rfl rfl)
abbrev cX2_window : ByteArray := prog_16_method_60_code
def yX2_window : MethodName := ⟨RX2, "window", "(II)I"⟩
def dkwX2_window_1 : List UInt8 := [167, 0, 4, 3, 172]
abbrev dktX2_window_1 : List UInt8 := dkwX2_window_1 ++ []
def dkwX2_window_0 : List UInt8 := [42, 42, 27, 182, 1, 39, 28, 3, 8, 184, 0, 102, 182, 1, 42, 153, 0, 12, 42, 27, 28, 182, 0, 214]
abbrev dktX2_window_0 : List UInt8 := dkwX2_window_0 ++ dktX2_window_1
theorem dksX2_window_0 : cX2_window.data.toList.drop 0 = dktX2_window_0 := by decide +kernel
theorem dksX2_window_1 : cX2_window.data.toList.drop 24 = dktX2_window_1 := dk_seg dksX2_window_0 24 rfl rfl
theorem dX2_window_0 : decode cX2_window 0 = .ok (.aload_n 0, 1) := dk_42 (dk_at dksX2_window_0 0 rfl rfl)
theorem dX2_window_1 : decode cX2_window 1 = .ok (.aload_n 0, 1) := dk_42 (dk_at dksX2_window_0 1 rfl rfl)
theorem dX2_window_2 : decode cX2_window 2 = .ok (.iload_n 1, 1) := dk_27 (dk_at dksX2_window_0 2 rfl rfl)
theorem dX2_window_3 : decode cX2_window 3 = .ok (.invokevirtual 295, 3) := dk_182 1 39 (dk_at dksX2_window_0 3 rfl rfl)
theorem dX2_window_6 : decode cX2_window 6 = .ok (.iload_n 2, 1) := dk_28 (dk_at dksX2_window_0 6 rfl rfl)
theorem dX2_window_7 : decode cX2_window 7 = .ok (.iconst 0, 1) := dk_3 (dk_at dksX2_window_0 7 rfl rfl)
theorem dX2_window_8 : decode cX2_window 8 = .ok (.iconst 5, 1) := dk_8 (dk_at dksX2_window_0 8 rfl rfl)
theorem dX2_window_9 : decode cX2_window 9 = .ok (.invokestatic 102, 3) := dk_184 0 102 (dk_at dksX2_window_0 9 rfl rfl)
theorem dX2_window_12 : decode cX2_window 12 = .ok (.invokevirtual 298, 3) := dk_182 1 42 (dk_at dksX2_window_0 12 rfl rfl)
theorem dX2_window_15 : decode cX2_window 15 = .ok (.ifCond .eq 12, 3) := dk_153 0 12 (dk_at dksX2_window_0 15 rfl rfl)
theorem dX2_window_18 : decode cX2_window 18 = .ok (.aload_n 0, 1) := dk_42 (dk_at dksX2_window_0 18 rfl rfl)
theorem dX2_window_19 : decode cX2_window 19 = .ok (.iload_n 1, 1) := dk_27 (dk_at dksX2_window_0 19 rfl rfl)
theorem dX2_window_20 : decode cX2_window 20 = .ok (.iload_n 2, 1) := dk_28 (dk_at dksX2_window_0 20 rfl rfl)
theorem dX2_window_21 : decode cX2_window 21 = .ok (.invokevirtual 214, 3) := dk_182 0 214 (dk_at dksX2_window_0 21 rfl rfl)
theorem dX2_window_24 : decode cX2_window 24 = .ok (.goto 4, 3) := dk_167 0 4 (dk_at dksX2_window_1 0 rfl rfl)
theorem dX2_window_27 : decode cX2_window 27 = .ok (.iconst 0, 1) := dk_3 (dk_at dksX2_window_1 3 rfl rfl)
theorem dX2_window_28 : decode cX2_window 28 = .ok (.ireturn, 1) := dk_172 (dk_at dksX2_window_1 4 rfl rfl)
abbrev cX2_isWindow : ByteArray := prog_16_method_54_code
def yX2_isWindow : MethodName := ⟨RX2, "isWindow", "(I)Z"⟩
def dkwX2_isWindow_0 : List UInt8 := [27, 3, 42, 182, 0, 220, 4, 100, 184, 0, 102, 172]
abbrev dktX2_isWindow_0 : List UInt8 := dkwX2_isWindow_0 ++ []
theorem dksX2_isWindow_0 : cX2_isWindow.data.toList.drop 0 = dktX2_isWindow_0 := by decide +kernel
theorem dX2_isWindow_0 : decode cX2_isWindow 0 = .ok (.iload_n 1, 1) := dk_27 (dk_at dksX2_isWindow_0 0 rfl rfl)
theorem dX2_isWindow_1 : decode cX2_isWindow 1 = .ok (.iconst 0, 1) := dk_3 (dk_at dksX2_isWindow_0 1 rfl rfl)
theorem dX2_isWindow_2 : decode cX2_isWindow 2 = .ok (.aload_n 0, 1) := dk_42 (dk_at dksX2_isWindow_0 2 rfl rfl)
theorem dX2_isWindow_3 : decode cX2_isWindow 3 = .ok (.invokevirtual 220, 3) := dk_182 0 220 (dk_at dksX2_isWindow_0 3 rfl rfl)
theorem dX2_isWindow_6 : decode cX2_isWindow 6 = .ok (.iconst 1, 1) := dk_4 (dk_at dksX2_isWindow_0 6 rfl rfl)
theorem dX2_isWindow_7 : decode cX2_isWindow 7 = .ok (.isub, 1) := dk_100 (dk_at dksX2_isWindow_0 7 rfl rfl)
theorem dX2_isWindow_8 : decode cX2_isWindow 8 = .ok (.invokestatic 102, 3) := dk_184 0 102 (dk_at dksX2_isWindow_0 8 rfl rfl)
theorem dX2_isWindow_11 : decode cX2_isWindow 11 = .ok (.ireturn, 1) := dk_172 (dk_at dksX2_isWindow_0 11 rfl rfl)
abbrev cX2_mayAskFor : ByteArray := prog_16_method_50_code
def yX2_mayAskFor : MethodName := ⟨RX2, "mayAskFor", "(ZZ)Z"⟩
def dkwX2_mayAskFor_1 : List UInt8 := [3, 167, 0, 4, 6, 181, 0, 73, 42, 180, 0, 73, 154, 0, 7, 4, 167, 0, 4, 3, 172]
abbrev dktX2_mayAskFor_1 : List UInt8 := dkwX2_mayAskFor_1 ++ []
def dkwX2_mayAskFor_0 : List UInt8 := [42, 42, 180, 0, 207, 154, 0, 7, 4, 167, 0, 20, 27, 154, 0, 7, 5, 167, 0, 12, 28, 153, 0, 7]
abbrev dktX2_mayAskFor_0 : List UInt8 := dkwX2_mayAskFor_0 ++ dktX2_mayAskFor_1
theorem dksX2_mayAskFor_0 : cX2_mayAskFor.data.toList.drop 0 = dktX2_mayAskFor_0 := by decide +kernel
theorem dksX2_mayAskFor_1 : cX2_mayAskFor.data.toList.drop 24 = dktX2_mayAskFor_1 := dk_seg dksX2_mayAskFor_0 24 rfl rfl
theorem dX2_mayAskFor_0 : decode cX2_mayAskFor 0 = .ok (.aload_n 0, 1) := dk_42 (dk_at dksX2_mayAskFor_0 0 rfl rfl)
theorem dX2_mayAskFor_1 : decode cX2_mayAskFor 1 = .ok (.aload_n 0, 1) := dk_42 (dk_at dksX2_mayAskFor_0 1 rfl rfl)
theorem dX2_mayAskFor_2 : decode cX2_mayAskFor 2 = .ok (.getfield 207, 3) := dk_180 0 207 (dk_at dksX2_mayAskFor_0 2 rfl rfl)
theorem dX2_mayAskFor_5 : decode cX2_mayAskFor 5 = .ok (.ifCond .ne 7, 3) := dk_154 0 7 (dk_at dksX2_mayAskFor_0 5 rfl rfl)
theorem dX2_mayAskFor_8 : decode cX2_mayAskFor 8 = .ok (.iconst 1, 1) := dk_4 (dk_at dksX2_mayAskFor_0 8 rfl rfl)
theorem dX2_mayAskFor_9 : decode cX2_mayAskFor 9 = .ok (.goto 20, 3) := dk_167 0 20 (dk_at dksX2_mayAskFor_0 9 rfl rfl)
theorem dX2_mayAskFor_12 : decode cX2_mayAskFor 12 = .ok (.iload_n 1, 1) := dk_27 (dk_at dksX2_mayAskFor_0 12 rfl rfl)
theorem dX2_mayAskFor_13 : decode cX2_mayAskFor 13 = .ok (.ifCond .ne 7, 3) := dk_154 0 7 (dk_at dksX2_mayAskFor_0 13 rfl rfl)
theorem dX2_mayAskFor_16 : decode cX2_mayAskFor 16 = .ok (.iconst 2, 1) := dk_5 (dk_at dksX2_mayAskFor_0 16 rfl rfl)
theorem dX2_mayAskFor_17 : decode cX2_mayAskFor 17 = .ok (.goto 12, 3) := dk_167 0 12 (dk_at dksX2_mayAskFor_0 17 rfl rfl)
theorem dX2_mayAskFor_20 : decode cX2_mayAskFor 20 = .ok (.iload_n 2, 1) := dk_28 (dk_at dksX2_mayAskFor_0 20 rfl rfl)
theorem dX2_mayAskFor_21 : decode cX2_mayAskFor 21 = .ok (.ifCond .eq 7, 3) := dk_153 0 7 (dk_at dksX2_mayAskFor_0 21 rfl rfl)
theorem dX2_mayAskFor_24 : decode cX2_mayAskFor 24 = .ok (.iconst 0, 1) := dk_3 (dk_at dksX2_mayAskFor_1 0 rfl rfl)
theorem dX2_mayAskFor_25 : decode cX2_mayAskFor 25 = .ok (.goto 4, 3) := dk_167 0 4 (dk_at dksX2_mayAskFor_1 1 rfl rfl)
theorem dX2_mayAskFor_28 : decode cX2_mayAskFor 28 = .ok (.iconst 3, 1) := dk_6 (dk_at dksX2_mayAskFor_1 4 rfl rfl)
theorem dX2_mayAskFor_29 : decode cX2_mayAskFor 29 = .ok (.putfield 73, 3) := dk_181 0 73 (dk_at dksX2_mayAskFor_1 5 rfl rfl)
theorem dX2_mayAskFor_32 : decode cX2_mayAskFor 32 = .ok (.aload_n 0, 1) := dk_42 (dk_at dksX2_mayAskFor_1 8 rfl rfl)
theorem dX2_mayAskFor_33 : decode cX2_mayAskFor 33 = .ok (.getfield 73, 3) := dk_180 0 73 (dk_at dksX2_mayAskFor_1 9 rfl rfl)
theorem dX2_mayAskFor_36 : decode cX2_mayAskFor 36 = .ok (.ifCond .ne 7, 3) := dk_154 0 7 (dk_at dksX2_mayAskFor_1 12 rfl rfl)
theorem dX2_mayAskFor_39 : decode cX2_mayAskFor 39 = .ok (.iconst 1, 1) := dk_4 (dk_at dksX2_mayAskFor_1 15 rfl rfl)
theorem dX2_mayAskFor_40 : decode cX2_mayAskFor 40 = .ok (.goto 4, 3) := dk_167 0 4 (dk_at dksX2_mayAskFor_1 16 rfl rfl)
theorem dX2_mayAskFor_43 : decode cX2_mayAskFor 43 = .ok (.iconst 0, 1) := dk_3 (dk_at dksX2_mayAskFor_1 19 rfl rfl)
theorem dX2_mayAskFor_44 : decode cX2_mayAskFor 44 = .ok (.ireturn, 1) := dk_172 (dk_at dksX2_mayAskFor_1 20 rfl rfl)
abbrev cX2_of : ByteArray := prog_16_method_30_code
def yX2_of : MethodName := ⟨RX2, "of", "(II)I"⟩
def dkwX2_of_0 : List UInt8 := [42, 180, 0, 23, 27, 28, 184, 0, 162, 46, 172]
abbrev dktX2_of_0 : List UInt8 := dkwX2_of_0 ++ []
theorem dksX2_of_0 : cX2_of.data.toList.drop 0 = dktX2_of_0 := by decide +kernel
theorem dX2_of_0 : decode cX2_of 0 = .ok (.aload_n 0, 1) := dk_42 (dk_at dksX2_of_0 0 rfl rfl)
theorem dX2_of_1 : decode cX2_of 1 = .ok (.getfield 23, 3) := dk_180 0 23 (dk_at dksX2_of_0 1 rfl rfl)
theorem dX2_of_4 : decode cX2_of 4 = .ok (.iload_n 1, 1) := dk_27 (dk_at dksX2_of_0 4 rfl rfl)
theorem dX2_of_5 : decode cX2_of 5 = .ok (.iload_n 2, 1) := dk_28 (dk_at dksX2_of_0 5 rfl rfl)
theorem dX2_of_6 : decode cX2_of 6 = .ok (.invokestatic 162, 3) := dk_184 0 162 (dk_at dksX2_of_0 6 rfl rfl)
theorem dX2_of_9 : decode cX2_of 9 = .ok (.iaload, 1) := dk_46 (dk_at dksX2_of_0 9 rfl rfl)
theorem dX2_of_10 : decode cX2_of 10 = .ok (.ireturn, 1) := dk_172 (dk_at dksX2_of_0 10 rfl rfl)
abbrev cX2_fixedAt : ByteArray := prog_16_method_61_code
def yX2_fixedAt : MethodName := ⟨RX2, "fixedAt", "(I)I"⟩
def dkwX2_fixedAt_1 : List UInt8 := [167, 0, 4, 3, 172]
abbrev dktX2_fixedAt_1 : List UInt8 := dkwX2_fixedAt_1 ++ []
def dkwX2_fixedAt_0 : List UInt8 := [42, 42, 27, 182, 1, 32, 182, 1, 35, 153, 0, 16, 42, 180, 0, 23, 17, 0, 146, 27, 96, 46]
abbrev dktX2_fixedAt_0 : List UInt8 := dkwX2_fixedAt_0 ++ dktX2_fixedAt_1
theorem dksX2_fixedAt_0 : cX2_fixedAt.data.toList.drop 0 = dktX2_fixedAt_0 := by decide +kernel
theorem dksX2_fixedAt_1 : cX2_fixedAt.data.toList.drop 22 = dktX2_fixedAt_1 := dk_seg dksX2_fixedAt_0 22 rfl rfl
theorem dX2_fixedAt_0 : decode cX2_fixedAt 0 = .ok (.aload_n 0, 1) := dk_42 (dk_at dksX2_fixedAt_0 0 rfl rfl)
theorem dX2_fixedAt_1 : decode cX2_fixedAt 1 = .ok (.aload_n 0, 1) := dk_42 (dk_at dksX2_fixedAt_0 1 rfl rfl)
theorem dX2_fixedAt_2 : decode cX2_fixedAt 2 = .ok (.iload_n 1, 1) := dk_27 (dk_at dksX2_fixedAt_0 2 rfl rfl)
theorem dX2_fixedAt_3 : decode cX2_fixedAt 3 = .ok (.invokevirtual 288, 3) := dk_182 1 32 (dk_at dksX2_fixedAt_0 3 rfl rfl)
theorem dX2_fixedAt_6 : decode cX2_fixedAt 6 = .ok (.invokevirtual 291, 3) := dk_182 1 35 (dk_at dksX2_fixedAt_0 6 rfl rfl)
theorem dX2_fixedAt_9 : decode cX2_fixedAt 9 = .ok (.ifCond .eq 16, 3) := dk_153 0 16 (dk_at dksX2_fixedAt_0 9 rfl rfl)
theorem dX2_fixedAt_12 : decode cX2_fixedAt 12 = .ok (.aload_n 0, 1) := dk_42 (dk_at dksX2_fixedAt_0 12 rfl rfl)
theorem dX2_fixedAt_13 : decode cX2_fixedAt 13 = .ok (.getfield 23, 3) := dk_180 0 23 (dk_at dksX2_fixedAt_0 13 rfl rfl)
theorem dX2_fixedAt_16 : decode cX2_fixedAt 16 = .ok (.sipush 146, 3) := dk_17 0 146 (dk_at dksX2_fixedAt_0 16 rfl rfl)
theorem dX2_fixedAt_19 : decode cX2_fixedAt 19 = .ok (.iload_n 1, 1) := dk_27 (dk_at dksX2_fixedAt_0 19 rfl rfl)
theorem dX2_fixedAt_20 : decode cX2_fixedAt 20 = .ok (.iadd, 1) := dk_96 (dk_at dksX2_fixedAt_0 20 rfl rfl)
theorem dX2_fixedAt_21 : decode cX2_fixedAt 21 = .ok (.iaload, 1) := dk_46 (dk_at dksX2_fixedAt_0 21 rfl rfl)
theorem dX2_fixedAt_22 : decode cX2_fixedAt 22 = .ok (.goto 4, 3) := dk_167 0 4 (dk_at dksX2_fixedAt_1 0 rfl rfl)
theorem dX2_fixedAt_25 : decode cX2_fixedAt 25 = .ok (.iconst 0, 1) := dk_3 (dk_at dksX2_fixedAt_1 3 rfl rfl)
theorem dX2_fixedAt_26 : decode cX2_fixedAt 26 = .ok (.ireturn, 1) := dk_172 (dk_at dksX2_fixedAt_1 4 rfl rfl)
abbrev cX2_delay : ByteArray := prog_16_method_62_code
def yX2_delay : MethodName := ⟨RX2, "delay", "(I)I"⟩
def dkwX2_delay_1 : List UInt8 := [167, 0, 4, 3, 172]
abbrev dktX2_delay_1 : List UInt8 := dkwX2_delay_1 ++ []
def dkwX2_delay_0 : List UInt8 := [42, 42, 27, 182, 1, 32, 182, 1, 35, 153, 0, 16, 42, 180, 0, 23, 17, 0, 156, 27, 96, 46]
abbrev dktX2_delay_0 : List UInt8 := dkwX2_delay_0 ++ dktX2_delay_1
theorem dksX2_delay_0 : cX2_delay.data.toList.drop 0 = dktX2_delay_0 := by decide +kernel
theorem dksX2_delay_1 : cX2_delay.data.toList.drop 22 = dktX2_delay_1 := dk_seg dksX2_delay_0 22 rfl rfl
theorem dX2_delay_0 : decode cX2_delay 0 = .ok (.aload_n 0, 1) := dk_42 (dk_at dksX2_delay_0 0 rfl rfl)
theorem dX2_delay_1 : decode cX2_delay 1 = .ok (.aload_n 0, 1) := dk_42 (dk_at dksX2_delay_0 1 rfl rfl)
theorem dX2_delay_2 : decode cX2_delay 2 = .ok (.iload_n 1, 1) := dk_27 (dk_at dksX2_delay_0 2 rfl rfl)
theorem dX2_delay_3 : decode cX2_delay 3 = .ok (.invokevirtual 288, 3) := dk_182 1 32 (dk_at dksX2_delay_0 3 rfl rfl)
theorem dX2_delay_6 : decode cX2_delay 6 = .ok (.invokevirtual 291, 3) := dk_182 1 35 (dk_at dksX2_delay_0 6 rfl rfl)
theorem dX2_delay_9 : decode cX2_delay 9 = .ok (.ifCond .eq 16, 3) := dk_153 0 16 (dk_at dksX2_delay_0 9 rfl rfl)
theorem dX2_delay_12 : decode cX2_delay 12 = .ok (.aload_n 0, 1) := dk_42 (dk_at dksX2_delay_0 12 rfl rfl)
theorem dX2_delay_13 : decode cX2_delay 13 = .ok (.getfield 23, 3) := dk_180 0 23 (dk_at dksX2_delay_0 13 rfl rfl)
theorem dX2_delay_16 : decode cX2_delay 16 = .ok (.sipush 156, 3) := dk_17 0 156 (dk_at dksX2_delay_0 16 rfl rfl)
theorem dX2_delay_19 : decode cX2_delay 19 = .ok (.iload_n 1, 1) := dk_27 (dk_at dksX2_delay_0 19 rfl rfl)
theorem dX2_delay_20 : decode cX2_delay 20 = .ok (.iadd, 1) := dk_96 (dk_at dksX2_delay_0 20 rfl rfl)
theorem dX2_delay_21 : decode cX2_delay 21 = .ok (.iaload, 1) := dk_46 (dk_at dksX2_delay_0 21 rfl rfl)
theorem dX2_delay_22 : decode cX2_delay 22 = .ok (.goto 4, 3) := dk_167 0 4 (dk_at dksX2_delay_1 0 rfl rfl)
theorem dX2_delay_25 : decode cX2_delay 25 = .ok (.iconst 0, 1) := dk_3 (dk_at dksX2_delay_1 3 rfl rfl)
theorem dX2_delay_26 : decode cX2_delay 26 = .ok (.ireturn, 1) := dk_172 (dk_at dksX2_delay_1 4 rfl rfl)
abbrev cX2_wish : ByteArray := prog_16_method_63_code
def yX2_wish : MethodName := ⟨RX2, "wish", "(I)I"⟩
def dkwX2_wish_1 : List UInt8 := [167, 0, 4, 3, 172]
abbrev dktX2_wish_1 : List UInt8 := dkwX2_wish_1 ++ []
def dkwX2_wish_0 : List UInt8 := [42, 42, 27, 182, 1, 32, 182, 1, 35, 153, 0, 16, 42, 180, 0, 23, 17, 0, 166, 27, 96, 46]
abbrev dktX2_wish_0 : List UInt8 := dkwX2_wish_0 ++ dktX2_wish_1
theorem dksX2_wish_0 : cX2_wish.data.toList.drop 0 = dktX2_wish_0 := by decide +kernel
theorem dksX2_wish_1 : cX2_wish.data.toList.drop 22 = dktX2_wish_1 := dk_seg dksX2_wish_0 22 rfl rfl
theorem dX2_wish_0 : decode cX2_wish 0 = .ok (.aload_n 0, 1) := dk_42 (dk_at dksX2_wish_0 0 rfl rfl)
theorem dX2_wish_1 : decode cX2_wish 1 = .ok (.aload_n 0, 1) := dk_42 (dk_at dksX2_wish_0 1 rfl rfl)
theorem dX2_wish_2 : decode cX2_wish 2 = .ok (.iload_n 1, 1) := dk_27 (dk_at dksX2_wish_0 2 rfl rfl)
theorem dX2_wish_3 : decode cX2_wish 3 = .ok (.invokevirtual 288, 3) := dk_182 1 32 (dk_at dksX2_wish_0 3 rfl rfl)
theorem dX2_wish_6 : decode cX2_wish 6 = .ok (.invokevirtual 291, 3) := dk_182 1 35 (dk_at dksX2_wish_0 6 rfl rfl)
theorem dX2_wish_9 : decode cX2_wish 9 = .ok (.ifCond .eq 16, 3) := dk_153 0 16 (dk_at dksX2_wish_0 9 rfl rfl)
theorem dX2_wish_12 : decode cX2_wish 12 = .ok (.aload_n 0, 1) := dk_42 (dk_at dksX2_wish_0 12 rfl rfl)
theorem dX2_wish_13 : decode cX2_wish 13 = .ok (.getfield 23, 3) := dk_180 0 23 (dk_at dksX2_wish_0 13 rfl rfl)
theorem dX2_wish_16 : decode cX2_wish 16 = .ok (.sipush 166, 3) := dk_17 0 166 (dk_at dksX2_wish_0 16 rfl rfl)
theorem dX2_wish_19 : decode cX2_wish 19 = .ok (.iload_n 1, 1) := dk_27 (dk_at dksX2_wish_0 19 rfl rfl)
theorem dX2_wish_20 : decode cX2_wish 20 = .ok (.iadd, 1) := dk_96 (dk_at dksX2_wish_0 20 rfl rfl)
theorem dX2_wish_21 : decode cX2_wish 21 = .ok (.iaload, 1) := dk_46 (dk_at dksX2_wish_0 21 rfl rfl)
theorem dX2_wish_22 : decode cX2_wish 22 = .ok (.goto 4, 3) := dk_167 0 4 (dk_at dksX2_wish_1 0 rfl rfl)
theorem dX2_wish_25 : decode cX2_wish 25 = .ok (.iconst 0, 1) := dk_3 (dk_at dksX2_wish_1 3 rfl rfl)
theorem dX2_wish_26 : decode cX2_wish 26 = .ok (.ireturn, 1) := dk_172 (dk_at dksX2_wish_1 4 rfl rfl)
abbrev cX2_isSound : ByteArray := prog_16_method_64_code
def yX2_isSound : MethodName := ⟨RX2, "isSound", "()Z"⟩
def dkwX2_isSound_0 : List UInt8 := [42, 4, 182, 1, 35, 153, 0, 14, 42, 182, 1, 20, 153, 0, 7, 4, 167, 0, 4, 3, 172]
abbrev dktX2_isSound_0 : List UInt8 := dkwX2_isSound_0 ++ []
theorem dksX2_isSound_0 : cX2_isSound.data.toList.drop 0 = dktX2_isSound_0 := by decide +kernel
theorem dX2_isSound_0 : decode cX2_isSound 0 = .ok (.aload_n 0, 1) := dk_42 (dk_at dksX2_isSound_0 0 rfl rfl)
theorem dX2_isSound_1 : decode cX2_isSound 1 = .ok (.iconst 1, 1) := dk_4 (dk_at dksX2_isSound_0 1 rfl rfl)
theorem dX2_isSound_2 : decode cX2_isSound 2 = .ok (.invokevirtual 291, 3) := dk_182 1 35 (dk_at dksX2_isSound_0 2 rfl rfl)
theorem dX2_isSound_5 : decode cX2_isSound 5 = .ok (.ifCond .eq 14, 3) := dk_153 0 14 (dk_at dksX2_isSound_0 5 rfl rfl)
theorem dX2_isSound_8 : decode cX2_isSound 8 = .ok (.aload_n 0, 1) := dk_42 (dk_at dksX2_isSound_0 8 rfl rfl)
theorem dX2_isSound_9 : decode cX2_isSound 9 = .ok (.invokevirtual 276, 3) := dk_182 1 20 (dk_at dksX2_isSound_0 9 rfl rfl)
theorem dX2_isSound_12 : decode cX2_isSound 12 = .ok (.ifCond .eq 7, 3) := dk_153 0 7 (dk_at dksX2_isSound_0 12 rfl rfl)
theorem dX2_isSound_15 : decode cX2_isSound 15 = .ok (.iconst 1, 1) := dk_4 (dk_at dksX2_isSound_0 15 rfl rfl)
theorem dX2_isSound_16 : decode cX2_isSound 16 = .ok (.goto 4, 3) := dk_167 0 4 (dk_at dksX2_isSound_0 16 rfl rfl)
theorem dX2_isSound_19 : decode cX2_isSound 19 = .ok (.iconst 0, 1) := dk_3 (dk_at dksX2_isSound_0 19 rfl rfl)
theorem dX2_isSound_20 : decode cX2_isSound 20 = .ok (.ireturn, 1) := dk_172 (dk_at dksX2_isSound_0 20 rfl rfl)
abbrev cX2_boundsNow : ByteArray := prog_16_method_42_code
def yX2_boundsNow : MethodName := ⟨RX2, "boundsNow", "()Z"⟩
def dkwX2_boundsNow_0 : List UInt8 := [42, 182, 0, 254, 42, 3, 2, 182, 1, 1, 172]
abbrev dktX2_boundsNow_0 : List UInt8 := dkwX2_boundsNow_0 ++ []
theorem dksX2_boundsNow_0 : cX2_boundsNow.data.toList.drop 0 = dktX2_boundsNow_0 := by decide +kernel
theorem dX2_boundsNow_0 : decode cX2_boundsNow 0 = .ok (.aload_n 0, 1) := dk_42 (dk_at dksX2_boundsNow_0 0 rfl rfl)
theorem dX2_boundsNow_1 : decode cX2_boundsNow 1 = .ok (.invokevirtual 254, 3) := dk_182 0 254 (dk_at dksX2_boundsNow_0 1 rfl rfl)
theorem dX2_boundsNow_4 : decode cX2_boundsNow 4 = .ok (.aload_n 0, 1) := dk_42 (dk_at dksX2_boundsNow_0 4 rfl rfl)
theorem dX2_boundsNow_5 : decode cX2_boundsNow 5 = .ok (.iconst 0, 1) := dk_3 (dk_at dksX2_boundsNow_0 5 rfl rfl)
theorem dX2_boundsNow_6 : decode cX2_boundsNow 6 = .ok (.iconst (-1), 1) := dk_2 (dk_at dksX2_boundsNow_0 6 rfl rfl)
theorem dX2_boundsNow_7 : decode cX2_boundsNow 7 = .ok (.invokevirtual 257, 3) := dk_182 1 1 (dk_at dksX2_boundsNow_0 7 rfl rfl)
theorem dX2_boundsNow_10 : decode cX2_boundsNow 10 = .ok (.ireturn, 1) := dk_172 (dk_at dksX2_boundsNow_0 10 rfl rfl)
abbrev cX2_timesAsFixed : ByteArray := prog_16_method_37_code
def yX2_timesAsFixed : MethodName := ⟨RX2, "timesAsFixed", "()V"⟩
def dkwX2_timesAsFixed_1 : List UInt8 := [132, 1, 1, 167, 255, 231, 177]
abbrev dktX2_timesAsFixed_1 : List UInt8 := dkwX2_timesAsFixed_1 ++ []
def dkwX2_timesAsFixed_0 : List UInt8 := [3, 60, 27, 16, 10, 162, 0, 25, 42, 180, 0, 52, 27, 42, 180, 0, 23, 17, 0, 146, 27, 96, 46, 79]
abbrev dktX2_timesAsFixed_0 : List UInt8 := dkwX2_timesAsFixed_0 ++ dktX2_timesAsFixed_1
theorem dksX2_timesAsFixed_0 : cX2_timesAsFixed.data.toList.drop 0 = dktX2_timesAsFixed_0 := by decide +kernel
theorem dksX2_timesAsFixed_1 : cX2_timesAsFixed.data.toList.drop 24 = dktX2_timesAsFixed_1 := dk_seg dksX2_timesAsFixed_0 24 rfl rfl
theorem dX2_timesAsFixed_0 : decode cX2_timesAsFixed 0 = .ok (.iconst 0, 1) := dk_3 (dk_at dksX2_timesAsFixed_0 0 rfl rfl)
theorem dX2_timesAsFixed_1 : decode cX2_timesAsFixed 1 = .ok (.istore_n 1, 1) := dk_60 (dk_at dksX2_timesAsFixed_0 1 rfl rfl)
theorem dX2_timesAsFixed_2 : decode cX2_timesAsFixed 2 = .ok (.iload_n 1, 1) := dk_27 (dk_at dksX2_timesAsFixed_0 2 rfl rfl)
theorem dX2_timesAsFixed_3 : decode cX2_timesAsFixed 3 = .ok (.bipush 10, 2) := dk_16 10 (dk_at dksX2_timesAsFixed_0 3 rfl rfl)
theorem dX2_timesAsFixed_5 : decode cX2_timesAsFixed 5 = .ok (.if_icmp .ge 25, 3) := dk_162 0 25 (dk_at dksX2_timesAsFixed_0 5 rfl rfl)
theorem dX2_timesAsFixed_8 : decode cX2_timesAsFixed 8 = .ok (.aload_n 0, 1) := dk_42 (dk_at dksX2_timesAsFixed_0 8 rfl rfl)
theorem dX2_timesAsFixed_9 : decode cX2_timesAsFixed 9 = .ok (.getfield 52, 3) := dk_180 0 52 (dk_at dksX2_timesAsFixed_0 9 rfl rfl)
theorem dX2_timesAsFixed_12 : decode cX2_timesAsFixed 12 = .ok (.iload_n 1, 1) := dk_27 (dk_at dksX2_timesAsFixed_0 12 rfl rfl)
theorem dX2_timesAsFixed_13 : decode cX2_timesAsFixed 13 = .ok (.aload_n 0, 1) := dk_42 (dk_at dksX2_timesAsFixed_0 13 rfl rfl)
theorem dX2_timesAsFixed_14 : decode cX2_timesAsFixed 14 = .ok (.getfield 23, 3) := dk_180 0 23 (dk_at dksX2_timesAsFixed_0 14 rfl rfl)
theorem dX2_timesAsFixed_17 : decode cX2_timesAsFixed 17 = .ok (.sipush 146, 3) := dk_17 0 146 (dk_at dksX2_timesAsFixed_0 17 rfl rfl)
theorem dX2_timesAsFixed_20 : decode cX2_timesAsFixed 20 = .ok (.iload_n 1, 1) := dk_27 (dk_at dksX2_timesAsFixed_0 20 rfl rfl)
theorem dX2_timesAsFixed_21 : decode cX2_timesAsFixed 21 = .ok (.iadd, 1) := dk_96 (dk_at dksX2_timesAsFixed_0 21 rfl rfl)
theorem dX2_timesAsFixed_22 : decode cX2_timesAsFixed 22 = .ok (.iaload, 1) := dk_46 (dk_at dksX2_timesAsFixed_0 22 rfl rfl)
theorem dX2_timesAsFixed_23 : decode cX2_timesAsFixed 23 = .ok (.iastore, 1) := dk_79 (dk_at dksX2_timesAsFixed_0 23 rfl rfl)
theorem dX2_timesAsFixed_24 : decode cX2_timesAsFixed 24 = .ok (.iinc 1 1, 3) := dk_132 1 1 (dk_at dksX2_timesAsFixed_1 0 rfl rfl)
theorem dX2_timesAsFixed_27 : decode cX2_timesAsFixed 27 = .ok (.goto (-25), 3) := dk_167 255 231 (dk_at dksX2_timesAsFixed_1 3 rfl rfl)
theorem dX2_timesAsFixed_30 : decode cX2_timesAsFixed 30 = .ok (.return_, 1) := dk_177 (dk_at dksX2_timesAsFixed_1 6 rfl rfl)
abbrev cX2_boundsWithout : ByteArray := prog_16_method_41_code
def yX2_boundsWithout : MethodName := ⟨RX2, "boundsWithout", "(II)Z"⟩
def dkwX2_boundsWithout_0 : List UInt8 := [42, 27, 28, 182, 0, 246, 42, 182, 0, 250, 172]
abbrev dktX2_boundsWithout_0 : List UInt8 := dkwX2_boundsWithout_0 ++ []
theorem dksX2_boundsWithout_0 : cX2_boundsWithout.data.toList.drop 0 = dktX2_boundsWithout_0 := by decide +kernel
theorem dX2_boundsWithout_0 : decode cX2_boundsWithout 0 = .ok (.aload_n 0, 1) := dk_42 (dk_at dksX2_boundsWithout_0 0 rfl rfl)
theorem dX2_boundsWithout_1 : decode cX2_boundsWithout 1 = .ok (.iload_n 1, 1) := dk_27 (dk_at dksX2_boundsWithout_0 1 rfl rfl)
theorem dX2_boundsWithout_2 : decode cX2_boundsWithout 2 = .ok (.iload_n 2, 1) := dk_28 (dk_at dksX2_boundsWithout_0 2 rfl rfl)
theorem dX2_boundsWithout_3 : decode cX2_boundsWithout 3 = .ok (.invokevirtual 246, 3) := dk_182 0 246 (dk_at dksX2_boundsWithout_0 3 rfl rfl)
theorem dX2_boundsWithout_6 : decode cX2_boundsWithout 6 = .ok (.aload_n 0, 1) := dk_42 (dk_at dksX2_boundsWithout_0 6 rfl rfl)
theorem dX2_boundsWithout_7 : decode cX2_boundsWithout 7 = .ok (.invokevirtual 250, 3) := dk_182 0 250 (dk_at dksX2_boundsWithout_0 7 rfl rfl)
theorem dX2_boundsWithout_10 : decode cX2_boundsWithout 10 = .ok (.ireturn, 1) := dk_172 (dk_at dksX2_boundsWithout_0 10 rfl rfl)
abbrev cX2_stepsWithout : ByteArray := prog_16_method_36_code
def yX2_stepsWithout : MethodName := ⟨RX2, "stepsWithout", "(II)V"⟩
def dkwX2_stepsWithout_9 : List UInt8 := [162, 0, 21, 42, 29, 3, 3, 17, 1, 44, 29, 96, 182, 0, 226, 132, 3, 1, 167, 255, 233, 177]
abbrev dktX2_stepsWithout_9 : List UInt8 := dkwX2_stepsWithout_9 ++ []
def dkwX2_stepsWithout_8 : List UInt8 := [46, 116, 17, 0, 200, 29, 96, 182, 0, 226, 132, 3, 1, 167, 255, 217, 4, 62, 29, 42, 182, 0, 230]
abbrev dktX2_stepsWithout_8 : List UInt8 := dkwX2_stepsWithout_8 ++ dktX2_stepsWithout_9
def dkwX2_stepsWithout_7 : List UInt8 := [182, 0, 230, 162, 0, 37, 42, 180, 0, 52, 29, 46, 2, 159, 0, 21, 42, 29, 3, 42, 180, 0, 52, 29]
abbrev dktX2_stepsWithout_7 : List UInt8 := dkwX2_stepsWithout_7 ++ dktX2_stepsWithout_8
def dkwX2_stepsWithout_6 : List UInt8 := [180, 0, 52, 29, 46, 16, 100, 29, 96, 182, 0, 226, 132, 3, 1, 167, 255, 219, 4, 62, 29, 42]
abbrev dktX2_stepsWithout_6 : List UInt8 := dkwX2_stepsWithout_6 ++ dktX2_stepsWithout_7
def dkwX2_stepsWithout_5 : List UInt8 := [4, 62, 29, 42, 182, 0, 230, 162, 0, 35, 42, 180, 0, 52, 29, 46, 2, 159, 0, 19, 42, 3, 29, 42]
abbrev dktX2_stepsWithout_5 : List UInt8 := dkwX2_stepsWithout_5 ++ dktX2_stepsWithout_6
def dkwX2_stepsWithout_4 : List UInt8 := [182, 0, 214, 42, 29, 5, 182, 0, 214, 116, 5, 29, 104, 4, 96, 182, 0, 226, 132, 3, 1, 167, 255, 147]
abbrev dktX2_stepsWithout_4 : List UInt8 := dkwX2_stepsWithout_4 ++ dktX2_stepsWithout_5
def dkwX2_stepsWithout_3 : List UInt8 := [104, 182, 0, 226, 28, 5, 29, 104, 4, 96, 159, 0, 31, 42, 42, 29, 4, 182, 0, 214, 42, 29, 3]
abbrev dktX2_stepsWithout_3 : List UInt8 := dkwX2_stepsWithout_3 ++ dktX2_stepsWithout_4
def dkwX2_stepsWithout_2 : List UInt8 := [159, 0, 28, 42, 42, 29, 3, 182, 0, 214, 42, 29, 4, 182, 0, 214, 42, 29, 6, 182, 0, 214, 5, 29]
abbrev dktX2_stepsWithout_2 : List UInt8 := dkwX2_stepsWithout_2 ++ dktX2_stepsWithout_3
def dkwX2_stepsWithout_1 : List UInt8 := [29, 184, 0, 135, 153, 0, 6, 167, 0, 82, 42, 29, 6, 182, 0, 214, 2, 159, 0, 35, 28, 5, 29, 104]
abbrev dktX2_stepsWithout_1 : List UInt8 := dkwX2_stepsWithout_1 ++ dktX2_stepsWithout_2
def dkwX2_stepsWithout_0 : List UInt8 := [42, 3, 181, 0, 217, 3, 62, 29, 42, 182, 0, 220, 162, 0, 107, 42, 29, 182, 0, 223, 154, 0, 93, 27]
abbrev dktX2_stepsWithout_0 : List UInt8 := dkwX2_stepsWithout_0 ++ dktX2_stepsWithout_1
theorem dksX2_stepsWithout_0 : cX2_stepsWithout.data.toList.drop 0 = dktX2_stepsWithout_0 := by decide +kernel
theorem dksX2_stepsWithout_1 : cX2_stepsWithout.data.toList.drop 24 = dktX2_stepsWithout_1 := dk_seg dksX2_stepsWithout_0 24 rfl rfl
theorem dksX2_stepsWithout_2 : cX2_stepsWithout.data.toList.drop 48 = dktX2_stepsWithout_2 := dk_seg dksX2_stepsWithout_1 24 rfl rfl
theorem dksX2_stepsWithout_3 : cX2_stepsWithout.data.toList.drop 72 = dktX2_stepsWithout_3 := dk_seg dksX2_stepsWithout_2 24 rfl rfl
theorem dksX2_stepsWithout_4 : cX2_stepsWithout.data.toList.drop 95 = dktX2_stepsWithout_4 := dk_seg dksX2_stepsWithout_3 23 rfl rfl
theorem dksX2_stepsWithout_5 : cX2_stepsWithout.data.toList.drop 119 = dktX2_stepsWithout_5 := dk_seg dksX2_stepsWithout_4 24 rfl rfl
theorem dksX2_stepsWithout_6 : cX2_stepsWithout.data.toList.drop 143 = dktX2_stepsWithout_6 := dk_seg dksX2_stepsWithout_5 24 rfl rfl
theorem dksX2_stepsWithout_7 : cX2_stepsWithout.data.toList.drop 165 = dktX2_stepsWithout_7 := dk_seg dksX2_stepsWithout_6 22 rfl rfl
theorem dksX2_stepsWithout_8 : cX2_stepsWithout.data.toList.drop 189 = dktX2_stepsWithout_8 := dk_seg dksX2_stepsWithout_7 24 rfl rfl
theorem dksX2_stepsWithout_9 : cX2_stepsWithout.data.toList.drop 212 = dktX2_stepsWithout_9 := dk_seg dksX2_stepsWithout_8 23 rfl rfl
theorem dX2_stepsWithout_0 : decode cX2_stepsWithout 0 = .ok (.aload_n 0, 1) := dk_42 (dk_at dksX2_stepsWithout_0 0 rfl rfl)
theorem dX2_stepsWithout_1 : decode cX2_stepsWithout 1 = .ok (.iconst 0, 1) := dk_3 (dk_at dksX2_stepsWithout_0 1 rfl rfl)
theorem dX2_stepsWithout_2 : decode cX2_stepsWithout 2 = .ok (.putfield 217, 3) := dk_181 0 217 (dk_at dksX2_stepsWithout_0 2 rfl rfl)
theorem dX2_stepsWithout_5 : decode cX2_stepsWithout 5 = .ok (.iconst 0, 1) := dk_3 (dk_at dksX2_stepsWithout_0 5 rfl rfl)
theorem dX2_stepsWithout_6 : decode cX2_stepsWithout 6 = .ok (.istore_n 3, 1) := dk_62 (dk_at dksX2_stepsWithout_0 6 rfl rfl)
theorem dX2_stepsWithout_7 : decode cX2_stepsWithout 7 = .ok (.iload_n 3, 1) := dk_29 (dk_at dksX2_stepsWithout_0 7 rfl rfl)
theorem dX2_stepsWithout_8 : decode cX2_stepsWithout 8 = .ok (.aload_n 0, 1) := dk_42 (dk_at dksX2_stepsWithout_0 8 rfl rfl)
theorem dX2_stepsWithout_9 : decode cX2_stepsWithout 9 = .ok (.invokevirtual 220, 3) := dk_182 0 220 (dk_at dksX2_stepsWithout_0 9 rfl rfl)
theorem dX2_stepsWithout_12 : decode cX2_stepsWithout 12 = .ok (.if_icmp .ge 107, 3) := dk_162 0 107 (dk_at dksX2_stepsWithout_0 12 rfl rfl)
theorem dX2_stepsWithout_15 : decode cX2_stepsWithout 15 = .ok (.aload_n 0, 1) := dk_42 (dk_at dksX2_stepsWithout_0 15 rfl rfl)
theorem dX2_stepsWithout_16 : decode cX2_stepsWithout 16 = .ok (.iload_n 3, 1) := dk_29 (dk_at dksX2_stepsWithout_0 16 rfl rfl)
theorem dX2_stepsWithout_17 : decode cX2_stepsWithout 17 = .ok (.invokevirtual 223, 3) := dk_182 0 223 (dk_at dksX2_stepsWithout_0 17 rfl rfl)
theorem dX2_stepsWithout_20 : decode cX2_stepsWithout 20 = .ok (.ifCond .ne 93, 3) := dk_154 0 93 (dk_at dksX2_stepsWithout_0 20 rfl rfl)
theorem dX2_stepsWithout_23 : decode cX2_stepsWithout 23 = .ok (.iload_n 1, 1) := dk_27 (dk_at dksX2_stepsWithout_0 23 rfl rfl)
theorem dX2_stepsWithout_24 : decode cX2_stepsWithout 24 = .ok (.iload_n 3, 1) := dk_29 (dk_at dksX2_stepsWithout_1 0 rfl rfl)
theorem dX2_stepsWithout_25 : decode cX2_stepsWithout 25 = .ok (.invokestatic 135, 3) := dk_184 0 135 (dk_at dksX2_stepsWithout_1 1 rfl rfl)
theorem dX2_stepsWithout_28 : decode cX2_stepsWithout 28 = .ok (.ifCond .eq 6, 3) := dk_153 0 6 (dk_at dksX2_stepsWithout_1 4 rfl rfl)
theorem dX2_stepsWithout_31 : decode cX2_stepsWithout 31 = .ok (.goto 82, 3) := dk_167 0 82 (dk_at dksX2_stepsWithout_1 7 rfl rfl)
theorem dX2_stepsWithout_34 : decode cX2_stepsWithout 34 = .ok (.aload_n 0, 1) := dk_42 (dk_at dksX2_stepsWithout_1 10 rfl rfl)
theorem dX2_stepsWithout_35 : decode cX2_stepsWithout 35 = .ok (.iload_n 3, 1) := dk_29 (dk_at dksX2_stepsWithout_1 11 rfl rfl)
theorem dX2_stepsWithout_36 : decode cX2_stepsWithout 36 = .ok (.iconst 3, 1) := dk_6 (dk_at dksX2_stepsWithout_1 12 rfl rfl)
theorem dX2_stepsWithout_37 : decode cX2_stepsWithout 37 = .ok (.invokevirtual 214, 3) := dk_182 0 214 (dk_at dksX2_stepsWithout_1 13 rfl rfl)
theorem dX2_stepsWithout_40 : decode cX2_stepsWithout 40 = .ok (.iconst (-1), 1) := dk_2 (dk_at dksX2_stepsWithout_1 16 rfl rfl)
theorem dX2_stepsWithout_41 : decode cX2_stepsWithout 41 = .ok (.if_icmp .eq 35, 3) := dk_159 0 35 (dk_at dksX2_stepsWithout_1 17 rfl rfl)
theorem dX2_stepsWithout_44 : decode cX2_stepsWithout 44 = .ok (.iload_n 2, 1) := dk_28 (dk_at dksX2_stepsWithout_1 20 rfl rfl)
theorem dX2_stepsWithout_45 : decode cX2_stepsWithout 45 = .ok (.iconst 2, 1) := dk_5 (dk_at dksX2_stepsWithout_1 21 rfl rfl)
theorem dX2_stepsWithout_46 : decode cX2_stepsWithout 46 = .ok (.iload_n 3, 1) := dk_29 (dk_at dksX2_stepsWithout_1 22 rfl rfl)
theorem dX2_stepsWithout_47 : decode cX2_stepsWithout 47 = .ok (.imul, 1) := dk_104 (dk_at dksX2_stepsWithout_1 23 rfl rfl)
theorem dX2_stepsWithout_48 : decode cX2_stepsWithout 48 = .ok (.if_icmp .eq 28, 3) := dk_159 0 28 (dk_at dksX2_stepsWithout_2 0 rfl rfl)
theorem dX2_stepsWithout_51 : decode cX2_stepsWithout 51 = .ok (.aload_n 0, 1) := dk_42 (dk_at dksX2_stepsWithout_2 3 rfl rfl)
theorem dX2_stepsWithout_52 : decode cX2_stepsWithout 52 = .ok (.aload_n 0, 1) := dk_42 (dk_at dksX2_stepsWithout_2 4 rfl rfl)
theorem dX2_stepsWithout_53 : decode cX2_stepsWithout 53 = .ok (.iload_n 3, 1) := dk_29 (dk_at dksX2_stepsWithout_2 5 rfl rfl)
theorem dX2_stepsWithout_54 : decode cX2_stepsWithout 54 = .ok (.iconst 0, 1) := dk_3 (dk_at dksX2_stepsWithout_2 6 rfl rfl)
theorem dX2_stepsWithout_55 : decode cX2_stepsWithout 55 = .ok (.invokevirtual 214, 3) := dk_182 0 214 (dk_at dksX2_stepsWithout_2 7 rfl rfl)
theorem dX2_stepsWithout_58 : decode cX2_stepsWithout 58 = .ok (.aload_n 0, 1) := dk_42 (dk_at dksX2_stepsWithout_2 10 rfl rfl)
theorem dX2_stepsWithout_59 : decode cX2_stepsWithout 59 = .ok (.iload_n 3, 1) := dk_29 (dk_at dksX2_stepsWithout_2 11 rfl rfl)
theorem dX2_stepsWithout_60 : decode cX2_stepsWithout 60 = .ok (.iconst 1, 1) := dk_4 (dk_at dksX2_stepsWithout_2 12 rfl rfl)
theorem dX2_stepsWithout_61 : decode cX2_stepsWithout 61 = .ok (.invokevirtual 214, 3) := dk_182 0 214 (dk_at dksX2_stepsWithout_2 13 rfl rfl)
theorem dX2_stepsWithout_64 : decode cX2_stepsWithout 64 = .ok (.aload_n 0, 1) := dk_42 (dk_at dksX2_stepsWithout_2 16 rfl rfl)
theorem dX2_stepsWithout_65 : decode cX2_stepsWithout 65 = .ok (.iload_n 3, 1) := dk_29 (dk_at dksX2_stepsWithout_2 17 rfl rfl)
theorem dX2_stepsWithout_66 : decode cX2_stepsWithout 66 = .ok (.iconst 3, 1) := dk_6 (dk_at dksX2_stepsWithout_2 18 rfl rfl)
theorem dX2_stepsWithout_67 : decode cX2_stepsWithout 67 = .ok (.invokevirtual 214, 3) := dk_182 0 214 (dk_at dksX2_stepsWithout_2 19 rfl rfl)
theorem dX2_stepsWithout_70 : decode cX2_stepsWithout 70 = .ok (.iconst 2, 1) := dk_5 (dk_at dksX2_stepsWithout_2 22 rfl rfl)
theorem dX2_stepsWithout_71 : decode cX2_stepsWithout 71 = .ok (.iload_n 3, 1) := dk_29 (dk_at dksX2_stepsWithout_2 23 rfl rfl)
theorem dX2_stepsWithout_72 : decode cX2_stepsWithout 72 = .ok (.imul, 1) := dk_104 (dk_at dksX2_stepsWithout_3 0 rfl rfl)
theorem dX2_stepsWithout_73 : decode cX2_stepsWithout 73 = .ok (.invokevirtual 226, 3) := dk_182 0 226 (dk_at dksX2_stepsWithout_3 1 rfl rfl)
theorem dX2_stepsWithout_76 : decode cX2_stepsWithout 76 = .ok (.iload_n 2, 1) := dk_28 (dk_at dksX2_stepsWithout_3 4 rfl rfl)
theorem dX2_stepsWithout_77 : decode cX2_stepsWithout 77 = .ok (.iconst 2, 1) := dk_5 (dk_at dksX2_stepsWithout_3 5 rfl rfl)
theorem dX2_stepsWithout_78 : decode cX2_stepsWithout 78 = .ok (.iload_n 3, 1) := dk_29 (dk_at dksX2_stepsWithout_3 6 rfl rfl)
theorem dX2_stepsWithout_79 : decode cX2_stepsWithout 79 = .ok (.imul, 1) := dk_104 (dk_at dksX2_stepsWithout_3 7 rfl rfl)
theorem dX2_stepsWithout_80 : decode cX2_stepsWithout 80 = .ok (.iconst 1, 1) := dk_4 (dk_at dksX2_stepsWithout_3 8 rfl rfl)
theorem dX2_stepsWithout_81 : decode cX2_stepsWithout 81 = .ok (.iadd, 1) := dk_96 (dk_at dksX2_stepsWithout_3 9 rfl rfl)
theorem dX2_stepsWithout_82 : decode cX2_stepsWithout 82 = .ok (.if_icmp .eq 31, 3) := dk_159 0 31 (dk_at dksX2_stepsWithout_3 10 rfl rfl)
theorem dX2_stepsWithout_85 : decode cX2_stepsWithout 85 = .ok (.aload_n 0, 1) := dk_42 (dk_at dksX2_stepsWithout_3 13 rfl rfl)
theorem dX2_stepsWithout_86 : decode cX2_stepsWithout 86 = .ok (.aload_n 0, 1) := dk_42 (dk_at dksX2_stepsWithout_3 14 rfl rfl)
theorem dX2_stepsWithout_87 : decode cX2_stepsWithout 87 = .ok (.iload_n 3, 1) := dk_29 (dk_at dksX2_stepsWithout_3 15 rfl rfl)
theorem dX2_stepsWithout_88 : decode cX2_stepsWithout 88 = .ok (.iconst 1, 1) := dk_4 (dk_at dksX2_stepsWithout_3 16 rfl rfl)
theorem dX2_stepsWithout_89 : decode cX2_stepsWithout 89 = .ok (.invokevirtual 214, 3) := dk_182 0 214 (dk_at dksX2_stepsWithout_3 17 rfl rfl)
theorem dX2_stepsWithout_92 : decode cX2_stepsWithout 92 = .ok (.aload_n 0, 1) := dk_42 (dk_at dksX2_stepsWithout_3 20 rfl rfl)
theorem dX2_stepsWithout_93 : decode cX2_stepsWithout 93 = .ok (.iload_n 3, 1) := dk_29 (dk_at dksX2_stepsWithout_3 21 rfl rfl)
theorem dX2_stepsWithout_94 : decode cX2_stepsWithout 94 = .ok (.iconst 0, 1) := dk_3 (dk_at dksX2_stepsWithout_3 22 rfl rfl)
theorem dX2_stepsWithout_95 : decode cX2_stepsWithout 95 = .ok (.invokevirtual 214, 3) := dk_182 0 214 (dk_at dksX2_stepsWithout_4 0 rfl rfl)
theorem dX2_stepsWithout_98 : decode cX2_stepsWithout 98 = .ok (.aload_n 0, 1) := dk_42 (dk_at dksX2_stepsWithout_4 3 rfl rfl)
theorem dX2_stepsWithout_99 : decode cX2_stepsWithout 99 = .ok (.iload_n 3, 1) := dk_29 (dk_at dksX2_stepsWithout_4 4 rfl rfl)
theorem dX2_stepsWithout_100 : decode cX2_stepsWithout 100 = .ok (.iconst 2, 1) := dk_5 (dk_at dksX2_stepsWithout_4 5 rfl rfl)
theorem dX2_stepsWithout_101 : decode cX2_stepsWithout 101 = .ok (.invokevirtual 214, 3) := dk_182 0 214 (dk_at dksX2_stepsWithout_4 6 rfl rfl)
theorem dX2_stepsWithout_104 : decode cX2_stepsWithout 104 = .ok (.ineg, 1) := dk_116 (dk_at dksX2_stepsWithout_4 9 rfl rfl)
theorem dX2_stepsWithout_105 : decode cX2_stepsWithout 105 = .ok (.iconst 2, 1) := dk_5 (dk_at dksX2_stepsWithout_4 10 rfl rfl)
theorem dX2_stepsWithout_106 : decode cX2_stepsWithout 106 = .ok (.iload_n 3, 1) := dk_29 (dk_at dksX2_stepsWithout_4 11 rfl rfl)
theorem dX2_stepsWithout_107 : decode cX2_stepsWithout 107 = .ok (.imul, 1) := dk_104 (dk_at dksX2_stepsWithout_4 12 rfl rfl)
theorem dX2_stepsWithout_108 : decode cX2_stepsWithout 108 = .ok (.iconst 1, 1) := dk_4 (dk_at dksX2_stepsWithout_4 13 rfl rfl)
theorem dX2_stepsWithout_109 : decode cX2_stepsWithout 109 = .ok (.iadd, 1) := dk_96 (dk_at dksX2_stepsWithout_4 14 rfl rfl)
theorem dX2_stepsWithout_110 : decode cX2_stepsWithout 110 = .ok (.invokevirtual 226, 3) := dk_182 0 226 (dk_at dksX2_stepsWithout_4 15 rfl rfl)
theorem dX2_stepsWithout_113 : decode cX2_stepsWithout 113 = .ok (.iinc 3 1, 3) := dk_132 3 1 (dk_at dksX2_stepsWithout_4 18 rfl rfl)
theorem dX2_stepsWithout_116 : decode cX2_stepsWithout 116 = .ok (.goto (-109), 3) := dk_167 255 147 (dk_at dksX2_stepsWithout_4 21 rfl rfl)
theorem dX2_stepsWithout_119 : decode cX2_stepsWithout 119 = .ok (.iconst 1, 1) := dk_4 (dk_at dksX2_stepsWithout_5 0 rfl rfl)
theorem dX2_stepsWithout_120 : decode cX2_stepsWithout 120 = .ok (.istore_n 3, 1) := dk_62 (dk_at dksX2_stepsWithout_5 1 rfl rfl)
theorem dX2_stepsWithout_121 : decode cX2_stepsWithout 121 = .ok (.iload_n 3, 1) := dk_29 (dk_at dksX2_stepsWithout_5 2 rfl rfl)
theorem dX2_stepsWithout_122 : decode cX2_stepsWithout 122 = .ok (.aload_n 0, 1) := dk_42 (dk_at dksX2_stepsWithout_5 3 rfl rfl)
theorem dX2_stepsWithout_123 : decode cX2_stepsWithout 123 = .ok (.invokevirtual 230, 3) := dk_182 0 230 (dk_at dksX2_stepsWithout_5 4 rfl rfl)
theorem dX2_stepsWithout_126 : decode cX2_stepsWithout 126 = .ok (.if_icmp .ge 35, 3) := dk_162 0 35 (dk_at dksX2_stepsWithout_5 7 rfl rfl)
theorem dX2_stepsWithout_129 : decode cX2_stepsWithout 129 = .ok (.aload_n 0, 1) := dk_42 (dk_at dksX2_stepsWithout_5 10 rfl rfl)
theorem dX2_stepsWithout_130 : decode cX2_stepsWithout 130 = .ok (.getfield 52, 3) := dk_180 0 52 (dk_at dksX2_stepsWithout_5 11 rfl rfl)
theorem dX2_stepsWithout_133 : decode cX2_stepsWithout 133 = .ok (.iload_n 3, 1) := dk_29 (dk_at dksX2_stepsWithout_5 14 rfl rfl)
theorem dX2_stepsWithout_134 : decode cX2_stepsWithout 134 = .ok (.iaload, 1) := dk_46 (dk_at dksX2_stepsWithout_5 15 rfl rfl)
theorem dX2_stepsWithout_135 : decode cX2_stepsWithout 135 = .ok (.iconst (-1), 1) := dk_2 (dk_at dksX2_stepsWithout_5 16 rfl rfl)
theorem dX2_stepsWithout_136 : decode cX2_stepsWithout 136 = .ok (.if_icmp .eq 19, 3) := dk_159 0 19 (dk_at dksX2_stepsWithout_5 17 rfl rfl)
theorem dX2_stepsWithout_139 : decode cX2_stepsWithout 139 = .ok (.aload_n 0, 1) := dk_42 (dk_at dksX2_stepsWithout_5 20 rfl rfl)
theorem dX2_stepsWithout_140 : decode cX2_stepsWithout 140 = .ok (.iconst 0, 1) := dk_3 (dk_at dksX2_stepsWithout_5 21 rfl rfl)
theorem dX2_stepsWithout_141 : decode cX2_stepsWithout 141 = .ok (.iload_n 3, 1) := dk_29 (dk_at dksX2_stepsWithout_5 22 rfl rfl)
theorem dX2_stepsWithout_142 : decode cX2_stepsWithout 142 = .ok (.aload_n 0, 1) := dk_42 (dk_at dksX2_stepsWithout_5 23 rfl rfl)
theorem dX2_stepsWithout_143 : decode cX2_stepsWithout 143 = .ok (.getfield 52, 3) := dk_180 0 52 (dk_at dksX2_stepsWithout_6 0 rfl rfl)
theorem dX2_stepsWithout_146 : decode cX2_stepsWithout 146 = .ok (.iload_n 3, 1) := dk_29 (dk_at dksX2_stepsWithout_6 3 rfl rfl)
theorem dX2_stepsWithout_147 : decode cX2_stepsWithout 147 = .ok (.iaload, 1) := dk_46 (dk_at dksX2_stepsWithout_6 4 rfl rfl)
theorem dX2_stepsWithout_148 : decode cX2_stepsWithout 148 = .ok (.bipush 100, 2) := dk_16 100 (dk_at dksX2_stepsWithout_6 5 rfl rfl)
theorem dX2_stepsWithout_150 : decode cX2_stepsWithout 150 = .ok (.iload_n 3, 1) := dk_29 (dk_at dksX2_stepsWithout_6 7 rfl rfl)
theorem dX2_stepsWithout_151 : decode cX2_stepsWithout 151 = .ok (.iadd, 1) := dk_96 (dk_at dksX2_stepsWithout_6 8 rfl rfl)
theorem dX2_stepsWithout_152 : decode cX2_stepsWithout 152 = .ok (.invokevirtual 226, 3) := dk_182 0 226 (dk_at dksX2_stepsWithout_6 9 rfl rfl)
theorem dX2_stepsWithout_155 : decode cX2_stepsWithout 155 = .ok (.iinc 3 1, 3) := dk_132 3 1 (dk_at dksX2_stepsWithout_6 12 rfl rfl)
theorem dX2_stepsWithout_158 : decode cX2_stepsWithout 158 = .ok (.goto (-37), 3) := dk_167 255 219 (dk_at dksX2_stepsWithout_6 15 rfl rfl)
theorem dX2_stepsWithout_161 : decode cX2_stepsWithout 161 = .ok (.iconst 1, 1) := dk_4 (dk_at dksX2_stepsWithout_6 18 rfl rfl)
theorem dX2_stepsWithout_162 : decode cX2_stepsWithout 162 = .ok (.istore_n 3, 1) := dk_62 (dk_at dksX2_stepsWithout_6 19 rfl rfl)
theorem dX2_stepsWithout_163 : decode cX2_stepsWithout 163 = .ok (.iload_n 3, 1) := dk_29 (dk_at dksX2_stepsWithout_6 20 rfl rfl)
theorem dX2_stepsWithout_164 : decode cX2_stepsWithout 164 = .ok (.aload_n 0, 1) := dk_42 (dk_at dksX2_stepsWithout_6 21 rfl rfl)
theorem dX2_stepsWithout_165 : decode cX2_stepsWithout 165 = .ok (.invokevirtual 230, 3) := dk_182 0 230 (dk_at dksX2_stepsWithout_7 0 rfl rfl)
theorem dX2_stepsWithout_168 : decode cX2_stepsWithout 168 = .ok (.if_icmp .ge 37, 3) := dk_162 0 37 (dk_at dksX2_stepsWithout_7 3 rfl rfl)
theorem dX2_stepsWithout_171 : decode cX2_stepsWithout 171 = .ok (.aload_n 0, 1) := dk_42 (dk_at dksX2_stepsWithout_7 6 rfl rfl)
theorem dX2_stepsWithout_172 : decode cX2_stepsWithout 172 = .ok (.getfield 52, 3) := dk_180 0 52 (dk_at dksX2_stepsWithout_7 7 rfl rfl)
theorem dX2_stepsWithout_175 : decode cX2_stepsWithout 175 = .ok (.iload_n 3, 1) := dk_29 (dk_at dksX2_stepsWithout_7 10 rfl rfl)
theorem dX2_stepsWithout_176 : decode cX2_stepsWithout 176 = .ok (.iaload, 1) := dk_46 (dk_at dksX2_stepsWithout_7 11 rfl rfl)
theorem dX2_stepsWithout_177 : decode cX2_stepsWithout 177 = .ok (.iconst (-1), 1) := dk_2 (dk_at dksX2_stepsWithout_7 12 rfl rfl)
theorem dX2_stepsWithout_178 : decode cX2_stepsWithout 178 = .ok (.if_icmp .eq 21, 3) := dk_159 0 21 (dk_at dksX2_stepsWithout_7 13 rfl rfl)
theorem dX2_stepsWithout_181 : decode cX2_stepsWithout 181 = .ok (.aload_n 0, 1) := dk_42 (dk_at dksX2_stepsWithout_7 16 rfl rfl)
theorem dX2_stepsWithout_182 : decode cX2_stepsWithout 182 = .ok (.iload_n 3, 1) := dk_29 (dk_at dksX2_stepsWithout_7 17 rfl rfl)
theorem dX2_stepsWithout_183 : decode cX2_stepsWithout 183 = .ok (.iconst 0, 1) := dk_3 (dk_at dksX2_stepsWithout_7 18 rfl rfl)
theorem dX2_stepsWithout_184 : decode cX2_stepsWithout 184 = .ok (.aload_n 0, 1) := dk_42 (dk_at dksX2_stepsWithout_7 19 rfl rfl)
theorem dX2_stepsWithout_185 : decode cX2_stepsWithout 185 = .ok (.getfield 52, 3) := dk_180 0 52 (dk_at dksX2_stepsWithout_7 20 rfl rfl)
theorem dX2_stepsWithout_188 : decode cX2_stepsWithout 188 = .ok (.iload_n 3, 1) := dk_29 (dk_at dksX2_stepsWithout_7 23 rfl rfl)
theorem dX2_stepsWithout_189 : decode cX2_stepsWithout 189 = .ok (.iaload, 1) := dk_46 (dk_at dksX2_stepsWithout_8 0 rfl rfl)
theorem dX2_stepsWithout_190 : decode cX2_stepsWithout 190 = .ok (.ineg, 1) := dk_116 (dk_at dksX2_stepsWithout_8 1 rfl rfl)
theorem dX2_stepsWithout_191 : decode cX2_stepsWithout 191 = .ok (.sipush 200, 3) := dk_17 0 200 (dk_at dksX2_stepsWithout_8 2 rfl rfl)
theorem dX2_stepsWithout_194 : decode cX2_stepsWithout 194 = .ok (.iload_n 3, 1) := dk_29 (dk_at dksX2_stepsWithout_8 5 rfl rfl)
theorem dX2_stepsWithout_195 : decode cX2_stepsWithout 195 = .ok (.iadd, 1) := dk_96 (dk_at dksX2_stepsWithout_8 6 rfl rfl)
theorem dX2_stepsWithout_196 : decode cX2_stepsWithout 196 = .ok (.invokevirtual 226, 3) := dk_182 0 226 (dk_at dksX2_stepsWithout_8 7 rfl rfl)
theorem dX2_stepsWithout_199 : decode cX2_stepsWithout 199 = .ok (.iinc 3 1, 3) := dk_132 3 1 (dk_at dksX2_stepsWithout_8 10 rfl rfl)
theorem dX2_stepsWithout_202 : decode cX2_stepsWithout 202 = .ok (.goto (-39), 3) := dk_167 255 217 (dk_at dksX2_stepsWithout_8 13 rfl rfl)
theorem dX2_stepsWithout_205 : decode cX2_stepsWithout 205 = .ok (.iconst 1, 1) := dk_4 (dk_at dksX2_stepsWithout_8 16 rfl rfl)
theorem dX2_stepsWithout_206 : decode cX2_stepsWithout 206 = .ok (.istore_n 3, 1) := dk_62 (dk_at dksX2_stepsWithout_8 17 rfl rfl)
theorem dX2_stepsWithout_207 : decode cX2_stepsWithout 207 = .ok (.iload_n 3, 1) := dk_29 (dk_at dksX2_stepsWithout_8 18 rfl rfl)
theorem dX2_stepsWithout_208 : decode cX2_stepsWithout 208 = .ok (.aload_n 0, 1) := dk_42 (dk_at dksX2_stepsWithout_8 19 rfl rfl)
theorem dX2_stepsWithout_209 : decode cX2_stepsWithout 209 = .ok (.invokevirtual 230, 3) := dk_182 0 230 (dk_at dksX2_stepsWithout_8 20 rfl rfl)
theorem dX2_stepsWithout_212 : decode cX2_stepsWithout 212 = .ok (.if_icmp .ge 21, 3) := dk_162 0 21 (dk_at dksX2_stepsWithout_9 0 rfl rfl)
theorem dX2_stepsWithout_215 : decode cX2_stepsWithout 215 = .ok (.aload_n 0, 1) := dk_42 (dk_at dksX2_stepsWithout_9 3 rfl rfl)
theorem dX2_stepsWithout_216 : decode cX2_stepsWithout 216 = .ok (.iload_n 3, 1) := dk_29 (dk_at dksX2_stepsWithout_9 4 rfl rfl)
theorem dX2_stepsWithout_217 : decode cX2_stepsWithout 217 = .ok (.iconst 0, 1) := dk_3 (dk_at dksX2_stepsWithout_9 5 rfl rfl)
theorem dX2_stepsWithout_218 : decode cX2_stepsWithout 218 = .ok (.iconst 0, 1) := dk_3 (dk_at dksX2_stepsWithout_9 6 rfl rfl)
theorem dX2_stepsWithout_219 : decode cX2_stepsWithout 219 = .ok (.sipush 300, 3) := dk_17 1 44 (dk_at dksX2_stepsWithout_9 7 rfl rfl)
theorem dX2_stepsWithout_222 : decode cX2_stepsWithout 222 = .ok (.iload_n 3, 1) := dk_29 (dk_at dksX2_stepsWithout_9 10 rfl rfl)
theorem dX2_stepsWithout_223 : decode cX2_stepsWithout 223 = .ok (.iadd, 1) := dk_96 (dk_at dksX2_stepsWithout_9 11 rfl rfl)
theorem dX2_stepsWithout_224 : decode cX2_stepsWithout 224 = .ok (.invokevirtual 226, 3) := dk_182 0 226 (dk_at dksX2_stepsWithout_9 12 rfl rfl)
theorem dX2_stepsWithout_227 : decode cX2_stepsWithout 227 = .ok (.iinc 3 1, 3) := dk_132 3 1 (dk_at dksX2_stepsWithout_9 15 rfl rfl)
theorem dX2_stepsWithout_230 : decode cX2_stepsWithout 230 = .ok (.goto (-23), 3) := dk_167 255 233 (dk_at dksX2_stepsWithout_9 18 rfl rfl)
theorem dX2_stepsWithout_233 : decode cX2_stepsWithout 233 = .ok (.return_, 1) := dk_177 (dk_at dksX2_stepsWithout_9 21 rfl rfl)
abbrev cX2_isDropped : ByteArray := prog_16_method_34_code
def yX2_isDropped : MethodName := ⟨RX2, "isDropped", "(I)Z"⟩
def dkwX2_isDropped_0 : List UInt8 := [42, 27, 8, 182, 0, 214, 4, 160, 0, 7, 4, 167, 0, 4, 3, 172]
abbrev dktX2_isDropped_0 : List UInt8 := dkwX2_isDropped_0 ++ []
theorem dksX2_isDropped_0 : cX2_isDropped.data.toList.drop 0 = dktX2_isDropped_0 := by decide +kernel
theorem dX2_isDropped_0 : decode cX2_isDropped 0 = .ok (.aload_n 0, 1) := dk_42 (dk_at dksX2_isDropped_0 0 rfl rfl)
theorem dX2_isDropped_1 : decode cX2_isDropped 1 = .ok (.iload_n 1, 1) := dk_27 (dk_at dksX2_isDropped_0 1 rfl rfl)
theorem dX2_isDropped_2 : decode cX2_isDropped 2 = .ok (.iconst 5, 1) := dk_8 (dk_at dksX2_isDropped_0 2 rfl rfl)
theorem dX2_isDropped_3 : decode cX2_isDropped 3 = .ok (.invokevirtual 214, 3) := dk_182 0 214 (dk_at dksX2_isDropped_0 3 rfl rfl)
theorem dX2_isDropped_6 : decode cX2_isDropped 6 = .ok (.iconst 1, 1) := dk_4 (dk_at dksX2_isDropped_0 6 rfl rfl)
theorem dX2_isDropped_7 : decode cX2_isDropped 7 = .ok (.if_icmp .ne 7, 3) := dk_160 0 7 (dk_at dksX2_isDropped_0 7 rfl rfl)
theorem dX2_isDropped_10 : decode cX2_isDropped 10 = .ok (.iconst 1, 1) := dk_4 (dk_at dksX2_isDropped_0 10 rfl rfl)
theorem dX2_isDropped_11 : decode cX2_isDropped 11 = .ok (.goto 4, 3) := dk_167 0 4 (dk_at dksX2_isDropped_0 11 rfl rfl)
theorem dX2_isDropped_14 : decode cX2_isDropped 14 = .ok (.iconst 0, 1) := dk_3 (dk_at dksX2_isDropped_0 14 rfl rfl)
theorem dX2_isDropped_15 : decode cX2_isDropped 15 = .ok (.ireturn, 1) := dk_172 (dk_at dksX2_isDropped_0 15 rfl rfl)
abbrev cX2_step : ByteArray := prog_16_method_35_code
def yX2_step : MethodName := ⟨RX2, "step", "(IIII)V"⟩
def dkwX2_step_2 : List UInt8 := [181, 0, 217, 177]
abbrev dktX2_step_2 : List UInt8 := dkwX2_step_2 ++ []
def dkwX2_step_1 : List UInt8 := [42, 180, 0, 217, 29, 79, 42, 180, 0, 49, 42, 180, 0, 217, 21, 4, 79, 42, 89, 180, 0, 217, 4, 96]
abbrev dktX2_step_1 : List UInt8 := dkwX2_step_1 ++ dktX2_step_2
def dkwX2_step_0 : List UInt8 := [42, 180, 0, 40, 42, 180, 0, 217, 27, 79, 42, 180, 0, 43, 42, 180, 0, 217, 28, 79, 42, 180, 0, 46]
abbrev dktX2_step_0 : List UInt8 := dkwX2_step_0 ++ dktX2_step_1
theorem dksX2_step_0 : cX2_step.data.toList.drop 0 = dktX2_step_0 := by decide +kernel
theorem dksX2_step_1 : cX2_step.data.toList.drop 24 = dktX2_step_1 := dk_seg dksX2_step_0 24 rfl rfl
theorem dksX2_step_2 : cX2_step.data.toList.drop 48 = dktX2_step_2 := dk_seg dksX2_step_1 24 rfl rfl
theorem dX2_step_0 : decode cX2_step 0 = .ok (.aload_n 0, 1) := dk_42 (dk_at dksX2_step_0 0 rfl rfl)
theorem dX2_step_1 : decode cX2_step 1 = .ok (.getfield 40, 3) := dk_180 0 40 (dk_at dksX2_step_0 1 rfl rfl)
theorem dX2_step_4 : decode cX2_step 4 = .ok (.aload_n 0, 1) := dk_42 (dk_at dksX2_step_0 4 rfl rfl)
theorem dX2_step_5 : decode cX2_step 5 = .ok (.getfield 217, 3) := dk_180 0 217 (dk_at dksX2_step_0 5 rfl rfl)
theorem dX2_step_8 : decode cX2_step 8 = .ok (.iload_n 1, 1) := dk_27 (dk_at dksX2_step_0 8 rfl rfl)
theorem dX2_step_9 : decode cX2_step 9 = .ok (.iastore, 1) := dk_79 (dk_at dksX2_step_0 9 rfl rfl)
theorem dX2_step_10 : decode cX2_step 10 = .ok (.aload_n 0, 1) := dk_42 (dk_at dksX2_step_0 10 rfl rfl)
theorem dX2_step_11 : decode cX2_step 11 = .ok (.getfield 43, 3) := dk_180 0 43 (dk_at dksX2_step_0 11 rfl rfl)
theorem dX2_step_14 : decode cX2_step 14 = .ok (.aload_n 0, 1) := dk_42 (dk_at dksX2_step_0 14 rfl rfl)
theorem dX2_step_15 : decode cX2_step 15 = .ok (.getfield 217, 3) := dk_180 0 217 (dk_at dksX2_step_0 15 rfl rfl)
theorem dX2_step_18 : decode cX2_step 18 = .ok (.iload_n 2, 1) := dk_28 (dk_at dksX2_step_0 18 rfl rfl)
theorem dX2_step_19 : decode cX2_step 19 = .ok (.iastore, 1) := dk_79 (dk_at dksX2_step_0 19 rfl rfl)
theorem dX2_step_20 : decode cX2_step 20 = .ok (.aload_n 0, 1) := dk_42 (dk_at dksX2_step_0 20 rfl rfl)
theorem dX2_step_21 : decode cX2_step 21 = .ok (.getfield 46, 3) := dk_180 0 46 (dk_at dksX2_step_0 21 rfl rfl)
theorem dX2_step_24 : decode cX2_step 24 = .ok (.aload_n 0, 1) := dk_42 (dk_at dksX2_step_1 0 rfl rfl)
theorem dX2_step_25 : decode cX2_step 25 = .ok (.getfield 217, 3) := dk_180 0 217 (dk_at dksX2_step_1 1 rfl rfl)
theorem dX2_step_28 : decode cX2_step 28 = .ok (.iload_n 3, 1) := dk_29 (dk_at dksX2_step_1 4 rfl rfl)
theorem dX2_step_29 : decode cX2_step 29 = .ok (.iastore, 1) := dk_79 (dk_at dksX2_step_1 5 rfl rfl)
theorem dX2_step_30 : decode cX2_step 30 = .ok (.aload_n 0, 1) := dk_42 (dk_at dksX2_step_1 6 rfl rfl)
theorem dX2_step_31 : decode cX2_step 31 = .ok (.getfield 49, 3) := dk_180 0 49 (dk_at dksX2_step_1 7 rfl rfl)
theorem dX2_step_34 : decode cX2_step 34 = .ok (.aload_n 0, 1) := dk_42 (dk_at dksX2_step_1 10 rfl rfl)
theorem dX2_step_35 : decode cX2_step 35 = .ok (.getfield 217, 3) := dk_180 0 217 (dk_at dksX2_step_1 11 rfl rfl)
theorem dX2_step_38 : decode cX2_step 38 = .ok (.iload 4, 2) := dk_21 4 (dk_at dksX2_step_1 14 rfl rfl)
theorem dX2_step_40 : decode cX2_step 40 = .ok (.iastore, 1) := dk_79 (dk_at dksX2_step_1 16 rfl rfl)
theorem dX2_step_41 : decode cX2_step 41 = .ok (.aload_n 0, 1) := dk_42 (dk_at dksX2_step_1 17 rfl rfl)
theorem dX2_step_42 : decode cX2_step 42 = .ok (.dup, 1) := dk_89 (dk_at dksX2_step_1 18 rfl rfl)
theorem dX2_step_43 : decode cX2_step 43 = .ok (.getfield 217, 3) := dk_180 0 217 (dk_at dksX2_step_1 19 rfl rfl)
theorem dX2_step_46 : decode cX2_step 46 = .ok (.iconst 1, 1) := dk_4 (dk_at dksX2_step_1 22 rfl rfl)
theorem dX2_step_47 : decode cX2_step 47 = .ok (.iadd, 1) := dk_96 (dk_at dksX2_step_1 23 rfl rfl)
theorem dX2_step_48 : decode cX2_step 48 = .ok (.putfield 217, 3) := dk_181 0 217 (dk_at dksX2_step_2 0 rfl rfl)
theorem dX2_step_51 : decode cX2_step 51 = .ok (.return_, 1) := dk_177 (dk_at dksX2_step_2 3 rfl rfl)
abbrev cX2_bounds : ByteArray := prog_16_method_40_code
def yX2_bounds : MethodName := ⟨RX2, "bounds", "()Z"⟩
def dkwX2_bounds_7 : List UInt8 := [167, 255, 188, 4, 172]
abbrev dktX2_bounds_7 : List UInt8 := dkwX2_bounds_7 ++ []
def dkwX2_bounds_6 : List UInt8 := [162, 0, 20, 42, 29, 29, 182, 0, 233, 156, 0, 5, 3, 172, 132, 3, 1, 167, 255, 237, 132, 2, 1]
abbrev dktX2_bounds_6 : List UInt8 := dkwX2_bounds_6 ++ dktX2_bounds_7
def dkwX2_bounds_5 : List UInt8 := [28, 21, 4, 182, 0, 242, 132, 4, 1, 167, 255, 239, 132, 3, 1, 167, 255, 225, 3, 62, 29, 27]
abbrev dktX2_bounds_5 : List UInt8 := dkwX2_bounds_5 ++ dktX2_bounds_6
def dkwX2_bounds_4 : List UInt8 := [61, 28, 27, 162, 0, 69, 3, 62, 29, 27, 162, 0, 32, 3, 54, 4, 21, 4, 27, 162, 0, 17, 42, 29]
abbrev dktX2_bounds_4 : List UInt8 := dkwX2_bounds_4 ++ dktX2_bounds_5
def dkwX2_bounds_3 : List UInt8 := [28, 46, 42, 180, 0, 46, 27, 46, 184, 0, 237, 79, 132, 1, 1, 167, 255, 207, 42, 182, 0, 230, 60, 3]
abbrev dktX2_bounds_3 : List UInt8 := dkwX2_bounds_3 ++ dktX2_bounds_4
def dkwX2_bounds_2 : List UInt8 := [42, 180, 0, 40, 27, 46, 104, 42, 180, 0, 43, 27, 46, 96, 61, 42, 180, 0, 55, 28, 42, 180, 0, 55]
abbrev dktX2_bounds_2 : List UInt8 := dkwX2_bounds_2 ++ dktX2_bounds_3
def dkwX2_bounds_1 : List UInt8 := [167, 0, 5, 18, 236, 79, 132, 1, 1, 167, 255, 225, 3, 60, 27, 42, 180, 0, 217, 162, 0, 47, 16, 10]
abbrev dktX2_bounds_1 : List UInt8 := dkwX2_bounds_1 ++ dktX2_bounds_2
def dkwX2_bounds_0 : List UInt8 := [3, 60, 27, 42, 180, 0, 55, 190, 162, 0, 28, 42, 180, 0, 55, 27, 27, 16, 11, 112, 154, 0, 7, 3]
abbrev dktX2_bounds_0 : List UInt8 := dkwX2_bounds_0 ++ dktX2_bounds_1
theorem dksX2_bounds_0 : cX2_bounds.data.toList.drop 0 = dktX2_bounds_0 := by decide +kernel
theorem dksX2_bounds_1 : cX2_bounds.data.toList.drop 24 = dktX2_bounds_1 := dk_seg dksX2_bounds_0 24 rfl rfl
theorem dksX2_bounds_2 : cX2_bounds.data.toList.drop 48 = dktX2_bounds_2 := dk_seg dksX2_bounds_1 24 rfl rfl
theorem dksX2_bounds_3 : cX2_bounds.data.toList.drop 72 = dktX2_bounds_3 := dk_seg dksX2_bounds_2 24 rfl rfl
theorem dksX2_bounds_4 : cX2_bounds.data.toList.drop 96 = dktX2_bounds_4 := dk_seg dksX2_bounds_3 24 rfl rfl
theorem dksX2_bounds_5 : cX2_bounds.data.toList.drop 120 = dktX2_bounds_5 := dk_seg dksX2_bounds_4 24 rfl rfl
theorem dksX2_bounds_6 : cX2_bounds.data.toList.drop 142 = dktX2_bounds_6 := dk_seg dksX2_bounds_5 22 rfl rfl
theorem dksX2_bounds_7 : cX2_bounds.data.toList.drop 165 = dktX2_bounds_7 := dk_seg dksX2_bounds_6 23 rfl rfl
theorem dX2_bounds_0 : decode cX2_bounds 0 = .ok (.iconst 0, 1) := dk_3 (dk_at dksX2_bounds_0 0 rfl rfl)
theorem dX2_bounds_1 : decode cX2_bounds 1 = .ok (.istore_n 1, 1) := dk_60 (dk_at dksX2_bounds_0 1 rfl rfl)
theorem dX2_bounds_2 : decode cX2_bounds 2 = .ok (.iload_n 1, 1) := dk_27 (dk_at dksX2_bounds_0 2 rfl rfl)
theorem dX2_bounds_3 : decode cX2_bounds 3 = .ok (.aload_n 0, 1) := dk_42 (dk_at dksX2_bounds_0 3 rfl rfl)
theorem dX2_bounds_4 : decode cX2_bounds 4 = .ok (.getfield 55, 3) := dk_180 0 55 (dk_at dksX2_bounds_0 4 rfl rfl)
theorem dX2_bounds_7 : decode cX2_bounds 7 = .ok (.arraylength, 1) := dk_190 (dk_at dksX2_bounds_0 7 rfl rfl)
theorem dX2_bounds_8 : decode cX2_bounds 8 = .ok (.if_icmp .ge 28, 3) := dk_162 0 28 (dk_at dksX2_bounds_0 8 rfl rfl)
theorem dX2_bounds_11 : decode cX2_bounds 11 = .ok (.aload_n 0, 1) := dk_42 (dk_at dksX2_bounds_0 11 rfl rfl)
theorem dX2_bounds_12 : decode cX2_bounds 12 = .ok (.getfield 55, 3) := dk_180 0 55 (dk_at dksX2_bounds_0 12 rfl rfl)
theorem dX2_bounds_15 : decode cX2_bounds 15 = .ok (.iload_n 1, 1) := dk_27 (dk_at dksX2_bounds_0 15 rfl rfl)
theorem dX2_bounds_16 : decode cX2_bounds 16 = .ok (.iload_n 1, 1) := dk_27 (dk_at dksX2_bounds_0 16 rfl rfl)
theorem dX2_bounds_17 : decode cX2_bounds 17 = .ok (.bipush 11, 2) := dk_16 11 (dk_at dksX2_bounds_0 17 rfl rfl)
theorem dX2_bounds_19 : decode cX2_bounds 19 = .ok (.irem, 1) := dk_112 (dk_at dksX2_bounds_0 19 rfl rfl)
theorem dX2_bounds_20 : decode cX2_bounds 20 = .ok (.ifCond .ne 7, 3) := dk_154 0 7 (dk_at dksX2_bounds_0 20 rfl rfl)
theorem dX2_bounds_23 : decode cX2_bounds 23 = .ok (.iconst 0, 1) := dk_3 (dk_at dksX2_bounds_0 23 rfl rfl)
theorem dX2_bounds_24 : decode cX2_bounds 24 = .ok (.goto 5, 3) := dk_167 0 5 (dk_at dksX2_bounds_1 0 rfl rfl)
theorem dX2_bounds_27 : decode cX2_bounds 27 = .ok (.ldc 236, 2) := dk_18 236 (dk_at dksX2_bounds_1 3 rfl rfl)
theorem dX2_bounds_29 : decode cX2_bounds 29 = .ok (.iastore, 1) := dk_79 (dk_at dksX2_bounds_1 5 rfl rfl)
theorem dX2_bounds_30 : decode cX2_bounds 30 = .ok (.iinc 1 1, 3) := dk_132 1 1 (dk_at dksX2_bounds_1 6 rfl rfl)
theorem dX2_bounds_33 : decode cX2_bounds 33 = .ok (.goto (-31), 3) := dk_167 255 225 (dk_at dksX2_bounds_1 9 rfl rfl)
theorem dX2_bounds_36 : decode cX2_bounds 36 = .ok (.iconst 0, 1) := dk_3 (dk_at dksX2_bounds_1 12 rfl rfl)
theorem dX2_bounds_37 : decode cX2_bounds 37 = .ok (.istore_n 1, 1) := dk_60 (dk_at dksX2_bounds_1 13 rfl rfl)
theorem dX2_bounds_38 : decode cX2_bounds 38 = .ok (.iload_n 1, 1) := dk_27 (dk_at dksX2_bounds_1 14 rfl rfl)
theorem dX2_bounds_39 : decode cX2_bounds 39 = .ok (.aload_n 0, 1) := dk_42 (dk_at dksX2_bounds_1 15 rfl rfl)
theorem dX2_bounds_40 : decode cX2_bounds 40 = .ok (.getfield 217, 3) := dk_180 0 217 (dk_at dksX2_bounds_1 16 rfl rfl)
theorem dX2_bounds_43 : decode cX2_bounds 43 = .ok (.if_icmp .ge 47, 3) := dk_162 0 47 (dk_at dksX2_bounds_1 19 rfl rfl)
theorem dX2_bounds_46 : decode cX2_bounds 46 = .ok (.bipush 10, 2) := dk_16 10 (dk_at dksX2_bounds_1 22 rfl rfl)
theorem dX2_bounds_48 : decode cX2_bounds 48 = .ok (.aload_n 0, 1) := dk_42 (dk_at dksX2_bounds_2 0 rfl rfl)
theorem dX2_bounds_49 : decode cX2_bounds 49 = .ok (.getfield 40, 3) := dk_180 0 40 (dk_at dksX2_bounds_2 1 rfl rfl)
theorem dX2_bounds_52 : decode cX2_bounds 52 = .ok (.iload_n 1, 1) := dk_27 (dk_at dksX2_bounds_2 4 rfl rfl)
theorem dX2_bounds_53 : decode cX2_bounds 53 = .ok (.iaload, 1) := dk_46 (dk_at dksX2_bounds_2 5 rfl rfl)
theorem dX2_bounds_54 : decode cX2_bounds 54 = .ok (.imul, 1) := dk_104 (dk_at dksX2_bounds_2 6 rfl rfl)
theorem dX2_bounds_55 : decode cX2_bounds 55 = .ok (.aload_n 0, 1) := dk_42 (dk_at dksX2_bounds_2 7 rfl rfl)
theorem dX2_bounds_56 : decode cX2_bounds 56 = .ok (.getfield 43, 3) := dk_180 0 43 (dk_at dksX2_bounds_2 8 rfl rfl)
theorem dX2_bounds_59 : decode cX2_bounds 59 = .ok (.iload_n 1, 1) := dk_27 (dk_at dksX2_bounds_2 11 rfl rfl)
theorem dX2_bounds_60 : decode cX2_bounds 60 = .ok (.iaload, 1) := dk_46 (dk_at dksX2_bounds_2 12 rfl rfl)
theorem dX2_bounds_61 : decode cX2_bounds 61 = .ok (.iadd, 1) := dk_96 (dk_at dksX2_bounds_2 13 rfl rfl)
theorem dX2_bounds_62 : decode cX2_bounds 62 = .ok (.istore_n 2, 1) := dk_61 (dk_at dksX2_bounds_2 14 rfl rfl)
theorem dX2_bounds_63 : decode cX2_bounds 63 = .ok (.aload_n 0, 1) := dk_42 (dk_at dksX2_bounds_2 15 rfl rfl)
theorem dX2_bounds_64 : decode cX2_bounds 64 = .ok (.getfield 55, 3) := dk_180 0 55 (dk_at dksX2_bounds_2 16 rfl rfl)
theorem dX2_bounds_67 : decode cX2_bounds 67 = .ok (.iload_n 2, 1) := dk_28 (dk_at dksX2_bounds_2 19 rfl rfl)
theorem dX2_bounds_68 : decode cX2_bounds 68 = .ok (.aload_n 0, 1) := dk_42 (dk_at dksX2_bounds_2 20 rfl rfl)
theorem dX2_bounds_69 : decode cX2_bounds 69 = .ok (.getfield 55, 3) := dk_180 0 55 (dk_at dksX2_bounds_2 21 rfl rfl)
theorem dX2_bounds_72 : decode cX2_bounds 72 = .ok (.iload_n 2, 1) := dk_28 (dk_at dksX2_bounds_3 0 rfl rfl)
theorem dX2_bounds_73 : decode cX2_bounds 73 = .ok (.iaload, 1) := dk_46 (dk_at dksX2_bounds_3 1 rfl rfl)
theorem dX2_bounds_74 : decode cX2_bounds 74 = .ok (.aload_n 0, 1) := dk_42 (dk_at dksX2_bounds_3 2 rfl rfl)
theorem dX2_bounds_75 : decode cX2_bounds 75 = .ok (.getfield 46, 3) := dk_180 0 46 (dk_at dksX2_bounds_3 3 rfl rfl)
theorem dX2_bounds_78 : decode cX2_bounds 78 = .ok (.iload_n 1, 1) := dk_27 (dk_at dksX2_bounds_3 6 rfl rfl)
theorem dX2_bounds_79 : decode cX2_bounds 79 = .ok (.iaload, 1) := dk_46 (dk_at dksX2_bounds_3 7 rfl rfl)
theorem dX2_bounds_80 : decode cX2_bounds 80 = .ok (.invokestatic 237, 3) := dk_184 0 237 (dk_at dksX2_bounds_3 8 rfl rfl)
theorem dX2_bounds_83 : decode cX2_bounds 83 = .ok (.iastore, 1) := dk_79 (dk_at dksX2_bounds_3 11 rfl rfl)
theorem dX2_bounds_84 : decode cX2_bounds 84 = .ok (.iinc 1 1, 3) := dk_132 1 1 (dk_at dksX2_bounds_3 12 rfl rfl)
theorem dX2_bounds_87 : decode cX2_bounds 87 = .ok (.goto (-49), 3) := dk_167 255 207 (dk_at dksX2_bounds_3 15 rfl rfl)
theorem dX2_bounds_90 : decode cX2_bounds 90 = .ok (.aload_n 0, 1) := dk_42 (dk_at dksX2_bounds_3 18 rfl rfl)
theorem dX2_bounds_91 : decode cX2_bounds 91 = .ok (.invokevirtual 230, 3) := dk_182 0 230 (dk_at dksX2_bounds_3 19 rfl rfl)
theorem dX2_bounds_94 : decode cX2_bounds 94 = .ok (.istore_n 1, 1) := dk_60 (dk_at dksX2_bounds_3 22 rfl rfl)
theorem dX2_bounds_95 : decode cX2_bounds 95 = .ok (.iconst 0, 1) := dk_3 (dk_at dksX2_bounds_3 23 rfl rfl)
theorem dX2_bounds_96 : decode cX2_bounds 96 = .ok (.istore_n 2, 1) := dk_61 (dk_at dksX2_bounds_4 0 rfl rfl)
theorem dX2_bounds_97 : decode cX2_bounds 97 = .ok (.iload_n 2, 1) := dk_28 (dk_at dksX2_bounds_4 1 rfl rfl)
theorem dX2_bounds_98 : decode cX2_bounds 98 = .ok (.iload_n 1, 1) := dk_27 (dk_at dksX2_bounds_4 2 rfl rfl)
theorem dX2_bounds_99 : decode cX2_bounds 99 = .ok (.if_icmp .ge 69, 3) := dk_162 0 69 (dk_at dksX2_bounds_4 3 rfl rfl)
theorem dX2_bounds_102 : decode cX2_bounds 102 = .ok (.iconst 0, 1) := dk_3 (dk_at dksX2_bounds_4 6 rfl rfl)
theorem dX2_bounds_103 : decode cX2_bounds 103 = .ok (.istore_n 3, 1) := dk_62 (dk_at dksX2_bounds_4 7 rfl rfl)
theorem dX2_bounds_104 : decode cX2_bounds 104 = .ok (.iload_n 3, 1) := dk_29 (dk_at dksX2_bounds_4 8 rfl rfl)
theorem dX2_bounds_105 : decode cX2_bounds 105 = .ok (.iload_n 1, 1) := dk_27 (dk_at dksX2_bounds_4 9 rfl rfl)
theorem dX2_bounds_106 : decode cX2_bounds 106 = .ok (.if_icmp .ge 32, 3) := dk_162 0 32 (dk_at dksX2_bounds_4 10 rfl rfl)
theorem dX2_bounds_109 : decode cX2_bounds 109 = .ok (.iconst 0, 1) := dk_3 (dk_at dksX2_bounds_4 13 rfl rfl)
theorem dX2_bounds_110 : decode cX2_bounds 110 = .ok (.istore 4, 2) := dk_54 4 (dk_at dksX2_bounds_4 14 rfl rfl)
theorem dX2_bounds_112 : decode cX2_bounds 112 = .ok (.iload 4, 2) := dk_21 4 (dk_at dksX2_bounds_4 16 rfl rfl)
theorem dX2_bounds_114 : decode cX2_bounds 114 = .ok (.iload_n 1, 1) := dk_27 (dk_at dksX2_bounds_4 18 rfl rfl)
theorem dX2_bounds_115 : decode cX2_bounds 115 = .ok (.if_icmp .ge 17, 3) := dk_162 0 17 (dk_at dksX2_bounds_4 19 rfl rfl)
theorem dX2_bounds_118 : decode cX2_bounds 118 = .ok (.aload_n 0, 1) := dk_42 (dk_at dksX2_bounds_4 22 rfl rfl)
theorem dX2_bounds_119 : decode cX2_bounds 119 = .ok (.iload_n 3, 1) := dk_29 (dk_at dksX2_bounds_4 23 rfl rfl)
theorem dX2_bounds_120 : decode cX2_bounds 120 = .ok (.iload_n 2, 1) := dk_28 (dk_at dksX2_bounds_5 0 rfl rfl)
theorem dX2_bounds_121 : decode cX2_bounds 121 = .ok (.iload 4, 2) := dk_21 4 (dk_at dksX2_bounds_5 1 rfl rfl)
theorem dX2_bounds_123 : decode cX2_bounds 123 = .ok (.invokevirtual 242, 3) := dk_182 0 242 (dk_at dksX2_bounds_5 3 rfl rfl)
theorem dX2_bounds_126 : decode cX2_bounds 126 = .ok (.iinc 4 1, 3) := dk_132 4 1 (dk_at dksX2_bounds_5 6 rfl rfl)
theorem dX2_bounds_129 : decode cX2_bounds 129 = .ok (.goto (-17), 3) := dk_167 255 239 (dk_at dksX2_bounds_5 9 rfl rfl)
theorem dX2_bounds_132 : decode cX2_bounds 132 = .ok (.iinc 3 1, 3) := dk_132 3 1 (dk_at dksX2_bounds_5 12 rfl rfl)
theorem dX2_bounds_135 : decode cX2_bounds 135 = .ok (.goto (-31), 3) := dk_167 255 225 (dk_at dksX2_bounds_5 15 rfl rfl)
theorem dX2_bounds_138 : decode cX2_bounds 138 = .ok (.iconst 0, 1) := dk_3 (dk_at dksX2_bounds_5 18 rfl rfl)
theorem dX2_bounds_139 : decode cX2_bounds 139 = .ok (.istore_n 3, 1) := dk_62 (dk_at dksX2_bounds_5 19 rfl rfl)
theorem dX2_bounds_140 : decode cX2_bounds 140 = .ok (.iload_n 3, 1) := dk_29 (dk_at dksX2_bounds_5 20 rfl rfl)
theorem dX2_bounds_141 : decode cX2_bounds 141 = .ok (.iload_n 1, 1) := dk_27 (dk_at dksX2_bounds_5 21 rfl rfl)
theorem dX2_bounds_142 : decode cX2_bounds 142 = .ok (.if_icmp .ge 20, 3) := dk_162 0 20 (dk_at dksX2_bounds_6 0 rfl rfl)
theorem dX2_bounds_145 : decode cX2_bounds 145 = .ok (.aload_n 0, 1) := dk_42 (dk_at dksX2_bounds_6 3 rfl rfl)
theorem dX2_bounds_146 : decode cX2_bounds 146 = .ok (.iload_n 3, 1) := dk_29 (dk_at dksX2_bounds_6 4 rfl rfl)
theorem dX2_bounds_147 : decode cX2_bounds 147 = .ok (.iload_n 3, 1) := dk_29 (dk_at dksX2_bounds_6 5 rfl rfl)
theorem dX2_bounds_148 : decode cX2_bounds 148 = .ok (.invokevirtual 233, 3) := dk_182 0 233 (dk_at dksX2_bounds_6 6 rfl rfl)
theorem dX2_bounds_151 : decode cX2_bounds 151 = .ok (.ifCond .ge 5, 3) := dk_156 0 5 (dk_at dksX2_bounds_6 9 rfl rfl)
theorem dX2_bounds_154 : decode cX2_bounds 154 = .ok (.iconst 0, 1) := dk_3 (dk_at dksX2_bounds_6 12 rfl rfl)
theorem dX2_bounds_155 : decode cX2_bounds 155 = .ok (.ireturn, 1) := dk_172 (dk_at dksX2_bounds_6 13 rfl rfl)
theorem dX2_bounds_156 : decode cX2_bounds 156 = .ok (.iinc 3 1, 3) := dk_132 3 1 (dk_at dksX2_bounds_6 14 rfl rfl)
theorem dX2_bounds_159 : decode cX2_bounds 159 = .ok (.goto (-19), 3) := dk_167 255 237 (dk_at dksX2_bounds_6 17 rfl rfl)
theorem dX2_bounds_162 : decode cX2_bounds 162 = .ok (.iinc 2 1, 3) := dk_132 2 1 (dk_at dksX2_bounds_6 20 rfl rfl)
theorem dX2_bounds_165 : decode cX2_bounds 165 = .ok (.goto (-68), 3) := dk_167 255 188 (dk_at dksX2_bounds_7 0 rfl rfl)
theorem dX2_bounds_168 : decode cX2_bounds 168 = .ok (.iconst 1, 1) := dk_4 (dk_at dksX2_bounds_7 3 rfl rfl)
theorem dX2_bounds_169 : decode cX2_bounds 169 = .ok (.ireturn, 1) := dk_172 (dk_at dksX2_bounds_7 4 rfl rfl)
abbrev cX2_joins : ByteArray := prog_16_method_39_code
def yX2_joins : MethodName := ⟨RX2, "joins", "(III)V"⟩
def dkwX2_joins_2 : List UInt8 := [162, 0, 16, 42, 180, 0, 55, 16, 10, 27, 104, 29, 96, 21, 4, 79, 177]
abbrev dktX2_joins_2 : List UInt8 := dkwX2_joins_2 ++ []
def dkwX2_joins_1 : List UInt8 := [162, 0, 38, 42, 28, 29, 182, 0, 233, 18, 236, 162, 0, 27, 21, 4, 42, 27, 29, 182, 0, 233]
abbrev dktX2_joins_1 : List UInt8 := dkwX2_joins_1 ++ dktX2_joins_2
def dkwX2_joins_0 : List UInt8 := [42, 27, 28, 182, 0, 233, 42, 28, 29, 182, 0, 233, 96, 54, 4, 42, 27, 28, 182, 0, 233, 18, 236]
abbrev dktX2_joins_0 : List UInt8 := dkwX2_joins_0 ++ dktX2_joins_1
theorem dksX2_joins_0 : cX2_joins.data.toList.drop 0 = dktX2_joins_0 := by decide +kernel
theorem dksX2_joins_1 : cX2_joins.data.toList.drop 23 = dktX2_joins_1 := dk_seg dksX2_joins_0 23 rfl rfl
theorem dksX2_joins_2 : cX2_joins.data.toList.drop 45 = dktX2_joins_2 := dk_seg dksX2_joins_1 22 rfl rfl
theorem dX2_joins_0 : decode cX2_joins 0 = .ok (.aload_n 0, 1) := dk_42 (dk_at dksX2_joins_0 0 rfl rfl)
theorem dX2_joins_1 : decode cX2_joins 1 = .ok (.iload_n 1, 1) := dk_27 (dk_at dksX2_joins_0 1 rfl rfl)
theorem dX2_joins_2 : decode cX2_joins 2 = .ok (.iload_n 2, 1) := dk_28 (dk_at dksX2_joins_0 2 rfl rfl)
theorem dX2_joins_3 : decode cX2_joins 3 = .ok (.invokevirtual 233, 3) := dk_182 0 233 (dk_at dksX2_joins_0 3 rfl rfl)
theorem dX2_joins_6 : decode cX2_joins 6 = .ok (.aload_n 0, 1) := dk_42 (dk_at dksX2_joins_0 6 rfl rfl)
theorem dX2_joins_7 : decode cX2_joins 7 = .ok (.iload_n 2, 1) := dk_28 (dk_at dksX2_joins_0 7 rfl rfl)
theorem dX2_joins_8 : decode cX2_joins 8 = .ok (.iload_n 3, 1) := dk_29 (dk_at dksX2_joins_0 8 rfl rfl)
theorem dX2_joins_9 : decode cX2_joins 9 = .ok (.invokevirtual 233, 3) := dk_182 0 233 (dk_at dksX2_joins_0 9 rfl rfl)
theorem dX2_joins_12 : decode cX2_joins 12 = .ok (.iadd, 1) := dk_96 (dk_at dksX2_joins_0 12 rfl rfl)
theorem dX2_joins_13 : decode cX2_joins 13 = .ok (.istore 4, 2) := dk_54 4 (dk_at dksX2_joins_0 13 rfl rfl)
theorem dX2_joins_15 : decode cX2_joins 15 = .ok (.aload_n 0, 1) := dk_42 (dk_at dksX2_joins_0 15 rfl rfl)
theorem dX2_joins_16 : decode cX2_joins 16 = .ok (.iload_n 1, 1) := dk_27 (dk_at dksX2_joins_0 16 rfl rfl)
theorem dX2_joins_17 : decode cX2_joins 17 = .ok (.iload_n 2, 1) := dk_28 (dk_at dksX2_joins_0 17 rfl rfl)
theorem dX2_joins_18 : decode cX2_joins 18 = .ok (.invokevirtual 233, 3) := dk_182 0 233 (dk_at dksX2_joins_0 18 rfl rfl)
theorem dX2_joins_21 : decode cX2_joins 21 = .ok (.ldc 236, 2) := dk_18 236 (dk_at dksX2_joins_0 21 rfl rfl)
theorem dX2_joins_23 : decode cX2_joins 23 = .ok (.if_icmp .ge 38, 3) := dk_162 0 38 (dk_at dksX2_joins_1 0 rfl rfl)
theorem dX2_joins_26 : decode cX2_joins 26 = .ok (.aload_n 0, 1) := dk_42 (dk_at dksX2_joins_1 3 rfl rfl)
theorem dX2_joins_27 : decode cX2_joins 27 = .ok (.iload_n 2, 1) := dk_28 (dk_at dksX2_joins_1 4 rfl rfl)
theorem dX2_joins_28 : decode cX2_joins 28 = .ok (.iload_n 3, 1) := dk_29 (dk_at dksX2_joins_1 5 rfl rfl)
theorem dX2_joins_29 : decode cX2_joins 29 = .ok (.invokevirtual 233, 3) := dk_182 0 233 (dk_at dksX2_joins_1 6 rfl rfl)
theorem dX2_joins_32 : decode cX2_joins 32 = .ok (.ldc 236, 2) := dk_18 236 (dk_at dksX2_joins_1 9 rfl rfl)
theorem dX2_joins_34 : decode cX2_joins 34 = .ok (.if_icmp .ge 27, 3) := dk_162 0 27 (dk_at dksX2_joins_1 11 rfl rfl)
theorem dX2_joins_37 : decode cX2_joins 37 = .ok (.iload 4, 2) := dk_21 4 (dk_at dksX2_joins_1 14 rfl rfl)
theorem dX2_joins_39 : decode cX2_joins 39 = .ok (.aload_n 0, 1) := dk_42 (dk_at dksX2_joins_1 16 rfl rfl)
theorem dX2_joins_40 : decode cX2_joins 40 = .ok (.iload_n 1, 1) := dk_27 (dk_at dksX2_joins_1 17 rfl rfl)
theorem dX2_joins_41 : decode cX2_joins 41 = .ok (.iload_n 3, 1) := dk_29 (dk_at dksX2_joins_1 18 rfl rfl)
theorem dX2_joins_42 : decode cX2_joins 42 = .ok (.invokevirtual 233, 3) := dk_182 0 233 (dk_at dksX2_joins_1 19 rfl rfl)
theorem dX2_joins_45 : decode cX2_joins 45 = .ok (.if_icmp .ge 16, 3) := dk_162 0 16 (dk_at dksX2_joins_2 0 rfl rfl)
theorem dX2_joins_48 : decode cX2_joins 48 = .ok (.aload_n 0, 1) := dk_42 (dk_at dksX2_joins_2 3 rfl rfl)
theorem dX2_joins_49 : decode cX2_joins 49 = .ok (.getfield 55, 3) := dk_180 0 55 (dk_at dksX2_joins_2 4 rfl rfl)
theorem dX2_joins_52 : decode cX2_joins 52 = .ok (.bipush 10, 2) := dk_16 10 (dk_at dksX2_joins_2 7 rfl rfl)
theorem dX2_joins_54 : decode cX2_joins 54 = .ok (.iload_n 1, 1) := dk_27 (dk_at dksX2_joins_2 9 rfl rfl)
theorem dX2_joins_55 : decode cX2_joins 55 = .ok (.imul, 1) := dk_104 (dk_at dksX2_joins_2 10 rfl rfl)
theorem dX2_joins_56 : decode cX2_joins 56 = .ok (.iload_n 3, 1) := dk_29 (dk_at dksX2_joins_2 11 rfl rfl)
theorem dX2_joins_57 : decode cX2_joins 57 = .ok (.iadd, 1) := dk_96 (dk_at dksX2_joins_2 12 rfl rfl)
theorem dX2_joins_58 : decode cX2_joins 58 = .ok (.iload 4, 2) := dk_21 4 (dk_at dksX2_joins_2 13 rfl rfl)
theorem dX2_joins_60 : decode cX2_joins 60 = .ok (.iastore, 1) := dk_79 (dk_at dksX2_joins_2 15 rfl rfl)
theorem dX2_joins_61 : decode cX2_joins 61 = .ok (.return_, 1) := dk_177 (dk_at dksX2_joins_2 16 rfl rfl)
abbrev cX2_boundOf : ByteArray := prog_16_method_38_code
def yX2_boundOf : MethodName := ⟨RX2, "boundOf", "(II)I"⟩
def dkwX2_boundOf_0 : List UInt8 := [42, 180, 0, 55, 16, 10, 27, 104, 28, 96, 46, 172]
abbrev dktX2_boundOf_0 : List UInt8 := dkwX2_boundOf_0 ++ []
theorem dksX2_boundOf_0 : cX2_boundOf.data.toList.drop 0 = dktX2_boundOf_0 := by decide +kernel
theorem dX2_boundOf_0 : decode cX2_boundOf 0 = .ok (.aload_n 0, 1) := dk_42 (dk_at dksX2_boundOf_0 0 rfl rfl)
theorem dX2_boundOf_1 : decode cX2_boundOf 1 = .ok (.getfield 55, 3) := dk_180 0 55 (dk_at dksX2_boundOf_0 1 rfl rfl)
theorem dX2_boundOf_4 : decode cX2_boundOf 4 = .ok (.bipush 10, 2) := dk_16 10 (dk_at dksX2_boundOf_0 4 rfl rfl)
theorem dX2_boundOf_6 : decode cX2_boundOf 6 = .ok (.iload_n 1, 1) := dk_27 (dk_at dksX2_boundOf_0 6 rfl rfl)
theorem dX2_boundOf_7 : decode cX2_boundOf 7 = .ok (.imul, 1) := dk_104 (dk_at dksX2_boundOf_0 7 rfl rfl)
theorem dX2_boundOf_8 : decode cX2_boundOf 8 = .ok (.iload_n 2, 1) := dk_28 (dk_at dksX2_boundOf_0 8 rfl rfl)
theorem dX2_boundOf_9 : decode cX2_boundOf 9 = .ok (.iadd, 1) := dk_96 (dk_at dksX2_boundOf_0 9 rfl rfl)
theorem dX2_boundOf_10 : decode cX2_boundOf 10 = .ok (.iaload, 1) := dk_46 (dk_at dksX2_boundOf_0 10 rfl rfl)
theorem dX2_boundOf_11 : decode cX2_boundOf 11 = .ok (.ireturn, 1) := dk_172 (dk_at dksX2_boundOf_0 11 rfl rfl)
abbrev cX2_roundLength : ByteArray := prog_16_method_65_code
def yX2_roundLength : MethodName := ⟨RX2, "roundLength", "()I"⟩
def dkwX2_roundLength_0 : List UInt8 := [42, 4, 182, 1, 35, 154, 0, 5, 3, 172, 42, 182, 1, 46, 42, 180, 1, 8, 172]
abbrev dktX2_roundLength_0 : List UInt8 := dkwX2_roundLength_0 ++ []
theorem dksX2_roundLength_0 : cX2_roundLength.data.toList.drop 0 = dktX2_roundLength_0 := by decide +kernel
theorem dX2_roundLength_0 : decode cX2_roundLength 0 = .ok (.aload_n 0, 1) := dk_42 (dk_at dksX2_roundLength_0 0 rfl rfl)
theorem dX2_roundLength_1 : decode cX2_roundLength 1 = .ok (.iconst 1, 1) := dk_4 (dk_at dksX2_roundLength_0 1 rfl rfl)
theorem dX2_roundLength_2 : decode cX2_roundLength 2 = .ok (.invokevirtual 291, 3) := dk_182 1 35 (dk_at dksX2_roundLength_0 2 rfl rfl)
theorem dX2_roundLength_5 : decode cX2_roundLength 5 = .ok (.ifCond .ne 5, 3) := dk_154 0 5 (dk_at dksX2_roundLength_0 5 rfl rfl)
theorem dX2_roundLength_8 : decode cX2_roundLength 8 = .ok (.iconst 0, 1) := dk_3 (dk_at dksX2_roundLength_0 8 rfl rfl)
theorem dX2_roundLength_9 : decode cX2_roundLength 9 = .ok (.ireturn, 1) := dk_172 (dk_at dksX2_roundLength_0 9 rfl rfl)
theorem dX2_roundLength_10 : decode cX2_roundLength 10 = .ok (.aload_n 0, 1) := dk_42 (dk_at dksX2_roundLength_0 10 rfl rfl)
theorem dX2_roundLength_11 : decode cX2_roundLength 11 = .ok (.invokevirtual 302, 3) := dk_182 1 46 (dk_at dksX2_roundLength_0 11 rfl rfl)
theorem dX2_roundLength_14 : decode cX2_roundLength 14 = .ok (.aload_n 0, 1) := dk_42 (dk_at dksX2_roundLength_0 14 rfl rfl)
theorem dX2_roundLength_15 : decode cX2_roundLength 15 = .ok (.getfield 264, 3) := dk_180 1 8 (dk_at dksX2_roundLength_0 15 rfl rfl)
theorem dX2_roundLength_18 : decode cX2_roundLength 18 = .ok (.ireturn, 1) := dk_172 (dk_at dksX2_roundLength_0 18 rfl rfl)
abbrev cX2_round : ByteArray := prog_16_method_48_code
def yX2_round : MethodName := ⟨RX2, "round", "()V"⟩
def dkwX2_round_2 : List UInt8 := [42, 27, 42, 180, 1, 26, 42, 180, 1, 26, 182, 1, 17, 177]
abbrev dktX2_round_2 : List UInt8 := dkwX2_round_2 ++ []
def dkwX2_round_1 : List UInt8 := [42, 27, 182, 1, 23, 2, 160, 0, 9, 132, 1, 1, 167, 255, 244, 42, 42, 27, 182, 1, 23, 181, 1, 26]
abbrev dktX2_round_1 : List UInt8 := dkwX2_round_1 ++ dktX2_round_2
def dkwX2_round_0 : List UInt8 := [42, 3, 181, 1, 8, 42, 3, 181, 1, 11, 42, 182, 1, 20, 153, 0, 4, 177, 42, 182, 1, 14, 4, 60]
abbrev dktX2_round_0 : List UInt8 := dkwX2_round_0 ++ dktX2_round_1
theorem dksX2_round_0 : cX2_round.data.toList.drop 0 = dktX2_round_0 := by decide +kernel
theorem dksX2_round_1 : cX2_round.data.toList.drop 24 = dktX2_round_1 := dk_seg dksX2_round_0 24 rfl rfl
theorem dksX2_round_2 : cX2_round.data.toList.drop 48 = dktX2_round_2 := dk_seg dksX2_round_1 24 rfl rfl
theorem dX2_round_0 : decode cX2_round 0 = .ok (.aload_n 0, 1) := dk_42 (dk_at dksX2_round_0 0 rfl rfl)
theorem dX2_round_1 : decode cX2_round 1 = .ok (.iconst 0, 1) := dk_3 (dk_at dksX2_round_0 1 rfl rfl)
theorem dX2_round_2 : decode cX2_round 2 = .ok (.putfield 264, 3) := dk_181 1 8 (dk_at dksX2_round_0 2 rfl rfl)
theorem dX2_round_5 : decode cX2_round 5 = .ok (.aload_n 0, 1) := dk_42 (dk_at dksX2_round_0 5 rfl rfl)
theorem dX2_round_6 : decode cX2_round 6 = .ok (.iconst 0, 1) := dk_3 (dk_at dksX2_round_0 6 rfl rfl)
theorem dX2_round_7 : decode cX2_round 7 = .ok (.putfield 267, 3) := dk_181 1 11 (dk_at dksX2_round_0 7 rfl rfl)
theorem dX2_round_10 : decode cX2_round 10 = .ok (.aload_n 0, 1) := dk_42 (dk_at dksX2_round_0 10 rfl rfl)
theorem dX2_round_11 : decode cX2_round 11 = .ok (.invokevirtual 276, 3) := dk_182 1 20 (dk_at dksX2_round_0 11 rfl rfl)
theorem dX2_round_14 : decode cX2_round 14 = .ok (.ifCond .eq 4, 3) := dk_153 0 4 (dk_at dksX2_round_0 14 rfl rfl)
theorem dX2_round_17 : decode cX2_round 17 = .ok (.return_, 1) := dk_177 (dk_at dksX2_round_0 17 rfl rfl)
theorem dX2_round_18 : decode cX2_round 18 = .ok (.aload_n 0, 1) := dk_42 (dk_at dksX2_round_0 18 rfl rfl)
theorem dX2_round_19 : decode cX2_round 19 = .ok (.invokevirtual 270, 3) := dk_182 1 14 (dk_at dksX2_round_0 19 rfl rfl)
theorem dX2_round_22 : decode cX2_round 22 = .ok (.iconst 1, 1) := dk_4 (dk_at dksX2_round_0 22 rfl rfl)
theorem dX2_round_23 : decode cX2_round 23 = .ok (.istore_n 1, 1) := dk_60 (dk_at dksX2_round_0 23 rfl rfl)
theorem dX2_round_24 : decode cX2_round 24 = .ok (.aload_n 0, 1) := dk_42 (dk_at dksX2_round_1 0 rfl rfl)
theorem dX2_round_25 : decode cX2_round 25 = .ok (.iload_n 1, 1) := dk_27 (dk_at dksX2_round_1 1 rfl rfl)
theorem dX2_round_26 : decode cX2_round 26 = .ok (.invokevirtual 279, 3) := dk_182 1 23 (dk_at dksX2_round_1 2 rfl rfl)
theorem dX2_round_29 : decode cX2_round 29 = .ok (.iconst (-1), 1) := dk_2 (dk_at dksX2_round_1 5 rfl rfl)
theorem dX2_round_30 : decode cX2_round 30 = .ok (.if_icmp .ne 9, 3) := dk_160 0 9 (dk_at dksX2_round_1 6 rfl rfl)
theorem dX2_round_33 : decode cX2_round 33 = .ok (.iinc 1 1, 3) := dk_132 1 1 (dk_at dksX2_round_1 9 rfl rfl)
theorem dX2_round_36 : decode cX2_round 36 = .ok (.goto (-12), 3) := dk_167 255 244 (dk_at dksX2_round_1 12 rfl rfl)
theorem dX2_round_39 : decode cX2_round 39 = .ok (.aload_n 0, 1) := dk_42 (dk_at dksX2_round_1 15 rfl rfl)
theorem dX2_round_40 : decode cX2_round 40 = .ok (.aload_n 0, 1) := dk_42 (dk_at dksX2_round_1 16 rfl rfl)
theorem dX2_round_41 : decode cX2_round 41 = .ok (.iload_n 1, 1) := dk_27 (dk_at dksX2_round_1 17 rfl rfl)
theorem dX2_round_42 : decode cX2_round 42 = .ok (.invokevirtual 279, 3) := dk_182 1 23 (dk_at dksX2_round_1 18 rfl rfl)
theorem dX2_round_45 : decode cX2_round 45 = .ok (.putfield 282, 3) := dk_181 1 26 (dk_at dksX2_round_1 21 rfl rfl)
theorem dX2_round_48 : decode cX2_round 48 = .ok (.aload_n 0, 1) := dk_42 (dk_at dksX2_round_2 0 rfl rfl)
theorem dX2_round_49 : decode cX2_round 49 = .ok (.iload_n 1, 1) := dk_27 (dk_at dksX2_round_2 1 rfl rfl)
theorem dX2_round_50 : decode cX2_round 50 = .ok (.aload_n 0, 1) := dk_42 (dk_at dksX2_round_2 2 rfl rfl)
theorem dX2_round_51 : decode cX2_round 51 = .ok (.getfield 282, 3) := dk_180 1 26 (dk_at dksX2_round_2 3 rfl rfl)
theorem dX2_round_54 : decode cX2_round 54 = .ok (.aload_n 0, 1) := dk_42 (dk_at dksX2_round_2 6 rfl rfl)
theorem dX2_round_55 : decode cX2_round 55 = .ok (.getfield 282, 3) := dk_180 1 26 (dk_at dksX2_round_2 7 rfl rfl)
theorem dX2_round_58 : decode cX2_round 58 = .ok (.invokevirtual 273, 3) := dk_182 1 17 (dk_at dksX2_round_2 10 rfl rfl)
theorem dX2_round_61 : decode cX2_round 61 = .ok (.return_, 1) := dk_177 (dk_at dksX2_round_2 13 rfl rfl)
abbrev cX2_exactly : ByteArray := prog_16_method_44_code
def yX2_exactly : MethodName := ⟨RX2, "exactly", "()V"⟩
def dkwX2_exactly_6 : List UInt8 := [96, 184, 0, 237, 79, 132, 3, 1, 167, 255, 178, 132, 2, 1, 167, 255, 162, 132, 1, 1, 167, 255, 148, 177]
abbrev dktX2_exactly_6 : List UInt8 := dkwX2_exactly_6 ++ []
def dkwX2_exactly_5 : List UInt8 := [162, 0, 29, 42, 180, 0, 61, 21, 5, 42, 180, 0, 61, 21, 5, 46, 42, 180, 0, 46, 28, 46, 21, 4]
abbrev dktX2_exactly_5 : List UInt8 := dkwX2_exactly_5 ++ dktX2_exactly_6
def dkwX2_exactly_4 : List UInt8 := [54, 4, 16, 10, 27, 104, 42, 180, 0, 40, 28, 46, 96, 16, 10, 104, 29, 96, 54, 5, 21, 4, 18, 236]
abbrev dktX2_exactly_4 : List UInt8 := dkwX2_exactly_4 ++ dktX2_exactly_5
def dkwX2_exactly_3 : List UInt8 := [3, 62, 29, 42, 182, 0, 230, 162, 0, 76, 42, 27, 4, 100, 42, 180, 0, 43, 28, 46, 29, 182, 1, 4]
abbrev dktX2_exactly_3 : List UInt8 := dkwX2_exactly_3 ++ dktX2_exactly_4
def dkwX2_exactly_2 : List UInt8 := [132, 1, 1, 167, 255, 235, 4, 60, 27, 16, 10, 163, 0, 108, 3, 61, 28, 42, 180, 0, 217, 162, 0, 92]
abbrev dktX2_exactly_2 : List UInt8 := dkwX2_exactly_2 ++ dktX2_exactly_3
def dkwX2_exactly_1 : List UInt8 := [167, 255, 236, 3, 60, 27, 16, 10, 162, 0, 21, 42, 180, 0, 61, 16, 10, 27, 104, 27, 96, 3, 79]
abbrev dktX2_exactly_1 : List UInt8 := dkwX2_exactly_1 ++ dktX2_exactly_2
def dkwX2_exactly_0 : List UInt8 := [3, 60, 27, 42, 180, 0, 61, 190, 162, 0, 17, 42, 180, 0, 61, 27, 18, 236, 79, 132, 1, 1]
abbrev dktX2_exactly_0 : List UInt8 := dkwX2_exactly_0 ++ dktX2_exactly_1
theorem dksX2_exactly_0 : cX2_exactly.data.toList.drop 0 = dktX2_exactly_0 := by decide +kernel
theorem dksX2_exactly_1 : cX2_exactly.data.toList.drop 22 = dktX2_exactly_1 := dk_seg dksX2_exactly_0 22 rfl rfl
theorem dksX2_exactly_2 : cX2_exactly.data.toList.drop 45 = dktX2_exactly_2 := dk_seg dksX2_exactly_1 23 rfl rfl
theorem dksX2_exactly_3 : cX2_exactly.data.toList.drop 69 = dktX2_exactly_3 := dk_seg dksX2_exactly_2 24 rfl rfl
theorem dksX2_exactly_4 : cX2_exactly.data.toList.drop 93 = dktX2_exactly_4 := dk_seg dksX2_exactly_3 24 rfl rfl
theorem dksX2_exactly_5 : cX2_exactly.data.toList.drop 117 = dktX2_exactly_5 := dk_seg dksX2_exactly_4 24 rfl rfl
theorem dksX2_exactly_6 : cX2_exactly.data.toList.drop 141 = dktX2_exactly_6 := dk_seg dksX2_exactly_5 24 rfl rfl
theorem dX2_exactly_0 : decode cX2_exactly 0 = .ok (.iconst 0, 1) := dk_3 (dk_at dksX2_exactly_0 0 rfl rfl)
theorem dX2_exactly_1 : decode cX2_exactly 1 = .ok (.istore_n 1, 1) := dk_60 (dk_at dksX2_exactly_0 1 rfl rfl)
theorem dX2_exactly_2 : decode cX2_exactly 2 = .ok (.iload_n 1, 1) := dk_27 (dk_at dksX2_exactly_0 2 rfl rfl)
theorem dX2_exactly_3 : decode cX2_exactly 3 = .ok (.aload_n 0, 1) := dk_42 (dk_at dksX2_exactly_0 3 rfl rfl)
theorem dX2_exactly_4 : decode cX2_exactly 4 = .ok (.getfield 61, 3) := dk_180 0 61 (dk_at dksX2_exactly_0 4 rfl rfl)
theorem dX2_exactly_7 : decode cX2_exactly 7 = .ok (.arraylength, 1) := dk_190 (dk_at dksX2_exactly_0 7 rfl rfl)
theorem dX2_exactly_8 : decode cX2_exactly 8 = .ok (.if_icmp .ge 17, 3) := dk_162 0 17 (dk_at dksX2_exactly_0 8 rfl rfl)
theorem dX2_exactly_11 : decode cX2_exactly 11 = .ok (.aload_n 0, 1) := dk_42 (dk_at dksX2_exactly_0 11 rfl rfl)
theorem dX2_exactly_12 : decode cX2_exactly 12 = .ok (.getfield 61, 3) := dk_180 0 61 (dk_at dksX2_exactly_0 12 rfl rfl)
theorem dX2_exactly_15 : decode cX2_exactly 15 = .ok (.iload_n 1, 1) := dk_27 (dk_at dksX2_exactly_0 15 rfl rfl)
theorem dX2_exactly_16 : decode cX2_exactly 16 = .ok (.ldc 236, 2) := dk_18 236 (dk_at dksX2_exactly_0 16 rfl rfl)
theorem dX2_exactly_18 : decode cX2_exactly 18 = .ok (.iastore, 1) := dk_79 (dk_at dksX2_exactly_0 18 rfl rfl)
theorem dX2_exactly_19 : decode cX2_exactly 19 = .ok (.iinc 1 1, 3) := dk_132 1 1 (dk_at dksX2_exactly_0 19 rfl rfl)
theorem dX2_exactly_22 : decode cX2_exactly 22 = .ok (.goto (-20), 3) := dk_167 255 236 (dk_at dksX2_exactly_1 0 rfl rfl)
theorem dX2_exactly_25 : decode cX2_exactly 25 = .ok (.iconst 0, 1) := dk_3 (dk_at dksX2_exactly_1 3 rfl rfl)
theorem dX2_exactly_26 : decode cX2_exactly 26 = .ok (.istore_n 1, 1) := dk_60 (dk_at dksX2_exactly_1 4 rfl rfl)
theorem dX2_exactly_27 : decode cX2_exactly 27 = .ok (.iload_n 1, 1) := dk_27 (dk_at dksX2_exactly_1 5 rfl rfl)
theorem dX2_exactly_28 : decode cX2_exactly 28 = .ok (.bipush 10, 2) := dk_16 10 (dk_at dksX2_exactly_1 6 rfl rfl)
theorem dX2_exactly_30 : decode cX2_exactly 30 = .ok (.if_icmp .ge 21, 3) := dk_162 0 21 (dk_at dksX2_exactly_1 8 rfl rfl)
theorem dX2_exactly_33 : decode cX2_exactly 33 = .ok (.aload_n 0, 1) := dk_42 (dk_at dksX2_exactly_1 11 rfl rfl)
theorem dX2_exactly_34 : decode cX2_exactly 34 = .ok (.getfield 61, 3) := dk_180 0 61 (dk_at dksX2_exactly_1 12 rfl rfl)
theorem dX2_exactly_37 : decode cX2_exactly 37 = .ok (.bipush 10, 2) := dk_16 10 (dk_at dksX2_exactly_1 15 rfl rfl)
theorem dX2_exactly_39 : decode cX2_exactly 39 = .ok (.iload_n 1, 1) := dk_27 (dk_at dksX2_exactly_1 17 rfl rfl)
theorem dX2_exactly_40 : decode cX2_exactly 40 = .ok (.imul, 1) := dk_104 (dk_at dksX2_exactly_1 18 rfl rfl)
theorem dX2_exactly_41 : decode cX2_exactly 41 = .ok (.iload_n 1, 1) := dk_27 (dk_at dksX2_exactly_1 19 rfl rfl)
theorem dX2_exactly_42 : decode cX2_exactly 42 = .ok (.iadd, 1) := dk_96 (dk_at dksX2_exactly_1 20 rfl rfl)
theorem dX2_exactly_43 : decode cX2_exactly 43 = .ok (.iconst 0, 1) := dk_3 (dk_at dksX2_exactly_1 21 rfl rfl)
theorem dX2_exactly_44 : decode cX2_exactly 44 = .ok (.iastore, 1) := dk_79 (dk_at dksX2_exactly_1 22 rfl rfl)
theorem dX2_exactly_45 : decode cX2_exactly 45 = .ok (.iinc 1 1, 3) := dk_132 1 1 (dk_at dksX2_exactly_2 0 rfl rfl)
theorem dX2_exactly_48 : decode cX2_exactly 48 = .ok (.goto (-21), 3) := dk_167 255 235 (dk_at dksX2_exactly_2 3 rfl rfl)
theorem dX2_exactly_51 : decode cX2_exactly 51 = .ok (.iconst 1, 1) := dk_4 (dk_at dksX2_exactly_2 6 rfl rfl)
theorem dX2_exactly_52 : decode cX2_exactly 52 = .ok (.istore_n 1, 1) := dk_60 (dk_at dksX2_exactly_2 7 rfl rfl)
theorem dX2_exactly_53 : decode cX2_exactly 53 = .ok (.iload_n 1, 1) := dk_27 (dk_at dksX2_exactly_2 8 rfl rfl)
theorem dX2_exactly_54 : decode cX2_exactly 54 = .ok (.bipush 10, 2) := dk_16 10 (dk_at dksX2_exactly_2 9 rfl rfl)
theorem dX2_exactly_56 : decode cX2_exactly 56 = .ok (.if_icmp .gt 108, 3) := dk_163 0 108 (dk_at dksX2_exactly_2 11 rfl rfl)
theorem dX2_exactly_59 : decode cX2_exactly 59 = .ok (.iconst 0, 1) := dk_3 (dk_at dksX2_exactly_2 14 rfl rfl)
theorem dX2_exactly_60 : decode cX2_exactly 60 = .ok (.istore_n 2, 1) := dk_61 (dk_at dksX2_exactly_2 15 rfl rfl)
theorem dX2_exactly_61 : decode cX2_exactly 61 = .ok (.iload_n 2, 1) := dk_28 (dk_at dksX2_exactly_2 16 rfl rfl)
theorem dX2_exactly_62 : decode cX2_exactly 62 = .ok (.aload_n 0, 1) := dk_42 (dk_at dksX2_exactly_2 17 rfl rfl)
theorem dX2_exactly_63 : decode cX2_exactly 63 = .ok (.getfield 217, 3) := dk_180 0 217 (dk_at dksX2_exactly_2 18 rfl rfl)
theorem dX2_exactly_66 : decode cX2_exactly 66 = .ok (.if_icmp .ge 92, 3) := dk_162 0 92 (dk_at dksX2_exactly_2 21 rfl rfl)
theorem dX2_exactly_69 : decode cX2_exactly 69 = .ok (.iconst 0, 1) := dk_3 (dk_at dksX2_exactly_3 0 rfl rfl)
theorem dX2_exactly_70 : decode cX2_exactly 70 = .ok (.istore_n 3, 1) := dk_62 (dk_at dksX2_exactly_3 1 rfl rfl)
theorem dX2_exactly_71 : decode cX2_exactly 71 = .ok (.iload_n 3, 1) := dk_29 (dk_at dksX2_exactly_3 2 rfl rfl)
theorem dX2_exactly_72 : decode cX2_exactly 72 = .ok (.aload_n 0, 1) := dk_42 (dk_at dksX2_exactly_3 3 rfl rfl)
theorem dX2_exactly_73 : decode cX2_exactly 73 = .ok (.invokevirtual 230, 3) := dk_182 0 230 (dk_at dksX2_exactly_3 4 rfl rfl)
theorem dX2_exactly_76 : decode cX2_exactly 76 = .ok (.if_icmp .ge 76, 3) := dk_162 0 76 (dk_at dksX2_exactly_3 7 rfl rfl)
theorem dX2_exactly_79 : decode cX2_exactly 79 = .ok (.aload_n 0, 1) := dk_42 (dk_at dksX2_exactly_3 10 rfl rfl)
theorem dX2_exactly_80 : decode cX2_exactly 80 = .ok (.iload_n 1, 1) := dk_27 (dk_at dksX2_exactly_3 11 rfl rfl)
theorem dX2_exactly_81 : decode cX2_exactly 81 = .ok (.iconst 1, 1) := dk_4 (dk_at dksX2_exactly_3 12 rfl rfl)
theorem dX2_exactly_82 : decode cX2_exactly 82 = .ok (.isub, 1) := dk_100 (dk_at dksX2_exactly_3 13 rfl rfl)
theorem dX2_exactly_83 : decode cX2_exactly 83 = .ok (.aload_n 0, 1) := dk_42 (dk_at dksX2_exactly_3 14 rfl rfl)
theorem dX2_exactly_84 : decode cX2_exactly 84 = .ok (.getfield 43, 3) := dk_180 0 43 (dk_at dksX2_exactly_3 15 rfl rfl)
theorem dX2_exactly_87 : decode cX2_exactly 87 = .ok (.iload_n 2, 1) := dk_28 (dk_at dksX2_exactly_3 18 rfl rfl)
theorem dX2_exactly_88 : decode cX2_exactly 88 = .ok (.iaload, 1) := dk_46 (dk_at dksX2_exactly_3 19 rfl rfl)
theorem dX2_exactly_89 : decode cX2_exactly 89 = .ok (.iload_n 3, 1) := dk_29 (dk_at dksX2_exactly_3 20 rfl rfl)
theorem dX2_exactly_90 : decode cX2_exactly 90 = .ok (.invokevirtual 260, 3) := dk_182 1 4 (dk_at dksX2_exactly_3 21 rfl rfl)
theorem dX2_exactly_93 : decode cX2_exactly 93 = .ok (.istore 4, 2) := dk_54 4 (dk_at dksX2_exactly_4 0 rfl rfl)
theorem dX2_exactly_95 : decode cX2_exactly 95 = .ok (.bipush 10, 2) := dk_16 10 (dk_at dksX2_exactly_4 2 rfl rfl)
theorem dX2_exactly_97 : decode cX2_exactly 97 = .ok (.iload_n 1, 1) := dk_27 (dk_at dksX2_exactly_4 4 rfl rfl)
theorem dX2_exactly_98 : decode cX2_exactly 98 = .ok (.imul, 1) := dk_104 (dk_at dksX2_exactly_4 5 rfl rfl)
theorem dX2_exactly_99 : decode cX2_exactly 99 = .ok (.aload_n 0, 1) := dk_42 (dk_at dksX2_exactly_4 6 rfl rfl)
theorem dX2_exactly_100 : decode cX2_exactly 100 = .ok (.getfield 40, 3) := dk_180 0 40 (dk_at dksX2_exactly_4 7 rfl rfl)
theorem dX2_exactly_103 : decode cX2_exactly 103 = .ok (.iload_n 2, 1) := dk_28 (dk_at dksX2_exactly_4 10 rfl rfl)
theorem dX2_exactly_104 : decode cX2_exactly 104 = .ok (.iaload, 1) := dk_46 (dk_at dksX2_exactly_4 11 rfl rfl)
theorem dX2_exactly_105 : decode cX2_exactly 105 = .ok (.iadd, 1) := dk_96 (dk_at dksX2_exactly_4 12 rfl rfl)
theorem dX2_exactly_106 : decode cX2_exactly 106 = .ok (.bipush 10, 2) := dk_16 10 (dk_at dksX2_exactly_4 13 rfl rfl)
theorem dX2_exactly_108 : decode cX2_exactly 108 = .ok (.imul, 1) := dk_104 (dk_at dksX2_exactly_4 15 rfl rfl)
theorem dX2_exactly_109 : decode cX2_exactly 109 = .ok (.iload_n 3, 1) := dk_29 (dk_at dksX2_exactly_4 16 rfl rfl)
theorem dX2_exactly_110 : decode cX2_exactly 110 = .ok (.iadd, 1) := dk_96 (dk_at dksX2_exactly_4 17 rfl rfl)
theorem dX2_exactly_111 : decode cX2_exactly 111 = .ok (.istore 5, 2) := dk_54 5 (dk_at dksX2_exactly_4 18 rfl rfl)
theorem dX2_exactly_113 : decode cX2_exactly 113 = .ok (.iload 4, 2) := dk_21 4 (dk_at dksX2_exactly_4 20 rfl rfl)
theorem dX2_exactly_115 : decode cX2_exactly 115 = .ok (.ldc 236, 2) := dk_18 236 (dk_at dksX2_exactly_4 22 rfl rfl)
theorem dX2_exactly_117 : decode cX2_exactly 117 = .ok (.if_icmp .ge 29, 3) := dk_162 0 29 (dk_at dksX2_exactly_5 0 rfl rfl)
theorem dX2_exactly_120 : decode cX2_exactly 120 = .ok (.aload_n 0, 1) := dk_42 (dk_at dksX2_exactly_5 3 rfl rfl)
theorem dX2_exactly_121 : decode cX2_exactly 121 = .ok (.getfield 61, 3) := dk_180 0 61 (dk_at dksX2_exactly_5 4 rfl rfl)
theorem dX2_exactly_124 : decode cX2_exactly 124 = .ok (.iload 5, 2) := dk_21 5 (dk_at dksX2_exactly_5 7 rfl rfl)
theorem dX2_exactly_126 : decode cX2_exactly 126 = .ok (.aload_n 0, 1) := dk_42 (dk_at dksX2_exactly_5 9 rfl rfl)
theorem dX2_exactly_127 : decode cX2_exactly 127 = .ok (.getfield 61, 3) := dk_180 0 61 (dk_at dksX2_exactly_5 10 rfl rfl)
theorem dX2_exactly_130 : decode cX2_exactly 130 = .ok (.iload 5, 2) := dk_21 5 (dk_at dksX2_exactly_5 13 rfl rfl)
theorem dX2_exactly_132 : decode cX2_exactly 132 = .ok (.iaload, 1) := dk_46 (dk_at dksX2_exactly_5 15 rfl rfl)
theorem dX2_exactly_133 : decode cX2_exactly 133 = .ok (.aload_n 0, 1) := dk_42 (dk_at dksX2_exactly_5 16 rfl rfl)
theorem dX2_exactly_134 : decode cX2_exactly 134 = .ok (.getfield 46, 3) := dk_180 0 46 (dk_at dksX2_exactly_5 17 rfl rfl)
theorem dX2_exactly_137 : decode cX2_exactly 137 = .ok (.iload_n 2, 1) := dk_28 (dk_at dksX2_exactly_5 20 rfl rfl)
theorem dX2_exactly_138 : decode cX2_exactly 138 = .ok (.iaload, 1) := dk_46 (dk_at dksX2_exactly_5 21 rfl rfl)
theorem dX2_exactly_139 : decode cX2_exactly 139 = .ok (.iload 4, 2) := dk_21 4 (dk_at dksX2_exactly_5 22 rfl rfl)
theorem dX2_exactly_141 : decode cX2_exactly 141 = .ok (.iadd, 1) := dk_96 (dk_at dksX2_exactly_6 0 rfl rfl)
theorem dX2_exactly_142 : decode cX2_exactly 142 = .ok (.invokestatic 237, 3) := dk_184 0 237 (dk_at dksX2_exactly_6 1 rfl rfl)
theorem dX2_exactly_145 : decode cX2_exactly 145 = .ok (.iastore, 1) := dk_79 (dk_at dksX2_exactly_6 4 rfl rfl)
theorem dX2_exactly_146 : decode cX2_exactly 146 = .ok (.iinc 3 1, 3) := dk_132 3 1 (dk_at dksX2_exactly_6 5 rfl rfl)
theorem dX2_exactly_149 : decode cX2_exactly 149 = .ok (.goto (-78), 3) := dk_167 255 178 (dk_at dksX2_exactly_6 8 rfl rfl)
theorem dX2_exactly_152 : decode cX2_exactly 152 = .ok (.iinc 2 1, 3) := dk_132 2 1 (dk_at dksX2_exactly_6 11 rfl rfl)
theorem dX2_exactly_155 : decode cX2_exactly 155 = .ok (.goto (-94), 3) := dk_167 255 162 (dk_at dksX2_exactly_6 14 rfl rfl)
theorem dX2_exactly_158 : decode cX2_exactly 158 = .ok (.iinc 1 1, 3) := dk_132 1 1 (dk_at dksX2_exactly_6 17 rfl rfl)
theorem dX2_exactly_161 : decode cX2_exactly 161 = .ok (.goto (-108), 3) := dk_167 255 148 (dk_at dksX2_exactly_6 20 rfl rfl)
theorem dX2_exactly_164 : decode cX2_exactly 164 = .ok (.return_, 1) := dk_177 (dk_at dksX2_exactly_6 23 rfl rfl)
abbrev cX2_exactOf : ByteArray := prog_16_method_43_code
def yX2_exactOf : MethodName := ⟨RX2, "exactOf", "(III)I"⟩
def dkwX2_exactOf_0 : List UInt8 := [42, 180, 0, 61, 16, 10, 27, 104, 28, 96, 16, 10, 104, 29, 96, 46, 172]
abbrev dktX2_exactOf_0 : List UInt8 := dkwX2_exactOf_0 ++ []
theorem dksX2_exactOf_0 : cX2_exactOf.data.toList.drop 0 = dktX2_exactOf_0 := by decide +kernel
theorem dX2_exactOf_0 : decode cX2_exactOf 0 = .ok (.aload_n 0, 1) := dk_42 (dk_at dksX2_exactOf_0 0 rfl rfl)
theorem dX2_exactOf_1 : decode cX2_exactOf 1 = .ok (.getfield 61, 3) := dk_180 0 61 (dk_at dksX2_exactOf_0 1 rfl rfl)
theorem dX2_exactOf_4 : decode cX2_exactOf 4 = .ok (.bipush 10, 2) := dk_16 10 (dk_at dksX2_exactOf_0 4 rfl rfl)
theorem dX2_exactOf_6 : decode cX2_exactOf 6 = .ok (.iload_n 1, 1) := dk_27 (dk_at dksX2_exactOf_0 6 rfl rfl)
theorem dX2_exactOf_7 : decode cX2_exactOf 7 = .ok (.imul, 1) := dk_104 (dk_at dksX2_exactOf_0 7 rfl rfl)
theorem dX2_exactOf_8 : decode cX2_exactOf 8 = .ok (.iload_n 2, 1) := dk_28 (dk_at dksX2_exactOf_0 8 rfl rfl)
theorem dX2_exactOf_9 : decode cX2_exactOf 9 = .ok (.iadd, 1) := dk_96 (dk_at dksX2_exactOf_0 9 rfl rfl)
theorem dX2_exactOf_10 : decode cX2_exactOf 10 = .ok (.bipush 10, 2) := dk_16 10 (dk_at dksX2_exactOf_0 10 rfl rfl)
theorem dX2_exactOf_12 : decode cX2_exactOf 12 = .ok (.imul, 1) := dk_104 (dk_at dksX2_exactOf_0 12 rfl rfl)
theorem dX2_exactOf_13 : decode cX2_exactOf 13 = .ok (.iload_n 3, 1) := dk_29 (dk_at dksX2_exactOf_0 13 rfl rfl)
theorem dX2_exactOf_14 : decode cX2_exactOf 14 = .ok (.iadd, 1) := dk_96 (dk_at dksX2_exactOf_0 14 rfl rfl)
theorem dX2_exactOf_15 : decode cX2_exactOf 15 = .ok (.iaload, 1) := dk_46 (dk_at dksX2_exactOf_0 15 rfl rfl)
theorem dX2_exactOf_16 : decode cX2_exactOf 16 = .ok (.ireturn, 1) := dk_172 (dk_at dksX2_exactOf_0 16 rfl rfl)
abbrev cX2_roundOf : ByteArray := prog_16_method_47_code
def yX2_roundOf : MethodName := ⟨RX2, "roundOf", "(I)I"⟩
def dkwX2_roundOf_1 : List UInt8 := [3, 167, 0, 10, 42, 27, 28, 28, 182, 1, 4, 162, 0, 5, 29, 61, 132, 3, 1, 167, 255, 217, 28, 172]
abbrev dktX2_roundOf_1 : List UInt8 := dkwX2_roundOf_1 ++ []
def dkwX2_roundOf_0 : List UInt8 := [2, 61, 3, 62, 29, 42, 182, 0, 230, 162, 0, 37, 42, 27, 29, 29, 182, 1, 4, 28, 2, 160, 0, 7]
abbrev dktX2_roundOf_0 : List UInt8 := dkwX2_roundOf_0 ++ dktX2_roundOf_1
theorem dksX2_roundOf_0 : cX2_roundOf.data.toList.drop 0 = dktX2_roundOf_0 := by decide +kernel
theorem dksX2_roundOf_1 : cX2_roundOf.data.toList.drop 24 = dktX2_roundOf_1 := dk_seg dksX2_roundOf_0 24 rfl rfl
theorem dX2_roundOf_0 : decode cX2_roundOf 0 = .ok (.iconst (-1), 1) := dk_2 (dk_at dksX2_roundOf_0 0 rfl rfl)
theorem dX2_roundOf_1 : decode cX2_roundOf 1 = .ok (.istore_n 2, 1) := dk_61 (dk_at dksX2_roundOf_0 1 rfl rfl)
theorem dX2_roundOf_2 : decode cX2_roundOf 2 = .ok (.iconst 0, 1) := dk_3 (dk_at dksX2_roundOf_0 2 rfl rfl)
theorem dX2_roundOf_3 : decode cX2_roundOf 3 = .ok (.istore_n 3, 1) := dk_62 (dk_at dksX2_roundOf_0 3 rfl rfl)
theorem dX2_roundOf_4 : decode cX2_roundOf 4 = .ok (.iload_n 3, 1) := dk_29 (dk_at dksX2_roundOf_0 4 rfl rfl)
theorem dX2_roundOf_5 : decode cX2_roundOf 5 = .ok (.aload_n 0, 1) := dk_42 (dk_at dksX2_roundOf_0 5 rfl rfl)
theorem dX2_roundOf_6 : decode cX2_roundOf 6 = .ok (.invokevirtual 230, 3) := dk_182 0 230 (dk_at dksX2_roundOf_0 6 rfl rfl)
theorem dX2_roundOf_9 : decode cX2_roundOf 9 = .ok (.if_icmp .ge 37, 3) := dk_162 0 37 (dk_at dksX2_roundOf_0 9 rfl rfl)
theorem dX2_roundOf_12 : decode cX2_roundOf 12 = .ok (.aload_n 0, 1) := dk_42 (dk_at dksX2_roundOf_0 12 rfl rfl)
theorem dX2_roundOf_13 : decode cX2_roundOf 13 = .ok (.iload_n 1, 1) := dk_27 (dk_at dksX2_roundOf_0 13 rfl rfl)
theorem dX2_roundOf_14 : decode cX2_roundOf 14 = .ok (.iload_n 3, 1) := dk_29 (dk_at dksX2_roundOf_0 14 rfl rfl)
theorem dX2_roundOf_15 : decode cX2_roundOf 15 = .ok (.iload_n 3, 1) := dk_29 (dk_at dksX2_roundOf_0 15 rfl rfl)
theorem dX2_roundOf_16 : decode cX2_roundOf 16 = .ok (.invokevirtual 260, 3) := dk_182 1 4 (dk_at dksX2_roundOf_0 16 rfl rfl)
theorem dX2_roundOf_19 : decode cX2_roundOf 19 = .ok (.iload_n 2, 1) := dk_28 (dk_at dksX2_roundOf_0 19 rfl rfl)
theorem dX2_roundOf_20 : decode cX2_roundOf 20 = .ok (.iconst (-1), 1) := dk_2 (dk_at dksX2_roundOf_0 20 rfl rfl)
theorem dX2_roundOf_21 : decode cX2_roundOf 21 = .ok (.if_icmp .ne 7, 3) := dk_160 0 7 (dk_at dksX2_roundOf_0 21 rfl rfl)
theorem dX2_roundOf_24 : decode cX2_roundOf 24 = .ok (.iconst 0, 1) := dk_3 (dk_at dksX2_roundOf_1 0 rfl rfl)
theorem dX2_roundOf_25 : decode cX2_roundOf 25 = .ok (.goto 10, 3) := dk_167 0 10 (dk_at dksX2_roundOf_1 1 rfl rfl)
theorem dX2_roundOf_28 : decode cX2_roundOf 28 = .ok (.aload_n 0, 1) := dk_42 (dk_at dksX2_roundOf_1 4 rfl rfl)
theorem dX2_roundOf_29 : decode cX2_roundOf 29 = .ok (.iload_n 1, 1) := dk_27 (dk_at dksX2_roundOf_1 5 rfl rfl)
theorem dX2_roundOf_30 : decode cX2_roundOf 30 = .ok (.iload_n 2, 1) := dk_28 (dk_at dksX2_roundOf_1 6 rfl rfl)
theorem dX2_roundOf_31 : decode cX2_roundOf 31 = .ok (.iload_n 2, 1) := dk_28 (dk_at dksX2_roundOf_1 7 rfl rfl)
theorem dX2_roundOf_32 : decode cX2_roundOf 32 = .ok (.invokevirtual 260, 3) := dk_182 1 4 (dk_at dksX2_roundOf_1 8 rfl rfl)
theorem dX2_roundOf_35 : decode cX2_roundOf 35 = .ok (.if_icmp .ge 5, 3) := dk_162 0 5 (dk_at dksX2_roundOf_1 11 rfl rfl)
theorem dX2_roundOf_38 : decode cX2_roundOf 38 = .ok (.iload_n 3, 1) := dk_29 (dk_at dksX2_roundOf_1 14 rfl rfl)
theorem dX2_roundOf_39 : decode cX2_roundOf 39 = .ok (.istore_n 2, 1) := dk_61 (dk_at dksX2_roundOf_1 15 rfl rfl)
theorem dX2_roundOf_40 : decode cX2_roundOf 40 = .ok (.iinc 3 1, 3) := dk_132 3 1 (dk_at dksX2_roundOf_1 16 rfl rfl)
theorem dX2_roundOf_43 : decode cX2_roundOf 43 = .ok (.goto (-39), 3) := dk_167 255 217 (dk_at dksX2_roundOf_1 19 rfl rfl)
theorem dX2_roundOf_46 : decode cX2_roundOf 46 = .ok (.iload_n 2, 1) := dk_28 (dk_at dksX2_roundOf_1 22 rfl rfl)
theorem dX2_roundOf_47 : decode cX2_roundOf 47 = .ok (.ireturn, 1) := dk_172 (dk_at dksX2_roundOf_1 23 rfl rfl)
abbrev cX2_rowOf : ByteArray := prog_16_method_45_code
def yX2_rowOf : MethodName := ⟨RX2, "rowOf", "(III)V"⟩
def dkwX2_rowOf_6 : List UInt8 := [21, 7, 46, 54, 4, 132, 6, 1, 167, 255, 137, 177]
abbrev dktX2_rowOf_6 : List UInt8 := dkwX2_rowOf_6 ++ []
def dkwX2_rowOf_5 : List UInt8 := [180, 0, 49, 21, 7, 46, 79, 21, 5, 42, 180, 0, 46, 21, 7, 46, 100, 54, 5, 42, 180, 0, 43]
abbrev dktX2_rowOf_5 : List UInt8 := dkwX2_rowOf_5 ++ dktX2_rowOf_6
def dkwX2_rowOf_4 : List UInt8 := [29, 182, 1, 4, 96, 21, 5, 159, 0, 9, 132, 7, 1, 167, 255, 187, 42, 180, 0, 64, 21, 6, 42]
abbrev dktX2_rowOf_4 : List UInt8 := dkwX2_rowOf_4 ++ dktX2_rowOf_5
def dkwX2_rowOf_3 : List UInt8 := [162, 0, 34, 42, 180, 0, 46, 21, 7, 46, 42, 27, 4, 100, 21, 6, 100, 42, 180, 0, 43, 21, 7, 46]
abbrev dktX2_rowOf_3 : List UInt8 := dkwX2_rowOf_3 ++ dktX2_rowOf_4
def dkwX2_rowOf_2 : List UInt8 := [160, 0, 57, 42, 27, 4, 100, 21, 6, 100, 42, 180, 0, 43, 21, 7, 46, 29, 182, 1, 4, 18, 236]
abbrev dktX2_rowOf_2 : List UInt8 := dkwX2_rowOf_2 ++ dktX2_rowOf_3
def dkwX2_rowOf_1 : List UInt8 := [54, 5, 3, 54, 6, 21, 6, 27, 162, 0, 119, 3, 54, 7, 42, 180, 0, 40, 21, 7, 46, 21, 4]
abbrev dktX2_rowOf_1 : List UInt8 := dkwX2_rowOf_1 ++ dktX2_rowOf_2
def dkwX2_rowOf_0 : List UInt8 := [42, 27, 181, 1, 8, 42, 42, 27, 28, 29, 182, 1, 4, 181, 1, 11, 28, 54, 4, 42, 180, 1, 11]
abbrev dktX2_rowOf_0 : List UInt8 := dkwX2_rowOf_0 ++ dktX2_rowOf_1
theorem dksX2_rowOf_0 : cX2_rowOf.data.toList.drop 0 = dktX2_rowOf_0 := by decide +kernel
theorem dksX2_rowOf_1 : cX2_rowOf.data.toList.drop 23 = dktX2_rowOf_1 := dk_seg dksX2_rowOf_0 23 rfl rfl
theorem dksX2_rowOf_2 : cX2_rowOf.data.toList.drop 46 = dktX2_rowOf_2 := dk_seg dksX2_rowOf_1 23 rfl rfl
theorem dksX2_rowOf_3 : cX2_rowOf.data.toList.drop 69 = dktX2_rowOf_3 := dk_seg dksX2_rowOf_2 23 rfl rfl
theorem dksX2_rowOf_4 : cX2_rowOf.data.toList.drop 93 = dktX2_rowOf_4 := dk_seg dksX2_rowOf_3 24 rfl rfl
theorem dksX2_rowOf_5 : cX2_rowOf.data.toList.drop 116 = dktX2_rowOf_5 := dk_seg dksX2_rowOf_4 23 rfl rfl
theorem dksX2_rowOf_6 : cX2_rowOf.data.toList.drop 139 = dktX2_rowOf_6 := dk_seg dksX2_rowOf_5 23 rfl rfl
theorem dX2_rowOf_0 : decode cX2_rowOf 0 = .ok (.aload_n 0, 1) := dk_42 (dk_at dksX2_rowOf_0 0 rfl rfl)
theorem dX2_rowOf_1 : decode cX2_rowOf 1 = .ok (.iload_n 1, 1) := dk_27 (dk_at dksX2_rowOf_0 1 rfl rfl)
theorem dX2_rowOf_2 : decode cX2_rowOf 2 = .ok (.putfield 264, 3) := dk_181 1 8 (dk_at dksX2_rowOf_0 2 rfl rfl)
theorem dX2_rowOf_5 : decode cX2_rowOf 5 = .ok (.aload_n 0, 1) := dk_42 (dk_at dksX2_rowOf_0 5 rfl rfl)
theorem dX2_rowOf_6 : decode cX2_rowOf 6 = .ok (.aload_n 0, 1) := dk_42 (dk_at dksX2_rowOf_0 6 rfl rfl)
theorem dX2_rowOf_7 : decode cX2_rowOf 7 = .ok (.iload_n 1, 1) := dk_27 (dk_at dksX2_rowOf_0 7 rfl rfl)
theorem dX2_rowOf_8 : decode cX2_rowOf 8 = .ok (.iload_n 2, 1) := dk_28 (dk_at dksX2_rowOf_0 8 rfl rfl)
theorem dX2_rowOf_9 : decode cX2_rowOf 9 = .ok (.iload_n 3, 1) := dk_29 (dk_at dksX2_rowOf_0 9 rfl rfl)
theorem dX2_rowOf_10 : decode cX2_rowOf 10 = .ok (.invokevirtual 260, 3) := dk_182 1 4 (dk_at dksX2_rowOf_0 10 rfl rfl)
theorem dX2_rowOf_13 : decode cX2_rowOf 13 = .ok (.putfield 267, 3) := dk_181 1 11 (dk_at dksX2_rowOf_0 13 rfl rfl)
theorem dX2_rowOf_16 : decode cX2_rowOf 16 = .ok (.iload_n 2, 1) := dk_28 (dk_at dksX2_rowOf_0 16 rfl rfl)
theorem dX2_rowOf_17 : decode cX2_rowOf 17 = .ok (.istore 4, 2) := dk_54 4 (dk_at dksX2_rowOf_0 17 rfl rfl)
theorem dX2_rowOf_19 : decode cX2_rowOf 19 = .ok (.aload_n 0, 1) := dk_42 (dk_at dksX2_rowOf_0 19 rfl rfl)
theorem dX2_rowOf_20 : decode cX2_rowOf 20 = .ok (.getfield 267, 3) := dk_180 1 11 (dk_at dksX2_rowOf_0 20 rfl rfl)
theorem dX2_rowOf_23 : decode cX2_rowOf 23 = .ok (.istore 5, 2) := dk_54 5 (dk_at dksX2_rowOf_1 0 rfl rfl)
theorem dX2_rowOf_25 : decode cX2_rowOf 25 = .ok (.iconst 0, 1) := dk_3 (dk_at dksX2_rowOf_1 2 rfl rfl)
theorem dX2_rowOf_26 : decode cX2_rowOf 26 = .ok (.istore 6, 2) := dk_54 6 (dk_at dksX2_rowOf_1 3 rfl rfl)
theorem dX2_rowOf_28 : decode cX2_rowOf 28 = .ok (.iload 6, 2) := dk_21 6 (dk_at dksX2_rowOf_1 5 rfl rfl)
theorem dX2_rowOf_30 : decode cX2_rowOf 30 = .ok (.iload_n 1, 1) := dk_27 (dk_at dksX2_rowOf_1 7 rfl rfl)
theorem dX2_rowOf_31 : decode cX2_rowOf 31 = .ok (.if_icmp .ge 119, 3) := dk_162 0 119 (dk_at dksX2_rowOf_1 8 rfl rfl)
theorem dX2_rowOf_34 : decode cX2_rowOf 34 = .ok (.iconst 0, 1) := dk_3 (dk_at dksX2_rowOf_1 11 rfl rfl)
theorem dX2_rowOf_35 : decode cX2_rowOf 35 = .ok (.istore 7, 2) := dk_54 7 (dk_at dksX2_rowOf_1 12 rfl rfl)
theorem dX2_rowOf_37 : decode cX2_rowOf 37 = .ok (.aload_n 0, 1) := dk_42 (dk_at dksX2_rowOf_1 14 rfl rfl)
theorem dX2_rowOf_38 : decode cX2_rowOf 38 = .ok (.getfield 40, 3) := dk_180 0 40 (dk_at dksX2_rowOf_1 15 rfl rfl)
theorem dX2_rowOf_41 : decode cX2_rowOf 41 = .ok (.iload 7, 2) := dk_21 7 (dk_at dksX2_rowOf_1 18 rfl rfl)
theorem dX2_rowOf_43 : decode cX2_rowOf 43 = .ok (.iaload, 1) := dk_46 (dk_at dksX2_rowOf_1 20 rfl rfl)
theorem dX2_rowOf_44 : decode cX2_rowOf 44 = .ok (.iload 4, 2) := dk_21 4 (dk_at dksX2_rowOf_1 21 rfl rfl)
theorem dX2_rowOf_46 : decode cX2_rowOf 46 = .ok (.if_icmp .ne 57, 3) := dk_160 0 57 (dk_at dksX2_rowOf_2 0 rfl rfl)
theorem dX2_rowOf_49 : decode cX2_rowOf 49 = .ok (.aload_n 0, 1) := dk_42 (dk_at dksX2_rowOf_2 3 rfl rfl)
theorem dX2_rowOf_50 : decode cX2_rowOf 50 = .ok (.iload_n 1, 1) := dk_27 (dk_at dksX2_rowOf_2 4 rfl rfl)
theorem dX2_rowOf_51 : decode cX2_rowOf 51 = .ok (.iconst 1, 1) := dk_4 (dk_at dksX2_rowOf_2 5 rfl rfl)
theorem dX2_rowOf_52 : decode cX2_rowOf 52 = .ok (.isub, 1) := dk_100 (dk_at dksX2_rowOf_2 6 rfl rfl)
theorem dX2_rowOf_53 : decode cX2_rowOf 53 = .ok (.iload 6, 2) := dk_21 6 (dk_at dksX2_rowOf_2 7 rfl rfl)
theorem dX2_rowOf_55 : decode cX2_rowOf 55 = .ok (.isub, 1) := dk_100 (dk_at dksX2_rowOf_2 9 rfl rfl)
theorem dX2_rowOf_56 : decode cX2_rowOf 56 = .ok (.aload_n 0, 1) := dk_42 (dk_at dksX2_rowOf_2 10 rfl rfl)
theorem dX2_rowOf_57 : decode cX2_rowOf 57 = .ok (.getfield 43, 3) := dk_180 0 43 (dk_at dksX2_rowOf_2 11 rfl rfl)
theorem dX2_rowOf_60 : decode cX2_rowOf 60 = .ok (.iload 7, 2) := dk_21 7 (dk_at dksX2_rowOf_2 14 rfl rfl)
theorem dX2_rowOf_62 : decode cX2_rowOf 62 = .ok (.iaload, 1) := dk_46 (dk_at dksX2_rowOf_2 16 rfl rfl)
theorem dX2_rowOf_63 : decode cX2_rowOf 63 = .ok (.iload_n 3, 1) := dk_29 (dk_at dksX2_rowOf_2 17 rfl rfl)
theorem dX2_rowOf_64 : decode cX2_rowOf 64 = .ok (.invokevirtual 260, 3) := dk_182 1 4 (dk_at dksX2_rowOf_2 18 rfl rfl)
theorem dX2_rowOf_67 : decode cX2_rowOf 67 = .ok (.ldc 236, 2) := dk_18 236 (dk_at dksX2_rowOf_2 21 rfl rfl)
theorem dX2_rowOf_69 : decode cX2_rowOf 69 = .ok (.if_icmp .ge 34, 3) := dk_162 0 34 (dk_at dksX2_rowOf_3 0 rfl rfl)
theorem dX2_rowOf_72 : decode cX2_rowOf 72 = .ok (.aload_n 0, 1) := dk_42 (dk_at dksX2_rowOf_3 3 rfl rfl)
theorem dX2_rowOf_73 : decode cX2_rowOf 73 = .ok (.getfield 46, 3) := dk_180 0 46 (dk_at dksX2_rowOf_3 4 rfl rfl)
theorem dX2_rowOf_76 : decode cX2_rowOf 76 = .ok (.iload 7, 2) := dk_21 7 (dk_at dksX2_rowOf_3 7 rfl rfl)
theorem dX2_rowOf_78 : decode cX2_rowOf 78 = .ok (.iaload, 1) := dk_46 (dk_at dksX2_rowOf_3 9 rfl rfl)
theorem dX2_rowOf_79 : decode cX2_rowOf 79 = .ok (.aload_n 0, 1) := dk_42 (dk_at dksX2_rowOf_3 10 rfl rfl)
theorem dX2_rowOf_80 : decode cX2_rowOf 80 = .ok (.iload_n 1, 1) := dk_27 (dk_at dksX2_rowOf_3 11 rfl rfl)
theorem dX2_rowOf_81 : decode cX2_rowOf 81 = .ok (.iconst 1, 1) := dk_4 (dk_at dksX2_rowOf_3 12 rfl rfl)
theorem dX2_rowOf_82 : decode cX2_rowOf 82 = .ok (.isub, 1) := dk_100 (dk_at dksX2_rowOf_3 13 rfl rfl)
theorem dX2_rowOf_83 : decode cX2_rowOf 83 = .ok (.iload 6, 2) := dk_21 6 (dk_at dksX2_rowOf_3 14 rfl rfl)
theorem dX2_rowOf_85 : decode cX2_rowOf 85 = .ok (.isub, 1) := dk_100 (dk_at dksX2_rowOf_3 16 rfl rfl)
theorem dX2_rowOf_86 : decode cX2_rowOf 86 = .ok (.aload_n 0, 1) := dk_42 (dk_at dksX2_rowOf_3 17 rfl rfl)
theorem dX2_rowOf_87 : decode cX2_rowOf 87 = .ok (.getfield 43, 3) := dk_180 0 43 (dk_at dksX2_rowOf_3 18 rfl rfl)
theorem dX2_rowOf_90 : decode cX2_rowOf 90 = .ok (.iload 7, 2) := dk_21 7 (dk_at dksX2_rowOf_3 21 rfl rfl)
theorem dX2_rowOf_92 : decode cX2_rowOf 92 = .ok (.iaload, 1) := dk_46 (dk_at dksX2_rowOf_3 23 rfl rfl)
theorem dX2_rowOf_93 : decode cX2_rowOf 93 = .ok (.iload_n 3, 1) := dk_29 (dk_at dksX2_rowOf_4 0 rfl rfl)
theorem dX2_rowOf_94 : decode cX2_rowOf 94 = .ok (.invokevirtual 260, 3) := dk_182 1 4 (dk_at dksX2_rowOf_4 1 rfl rfl)
theorem dX2_rowOf_97 : decode cX2_rowOf 97 = .ok (.iadd, 1) := dk_96 (dk_at dksX2_rowOf_4 4 rfl rfl)
theorem dX2_rowOf_98 : decode cX2_rowOf 98 = .ok (.iload 5, 2) := dk_21 5 (dk_at dksX2_rowOf_4 5 rfl rfl)
theorem dX2_rowOf_100 : decode cX2_rowOf 100 = .ok (.if_icmp .eq 9, 3) := dk_159 0 9 (dk_at dksX2_rowOf_4 7 rfl rfl)
theorem dX2_rowOf_103 : decode cX2_rowOf 103 = .ok (.iinc 7 1, 3) := dk_132 7 1 (dk_at dksX2_rowOf_4 10 rfl rfl)
theorem dX2_rowOf_106 : decode cX2_rowOf 106 = .ok (.goto (-69), 3) := dk_167 255 187 (dk_at dksX2_rowOf_4 13 rfl rfl)
theorem dX2_rowOf_109 : decode cX2_rowOf 109 = .ok (.aload_n 0, 1) := dk_42 (dk_at dksX2_rowOf_4 16 rfl rfl)
theorem dX2_rowOf_110 : decode cX2_rowOf 110 = .ok (.getfield 64, 3) := dk_180 0 64 (dk_at dksX2_rowOf_4 17 rfl rfl)
theorem dX2_rowOf_113 : decode cX2_rowOf 113 = .ok (.iload 6, 2) := dk_21 6 (dk_at dksX2_rowOf_4 20 rfl rfl)
theorem dX2_rowOf_115 : decode cX2_rowOf 115 = .ok (.aload_n 0, 1) := dk_42 (dk_at dksX2_rowOf_4 22 rfl rfl)
theorem dX2_rowOf_116 : decode cX2_rowOf 116 = .ok (.getfield 49, 3) := dk_180 0 49 (dk_at dksX2_rowOf_5 0 rfl rfl)
theorem dX2_rowOf_119 : decode cX2_rowOf 119 = .ok (.iload 7, 2) := dk_21 7 (dk_at dksX2_rowOf_5 3 rfl rfl)
theorem dX2_rowOf_121 : decode cX2_rowOf 121 = .ok (.iaload, 1) := dk_46 (dk_at dksX2_rowOf_5 5 rfl rfl)
theorem dX2_rowOf_122 : decode cX2_rowOf 122 = .ok (.iastore, 1) := dk_79 (dk_at dksX2_rowOf_5 6 rfl rfl)
theorem dX2_rowOf_123 : decode cX2_rowOf 123 = .ok (.iload 5, 2) := dk_21 5 (dk_at dksX2_rowOf_5 7 rfl rfl)
theorem dX2_rowOf_125 : decode cX2_rowOf 125 = .ok (.aload_n 0, 1) := dk_42 (dk_at dksX2_rowOf_5 9 rfl rfl)
theorem dX2_rowOf_126 : decode cX2_rowOf 126 = .ok (.getfield 46, 3) := dk_180 0 46 (dk_at dksX2_rowOf_5 10 rfl rfl)
theorem dX2_rowOf_129 : decode cX2_rowOf 129 = .ok (.iload 7, 2) := dk_21 7 (dk_at dksX2_rowOf_5 13 rfl rfl)
theorem dX2_rowOf_131 : decode cX2_rowOf 131 = .ok (.iaload, 1) := dk_46 (dk_at dksX2_rowOf_5 15 rfl rfl)
theorem dX2_rowOf_132 : decode cX2_rowOf 132 = .ok (.isub, 1) := dk_100 (dk_at dksX2_rowOf_5 16 rfl rfl)
theorem dX2_rowOf_133 : decode cX2_rowOf 133 = .ok (.istore 5, 2) := dk_54 5 (dk_at dksX2_rowOf_5 17 rfl rfl)
theorem dX2_rowOf_135 : decode cX2_rowOf 135 = .ok (.aload_n 0, 1) := dk_42 (dk_at dksX2_rowOf_5 19 rfl rfl)
theorem dX2_rowOf_136 : decode cX2_rowOf 136 = .ok (.getfield 43, 3) := dk_180 0 43 (dk_at dksX2_rowOf_5 20 rfl rfl)
theorem dX2_rowOf_139 : decode cX2_rowOf 139 = .ok (.iload 7, 2) := dk_21 7 (dk_at dksX2_rowOf_6 0 rfl rfl)
theorem dX2_rowOf_141 : decode cX2_rowOf 141 = .ok (.iaload, 1) := dk_46 (dk_at dksX2_rowOf_6 2 rfl rfl)
theorem dX2_rowOf_142 : decode cX2_rowOf 142 = .ok (.istore 4, 2) := dk_54 4 (dk_at dksX2_rowOf_6 3 rfl rfl)
theorem dX2_rowOf_144 : decode cX2_rowOf 144 = .ok (.iinc 6 1, 3) := dk_132 6 1 (dk_at dksX2_rowOf_6 5 rfl rfl)
theorem dX2_rowOf_147 : decode cX2_rowOf 147 = .ok (.goto (-119), 3) := dk_167 255 137 (dk_at dksX2_rowOf_6 8 rfl rfl)
theorem dX2_rowOf_150 : decode cX2_rowOf 150 = .ok (.return_, 1) := dk_177 (dk_at dksX2_rowOf_6 11 rfl rfl)
abbrev cX2_roundStep : ByteArray := prog_16_method_66_code
def yX2_roundStep : MethodName := ⟨RX2, "roundStep", "(I)I"⟩
def dkwX2_roundStep_1 : List UInt8 := [182, 1, 35, 153, 0, 12, 42, 180, 0, 64, 27, 46, 167, 0, 4, 3, 172]
abbrev dktX2_roundStep_1 : List UInt8 := dkwX2_roundStep_1 ++ []
def dkwX2_roundStep_0 : List UInt8 := [42, 180, 0, 207, 153, 0, 7, 42, 182, 1, 46, 42, 27, 3, 42, 180, 1, 8, 4, 100, 184, 0, 102]
abbrev dktX2_roundStep_0 : List UInt8 := dkwX2_roundStep_0 ++ dktX2_roundStep_1
theorem dksX2_roundStep_0 : cX2_roundStep.data.toList.drop 0 = dktX2_roundStep_0 := by decide +kernel
theorem dksX2_roundStep_1 : cX2_roundStep.data.toList.drop 23 = dktX2_roundStep_1 := dk_seg dksX2_roundStep_0 23 rfl rfl
theorem dX2_roundStep_0 : decode cX2_roundStep 0 = .ok (.aload_n 0, 1) := dk_42 (dk_at dksX2_roundStep_0 0 rfl rfl)
theorem dX2_roundStep_1 : decode cX2_roundStep 1 = .ok (.getfield 207, 3) := dk_180 0 207 (dk_at dksX2_roundStep_0 1 rfl rfl)
theorem dX2_roundStep_4 : decode cX2_roundStep 4 = .ok (.ifCond .eq 7, 3) := dk_153 0 7 (dk_at dksX2_roundStep_0 4 rfl rfl)
theorem dX2_roundStep_7 : decode cX2_roundStep 7 = .ok (.aload_n 0, 1) := dk_42 (dk_at dksX2_roundStep_0 7 rfl rfl)
theorem dX2_roundStep_8 : decode cX2_roundStep 8 = .ok (.invokevirtual 302, 3) := dk_182 1 46 (dk_at dksX2_roundStep_0 8 rfl rfl)
theorem dX2_roundStep_11 : decode cX2_roundStep 11 = .ok (.aload_n 0, 1) := dk_42 (dk_at dksX2_roundStep_0 11 rfl rfl)
theorem dX2_roundStep_12 : decode cX2_roundStep 12 = .ok (.iload_n 1, 1) := dk_27 (dk_at dksX2_roundStep_0 12 rfl rfl)
theorem dX2_roundStep_13 : decode cX2_roundStep 13 = .ok (.iconst 0, 1) := dk_3 (dk_at dksX2_roundStep_0 13 rfl rfl)
theorem dX2_roundStep_14 : decode cX2_roundStep 14 = .ok (.aload_n 0, 1) := dk_42 (dk_at dksX2_roundStep_0 14 rfl rfl)
theorem dX2_roundStep_15 : decode cX2_roundStep 15 = .ok (.getfield 264, 3) := dk_180 1 8 (dk_at dksX2_roundStep_0 15 rfl rfl)
theorem dX2_roundStep_18 : decode cX2_roundStep 18 = .ok (.iconst 1, 1) := dk_4 (dk_at dksX2_roundStep_0 18 rfl rfl)
theorem dX2_roundStep_19 : decode cX2_roundStep 19 = .ok (.isub, 1) := dk_100 (dk_at dksX2_roundStep_0 19 rfl rfl)
theorem dX2_roundStep_20 : decode cX2_roundStep 20 = .ok (.invokestatic 102, 3) := dk_184 0 102 (dk_at dksX2_roundStep_0 20 rfl rfl)
theorem dX2_roundStep_23 : decode cX2_roundStep 23 = .ok (.invokevirtual 291, 3) := dk_182 1 35 (dk_at dksX2_roundStep_1 0 rfl rfl)
theorem dX2_roundStep_26 : decode cX2_roundStep 26 = .ok (.ifCond .eq 12, 3) := dk_153 0 12 (dk_at dksX2_roundStep_1 3 rfl rfl)
theorem dX2_roundStep_29 : decode cX2_roundStep 29 = .ok (.aload_n 0, 1) := dk_42 (dk_at dksX2_roundStep_1 6 rfl rfl)
theorem dX2_roundStep_30 : decode cX2_roundStep 30 = .ok (.getfield 64, 3) := dk_180 0 64 (dk_at dksX2_roundStep_1 7 rfl rfl)
theorem dX2_roundStep_33 : decode cX2_roundStep 33 = .ok (.iload_n 1, 1) := dk_27 (dk_at dksX2_roundStep_1 10 rfl rfl)
theorem dX2_roundStep_34 : decode cX2_roundStep 34 = .ok (.iaload, 1) := dk_46 (dk_at dksX2_roundStep_1 11 rfl rfl)
theorem dX2_roundStep_35 : decode cX2_roundStep 35 = .ok (.goto 4, 3) := dk_167 0 4 (dk_at dksX2_roundStep_1 12 rfl rfl)
theorem dX2_roundStep_38 : decode cX2_roundStep 38 = .ok (.iconst 0, 1) := dk_3 (dk_at dksX2_roundStep_1 15 rfl rfl)
theorem dX2_roundStep_39 : decode cX2_roundStep 39 = .ok (.ireturn, 1) := dk_172 (dk_at dksX2_roundStep_1 16 rfl rfl)
abbrev cX2_roundLack : ByteArray := prog_16_method_67_code
def yX2_roundLack : MethodName := ⟨RX2, "roundLack", "()I"⟩
def dkwX2_roundLack_0 : List UInt8 := [42, 4, 182, 1, 35, 154, 0, 5, 3, 172, 42, 182, 1, 46, 42, 180, 1, 11, 116, 172]
abbrev dktX2_roundLack_0 : List UInt8 := dkwX2_roundLack_0 ++ []
theorem dksX2_roundLack_0 : cX2_roundLack.data.toList.drop 0 = dktX2_roundLack_0 := by decide +kernel
theorem dX2_roundLack_0 : decode cX2_roundLack 0 = .ok (.aload_n 0, 1) := dk_42 (dk_at dksX2_roundLack_0 0 rfl rfl)
theorem dX2_roundLack_1 : decode cX2_roundLack 1 = .ok (.iconst 1, 1) := dk_4 (dk_at dksX2_roundLack_0 1 rfl rfl)
theorem dX2_roundLack_2 : decode cX2_roundLack 2 = .ok (.invokevirtual 291, 3) := dk_182 1 35 (dk_at dksX2_roundLack_0 2 rfl rfl)
theorem dX2_roundLack_5 : decode cX2_roundLack 5 = .ok (.ifCond .ne 5, 3) := dk_154 0 5 (dk_at dksX2_roundLack_0 5 rfl rfl)
theorem dX2_roundLack_8 : decode cX2_roundLack 8 = .ok (.iconst 0, 1) := dk_3 (dk_at dksX2_roundLack_0 8 rfl rfl)
theorem dX2_roundLack_9 : decode cX2_roundLack 9 = .ok (.ireturn, 1) := dk_172 (dk_at dksX2_roundLack_0 9 rfl rfl)
theorem dX2_roundLack_10 : decode cX2_roundLack 10 = .ok (.aload_n 0, 1) := dk_42 (dk_at dksX2_roundLack_0 10 rfl rfl)
theorem dX2_roundLack_11 : decode cX2_roundLack 11 = .ok (.invokevirtual 302, 3) := dk_182 1 46 (dk_at dksX2_roundLack_0 11 rfl rfl)
theorem dX2_roundLack_14 : decode cX2_roundLack 14 = .ok (.aload_n 0, 1) := dk_42 (dk_at dksX2_roundLack_0 14 rfl rfl)
theorem dX2_roundLack_15 : decode cX2_roundLack 15 = .ok (.getfield 267, 3) := dk_180 1 11 (dk_at dksX2_roundLack_0 15 rfl rfl)
theorem dX2_roundLack_18 : decode cX2_roundLack 18 = .ok (.ineg, 1) := dk_116 (dk_at dksX2_roundLack_0 18 rfl rfl)
theorem dX2_roundLack_19 : decode cX2_roundLack 19 = .ok (.ireturn, 1) := dk_172 (dk_at dksX2_roundLack_0 19 rfl rfl)
abbrev cX2_most : ByteArray := prog_16_method_74_code
def yX2_most : MethodName := ⟨RX2, "most", "(II)I"⟩
def dkwX2_most_0 : List UInt8 := [42, 42, 27, 28, 182, 1, 55, 182, 1, 58, 153, 0, 12, 42, 27, 28, 182, 1, 61, 167, 0, 4, 3, 172]
abbrev dktX2_most_0 : List UInt8 := dkwX2_most_0 ++ []
theorem dksX2_most_0 : cX2_most.data.toList.drop 0 = dktX2_most_0 := by decide +kernel
theorem dX2_most_0 : decode cX2_most 0 = .ok (.aload_n 0, 1) := dk_42 (dk_at dksX2_most_0 0 rfl rfl)
theorem dX2_most_1 : decode cX2_most 1 = .ok (.aload_n 0, 1) := dk_42 (dk_at dksX2_most_0 1 rfl rfl)
theorem dX2_most_2 : decode cX2_most 2 = .ok (.iload_n 1, 1) := dk_27 (dk_at dksX2_most_0 2 rfl rfl)
theorem dX2_most_3 : decode cX2_most 3 = .ok (.iload_n 2, 1) := dk_28 (dk_at dksX2_most_0 3 rfl rfl)
theorem dX2_most_4 : decode cX2_most 4 = .ok (.invokevirtual 311, 3) := dk_182 1 55 (dk_at dksX2_most_0 4 rfl rfl)
theorem dX2_most_7 : decode cX2_most 7 = .ok (.invokevirtual 314, 3) := dk_182 1 58 (dk_at dksX2_most_0 7 rfl rfl)
theorem dX2_most_10 : decode cX2_most 10 = .ok (.ifCond .eq 12, 3) := dk_153 0 12 (dk_at dksX2_most_0 10 rfl rfl)
theorem dX2_most_13 : decode cX2_most 13 = .ok (.aload_n 0, 1) := dk_42 (dk_at dksX2_most_0 13 rfl rfl)
theorem dX2_most_14 : decode cX2_most 14 = .ok (.iload_n 1, 1) := dk_27 (dk_at dksX2_most_0 14 rfl rfl)
theorem dX2_most_15 : decode cX2_most 15 = .ok (.iload_n 2, 1) := dk_28 (dk_at dksX2_most_0 15 rfl rfl)
theorem dX2_most_16 : decode cX2_most 16 = .ok (.invokevirtual 317, 3) := dk_182 1 61 (dk_at dksX2_most_0 16 rfl rfl)
theorem dX2_most_19 : decode cX2_most 19 = .ok (.goto 4, 3) := dk_167 0 4 (dk_at dksX2_most_0 19 rfl rfl)
theorem dX2_most_22 : decode cX2_most 22 = .ok (.iconst 0, 1) := dk_3 (dk_at dksX2_most_0 22 rfl rfl)
theorem dX2_most_23 : decode cX2_most 23 = .ok (.ireturn, 1) := dk_172 (dk_at dksX2_most_0 23 rfl rfl)
abbrev cX2_areEvents : ByteArray := prog_16_method_68_code
def yX2_areEvents : MethodName := ⟨RX2, "areEvents", "(II)Z"⟩
def dkwX2_areEvents_0 : List UInt8 := [42, 27, 182, 1, 32, 153, 0, 15, 42, 28, 182, 1, 32, 153, 0, 7, 4, 167, 0, 4, 3, 172]
abbrev dktX2_areEvents_0 : List UInt8 := dkwX2_areEvents_0 ++ []
theorem dksX2_areEvents_0 : cX2_areEvents.data.toList.drop 0 = dktX2_areEvents_0 := by decide +kernel
theorem dX2_areEvents_0 : decode cX2_areEvents 0 = .ok (.aload_n 0, 1) := dk_42 (dk_at dksX2_areEvents_0 0 rfl rfl)
theorem dX2_areEvents_1 : decode cX2_areEvents 1 = .ok (.iload_n 1, 1) := dk_27 (dk_at dksX2_areEvents_0 1 rfl rfl)
theorem dX2_areEvents_2 : decode cX2_areEvents 2 = .ok (.invokevirtual 288, 3) := dk_182 1 32 (dk_at dksX2_areEvents_0 2 rfl rfl)
theorem dX2_areEvents_5 : decode cX2_areEvents 5 = .ok (.ifCond .eq 15, 3) := dk_153 0 15 (dk_at dksX2_areEvents_0 5 rfl rfl)
theorem dX2_areEvents_8 : decode cX2_areEvents 8 = .ok (.aload_n 0, 1) := dk_42 (dk_at dksX2_areEvents_0 8 rfl rfl)
theorem dX2_areEvents_9 : decode cX2_areEvents 9 = .ok (.iload_n 2, 1) := dk_28 (dk_at dksX2_areEvents_0 9 rfl rfl)
theorem dX2_areEvents_10 : decode cX2_areEvents 10 = .ok (.invokevirtual 288, 3) := dk_182 1 32 (dk_at dksX2_areEvents_0 10 rfl rfl)
theorem dX2_areEvents_13 : decode cX2_areEvents 13 = .ok (.ifCond .eq 7, 3) := dk_153 0 7 (dk_at dksX2_areEvents_0 13 rfl rfl)
theorem dX2_areEvents_16 : decode cX2_areEvents 16 = .ok (.iconst 1, 1) := dk_4 (dk_at dksX2_areEvents_0 16 rfl rfl)
theorem dX2_areEvents_17 : decode cX2_areEvents 17 = .ok (.goto 4, 3) := dk_167 0 4 (dk_at dksX2_areEvents_0 17 rfl rfl)
theorem dX2_areEvents_20 : decode cX2_areEvents 20 = .ok (.iconst 0, 1) := dk_3 (dk_at dksX2_areEvents_0 20 rfl rfl)
theorem dX2_areEvents_21 : decode cX2_areEvents 21 = .ok (.ireturn, 1) := dk_172 (dk_at dksX2_areEvents_0 21 rfl rfl)
abbrev cX2_maySee : ByteArray := prog_16_method_51_code
def yX2_maySee : MethodName := ⟨RX2, "maySee", "(Z)Z"⟩
def dkwX2_maySee_1 : List UInt8 := [167, 0, 4, 5, 181, 0, 73, 42, 180, 0, 73, 154, 0, 7, 4, 167, 0, 4, 3, 172]
abbrev dktX2_maySee_1 : List UInt8 := dkwX2_maySee_1 ++ []
def dkwX2_maySee_0 : List UInt8 := [42, 42, 180, 0, 207, 153, 0, 10, 42, 182, 1, 20, 154, 0, 7, 4, 167, 0, 12, 27, 153, 0, 7, 3]
abbrev dktX2_maySee_0 : List UInt8 := dkwX2_maySee_0 ++ dktX2_maySee_1
theorem dksX2_maySee_0 : cX2_maySee.data.toList.drop 0 = dktX2_maySee_0 := by decide +kernel
theorem dksX2_maySee_1 : cX2_maySee.data.toList.drop 24 = dktX2_maySee_1 := dk_seg dksX2_maySee_0 24 rfl rfl
theorem dX2_maySee_0 : decode cX2_maySee 0 = .ok (.aload_n 0, 1) := dk_42 (dk_at dksX2_maySee_0 0 rfl rfl)
theorem dX2_maySee_1 : decode cX2_maySee 1 = .ok (.aload_n 0, 1) := dk_42 (dk_at dksX2_maySee_0 1 rfl rfl)
theorem dX2_maySee_2 : decode cX2_maySee 2 = .ok (.getfield 207, 3) := dk_180 0 207 (dk_at dksX2_maySee_0 2 rfl rfl)
theorem dX2_maySee_5 : decode cX2_maySee 5 = .ok (.ifCond .eq 10, 3) := dk_153 0 10 (dk_at dksX2_maySee_0 5 rfl rfl)
theorem dX2_maySee_8 : decode cX2_maySee 8 = .ok (.aload_n 0, 1) := dk_42 (dk_at dksX2_maySee_0 8 rfl rfl)
theorem dX2_maySee_9 : decode cX2_maySee 9 = .ok (.invokevirtual 276, 3) := dk_182 1 20 (dk_at dksX2_maySee_0 9 rfl rfl)
theorem dX2_maySee_12 : decode cX2_maySee 12 = .ok (.ifCond .ne 7, 3) := dk_154 0 7 (dk_at dksX2_maySee_0 12 rfl rfl)
theorem dX2_maySee_15 : decode cX2_maySee 15 = .ok (.iconst 1, 1) := dk_4 (dk_at dksX2_maySee_0 15 rfl rfl)
theorem dX2_maySee_16 : decode cX2_maySee 16 = .ok (.goto 12, 3) := dk_167 0 12 (dk_at dksX2_maySee_0 16 rfl rfl)
theorem dX2_maySee_19 : decode cX2_maySee 19 = .ok (.iload_n 1, 1) := dk_27 (dk_at dksX2_maySee_0 19 rfl rfl)
theorem dX2_maySee_20 : decode cX2_maySee 20 = .ok (.ifCond .eq 7, 3) := dk_153 0 7 (dk_at dksX2_maySee_0 20 rfl rfl)
theorem dX2_maySee_23 : decode cX2_maySee 23 = .ok (.iconst 0, 1) := dk_3 (dk_at dksX2_maySee_0 23 rfl rfl)
theorem dX2_maySee_24 : decode cX2_maySee 24 = .ok (.goto 4, 3) := dk_167 0 4 (dk_at dksX2_maySee_1 0 rfl rfl)
theorem dX2_maySee_27 : decode cX2_maySee 27 = .ok (.iconst 2, 1) := dk_5 (dk_at dksX2_maySee_1 3 rfl rfl)
theorem dX2_maySee_28 : decode cX2_maySee 28 = .ok (.putfield 73, 3) := dk_181 0 73 (dk_at dksX2_maySee_1 4 rfl rfl)
theorem dX2_maySee_31 : decode cX2_maySee 31 = .ok (.aload_n 0, 1) := dk_42 (dk_at dksX2_maySee_1 7 rfl rfl)
theorem dX2_maySee_32 : decode cX2_maySee 32 = .ok (.getfield 73, 3) := dk_180 0 73 (dk_at dksX2_maySee_1 8 rfl rfl)
theorem dX2_maySee_35 : decode cX2_maySee 35 = .ok (.ifCond .ne 7, 3) := dk_154 0 7 (dk_at dksX2_maySee_1 11 rfl rfl)
theorem dX2_maySee_38 : decode cX2_maySee 38 = .ok (.iconst 1, 1) := dk_4 (dk_at dksX2_maySee_1 14 rfl rfl)
theorem dX2_maySee_39 : decode cX2_maySee 39 = .ok (.goto 4, 3) := dk_167 0 4 (dk_at dksX2_maySee_1 15 rfl rfl)
theorem dX2_maySee_42 : decode cX2_maySee 42 = .ok (.iconst 0, 1) := dk_3 (dk_at dksX2_maySee_1 18 rfl rfl)
theorem dX2_maySee_43 : decode cX2_maySee 43 = .ok (.ireturn, 1) := dk_172 (dk_at dksX2_maySee_1 19 rfl rfl)
abbrev cX2_mostOf : ByteArray := prog_16_method_69_code
def yX2_mostOf : MethodName := ⟨RX2, "mostOf", "(II)I"⟩
def dkwX2_mostOf_0 : List UInt8 := [42, 27, 28, 182, 0, 233, 18, 236, 161, 0, 9, 17, 39, 16, 167, 0, 9, 42, 27, 28, 182, 0, 233, 172]
abbrev dktX2_mostOf_0 : List UInt8 := dkwX2_mostOf_0 ++ []
theorem dksX2_mostOf_0 : cX2_mostOf.data.toList.drop 0 = dktX2_mostOf_0 := by decide +kernel
theorem dX2_mostOf_0 : decode cX2_mostOf 0 = .ok (.aload_n 0, 1) := dk_42 (dk_at dksX2_mostOf_0 0 rfl rfl)
theorem dX2_mostOf_1 : decode cX2_mostOf 1 = .ok (.iload_n 1, 1) := dk_27 (dk_at dksX2_mostOf_0 1 rfl rfl)
theorem dX2_mostOf_2 : decode cX2_mostOf 2 = .ok (.iload_n 2, 1) := dk_28 (dk_at dksX2_mostOf_0 2 rfl rfl)
theorem dX2_mostOf_3 : decode cX2_mostOf 3 = .ok (.invokevirtual 233, 3) := dk_182 0 233 (dk_at dksX2_mostOf_0 3 rfl rfl)
theorem dX2_mostOf_6 : decode cX2_mostOf 6 = .ok (.ldc 236, 2) := dk_18 236 (dk_at dksX2_mostOf_0 6 rfl rfl)
theorem dX2_mostOf_8 : decode cX2_mostOf 8 = .ok (.if_icmp .lt 9, 3) := dk_161 0 9 (dk_at dksX2_mostOf_0 8 rfl rfl)
theorem dX2_mostOf_11 : decode cX2_mostOf 11 = .ok (.sipush 10000, 3) := dk_17 39 16 (dk_at dksX2_mostOf_0 11 rfl rfl)
theorem dX2_mostOf_14 : decode cX2_mostOf 14 = .ok (.goto 9, 3) := dk_167 0 9 (dk_at dksX2_mostOf_0 14 rfl rfl)
theorem dX2_mostOf_17 : decode cX2_mostOf 17 = .ok (.aload_n 0, 1) := dk_42 (dk_at dksX2_mostOf_0 17 rfl rfl)
theorem dX2_mostOf_18 : decode cX2_mostOf 18 = .ok (.iload_n 1, 1) := dk_27 (dk_at dksX2_mostOf_0 18 rfl rfl)
theorem dX2_mostOf_19 : decode cX2_mostOf 19 = .ok (.iload_n 2, 1) := dk_28 (dk_at dksX2_mostOf_0 19 rfl rfl)
theorem dX2_mostOf_20 : decode cX2_mostOf 20 = .ok (.invokevirtual 233, 3) := dk_182 0 233 (dk_at dksX2_mostOf_0 20 rfl rfl)
theorem dX2_mostOf_23 : decode cX2_mostOf 23 = .ok (.ireturn, 1) := dk_172 (dk_at dksX2_mostOf_0 23 rfl rfl)
abbrev cX2_least : ByteArray := prog_16_method_75_code
def yX2_least : MethodName := ⟨RX2, "least", "(II)I"⟩
def dkwX2_least_0 : List UInt8 := [42, 42, 27, 28, 182, 1, 55, 182, 1, 58, 153, 0, 12, 42, 27, 28, 182, 1, 64, 167, 0, 4, 3, 172]
abbrev dktX2_least_0 : List UInt8 := dkwX2_least_0 ++ []
theorem dksX2_least_0 : cX2_least.data.toList.drop 0 = dktX2_least_0 := by decide +kernel
theorem dX2_least_0 : decode cX2_least 0 = .ok (.aload_n 0, 1) := dk_42 (dk_at dksX2_least_0 0 rfl rfl)
theorem dX2_least_1 : decode cX2_least 1 = .ok (.aload_n 0, 1) := dk_42 (dk_at dksX2_least_0 1 rfl rfl)
theorem dX2_least_2 : decode cX2_least 2 = .ok (.iload_n 1, 1) := dk_27 (dk_at dksX2_least_0 2 rfl rfl)
theorem dX2_least_3 : decode cX2_least 3 = .ok (.iload_n 2, 1) := dk_28 (dk_at dksX2_least_0 3 rfl rfl)
theorem dX2_least_4 : decode cX2_least 4 = .ok (.invokevirtual 311, 3) := dk_182 1 55 (dk_at dksX2_least_0 4 rfl rfl)
theorem dX2_least_7 : decode cX2_least 7 = .ok (.invokevirtual 314, 3) := dk_182 1 58 (dk_at dksX2_least_0 7 rfl rfl)
theorem dX2_least_10 : decode cX2_least 10 = .ok (.ifCond .eq 12, 3) := dk_153 0 12 (dk_at dksX2_least_0 10 rfl rfl)
theorem dX2_least_13 : decode cX2_least 13 = .ok (.aload_n 0, 1) := dk_42 (dk_at dksX2_least_0 13 rfl rfl)
theorem dX2_least_14 : decode cX2_least 14 = .ok (.iload_n 1, 1) := dk_27 (dk_at dksX2_least_0 14 rfl rfl)
theorem dX2_least_15 : decode cX2_least 15 = .ok (.iload_n 2, 1) := dk_28 (dk_at dksX2_least_0 15 rfl rfl)
theorem dX2_least_16 : decode cX2_least 16 = .ok (.invokevirtual 320, 3) := dk_182 1 64 (dk_at dksX2_least_0 16 rfl rfl)
theorem dX2_least_19 : decode cX2_least 19 = .ok (.goto 4, 3) := dk_167 0 4 (dk_at dksX2_least_0 19 rfl rfl)
theorem dX2_least_22 : decode cX2_least 22 = .ok (.iconst 0, 1) := dk_3 (dk_at dksX2_least_0 22 rfl rfl)
theorem dX2_least_23 : decode cX2_least 23 = .ok (.ireturn, 1) := dk_172 (dk_at dksX2_least_0 23 rfl rfl)
abbrev cX2_leastOf : ByteArray := prog_16_method_70_code
def yX2_leastOf : MethodName := ⟨RX2, "leastOf", "(II)I"⟩
def dkwX2_leastOf_1 : List UInt8 := [172]
abbrev dktX2_leastOf_1 : List UInt8 := dkwX2_leastOf_1 ++ []
def dkwX2_leastOf_0 : List UInt8 := [42, 28, 27, 182, 0, 233, 18, 236, 161, 0, 9, 17, 216, 240, 167, 0, 10, 42, 28, 27, 182, 0, 233, 116]
abbrev dktX2_leastOf_0 : List UInt8 := dkwX2_leastOf_0 ++ dktX2_leastOf_1
theorem dksX2_leastOf_0 : cX2_leastOf.data.toList.drop 0 = dktX2_leastOf_0 := by decide +kernel
theorem dksX2_leastOf_1 : cX2_leastOf.data.toList.drop 24 = dktX2_leastOf_1 := dk_seg dksX2_leastOf_0 24 rfl rfl
theorem dX2_leastOf_0 : decode cX2_leastOf 0 = .ok (.aload_n 0, 1) := dk_42 (dk_at dksX2_leastOf_0 0 rfl rfl)
theorem dX2_leastOf_1 : decode cX2_leastOf 1 = .ok (.iload_n 2, 1) := dk_28 (dk_at dksX2_leastOf_0 1 rfl rfl)
theorem dX2_leastOf_2 : decode cX2_leastOf 2 = .ok (.iload_n 1, 1) := dk_27 (dk_at dksX2_leastOf_0 2 rfl rfl)
theorem dX2_leastOf_3 : decode cX2_leastOf 3 = .ok (.invokevirtual 233, 3) := dk_182 0 233 (dk_at dksX2_leastOf_0 3 rfl rfl)
theorem dX2_leastOf_6 : decode cX2_leastOf 6 = .ok (.ldc 236, 2) := dk_18 236 (dk_at dksX2_leastOf_0 6 rfl rfl)
theorem dX2_leastOf_8 : decode cX2_leastOf 8 = .ok (.if_icmp .lt 9, 3) := dk_161 0 9 (dk_at dksX2_leastOf_0 8 rfl rfl)
theorem dX2_leastOf_11 : decode cX2_leastOf 11 = .ok (.sipush (-10000), 3) := dk_17 216 240 (dk_at dksX2_leastOf_0 11 rfl rfl)
theorem dX2_leastOf_14 : decode cX2_leastOf 14 = .ok (.goto 10, 3) := dk_167 0 10 (dk_at dksX2_leastOf_0 14 rfl rfl)
theorem dX2_leastOf_17 : decode cX2_leastOf 17 = .ok (.aload_n 0, 1) := dk_42 (dk_at dksX2_leastOf_0 17 rfl rfl)
theorem dX2_leastOf_18 : decode cX2_leastOf 18 = .ok (.iload_n 2, 1) := dk_28 (dk_at dksX2_leastOf_0 18 rfl rfl)
theorem dX2_leastOf_19 : decode cX2_leastOf 19 = .ok (.iload_n 1, 1) := dk_27 (dk_at dksX2_leastOf_0 19 rfl rfl)
theorem dX2_leastOf_20 : decode cX2_leastOf 20 = .ok (.invokevirtual 233, 3) := dk_182 0 233 (dk_at dksX2_leastOf_0 20 rfl rfl)
theorem dX2_leastOf_23 : decode cX2_leastOf 23 = .ok (.ineg, 1) := dk_116 (dk_at dksX2_leastOf_0 23 rfl rfl)
theorem dX2_leastOf_24 : decode cX2_leastOf 24 = .ok (.ireturn, 1) := dk_172 (dk_at dksX2_leastOf_1 0 rfl rfl)
abbrev cX2_earliest : ByteArray := prog_16_method_76_code
def yX2_earliest : MethodName := ⟨RX2, "earliest", "(I)I"⟩
def dkwX2_earliest_0 : List UInt8 := [42, 42, 27, 182, 1, 32, 182, 1, 58, 153, 0, 11, 42, 27, 182, 1, 52, 167, 0, 4, 3, 172]
abbrev dktX2_earliest_0 : List UInt8 := dkwX2_earliest_0 ++ []
theorem dksX2_earliest_0 : cX2_earliest.data.toList.drop 0 = dktX2_earliest_0 := by decide +kernel
theorem dX2_earliest_0 : decode cX2_earliest 0 = .ok (.aload_n 0, 1) := dk_42 (dk_at dksX2_earliest_0 0 rfl rfl)
theorem dX2_earliest_1 : decode cX2_earliest 1 = .ok (.aload_n 0, 1) := dk_42 (dk_at dksX2_earliest_0 1 rfl rfl)
theorem dX2_earliest_2 : decode cX2_earliest 2 = .ok (.iload_n 1, 1) := dk_27 (dk_at dksX2_earliest_0 2 rfl rfl)
theorem dX2_earliest_3 : decode cX2_earliest 3 = .ok (.invokevirtual 288, 3) := dk_182 1 32 (dk_at dksX2_earliest_0 3 rfl rfl)
theorem dX2_earliest_6 : decode cX2_earliest 6 = .ok (.invokevirtual 314, 3) := dk_182 1 58 (dk_at dksX2_earliest_0 6 rfl rfl)
theorem dX2_earliest_9 : decode cX2_earliest 9 = .ok (.ifCond .eq 11, 3) := dk_153 0 11 (dk_at dksX2_earliest_0 9 rfl rfl)
theorem dX2_earliest_12 : decode cX2_earliest 12 = .ok (.aload_n 0, 1) := dk_42 (dk_at dksX2_earliest_0 12 rfl rfl)
theorem dX2_earliest_13 : decode cX2_earliest 13 = .ok (.iload_n 1, 1) := dk_27 (dk_at dksX2_earliest_0 13 rfl rfl)
theorem dX2_earliest_14 : decode cX2_earliest 14 = .ok (.invokevirtual 308, 3) := dk_182 1 52 (dk_at dksX2_earliest_0 14 rfl rfl)
theorem dX2_earliest_17 : decode cX2_earliest 17 = .ok (.goto 4, 3) := dk_167 0 4 (dk_at dksX2_earliest_0 17 rfl rfl)
theorem dX2_earliest_20 : decode cX2_earliest 20 = .ok (.iconst 0, 1) := dk_3 (dk_at dksX2_earliest_0 20 rfl rfl)
theorem dX2_earliest_21 : decode cX2_earliest 21 = .ok (.ireturn, 1) := dk_172 (dk_at dksX2_earliest_0 21 rfl rfl)
abbrev cX2_earliestOf : ByteArray := prog_16_method_71_code
def yX2_earliestOf : MethodName := ⟨RX2, "earliestOf", "(I)I"⟩
def dkwX2_earliestOf_0 : List UInt8 := [42, 27, 3, 182, 0, 233, 116, 172]
abbrev dktX2_earliestOf_0 : List UInt8 := dkwX2_earliestOf_0 ++ []
theorem dksX2_earliestOf_0 : cX2_earliestOf.data.toList.drop 0 = dktX2_earliestOf_0 := by decide +kernel
theorem dX2_earliestOf_0 : decode cX2_earliestOf 0 = .ok (.aload_n 0, 1) := dk_42 (dk_at dksX2_earliestOf_0 0 rfl rfl)
theorem dX2_earliestOf_1 : decode cX2_earliestOf 1 = .ok (.iload_n 1, 1) := dk_27 (dk_at dksX2_earliestOf_0 1 rfl rfl)
theorem dX2_earliestOf_2 : decode cX2_earliestOf 2 = .ok (.iconst 0, 1) := dk_3 (dk_at dksX2_earliestOf_0 2 rfl rfl)
theorem dX2_earliestOf_3 : decode cX2_earliestOf 3 = .ok (.invokevirtual 233, 3) := dk_182 0 233 (dk_at dksX2_earliestOf_0 3 rfl rfl)
theorem dX2_earliestOf_6 : decode cX2_earliestOf 6 = .ok (.ineg, 1) := dk_116 (dk_at dksX2_earliestOf_0 6 rfl rfl)
theorem dX2_earliestOf_7 : decode cX2_earliestOf 7 = .ok (.ireturn, 1) := dk_172 (dk_at dksX2_earliestOf_0 7 rfl rfl)
abbrev cX2_latest : ByteArray := prog_16_method_77_code
def yX2_latest : MethodName := ⟨RX2, "latest", "(I)I"⟩
def dkwX2_latest_0 : List UInt8 := [42, 42, 27, 182, 1, 32, 182, 1, 58, 153, 0, 11, 42, 27, 182, 1, 49, 167, 0, 4, 3, 172]
abbrev dktX2_latest_0 : List UInt8 := dkwX2_latest_0 ++ []
theorem dksX2_latest_0 : cX2_latest.data.toList.drop 0 = dktX2_latest_0 := by decide +kernel
theorem dX2_latest_0 : decode cX2_latest 0 = .ok (.aload_n 0, 1) := dk_42 (dk_at dksX2_latest_0 0 rfl rfl)
theorem dX2_latest_1 : decode cX2_latest 1 = .ok (.aload_n 0, 1) := dk_42 (dk_at dksX2_latest_0 1 rfl rfl)
theorem dX2_latest_2 : decode cX2_latest 2 = .ok (.iload_n 1, 1) := dk_27 (dk_at dksX2_latest_0 2 rfl rfl)
theorem dX2_latest_3 : decode cX2_latest 3 = .ok (.invokevirtual 288, 3) := dk_182 1 32 (dk_at dksX2_latest_0 3 rfl rfl)
theorem dX2_latest_6 : decode cX2_latest 6 = .ok (.invokevirtual 314, 3) := dk_182 1 58 (dk_at dksX2_latest_0 6 rfl rfl)
theorem dX2_latest_9 : decode cX2_latest 9 = .ok (.ifCond .eq 11, 3) := dk_153 0 11 (dk_at dksX2_latest_0 9 rfl rfl)
theorem dX2_latest_12 : decode cX2_latest 12 = .ok (.aload_n 0, 1) := dk_42 (dk_at dksX2_latest_0 12 rfl rfl)
theorem dX2_latest_13 : decode cX2_latest 13 = .ok (.iload_n 1, 1) := dk_27 (dk_at dksX2_latest_0 13 rfl rfl)
theorem dX2_latest_14 : decode cX2_latest 14 = .ok (.invokevirtual 305, 3) := dk_182 1 49 (dk_at dksX2_latest_0 14 rfl rfl)
theorem dX2_latest_17 : decode cX2_latest 17 = .ok (.goto 4, 3) := dk_167 0 4 (dk_at dksX2_latest_0 17 rfl rfl)
theorem dX2_latest_20 : decode cX2_latest 20 = .ok (.iconst 0, 1) := dk_3 (dk_at dksX2_latest_0 20 rfl rfl)
theorem dX2_latest_21 : decode cX2_latest 21 = .ok (.ireturn, 1) := dk_172 (dk_at dksX2_latest_0 21 rfl rfl)
abbrev cX2_latestOf : ByteArray := prog_16_method_72_code
def yX2_latestOf : MethodName := ⟨RX2, "latestOf", "(I)I"⟩
def dkwX2_latestOf_0 : List UInt8 := [42, 3, 27, 182, 0, 233, 18, 236, 161, 0, 7, 2, 167, 0, 9, 42, 3, 27, 182, 0, 233, 172]
abbrev dktX2_latestOf_0 : List UInt8 := dkwX2_latestOf_0 ++ []
theorem dksX2_latestOf_0 : cX2_latestOf.data.toList.drop 0 = dktX2_latestOf_0 := by decide +kernel
theorem dX2_latestOf_0 : decode cX2_latestOf 0 = .ok (.aload_n 0, 1) := dk_42 (dk_at dksX2_latestOf_0 0 rfl rfl)
theorem dX2_latestOf_1 : decode cX2_latestOf 1 = .ok (.iconst 0, 1) := dk_3 (dk_at dksX2_latestOf_0 1 rfl rfl)
theorem dX2_latestOf_2 : decode cX2_latestOf 2 = .ok (.iload_n 1, 1) := dk_27 (dk_at dksX2_latestOf_0 2 rfl rfl)
theorem dX2_latestOf_3 : decode cX2_latestOf 3 = .ok (.invokevirtual 233, 3) := dk_182 0 233 (dk_at dksX2_latestOf_0 3 rfl rfl)
theorem dX2_latestOf_6 : decode cX2_latestOf 6 = .ok (.ldc 236, 2) := dk_18 236 (dk_at dksX2_latestOf_0 6 rfl rfl)
theorem dX2_latestOf_8 : decode cX2_latestOf 8 = .ok (.if_icmp .lt 7, 3) := dk_161 0 7 (dk_at dksX2_latestOf_0 8 rfl rfl)
theorem dX2_latestOf_11 : decode cX2_latestOf 11 = .ok (.iconst (-1), 1) := dk_2 (dk_at dksX2_latestOf_0 11 rfl rfl)
theorem dX2_latestOf_12 : decode cX2_latestOf 12 = .ok (.goto 9, 3) := dk_167 0 9 (dk_at dksX2_latestOf_0 12 rfl rfl)
theorem dX2_latestOf_15 : decode cX2_latestOf 15 = .ok (.aload_n 0, 1) := dk_42 (dk_at dksX2_latestOf_0 15 rfl rfl)
theorem dX2_latestOf_16 : decode cX2_latestOf 16 = .ok (.iconst 0, 1) := dk_3 (dk_at dksX2_latestOf_0 16 rfl rfl)
theorem dX2_latestOf_17 : decode cX2_latestOf 17 = .ok (.iload_n 1, 1) := dk_27 (dk_at dksX2_latestOf_0 17 rfl rfl)
theorem dX2_latestOf_18 : decode cX2_latestOf 18 = .ok (.invokevirtual 233, 3) := dk_182 0 233 (dk_at dksX2_latestOf_0 18 rfl rfl)
theorem dX2_latestOf_21 : decode cX2_latestOf 21 = .ok (.ireturn, 1) := dk_172 (dk_at dksX2_latestOf_0 21 rfl rfl)
abbrev cX2_slack : ByteArray := prog_16_method_78_code
def yX2_slack : MethodName := ⟨RX2, "slack", "(I)I"⟩
def dkwX2_slack_0 : List UInt8 := [42, 42, 27, 182, 1, 32, 182, 1, 58, 153, 0, 11, 42, 27, 182, 1, 67, 167, 0, 4, 3, 172]
abbrev dktX2_slack_0 : List UInt8 := dkwX2_slack_0 ++ []
theorem dksX2_slack_0 : cX2_slack.data.toList.drop 0 = dktX2_slack_0 := by decide +kernel
theorem dX2_slack_0 : decode cX2_slack 0 = .ok (.aload_n 0, 1) := dk_42 (dk_at dksX2_slack_0 0 rfl rfl)
theorem dX2_slack_1 : decode cX2_slack 1 = .ok (.aload_n 0, 1) := dk_42 (dk_at dksX2_slack_0 1 rfl rfl)
theorem dX2_slack_2 : decode cX2_slack 2 = .ok (.iload_n 1, 1) := dk_27 (dk_at dksX2_slack_0 2 rfl rfl)
theorem dX2_slack_3 : decode cX2_slack 3 = .ok (.invokevirtual 288, 3) := dk_182 1 32 (dk_at dksX2_slack_0 3 rfl rfl)
theorem dX2_slack_6 : decode cX2_slack 6 = .ok (.invokevirtual 314, 3) := dk_182 1 58 (dk_at dksX2_slack_0 6 rfl rfl)
theorem dX2_slack_9 : decode cX2_slack 9 = .ok (.ifCond .eq 11, 3) := dk_153 0 11 (dk_at dksX2_slack_0 9 rfl rfl)
theorem dX2_slack_12 : decode cX2_slack 12 = .ok (.aload_n 0, 1) := dk_42 (dk_at dksX2_slack_0 12 rfl rfl)
theorem dX2_slack_13 : decode cX2_slack 13 = .ok (.iload_n 1, 1) := dk_27 (dk_at dksX2_slack_0 13 rfl rfl)
theorem dX2_slack_14 : decode cX2_slack 14 = .ok (.invokevirtual 323, 3) := dk_182 1 67 (dk_at dksX2_slack_0 14 rfl rfl)
theorem dX2_slack_17 : decode cX2_slack 17 = .ok (.goto 4, 3) := dk_167 0 4 (dk_at dksX2_slack_0 17 rfl rfl)
theorem dX2_slack_20 : decode cX2_slack 20 = .ok (.iconst 0, 1) := dk_3 (dk_at dksX2_slack_0 20 rfl rfl)
theorem dX2_slack_21 : decode cX2_slack 21 = .ok (.ireturn, 1) := dk_172 (dk_at dksX2_slack_0 21 rfl rfl)
abbrev cX2_slackOf : ByteArray := prog_16_method_73_code
def yX2_slackOf : MethodName := ⟨RX2, "slackOf", "(I)I"⟩
def dkwX2_slackOf_1 : List UInt8 := [172]
abbrev dktX2_slackOf_1 : List UInt8 := dkwX2_slackOf_1 ++ []
def dkwX2_slackOf_0 : List UInt8 := [42, 27, 182, 1, 49, 2, 160, 0, 7, 2, 167, 0, 14, 42, 27, 182, 1, 49, 42, 27, 182, 1, 52, 100]
abbrev dktX2_slackOf_0 : List UInt8 := dkwX2_slackOf_0 ++ dktX2_slackOf_1
theorem dksX2_slackOf_0 : cX2_slackOf.data.toList.drop 0 = dktX2_slackOf_0 := by decide +kernel
theorem dksX2_slackOf_1 : cX2_slackOf.data.toList.drop 24 = dktX2_slackOf_1 := dk_seg dksX2_slackOf_0 24 rfl rfl
theorem dX2_slackOf_0 : decode cX2_slackOf 0 = .ok (.aload_n 0, 1) := dk_42 (dk_at dksX2_slackOf_0 0 rfl rfl)
theorem dX2_slackOf_1 : decode cX2_slackOf 1 = .ok (.iload_n 1, 1) := dk_27 (dk_at dksX2_slackOf_0 1 rfl rfl)
theorem dX2_slackOf_2 : decode cX2_slackOf 2 = .ok (.invokevirtual 305, 3) := dk_182 1 49 (dk_at dksX2_slackOf_0 2 rfl rfl)
theorem dX2_slackOf_5 : decode cX2_slackOf 5 = .ok (.iconst (-1), 1) := dk_2 (dk_at dksX2_slackOf_0 5 rfl rfl)
theorem dX2_slackOf_6 : decode cX2_slackOf 6 = .ok (.if_icmp .ne 7, 3) := dk_160 0 7 (dk_at dksX2_slackOf_0 6 rfl rfl)
theorem dX2_slackOf_9 : decode cX2_slackOf 9 = .ok (.iconst (-1), 1) := dk_2 (dk_at dksX2_slackOf_0 9 rfl rfl)
theorem dX2_slackOf_10 : decode cX2_slackOf 10 = .ok (.goto 14, 3) := dk_167 0 14 (dk_at dksX2_slackOf_0 10 rfl rfl)
theorem dX2_slackOf_13 : decode cX2_slackOf 13 = .ok (.aload_n 0, 1) := dk_42 (dk_at dksX2_slackOf_0 13 rfl rfl)
theorem dX2_slackOf_14 : decode cX2_slackOf 14 = .ok (.iload_n 1, 1) := dk_27 (dk_at dksX2_slackOf_0 14 rfl rfl)
theorem dX2_slackOf_15 : decode cX2_slackOf 15 = .ok (.invokevirtual 305, 3) := dk_182 1 49 (dk_at dksX2_slackOf_0 15 rfl rfl)
theorem dX2_slackOf_18 : decode cX2_slackOf 18 = .ok (.aload_n 0, 1) := dk_42 (dk_at dksX2_slackOf_0 18 rfl rfl)
theorem dX2_slackOf_19 : decode cX2_slackOf 19 = .ok (.iload_n 1, 1) := dk_27 (dk_at dksX2_slackOf_0 19 rfl rfl)
theorem dX2_slackOf_20 : decode cX2_slackOf 20 = .ok (.invokevirtual 308, 3) := dk_182 1 52 (dk_at dksX2_slackOf_0 20 rfl rfl)
theorem dX2_slackOf_23 : decode cX2_slackOf 23 = .ok (.isub, 1) := dk_100 (dk_at dksX2_slackOf_0 23 rfl rfl)
theorem dX2_slackOf_24 : decode cX2_slackOf 24 = .ok (.ireturn, 1) := dk_172 (dk_at dksX2_slackOf_1 0 rfl rfl)
abbrev cX2_wayLength : ByteArray := prog_16_method_79_code
def yX2_wayLength : MethodName := ⟨RX2, "wayLength", "(II)I"⟩
def dkwX2_wayLength_1 : List UInt8 := [42, 180, 1, 8, 167, 0, 4, 2, 172]
abbrev dktX2_wayLength_1 : List UInt8 := dkwX2_wayLength_1 ++ []
def dkwX2_wayLength_0 : List UInt8 := [42, 42, 27, 28, 182, 1, 55, 182, 1, 58, 154, 0, 5, 3, 172, 42, 27, 28, 182, 1, 70, 153, 0, 10]
abbrev dktX2_wayLength_0 : List UInt8 := dkwX2_wayLength_0 ++ dktX2_wayLength_1
theorem dksX2_wayLength_0 : cX2_wayLength.data.toList.drop 0 = dktX2_wayLength_0 := by decide +kernel
theorem dksX2_wayLength_1 : cX2_wayLength.data.toList.drop 24 = dktX2_wayLength_1 := dk_seg dksX2_wayLength_0 24 rfl rfl
theorem dX2_wayLength_0 : decode cX2_wayLength 0 = .ok (.aload_n 0, 1) := dk_42 (dk_at dksX2_wayLength_0 0 rfl rfl)
theorem dX2_wayLength_1 : decode cX2_wayLength 1 = .ok (.aload_n 0, 1) := dk_42 (dk_at dksX2_wayLength_0 1 rfl rfl)
theorem dX2_wayLength_2 : decode cX2_wayLength 2 = .ok (.iload_n 1, 1) := dk_27 (dk_at dksX2_wayLength_0 2 rfl rfl)
theorem dX2_wayLength_3 : decode cX2_wayLength 3 = .ok (.iload_n 2, 1) := dk_28 (dk_at dksX2_wayLength_0 3 rfl rfl)
theorem dX2_wayLength_4 : decode cX2_wayLength 4 = .ok (.invokevirtual 311, 3) := dk_182 1 55 (dk_at dksX2_wayLength_0 4 rfl rfl)
theorem dX2_wayLength_7 : decode cX2_wayLength 7 = .ok (.invokevirtual 314, 3) := dk_182 1 58 (dk_at dksX2_wayLength_0 7 rfl rfl)
theorem dX2_wayLength_10 : decode cX2_wayLength 10 = .ok (.ifCond .ne 5, 3) := dk_154 0 5 (dk_at dksX2_wayLength_0 10 rfl rfl)
theorem dX2_wayLength_13 : decode cX2_wayLength 13 = .ok (.iconst 0, 1) := dk_3 (dk_at dksX2_wayLength_0 13 rfl rfl)
theorem dX2_wayLength_14 : decode cX2_wayLength 14 = .ok (.ireturn, 1) := dk_172 (dk_at dksX2_wayLength_0 14 rfl rfl)
theorem dX2_wayLength_15 : decode cX2_wayLength 15 = .ok (.aload_n 0, 1) := dk_42 (dk_at dksX2_wayLength_0 15 rfl rfl)
theorem dX2_wayLength_16 : decode cX2_wayLength 16 = .ok (.iload_n 1, 1) := dk_27 (dk_at dksX2_wayLength_0 16 rfl rfl)
theorem dX2_wayLength_17 : decode cX2_wayLength 17 = .ok (.iload_n 2, 1) := dk_28 (dk_at dksX2_wayLength_0 17 rfl rfl)
theorem dX2_wayLength_18 : decode cX2_wayLength 18 = .ok (.invokevirtual 326, 3) := dk_182 1 70 (dk_at dksX2_wayLength_0 18 rfl rfl)
theorem dX2_wayLength_21 : decode cX2_wayLength 21 = .ok (.ifCond .eq 10, 3) := dk_153 0 10 (dk_at dksX2_wayLength_0 21 rfl rfl)
theorem dX2_wayLength_24 : decode cX2_wayLength 24 = .ok (.aload_n 0, 1) := dk_42 (dk_at dksX2_wayLength_1 0 rfl rfl)
theorem dX2_wayLength_25 : decode cX2_wayLength 25 = .ok (.getfield 264, 3) := dk_180 1 8 (dk_at dksX2_wayLength_1 1 rfl rfl)
theorem dX2_wayLength_28 : decode cX2_wayLength 28 = .ok (.goto 4, 3) := dk_167 0 4 (dk_at dksX2_wayLength_1 4 rfl rfl)
theorem dX2_wayLength_31 : decode cX2_wayLength 31 = .ok (.iconst (-1), 1) := dk_2 (dk_at dksX2_wayLength_1 7 rfl rfl)
theorem dX2_wayLength_32 : decode cX2_wayLength 32 = .ok (.ireturn, 1) := dk_172 (dk_at dksX2_wayLength_1 8 rfl rfl)
abbrev cX2_wayOf : ByteArray := prog_16_method_46_code
def yX2_wayOf : MethodName := ⟨RX2, "wayOf", "(II)Z"⟩
def dkwX2_wayOf_2 : List UInt8 := [162, 0, 7, 4, 167, 0, 4, 3, 172, 132, 3, 1, 167, 255, 204, 3, 172]
abbrev dktX2_wayOf_2 : List UInt8 := dkwX2_wayOf_2 ++ []
def dkwX2_wayOf_1 : List UInt8 := [182, 0, 233, 159, 0, 6, 167, 0, 27, 42, 29, 27, 28, 182, 1, 17, 42, 27, 28, 182, 0, 233, 18, 236]
abbrev dktX2_wayOf_1 : List UInt8 := dkwX2_wayOf_1 ++ dktX2_wayOf_2
def dkwX2_wayOf_0 : List UInt8 := [42, 182, 1, 14, 3, 62, 29, 16, 10, 162, 0, 52, 42, 29, 27, 28, 182, 1, 4, 42, 27, 28]
abbrev dktX2_wayOf_0 : List UInt8 := dkwX2_wayOf_0 ++ dktX2_wayOf_1
theorem dksX2_wayOf_0 : cX2_wayOf.data.toList.drop 0 = dktX2_wayOf_0 := by decide +kernel
theorem dksX2_wayOf_1 : cX2_wayOf.data.toList.drop 22 = dktX2_wayOf_1 := dk_seg dksX2_wayOf_0 22 rfl rfl
theorem dksX2_wayOf_2 : cX2_wayOf.data.toList.drop 46 = dktX2_wayOf_2 := dk_seg dksX2_wayOf_1 24 rfl rfl
theorem dX2_wayOf_0 : decode cX2_wayOf 0 = .ok (.aload_n 0, 1) := dk_42 (dk_at dksX2_wayOf_0 0 rfl rfl)
theorem dX2_wayOf_1 : decode cX2_wayOf 1 = .ok (.invokevirtual 270, 3) := dk_182 1 14 (dk_at dksX2_wayOf_0 1 rfl rfl)
theorem dX2_wayOf_4 : decode cX2_wayOf 4 = .ok (.iconst 0, 1) := dk_3 (dk_at dksX2_wayOf_0 4 rfl rfl)
theorem dX2_wayOf_5 : decode cX2_wayOf 5 = .ok (.istore_n 3, 1) := dk_62 (dk_at dksX2_wayOf_0 5 rfl rfl)
theorem dX2_wayOf_6 : decode cX2_wayOf 6 = .ok (.iload_n 3, 1) := dk_29 (dk_at dksX2_wayOf_0 6 rfl rfl)
theorem dX2_wayOf_7 : decode cX2_wayOf 7 = .ok (.bipush 10, 2) := dk_16 10 (dk_at dksX2_wayOf_0 7 rfl rfl)
theorem dX2_wayOf_9 : decode cX2_wayOf 9 = .ok (.if_icmp .ge 52, 3) := dk_162 0 52 (dk_at dksX2_wayOf_0 9 rfl rfl)
theorem dX2_wayOf_12 : decode cX2_wayOf 12 = .ok (.aload_n 0, 1) := dk_42 (dk_at dksX2_wayOf_0 12 rfl rfl)
theorem dX2_wayOf_13 : decode cX2_wayOf 13 = .ok (.iload_n 3, 1) := dk_29 (dk_at dksX2_wayOf_0 13 rfl rfl)
theorem dX2_wayOf_14 : decode cX2_wayOf 14 = .ok (.iload_n 1, 1) := dk_27 (dk_at dksX2_wayOf_0 14 rfl rfl)
theorem dX2_wayOf_15 : decode cX2_wayOf 15 = .ok (.iload_n 2, 1) := dk_28 (dk_at dksX2_wayOf_0 15 rfl rfl)
theorem dX2_wayOf_16 : decode cX2_wayOf 16 = .ok (.invokevirtual 260, 3) := dk_182 1 4 (dk_at dksX2_wayOf_0 16 rfl rfl)
theorem dX2_wayOf_19 : decode cX2_wayOf 19 = .ok (.aload_n 0, 1) := dk_42 (dk_at dksX2_wayOf_0 19 rfl rfl)
theorem dX2_wayOf_20 : decode cX2_wayOf 20 = .ok (.iload_n 1, 1) := dk_27 (dk_at dksX2_wayOf_0 20 rfl rfl)
theorem dX2_wayOf_21 : decode cX2_wayOf 21 = .ok (.iload_n 2, 1) := dk_28 (dk_at dksX2_wayOf_0 21 rfl rfl)
theorem dX2_wayOf_22 : decode cX2_wayOf 22 = .ok (.invokevirtual 233, 3) := dk_182 0 233 (dk_at dksX2_wayOf_1 0 rfl rfl)
theorem dX2_wayOf_25 : decode cX2_wayOf 25 = .ok (.if_icmp .eq 6, 3) := dk_159 0 6 (dk_at dksX2_wayOf_1 3 rfl rfl)
theorem dX2_wayOf_28 : decode cX2_wayOf 28 = .ok (.goto 27, 3) := dk_167 0 27 (dk_at dksX2_wayOf_1 6 rfl rfl)
theorem dX2_wayOf_31 : decode cX2_wayOf 31 = .ok (.aload_n 0, 1) := dk_42 (dk_at dksX2_wayOf_1 9 rfl rfl)
theorem dX2_wayOf_32 : decode cX2_wayOf 32 = .ok (.iload_n 3, 1) := dk_29 (dk_at dksX2_wayOf_1 10 rfl rfl)
theorem dX2_wayOf_33 : decode cX2_wayOf 33 = .ok (.iload_n 1, 1) := dk_27 (dk_at dksX2_wayOf_1 11 rfl rfl)
theorem dX2_wayOf_34 : decode cX2_wayOf 34 = .ok (.iload_n 2, 1) := dk_28 (dk_at dksX2_wayOf_1 12 rfl rfl)
theorem dX2_wayOf_35 : decode cX2_wayOf 35 = .ok (.invokevirtual 273, 3) := dk_182 1 17 (dk_at dksX2_wayOf_1 13 rfl rfl)
theorem dX2_wayOf_38 : decode cX2_wayOf 38 = .ok (.aload_n 0, 1) := dk_42 (dk_at dksX2_wayOf_1 16 rfl rfl)
theorem dX2_wayOf_39 : decode cX2_wayOf 39 = .ok (.iload_n 1, 1) := dk_27 (dk_at dksX2_wayOf_1 17 rfl rfl)
theorem dX2_wayOf_40 : decode cX2_wayOf 40 = .ok (.iload_n 2, 1) := dk_28 (dk_at dksX2_wayOf_1 18 rfl rfl)
theorem dX2_wayOf_41 : decode cX2_wayOf 41 = .ok (.invokevirtual 233, 3) := dk_182 0 233 (dk_at dksX2_wayOf_1 19 rfl rfl)
theorem dX2_wayOf_44 : decode cX2_wayOf 44 = .ok (.ldc 236, 2) := dk_18 236 (dk_at dksX2_wayOf_1 22 rfl rfl)
theorem dX2_wayOf_46 : decode cX2_wayOf 46 = .ok (.if_icmp .ge 7, 3) := dk_162 0 7 (dk_at dksX2_wayOf_2 0 rfl rfl)
theorem dX2_wayOf_49 : decode cX2_wayOf 49 = .ok (.iconst 1, 1) := dk_4 (dk_at dksX2_wayOf_2 3 rfl rfl)
theorem dX2_wayOf_50 : decode cX2_wayOf 50 = .ok (.goto 4, 3) := dk_167 0 4 (dk_at dksX2_wayOf_2 4 rfl rfl)
theorem dX2_wayOf_53 : decode cX2_wayOf 53 = .ok (.iconst 0, 1) := dk_3 (dk_at dksX2_wayOf_2 7 rfl rfl)
theorem dX2_wayOf_54 : decode cX2_wayOf 54 = .ok (.ireturn, 1) := dk_172 (dk_at dksX2_wayOf_2 8 rfl rfl)
theorem dX2_wayOf_55 : decode cX2_wayOf 55 = .ok (.iinc 3 1, 3) := dk_132 3 1 (dk_at dksX2_wayOf_2 9 rfl rfl)
theorem dX2_wayOf_58 : decode cX2_wayOf 58 = .ok (.goto (-52), 3) := dk_167 255 204 (dk_at dksX2_wayOf_2 12 rfl rfl)
theorem dX2_wayOf_61 : decode cX2_wayOf 61 = .ok (.iconst 0, 1) := dk_3 (dk_at dksX2_wayOf_2 15 rfl rfl)
theorem dX2_wayOf_62 : decode cX2_wayOf 62 = .ok (.ireturn, 1) := dk_172 (dk_at dksX2_wayOf_2 16 rfl rfl)
abbrev cX2_wayStep : ByteArray := prog_16_method_80_code
def yX2_wayStep : MethodName := ⟨RX2, "wayStep", "(III)I"⟩
def dkwX2_wayStep_3 : List UInt8 := [167, 0, 4, 3, 172]
abbrev dktX2_wayStep_3 : List UInt8 := dkwX2_wayStep_3 ++ []
def dkwX2_wayStep_2 : List UInt8 := [153, 0, 7, 3, 167, 0, 4, 5, 181, 0, 73, 21, 4, 153, 0, 12, 42, 180, 0, 64, 29, 46]
abbrev dktX2_wayStep_2 : List UInt8 := dkwX2_wayStep_2 ++ dktX2_wayStep_3
def dkwX2_wayStep_1 : List UInt8 := [29, 3, 42, 180, 1, 8, 4, 100, 184, 0, 102, 153, 0, 7, 4, 167, 0, 4, 3, 54, 4, 42, 21, 4]
abbrev dktX2_wayStep_1 : List UInt8 := dkwX2_wayStep_1 ++ dktX2_wayStep_2
def dkwX2_wayStep_0 : List UInt8 := [42, 42, 27, 28, 182, 1, 55, 182, 1, 58, 154, 0, 5, 3, 172, 42, 27, 28, 182, 1, 70, 153, 0, 21]
abbrev dktX2_wayStep_0 : List UInt8 := dkwX2_wayStep_0 ++ dktX2_wayStep_1
theorem dksX2_wayStep_0 : cX2_wayStep.data.toList.drop 0 = dktX2_wayStep_0 := by decide +kernel
theorem dksX2_wayStep_1 : cX2_wayStep.data.toList.drop 24 = dktX2_wayStep_1 := dk_seg dksX2_wayStep_0 24 rfl rfl
theorem dksX2_wayStep_2 : cX2_wayStep.data.toList.drop 48 = dktX2_wayStep_2 := dk_seg dksX2_wayStep_1 24 rfl rfl
theorem dksX2_wayStep_3 : cX2_wayStep.data.toList.drop 70 = dktX2_wayStep_3 := dk_seg dksX2_wayStep_2 22 rfl rfl
theorem dX2_wayStep_0 : decode cX2_wayStep 0 = .ok (.aload_n 0, 1) := dk_42 (dk_at dksX2_wayStep_0 0 rfl rfl)
theorem dX2_wayStep_1 : decode cX2_wayStep 1 = .ok (.aload_n 0, 1) := dk_42 (dk_at dksX2_wayStep_0 1 rfl rfl)
theorem dX2_wayStep_2 : decode cX2_wayStep 2 = .ok (.iload_n 1, 1) := dk_27 (dk_at dksX2_wayStep_0 2 rfl rfl)
theorem dX2_wayStep_3 : decode cX2_wayStep 3 = .ok (.iload_n 2, 1) := dk_28 (dk_at dksX2_wayStep_0 3 rfl rfl)
theorem dX2_wayStep_4 : decode cX2_wayStep 4 = .ok (.invokevirtual 311, 3) := dk_182 1 55 (dk_at dksX2_wayStep_0 4 rfl rfl)
theorem dX2_wayStep_7 : decode cX2_wayStep 7 = .ok (.invokevirtual 314, 3) := dk_182 1 58 (dk_at dksX2_wayStep_0 7 rfl rfl)
theorem dX2_wayStep_10 : decode cX2_wayStep 10 = .ok (.ifCond .ne 5, 3) := dk_154 0 5 (dk_at dksX2_wayStep_0 10 rfl rfl)
theorem dX2_wayStep_13 : decode cX2_wayStep 13 = .ok (.iconst 0, 1) := dk_3 (dk_at dksX2_wayStep_0 13 rfl rfl)
theorem dX2_wayStep_14 : decode cX2_wayStep 14 = .ok (.ireturn, 1) := dk_172 (dk_at dksX2_wayStep_0 14 rfl rfl)
theorem dX2_wayStep_15 : decode cX2_wayStep 15 = .ok (.aload_n 0, 1) := dk_42 (dk_at dksX2_wayStep_0 15 rfl rfl)
theorem dX2_wayStep_16 : decode cX2_wayStep 16 = .ok (.iload_n 1, 1) := dk_27 (dk_at dksX2_wayStep_0 16 rfl rfl)
theorem dX2_wayStep_17 : decode cX2_wayStep 17 = .ok (.iload_n 2, 1) := dk_28 (dk_at dksX2_wayStep_0 17 rfl rfl)
theorem dX2_wayStep_18 : decode cX2_wayStep 18 = .ok (.invokevirtual 326, 3) := dk_182 1 70 (dk_at dksX2_wayStep_0 18 rfl rfl)
theorem dX2_wayStep_21 : decode cX2_wayStep 21 = .ok (.ifCond .eq 21, 3) := dk_153 0 21 (dk_at dksX2_wayStep_0 21 rfl rfl)
theorem dX2_wayStep_24 : decode cX2_wayStep 24 = .ok (.iload_n 3, 1) := dk_29 (dk_at dksX2_wayStep_1 0 rfl rfl)
theorem dX2_wayStep_25 : decode cX2_wayStep 25 = .ok (.iconst 0, 1) := dk_3 (dk_at dksX2_wayStep_1 1 rfl rfl)
theorem dX2_wayStep_26 : decode cX2_wayStep 26 = .ok (.aload_n 0, 1) := dk_42 (dk_at dksX2_wayStep_1 2 rfl rfl)
theorem dX2_wayStep_27 : decode cX2_wayStep 27 = .ok (.getfield 264, 3) := dk_180 1 8 (dk_at dksX2_wayStep_1 3 rfl rfl)
theorem dX2_wayStep_30 : decode cX2_wayStep 30 = .ok (.iconst 1, 1) := dk_4 (dk_at dksX2_wayStep_1 6 rfl rfl)
theorem dX2_wayStep_31 : decode cX2_wayStep 31 = .ok (.isub, 1) := dk_100 (dk_at dksX2_wayStep_1 7 rfl rfl)
theorem dX2_wayStep_32 : decode cX2_wayStep 32 = .ok (.invokestatic 102, 3) := dk_184 0 102 (dk_at dksX2_wayStep_1 8 rfl rfl)
theorem dX2_wayStep_35 : decode cX2_wayStep 35 = .ok (.ifCond .eq 7, 3) := dk_153 0 7 (dk_at dksX2_wayStep_1 11 rfl rfl)
theorem dX2_wayStep_38 : decode cX2_wayStep 38 = .ok (.iconst 1, 1) := dk_4 (dk_at dksX2_wayStep_1 14 rfl rfl)
theorem dX2_wayStep_39 : decode cX2_wayStep 39 = .ok (.goto 4, 3) := dk_167 0 4 (dk_at dksX2_wayStep_1 15 rfl rfl)
theorem dX2_wayStep_42 : decode cX2_wayStep 42 = .ok (.iconst 0, 1) := dk_3 (dk_at dksX2_wayStep_1 18 rfl rfl)
theorem dX2_wayStep_43 : decode cX2_wayStep 43 = .ok (.istore 4, 2) := dk_54 4 (dk_at dksX2_wayStep_1 19 rfl rfl)
theorem dX2_wayStep_45 : decode cX2_wayStep 45 = .ok (.aload_n 0, 1) := dk_42 (dk_at dksX2_wayStep_1 21 rfl rfl)
theorem dX2_wayStep_46 : decode cX2_wayStep 46 = .ok (.iload 4, 2) := dk_21 4 (dk_at dksX2_wayStep_1 22 rfl rfl)
theorem dX2_wayStep_48 : decode cX2_wayStep 48 = .ok (.ifCond .eq 7, 3) := dk_153 0 7 (dk_at dksX2_wayStep_2 0 rfl rfl)
theorem dX2_wayStep_51 : decode cX2_wayStep 51 = .ok (.iconst 0, 1) := dk_3 (dk_at dksX2_wayStep_2 3 rfl rfl)
theorem dX2_wayStep_52 : decode cX2_wayStep 52 = .ok (.goto 4, 3) := dk_167 0 4 (dk_at dksX2_wayStep_2 4 rfl rfl)
theorem dX2_wayStep_55 : decode cX2_wayStep 55 = .ok (.iconst 2, 1) := dk_5 (dk_at dksX2_wayStep_2 7 rfl rfl)
theorem dX2_wayStep_56 : decode cX2_wayStep 56 = .ok (.putfield 73, 3) := dk_181 0 73 (dk_at dksX2_wayStep_2 8 rfl rfl)
theorem dX2_wayStep_59 : decode cX2_wayStep 59 = .ok (.iload 4, 2) := dk_21 4 (dk_at dksX2_wayStep_2 11 rfl rfl)
theorem dX2_wayStep_61 : decode cX2_wayStep 61 = .ok (.ifCond .eq 12, 3) := dk_153 0 12 (dk_at dksX2_wayStep_2 13 rfl rfl)
theorem dX2_wayStep_64 : decode cX2_wayStep 64 = .ok (.aload_n 0, 1) := dk_42 (dk_at dksX2_wayStep_2 16 rfl rfl)
theorem dX2_wayStep_65 : decode cX2_wayStep 65 = .ok (.getfield 64, 3) := dk_180 0 64 (dk_at dksX2_wayStep_2 17 rfl rfl)
theorem dX2_wayStep_68 : decode cX2_wayStep 68 = .ok (.iload_n 3, 1) := dk_29 (dk_at dksX2_wayStep_2 20 rfl rfl)
theorem dX2_wayStep_69 : decode cX2_wayStep 69 = .ok (.iaload, 1) := dk_46 (dk_at dksX2_wayStep_2 21 rfl rfl)
theorem dX2_wayStep_70 : decode cX2_wayStep 70 = .ok (.goto 4, 3) := dk_167 0 4 (dk_at dksX2_wayStep_3 0 rfl rfl)
theorem dX2_wayStep_73 : decode cX2_wayStep 73 = .ok (.iconst 0, 1) := dk_3 (dk_at dksX2_wayStep_3 3 rfl rfl)
theorem dX2_wayStep_74 : decode cX2_wayStep 74 = .ok (.ireturn, 1) := dk_172 (dk_at dksX2_wayStep_3 4 rfl rfl)
abbrev cX2_isTight : ByteArray := prog_16_method_81_code
def yX2_isTight : MethodName := ⟨RX2, "isTight", "(IZ)Z"⟩
def dkwX2_isTight_4 : List UInt8 := [172]
abbrev dktX2_isTight_4 : List UInt8 := dkwX2_isTight_4 ++ []
def dkwX2_isTight_3 : List UInt8 := [159, 0, 23, 42, 29, 21, 4, 182, 1, 61, 42, 27, 6, 182, 0, 214, 160, 0, 7, 4, 167, 0, 4, 3]
abbrev dktX2_isTight_3 : List UInt8 := dkwX2_isTight_3 ++ dktX2_isTight_4
def dkwX2_isTight_2 : List UInt8 := [42, 27, 5, 182, 0, 214, 160, 0, 7, 4, 167, 0, 38, 3, 167, 0, 34, 42, 27, 6, 182, 0, 214, 2]
abbrev dktX2_isTight_2 : List UInt8 := dkwX2_isTight_2 ++ dktX2_isTight_3
def dkwX2_isTight_1 : List UInt8 := [3, 182, 0, 214, 62, 42, 27, 4, 182, 0, 214, 54, 4, 28, 153, 0, 27, 42, 29, 21, 4, 182, 1, 64]
abbrev dktX2_isTight_1 : List UInt8 := dkwX2_isTight_1 ++ dktX2_isTight_2
def dkwX2_isTight_0 : List UInt8 := [42, 42, 27, 182, 1, 39, 182, 1, 58, 153, 0, 11, 42, 27, 182, 0, 223, 153, 0, 5, 3, 172, 42, 27]
abbrev dktX2_isTight_0 : List UInt8 := dkwX2_isTight_0 ++ dktX2_isTight_1
theorem dksX2_isTight_0 : cX2_isTight.data.toList.drop 0 = dktX2_isTight_0 := by decide +kernel
theorem dksX2_isTight_1 : cX2_isTight.data.toList.drop 24 = dktX2_isTight_1 := dk_seg dksX2_isTight_0 24 rfl rfl
theorem dksX2_isTight_2 : cX2_isTight.data.toList.drop 48 = dktX2_isTight_2 := dk_seg dksX2_isTight_1 24 rfl rfl
theorem dksX2_isTight_3 : cX2_isTight.data.toList.drop 72 = dktX2_isTight_3 := dk_seg dksX2_isTight_2 24 rfl rfl
theorem dksX2_isTight_4 : cX2_isTight.data.toList.drop 96 = dktX2_isTight_4 := dk_seg dksX2_isTight_3 24 rfl rfl
theorem dX2_isTight_0 : decode cX2_isTight 0 = .ok (.aload_n 0, 1) := dk_42 (dk_at dksX2_isTight_0 0 rfl rfl)
theorem dX2_isTight_1 : decode cX2_isTight 1 = .ok (.aload_n 0, 1) := dk_42 (dk_at dksX2_isTight_0 1 rfl rfl)
theorem dX2_isTight_2 : decode cX2_isTight 2 = .ok (.iload_n 1, 1) := dk_27 (dk_at dksX2_isTight_0 2 rfl rfl)
theorem dX2_isTight_3 : decode cX2_isTight 3 = .ok (.invokevirtual 295, 3) := dk_182 1 39 (dk_at dksX2_isTight_0 3 rfl rfl)
theorem dX2_isTight_6 : decode cX2_isTight 6 = .ok (.invokevirtual 314, 3) := dk_182 1 58 (dk_at dksX2_isTight_0 6 rfl rfl)
theorem dX2_isTight_9 : decode cX2_isTight 9 = .ok (.ifCond .eq 11, 3) := dk_153 0 11 (dk_at dksX2_isTight_0 9 rfl rfl)
theorem dX2_isTight_12 : decode cX2_isTight 12 = .ok (.aload_n 0, 1) := dk_42 (dk_at dksX2_isTight_0 12 rfl rfl)
theorem dX2_isTight_13 : decode cX2_isTight 13 = .ok (.iload_n 1, 1) := dk_27 (dk_at dksX2_isTight_0 13 rfl rfl)
theorem dX2_isTight_14 : decode cX2_isTight 14 = .ok (.invokevirtual 223, 3) := dk_182 0 223 (dk_at dksX2_isTight_0 14 rfl rfl)
theorem dX2_isTight_17 : decode cX2_isTight 17 = .ok (.ifCond .eq 5, 3) := dk_153 0 5 (dk_at dksX2_isTight_0 17 rfl rfl)
theorem dX2_isTight_20 : decode cX2_isTight 20 = .ok (.iconst 0, 1) := dk_3 (dk_at dksX2_isTight_0 20 rfl rfl)
theorem dX2_isTight_21 : decode cX2_isTight 21 = .ok (.ireturn, 1) := dk_172 (dk_at dksX2_isTight_0 21 rfl rfl)
theorem dX2_isTight_22 : decode cX2_isTight 22 = .ok (.aload_n 0, 1) := dk_42 (dk_at dksX2_isTight_0 22 rfl rfl)
theorem dX2_isTight_23 : decode cX2_isTight 23 = .ok (.iload_n 1, 1) := dk_27 (dk_at dksX2_isTight_0 23 rfl rfl)
theorem dX2_isTight_24 : decode cX2_isTight 24 = .ok (.iconst 0, 1) := dk_3 (dk_at dksX2_isTight_1 0 rfl rfl)
theorem dX2_isTight_25 : decode cX2_isTight 25 = .ok (.invokevirtual 214, 3) := dk_182 0 214 (dk_at dksX2_isTight_1 1 rfl rfl)
theorem dX2_isTight_28 : decode cX2_isTight 28 = .ok (.istore_n 3, 1) := dk_62 (dk_at dksX2_isTight_1 4 rfl rfl)
theorem dX2_isTight_29 : decode cX2_isTight 29 = .ok (.aload_n 0, 1) := dk_42 (dk_at dksX2_isTight_1 5 rfl rfl)
theorem dX2_isTight_30 : decode cX2_isTight 30 = .ok (.iload_n 1, 1) := dk_27 (dk_at dksX2_isTight_1 6 rfl rfl)
theorem dX2_isTight_31 : decode cX2_isTight 31 = .ok (.iconst 1, 1) := dk_4 (dk_at dksX2_isTight_1 7 rfl rfl)
theorem dX2_isTight_32 : decode cX2_isTight 32 = .ok (.invokevirtual 214, 3) := dk_182 0 214 (dk_at dksX2_isTight_1 8 rfl rfl)
theorem dX2_isTight_35 : decode cX2_isTight 35 = .ok (.istore 4, 2) := dk_54 4 (dk_at dksX2_isTight_1 11 rfl rfl)
theorem dX2_isTight_37 : decode cX2_isTight 37 = .ok (.iload_n 2, 1) := dk_28 (dk_at dksX2_isTight_1 13 rfl rfl)
theorem dX2_isTight_38 : decode cX2_isTight 38 = .ok (.ifCond .eq 27, 3) := dk_153 0 27 (dk_at dksX2_isTight_1 14 rfl rfl)
theorem dX2_isTight_41 : decode cX2_isTight 41 = .ok (.aload_n 0, 1) := dk_42 (dk_at dksX2_isTight_1 17 rfl rfl)
theorem dX2_isTight_42 : decode cX2_isTight 42 = .ok (.iload_n 3, 1) := dk_29 (dk_at dksX2_isTight_1 18 rfl rfl)
theorem dX2_isTight_43 : decode cX2_isTight 43 = .ok (.iload 4, 2) := dk_21 4 (dk_at dksX2_isTight_1 19 rfl rfl)
theorem dX2_isTight_45 : decode cX2_isTight 45 = .ok (.invokevirtual 320, 3) := dk_182 1 64 (dk_at dksX2_isTight_1 21 rfl rfl)
theorem dX2_isTight_48 : decode cX2_isTight 48 = .ok (.aload_n 0, 1) := dk_42 (dk_at dksX2_isTight_2 0 rfl rfl)
theorem dX2_isTight_49 : decode cX2_isTight 49 = .ok (.iload_n 1, 1) := dk_27 (dk_at dksX2_isTight_2 1 rfl rfl)
theorem dX2_isTight_50 : decode cX2_isTight 50 = .ok (.iconst 2, 1) := dk_5 (dk_at dksX2_isTight_2 2 rfl rfl)
theorem dX2_isTight_51 : decode cX2_isTight 51 = .ok (.invokevirtual 214, 3) := dk_182 0 214 (dk_at dksX2_isTight_2 3 rfl rfl)
theorem dX2_isTight_54 : decode cX2_isTight 54 = .ok (.if_icmp .ne 7, 3) := dk_160 0 7 (dk_at dksX2_isTight_2 6 rfl rfl)
theorem dX2_isTight_57 : decode cX2_isTight 57 = .ok (.iconst 1, 1) := dk_4 (dk_at dksX2_isTight_2 9 rfl rfl)
theorem dX2_isTight_58 : decode cX2_isTight 58 = .ok (.goto 38, 3) := dk_167 0 38 (dk_at dksX2_isTight_2 10 rfl rfl)
theorem dX2_isTight_61 : decode cX2_isTight 61 = .ok (.iconst 0, 1) := dk_3 (dk_at dksX2_isTight_2 13 rfl rfl)
theorem dX2_isTight_62 : decode cX2_isTight 62 = .ok (.goto 34, 3) := dk_167 0 34 (dk_at dksX2_isTight_2 14 rfl rfl)
theorem dX2_isTight_65 : decode cX2_isTight 65 = .ok (.aload_n 0, 1) := dk_42 (dk_at dksX2_isTight_2 17 rfl rfl)
theorem dX2_isTight_66 : decode cX2_isTight 66 = .ok (.iload_n 1, 1) := dk_27 (dk_at dksX2_isTight_2 18 rfl rfl)
theorem dX2_isTight_67 : decode cX2_isTight 67 = .ok (.iconst 3, 1) := dk_6 (dk_at dksX2_isTight_2 19 rfl rfl)
theorem dX2_isTight_68 : decode cX2_isTight 68 = .ok (.invokevirtual 214, 3) := dk_182 0 214 (dk_at dksX2_isTight_2 20 rfl rfl)
theorem dX2_isTight_71 : decode cX2_isTight 71 = .ok (.iconst (-1), 1) := dk_2 (dk_at dksX2_isTight_2 23 rfl rfl)
theorem dX2_isTight_72 : decode cX2_isTight 72 = .ok (.if_icmp .eq 23, 3) := dk_159 0 23 (dk_at dksX2_isTight_3 0 rfl rfl)
theorem dX2_isTight_75 : decode cX2_isTight 75 = .ok (.aload_n 0, 1) := dk_42 (dk_at dksX2_isTight_3 3 rfl rfl)
theorem dX2_isTight_76 : decode cX2_isTight 76 = .ok (.iload_n 3, 1) := dk_29 (dk_at dksX2_isTight_3 4 rfl rfl)
theorem dX2_isTight_77 : decode cX2_isTight 77 = .ok (.iload 4, 2) := dk_21 4 (dk_at dksX2_isTight_3 5 rfl rfl)
theorem dX2_isTight_79 : decode cX2_isTight 79 = .ok (.invokevirtual 317, 3) := dk_182 1 61 (dk_at dksX2_isTight_3 7 rfl rfl)
theorem dX2_isTight_82 : decode cX2_isTight 82 = .ok (.aload_n 0, 1) := dk_42 (dk_at dksX2_isTight_3 10 rfl rfl)
theorem dX2_isTight_83 : decode cX2_isTight 83 = .ok (.iload_n 1, 1) := dk_27 (dk_at dksX2_isTight_3 11 rfl rfl)
theorem dX2_isTight_84 : decode cX2_isTight 84 = .ok (.iconst 3, 1) := dk_6 (dk_at dksX2_isTight_3 12 rfl rfl)
theorem dX2_isTight_85 : decode cX2_isTight 85 = .ok (.invokevirtual 214, 3) := dk_182 0 214 (dk_at dksX2_isTight_3 13 rfl rfl)
theorem dX2_isTight_88 : decode cX2_isTight 88 = .ok (.if_icmp .ne 7, 3) := dk_160 0 7 (dk_at dksX2_isTight_3 16 rfl rfl)
theorem dX2_isTight_91 : decode cX2_isTight 91 = .ok (.iconst 1, 1) := dk_4 (dk_at dksX2_isTight_3 19 rfl rfl)
theorem dX2_isTight_92 : decode cX2_isTight 92 = .ok (.goto 4, 3) := dk_167 0 4 (dk_at dksX2_isTight_3 20 rfl rfl)
theorem dX2_isTight_95 : decode cX2_isTight 95 = .ok (.iconst 0, 1) := dk_3 (dk_at dksX2_isTight_3 23 rfl rfl)
theorem dX2_isTight_96 : decode cX2_isTight 96 = .ok (.ireturn, 1) := dk_172 (dk_at dksX2_isTight_4 0 rfl rfl)
abbrev cX2_isNeeded : ByteArray := prog_16_method_83_code
def yX2_isNeeded : MethodName := ⟨RX2, "isNeeded", "(I)Z"⟩
def dkwX2_isNeeded_1 : List UInt8 := [3, 172]
abbrev dktX2_isNeeded_1 : List UInt8 := dkwX2_isNeeded_1 ++ []
def dkwX2_isNeeded_0 : List UInt8 := [42, 42, 27, 182, 1, 39, 182, 1, 58, 153, 0, 15, 42, 27, 182, 1, 73, 153, 0, 7, 4, 167, 0, 4]
abbrev dktX2_isNeeded_0 : List UInt8 := dkwX2_isNeeded_0 ++ dktX2_isNeeded_1
theorem dksX2_isNeeded_0 : cX2_isNeeded.data.toList.drop 0 = dktX2_isNeeded_0 := by decide +kernel
theorem dksX2_isNeeded_1 : cX2_isNeeded.data.toList.drop 24 = dktX2_isNeeded_1 := dk_seg dksX2_isNeeded_0 24 rfl rfl
theorem dX2_isNeeded_0 : decode cX2_isNeeded 0 = .ok (.aload_n 0, 1) := dk_42 (dk_at dksX2_isNeeded_0 0 rfl rfl)
theorem dX2_isNeeded_1 : decode cX2_isNeeded 1 = .ok (.aload_n 0, 1) := dk_42 (dk_at dksX2_isNeeded_0 1 rfl rfl)
theorem dX2_isNeeded_2 : decode cX2_isNeeded 2 = .ok (.iload_n 1, 1) := dk_27 (dk_at dksX2_isNeeded_0 2 rfl rfl)
theorem dX2_isNeeded_3 : decode cX2_isNeeded 3 = .ok (.invokevirtual 295, 3) := dk_182 1 39 (dk_at dksX2_isNeeded_0 3 rfl rfl)
theorem dX2_isNeeded_6 : decode cX2_isNeeded 6 = .ok (.invokevirtual 314, 3) := dk_182 1 58 (dk_at dksX2_isNeeded_0 6 rfl rfl)
theorem dX2_isNeeded_9 : decode cX2_isNeeded 9 = .ok (.ifCond .eq 15, 3) := dk_153 0 15 (dk_at dksX2_isNeeded_0 9 rfl rfl)
theorem dX2_isNeeded_12 : decode cX2_isNeeded 12 = .ok (.aload_n 0, 1) := dk_42 (dk_at dksX2_isNeeded_0 12 rfl rfl)
theorem dX2_isNeeded_13 : decode cX2_isNeeded 13 = .ok (.iload_n 1, 1) := dk_27 (dk_at dksX2_isNeeded_0 13 rfl rfl)
theorem dX2_isNeeded_14 : decode cX2_isNeeded 14 = .ok (.invokevirtual 329, 3) := dk_182 1 73 (dk_at dksX2_isNeeded_0 14 rfl rfl)
theorem dX2_isNeeded_17 : decode cX2_isNeeded 17 = .ok (.ifCond .eq 7, 3) := dk_153 0 7 (dk_at dksX2_isNeeded_0 17 rfl rfl)
theorem dX2_isNeeded_20 : decode cX2_isNeeded 20 = .ok (.iconst 1, 1) := dk_4 (dk_at dksX2_isNeeded_0 20 rfl rfl)
theorem dX2_isNeeded_21 : decode cX2_isNeeded 21 = .ok (.goto 4, 3) := dk_167 0 4 (dk_at dksX2_isNeeded_0 21 rfl rfl)
theorem dX2_isNeeded_24 : decode cX2_isNeeded 24 = .ok (.iconst 0, 1) := dk_3 (dk_at dksX2_isNeeded_1 0 rfl rfl)
theorem dX2_isNeeded_25 : decode cX2_isNeeded 25 = .ok (.ireturn, 1) := dk_172 (dk_at dksX2_isNeeded_1 1 rfl rfl)
abbrev cX2_isNeededNow : ByteArray := prog_16_method_82_code
def yX2_isNeededNow : MethodName := ⟨RX2, "isNeededNow", "(I)Z"⟩
def dkwX2_isNeededNow_4 : List UInt8 := [180, 0, 55, 21, 4, 42, 180, 0, 58, 21, 4, 46, 79, 132, 4, 1, 167, 255, 202, 29, 172]
abbrev dktX2_isNeededNow_4 : List UInt8 := dkwX2_isNeededNow_4 ++ []
def dkwX2_isNeededNow_3 : List UInt8 := [180, 0, 55, 21, 4, 46, 42, 180, 0, 58, 21, 4, 46, 159, 0, 7, 4, 167, 0, 4, 3, 62, 42]
abbrev dktX2_isNeededNow_3 : List UInt8 := dkwX2_isNeededNow_3 ++ dktX2_isNeededNow_4
def dkwX2_isNeededNow_2 : List UInt8 := [182, 1, 1, 61, 3, 62, 3, 54, 4, 21, 4, 42, 180, 0, 55, 190, 162, 0, 50, 29, 154, 0, 20, 42]
abbrev dktX2_isNeededNow_2 : List UInt8 := dkwX2_isNeededNow_2 ++ dktX2_isNeededNow_3
def dkwX2_isNeededNow_1 : List UInt8 := [180, 0, 58, 28, 42, 180, 0, 55, 28, 46, 79, 132, 2, 1, 167, 255, 232, 42, 4, 27, 120, 2]
abbrev dktX2_isNeededNow_1 : List UInt8 := dkwX2_isNeededNow_1 ++ dktX2_isNeededNow_2
def dkwX2_isNeededNow_0 : List UInt8 := [42, 27, 182, 0, 223, 153, 0, 5, 3, 172, 3, 61, 28, 42, 180, 0, 55, 190, 162, 0, 21, 42]
abbrev dktX2_isNeededNow_0 : List UInt8 := dkwX2_isNeededNow_0 ++ dktX2_isNeededNow_1
theorem dksX2_isNeededNow_0 : cX2_isNeededNow.data.toList.drop 0 = dktX2_isNeededNow_0 := by decide +kernel
theorem dksX2_isNeededNow_1 : cX2_isNeededNow.data.toList.drop 22 = dktX2_isNeededNow_1 := dk_seg dksX2_isNeededNow_0 22 rfl rfl
theorem dksX2_isNeededNow_2 : cX2_isNeededNow.data.toList.drop 44 = dktX2_isNeededNow_2 := dk_seg dksX2_isNeededNow_1 22 rfl rfl
theorem dksX2_isNeededNow_3 : cX2_isNeededNow.data.toList.drop 68 = dktX2_isNeededNow_3 := dk_seg dksX2_isNeededNow_2 24 rfl rfl
theorem dksX2_isNeededNow_4 : cX2_isNeededNow.data.toList.drop 91 = dktX2_isNeededNow_4 := dk_seg dksX2_isNeededNow_3 23 rfl rfl
theorem dX2_isNeededNow_0 : decode cX2_isNeededNow 0 = .ok (.aload_n 0, 1) := dk_42 (dk_at dksX2_isNeededNow_0 0 rfl rfl)
theorem dX2_isNeededNow_1 : decode cX2_isNeededNow 1 = .ok (.iload_n 1, 1) := dk_27 (dk_at dksX2_isNeededNow_0 1 rfl rfl)
theorem dX2_isNeededNow_2 : decode cX2_isNeededNow 2 = .ok (.invokevirtual 223, 3) := dk_182 0 223 (dk_at dksX2_isNeededNow_0 2 rfl rfl)
theorem dX2_isNeededNow_5 : decode cX2_isNeededNow 5 = .ok (.ifCond .eq 5, 3) := dk_153 0 5 (dk_at dksX2_isNeededNow_0 5 rfl rfl)
theorem dX2_isNeededNow_8 : decode cX2_isNeededNow 8 = .ok (.iconst 0, 1) := dk_3 (dk_at dksX2_isNeededNow_0 8 rfl rfl)
theorem dX2_isNeededNow_9 : decode cX2_isNeededNow 9 = .ok (.ireturn, 1) := dk_172 (dk_at dksX2_isNeededNow_0 9 rfl rfl)
theorem dX2_isNeededNow_10 : decode cX2_isNeededNow 10 = .ok (.iconst 0, 1) := dk_3 (dk_at dksX2_isNeededNow_0 10 rfl rfl)
theorem dX2_isNeededNow_11 : decode cX2_isNeededNow 11 = .ok (.istore_n 2, 1) := dk_61 (dk_at dksX2_isNeededNow_0 11 rfl rfl)
theorem dX2_isNeededNow_12 : decode cX2_isNeededNow 12 = .ok (.iload_n 2, 1) := dk_28 (dk_at dksX2_isNeededNow_0 12 rfl rfl)
theorem dX2_isNeededNow_13 : decode cX2_isNeededNow 13 = .ok (.aload_n 0, 1) := dk_42 (dk_at dksX2_isNeededNow_0 13 rfl rfl)
theorem dX2_isNeededNow_14 : decode cX2_isNeededNow 14 = .ok (.getfield 55, 3) := dk_180 0 55 (dk_at dksX2_isNeededNow_0 14 rfl rfl)
theorem dX2_isNeededNow_17 : decode cX2_isNeededNow 17 = .ok (.arraylength, 1) := dk_190 (dk_at dksX2_isNeededNow_0 17 rfl rfl)
theorem dX2_isNeededNow_18 : decode cX2_isNeededNow 18 = .ok (.if_icmp .ge 21, 3) := dk_162 0 21 (dk_at dksX2_isNeededNow_0 18 rfl rfl)
theorem dX2_isNeededNow_21 : decode cX2_isNeededNow 21 = .ok (.aload_n 0, 1) := dk_42 (dk_at dksX2_isNeededNow_0 21 rfl rfl)
theorem dX2_isNeededNow_22 : decode cX2_isNeededNow 22 = .ok (.getfield 58, 3) := dk_180 0 58 (dk_at dksX2_isNeededNow_1 0 rfl rfl)
theorem dX2_isNeededNow_25 : decode cX2_isNeededNow 25 = .ok (.iload_n 2, 1) := dk_28 (dk_at dksX2_isNeededNow_1 3 rfl rfl)
theorem dX2_isNeededNow_26 : decode cX2_isNeededNow 26 = .ok (.aload_n 0, 1) := dk_42 (dk_at dksX2_isNeededNow_1 4 rfl rfl)
theorem dX2_isNeededNow_27 : decode cX2_isNeededNow 27 = .ok (.getfield 55, 3) := dk_180 0 55 (dk_at dksX2_isNeededNow_1 5 rfl rfl)
theorem dX2_isNeededNow_30 : decode cX2_isNeededNow 30 = .ok (.iload_n 2, 1) := dk_28 (dk_at dksX2_isNeededNow_1 8 rfl rfl)
theorem dX2_isNeededNow_31 : decode cX2_isNeededNow 31 = .ok (.iaload, 1) := dk_46 (dk_at dksX2_isNeededNow_1 9 rfl rfl)
theorem dX2_isNeededNow_32 : decode cX2_isNeededNow 32 = .ok (.iastore, 1) := dk_79 (dk_at dksX2_isNeededNow_1 10 rfl rfl)
theorem dX2_isNeededNow_33 : decode cX2_isNeededNow 33 = .ok (.iinc 2 1, 3) := dk_132 2 1 (dk_at dksX2_isNeededNow_1 11 rfl rfl)
theorem dX2_isNeededNow_36 : decode cX2_isNeededNow 36 = .ok (.goto (-24), 3) := dk_167 255 232 (dk_at dksX2_isNeededNow_1 14 rfl rfl)
theorem dX2_isNeededNow_39 : decode cX2_isNeededNow 39 = .ok (.aload_n 0, 1) := dk_42 (dk_at dksX2_isNeededNow_1 17 rfl rfl)
theorem dX2_isNeededNow_40 : decode cX2_isNeededNow 40 = .ok (.iconst 1, 1) := dk_4 (dk_at dksX2_isNeededNow_1 18 rfl rfl)
theorem dX2_isNeededNow_41 : decode cX2_isNeededNow 41 = .ok (.iload_n 1, 1) := dk_27 (dk_at dksX2_isNeededNow_1 19 rfl rfl)
theorem dX2_isNeededNow_42 : decode cX2_isNeededNow 42 = .ok (.ishl, 1) := dk_120 (dk_at dksX2_isNeededNow_1 20 rfl rfl)
theorem dX2_isNeededNow_43 : decode cX2_isNeededNow 43 = .ok (.iconst (-1), 1) := dk_2 (dk_at dksX2_isNeededNow_1 21 rfl rfl)
theorem dX2_isNeededNow_44 : decode cX2_isNeededNow 44 = .ok (.invokevirtual 257, 3) := dk_182 1 1 (dk_at dksX2_isNeededNow_2 0 rfl rfl)
theorem dX2_isNeededNow_47 : decode cX2_isNeededNow 47 = .ok (.istore_n 2, 1) := dk_61 (dk_at dksX2_isNeededNow_2 3 rfl rfl)
theorem dX2_isNeededNow_48 : decode cX2_isNeededNow 48 = .ok (.iconst 0, 1) := dk_3 (dk_at dksX2_isNeededNow_2 4 rfl rfl)
theorem dX2_isNeededNow_49 : decode cX2_isNeededNow 49 = .ok (.istore_n 3, 1) := dk_62 (dk_at dksX2_isNeededNow_2 5 rfl rfl)
theorem dX2_isNeededNow_50 : decode cX2_isNeededNow 50 = .ok (.iconst 0, 1) := dk_3 (dk_at dksX2_isNeededNow_2 6 rfl rfl)
theorem dX2_isNeededNow_51 : decode cX2_isNeededNow 51 = .ok (.istore 4, 2) := dk_54 4 (dk_at dksX2_isNeededNow_2 7 rfl rfl)
theorem dX2_isNeededNow_53 : decode cX2_isNeededNow 53 = .ok (.iload 4, 2) := dk_21 4 (dk_at dksX2_isNeededNow_2 9 rfl rfl)
theorem dX2_isNeededNow_55 : decode cX2_isNeededNow 55 = .ok (.aload_n 0, 1) := dk_42 (dk_at dksX2_isNeededNow_2 11 rfl rfl)
theorem dX2_isNeededNow_56 : decode cX2_isNeededNow 56 = .ok (.getfield 55, 3) := dk_180 0 55 (dk_at dksX2_isNeededNow_2 12 rfl rfl)
theorem dX2_isNeededNow_59 : decode cX2_isNeededNow 59 = .ok (.arraylength, 1) := dk_190 (dk_at dksX2_isNeededNow_2 15 rfl rfl)
theorem dX2_isNeededNow_60 : decode cX2_isNeededNow 60 = .ok (.if_icmp .ge 50, 3) := dk_162 0 50 (dk_at dksX2_isNeededNow_2 16 rfl rfl)
theorem dX2_isNeededNow_63 : decode cX2_isNeededNow 63 = .ok (.iload_n 3, 1) := dk_29 (dk_at dksX2_isNeededNow_2 19 rfl rfl)
theorem dX2_isNeededNow_64 : decode cX2_isNeededNow 64 = .ok (.ifCond .ne 20, 3) := dk_154 0 20 (dk_at dksX2_isNeededNow_2 20 rfl rfl)
theorem dX2_isNeededNow_67 : decode cX2_isNeededNow 67 = .ok (.aload_n 0, 1) := dk_42 (dk_at dksX2_isNeededNow_2 23 rfl rfl)
theorem dX2_isNeededNow_68 : decode cX2_isNeededNow 68 = .ok (.getfield 55, 3) := dk_180 0 55 (dk_at dksX2_isNeededNow_3 0 rfl rfl)
theorem dX2_isNeededNow_71 : decode cX2_isNeededNow 71 = .ok (.iload 4, 2) := dk_21 4 (dk_at dksX2_isNeededNow_3 3 rfl rfl)
theorem dX2_isNeededNow_73 : decode cX2_isNeededNow 73 = .ok (.iaload, 1) := dk_46 (dk_at dksX2_isNeededNow_3 5 rfl rfl)
theorem dX2_isNeededNow_74 : decode cX2_isNeededNow 74 = .ok (.aload_n 0, 1) := dk_42 (dk_at dksX2_isNeededNow_3 6 rfl rfl)
theorem dX2_isNeededNow_75 : decode cX2_isNeededNow 75 = .ok (.getfield 58, 3) := dk_180 0 58 (dk_at dksX2_isNeededNow_3 7 rfl rfl)
theorem dX2_isNeededNow_78 : decode cX2_isNeededNow 78 = .ok (.iload 4, 2) := dk_21 4 (dk_at dksX2_isNeededNow_3 10 rfl rfl)
theorem dX2_isNeededNow_80 : decode cX2_isNeededNow 80 = .ok (.iaload, 1) := dk_46 (dk_at dksX2_isNeededNow_3 12 rfl rfl)
theorem dX2_isNeededNow_81 : decode cX2_isNeededNow 81 = .ok (.if_icmp .eq 7, 3) := dk_159 0 7 (dk_at dksX2_isNeededNow_3 13 rfl rfl)
theorem dX2_isNeededNow_84 : decode cX2_isNeededNow 84 = .ok (.iconst 1, 1) := dk_4 (dk_at dksX2_isNeededNow_3 16 rfl rfl)
theorem dX2_isNeededNow_85 : decode cX2_isNeededNow 85 = .ok (.goto 4, 3) := dk_167 0 4 (dk_at dksX2_isNeededNow_3 17 rfl rfl)
theorem dX2_isNeededNow_88 : decode cX2_isNeededNow 88 = .ok (.iconst 0, 1) := dk_3 (dk_at dksX2_isNeededNow_3 20 rfl rfl)
theorem dX2_isNeededNow_89 : decode cX2_isNeededNow 89 = .ok (.istore_n 3, 1) := dk_62 (dk_at dksX2_isNeededNow_3 21 rfl rfl)
theorem dX2_isNeededNow_90 : decode cX2_isNeededNow 90 = .ok (.aload_n 0, 1) := dk_42 (dk_at dksX2_isNeededNow_3 22 rfl rfl)
theorem dX2_isNeededNow_91 : decode cX2_isNeededNow 91 = .ok (.getfield 55, 3) := dk_180 0 55 (dk_at dksX2_isNeededNow_4 0 rfl rfl)
theorem dX2_isNeededNow_94 : decode cX2_isNeededNow 94 = .ok (.iload 4, 2) := dk_21 4 (dk_at dksX2_isNeededNow_4 3 rfl rfl)
theorem dX2_isNeededNow_96 : decode cX2_isNeededNow 96 = .ok (.aload_n 0, 1) := dk_42 (dk_at dksX2_isNeededNow_4 5 rfl rfl)
theorem dX2_isNeededNow_97 : decode cX2_isNeededNow 97 = .ok (.getfield 58, 3) := dk_180 0 58 (dk_at dksX2_isNeededNow_4 6 rfl rfl)
theorem dX2_isNeededNow_100 : decode cX2_isNeededNow 100 = .ok (.iload 4, 2) := dk_21 4 (dk_at dksX2_isNeededNow_4 9 rfl rfl)
theorem dX2_isNeededNow_102 : decode cX2_isNeededNow 102 = .ok (.iaload, 1) := dk_46 (dk_at dksX2_isNeededNow_4 11 rfl rfl)
theorem dX2_isNeededNow_103 : decode cX2_isNeededNow 103 = .ok (.iastore, 1) := dk_79 (dk_at dksX2_isNeededNow_4 12 rfl rfl)
theorem dX2_isNeededNow_104 : decode cX2_isNeededNow 104 = .ok (.iinc 4 1, 3) := dk_132 4 1 (dk_at dksX2_isNeededNow_4 13 rfl rfl)
theorem dX2_isNeededNow_107 : decode cX2_isNeededNow 107 = .ok (.goto (-54), 3) := dk_167 255 202 (dk_at dksX2_isNeededNow_4 16 rfl rfl)
theorem dX2_isNeededNow_110 : decode cX2_isNeededNow 110 = .ok (.iload_n 3, 1) := dk_29 (dk_at dksX2_isNeededNow_4 19 rfl rfl)
theorem dX2_isNeededNow_111 : decode cX2_isNeededNow 111 = .ok (.ireturn, 1) := dk_172 (dk_at dksX2_isNeededNow_4 20 rfl rfl)
abbrev cX2_loose : ByteArray := prog_16_method_84_code
def yX2_loose : MethodName := ⟨RX2, "loose", "()I"⟩
def dkwX2_loose_2 : List UInt8 := [172]
abbrev dktX2_loose_2 : List UInt8 := dkwX2_loose_2 ++ []
def dkwX2_loose_1 : List UInt8 := [28, 182, 1, 49, 2, 160, 0, 9, 4, 28, 120, 167, 0, 4, 3, 128, 60, 132, 2, 1, 167, 255, 226, 27]
abbrev dktX2_loose_1 : List UInt8 := dkwX2_loose_1 ++ dktX2_loose_2
def dkwX2_loose_0 : List UInt8 := [42, 4, 182, 1, 58, 154, 0, 5, 3, 172, 3, 60, 3, 61, 28, 42, 182, 0, 230, 162, 0, 28, 27, 42]
abbrev dktX2_loose_0 : List UInt8 := dkwX2_loose_0 ++ dktX2_loose_1
theorem dksX2_loose_0 : cX2_loose.data.toList.drop 0 = dktX2_loose_0 := by decide +kernel
theorem dksX2_loose_1 : cX2_loose.data.toList.drop 24 = dktX2_loose_1 := dk_seg dksX2_loose_0 24 rfl rfl
theorem dksX2_loose_2 : cX2_loose.data.toList.drop 48 = dktX2_loose_2 := dk_seg dksX2_loose_1 24 rfl rfl
theorem dX2_loose_0 : decode cX2_loose 0 = .ok (.aload_n 0, 1) := dk_42 (dk_at dksX2_loose_0 0 rfl rfl)
theorem dX2_loose_1 : decode cX2_loose 1 = .ok (.iconst 1, 1) := dk_4 (dk_at dksX2_loose_0 1 rfl rfl)
theorem dX2_loose_2 : decode cX2_loose 2 = .ok (.invokevirtual 314, 3) := dk_182 1 58 (dk_at dksX2_loose_0 2 rfl rfl)
theorem dX2_loose_5 : decode cX2_loose 5 = .ok (.ifCond .ne 5, 3) := dk_154 0 5 (dk_at dksX2_loose_0 5 rfl rfl)
theorem dX2_loose_8 : decode cX2_loose 8 = .ok (.iconst 0, 1) := dk_3 (dk_at dksX2_loose_0 8 rfl rfl)
theorem dX2_loose_9 : decode cX2_loose 9 = .ok (.ireturn, 1) := dk_172 (dk_at dksX2_loose_0 9 rfl rfl)
theorem dX2_loose_10 : decode cX2_loose 10 = .ok (.iconst 0, 1) := dk_3 (dk_at dksX2_loose_0 10 rfl rfl)
theorem dX2_loose_11 : decode cX2_loose 11 = .ok (.istore_n 1, 1) := dk_60 (dk_at dksX2_loose_0 11 rfl rfl)
theorem dX2_loose_12 : decode cX2_loose 12 = .ok (.iconst 0, 1) := dk_3 (dk_at dksX2_loose_0 12 rfl rfl)
theorem dX2_loose_13 : decode cX2_loose 13 = .ok (.istore_n 2, 1) := dk_61 (dk_at dksX2_loose_0 13 rfl rfl)
theorem dX2_loose_14 : decode cX2_loose 14 = .ok (.iload_n 2, 1) := dk_28 (dk_at dksX2_loose_0 14 rfl rfl)
theorem dX2_loose_15 : decode cX2_loose 15 = .ok (.aload_n 0, 1) := dk_42 (dk_at dksX2_loose_0 15 rfl rfl)
theorem dX2_loose_16 : decode cX2_loose 16 = .ok (.invokevirtual 230, 3) := dk_182 0 230 (dk_at dksX2_loose_0 16 rfl rfl)
theorem dX2_loose_19 : decode cX2_loose 19 = .ok (.if_icmp .ge 28, 3) := dk_162 0 28 (dk_at dksX2_loose_0 19 rfl rfl)
theorem dX2_loose_22 : decode cX2_loose 22 = .ok (.iload_n 1, 1) := dk_27 (dk_at dksX2_loose_0 22 rfl rfl)
theorem dX2_loose_23 : decode cX2_loose 23 = .ok (.aload_n 0, 1) := dk_42 (dk_at dksX2_loose_0 23 rfl rfl)
theorem dX2_loose_24 : decode cX2_loose 24 = .ok (.iload_n 2, 1) := dk_28 (dk_at dksX2_loose_1 0 rfl rfl)
theorem dX2_loose_25 : decode cX2_loose 25 = .ok (.invokevirtual 305, 3) := dk_182 1 49 (dk_at dksX2_loose_1 1 rfl rfl)
theorem dX2_loose_28 : decode cX2_loose 28 = .ok (.iconst (-1), 1) := dk_2 (dk_at dksX2_loose_1 4 rfl rfl)
theorem dX2_loose_29 : decode cX2_loose 29 = .ok (.if_icmp .ne 9, 3) := dk_160 0 9 (dk_at dksX2_loose_1 5 rfl rfl)
theorem dX2_loose_32 : decode cX2_loose 32 = .ok (.iconst 1, 1) := dk_4 (dk_at dksX2_loose_1 8 rfl rfl)
theorem dX2_loose_33 : decode cX2_loose 33 = .ok (.iload_n 2, 1) := dk_28 (dk_at dksX2_loose_1 9 rfl rfl)
theorem dX2_loose_34 : decode cX2_loose 34 = .ok (.ishl, 1) := dk_120 (dk_at dksX2_loose_1 10 rfl rfl)
theorem dX2_loose_35 : decode cX2_loose 35 = .ok (.goto 4, 3) := dk_167 0 4 (dk_at dksX2_loose_1 11 rfl rfl)
theorem dX2_loose_38 : decode cX2_loose 38 = .ok (.iconst 0, 1) := dk_3 (dk_at dksX2_loose_1 14 rfl rfl)
theorem dX2_loose_39 : decode cX2_loose 39 = .ok (.ior, 1) := dk_128 (dk_at dksX2_loose_1 15 rfl rfl)
theorem dX2_loose_40 : decode cX2_loose 40 = .ok (.istore_n 1, 1) := dk_60 (dk_at dksX2_loose_1 16 rfl rfl)
theorem dX2_loose_41 : decode cX2_loose 41 = .ok (.iinc 2 1, 3) := dk_132 2 1 (dk_at dksX2_loose_1 17 rfl rfl)
theorem dX2_loose_44 : decode cX2_loose 44 = .ok (.goto (-30), 3) := dk_167 255 226 (dk_at dksX2_loose_1 20 rfl rfl)
theorem dX2_loose_47 : decode cX2_loose 47 = .ok (.iload_n 1, 1) := dk_27 (dk_at dksX2_loose_1 23 rfl rfl)
theorem dX2_loose_48 : decode cX2_loose 48 = .ok (.ireturn, 1) := dk_172 (dk_at dksX2_loose_2 0 rfl rfl)
abbrev cX2_critical : ByteArray := prog_16_method_85_code
def yX2_critical : MethodName := ⟨RX2, "critical", "()I"⟩
def dkwX2_critical_1 : List UInt8 := [28, 182, 1, 67, 154, 0, 9, 4, 28, 120, 167, 0, 4, 3, 128, 60, 132, 2, 1, 167, 255, 227, 27, 172]
abbrev dktX2_critical_1 : List UInt8 := dkwX2_critical_1 ++ []
def dkwX2_critical_0 : List UInt8 := [42, 4, 182, 1, 58, 154, 0, 5, 3, 172, 3, 60, 3, 61, 28, 42, 182, 0, 230, 162, 0, 27, 27, 42]
abbrev dktX2_critical_0 : List UInt8 := dkwX2_critical_0 ++ dktX2_critical_1
theorem dksX2_critical_0 : cX2_critical.data.toList.drop 0 = dktX2_critical_0 := by decide +kernel
theorem dksX2_critical_1 : cX2_critical.data.toList.drop 24 = dktX2_critical_1 := dk_seg dksX2_critical_0 24 rfl rfl
theorem dX2_critical_0 : decode cX2_critical 0 = .ok (.aload_n 0, 1) := dk_42 (dk_at dksX2_critical_0 0 rfl rfl)
theorem dX2_critical_1 : decode cX2_critical 1 = .ok (.iconst 1, 1) := dk_4 (dk_at dksX2_critical_0 1 rfl rfl)
theorem dX2_critical_2 : decode cX2_critical 2 = .ok (.invokevirtual 314, 3) := dk_182 1 58 (dk_at dksX2_critical_0 2 rfl rfl)
theorem dX2_critical_5 : decode cX2_critical 5 = .ok (.ifCond .ne 5, 3) := dk_154 0 5 (dk_at dksX2_critical_0 5 rfl rfl)
theorem dX2_critical_8 : decode cX2_critical 8 = .ok (.iconst 0, 1) := dk_3 (dk_at dksX2_critical_0 8 rfl rfl)
theorem dX2_critical_9 : decode cX2_critical 9 = .ok (.ireturn, 1) := dk_172 (dk_at dksX2_critical_0 9 rfl rfl)
theorem dX2_critical_10 : decode cX2_critical 10 = .ok (.iconst 0, 1) := dk_3 (dk_at dksX2_critical_0 10 rfl rfl)
theorem dX2_critical_11 : decode cX2_critical 11 = .ok (.istore_n 1, 1) := dk_60 (dk_at dksX2_critical_0 11 rfl rfl)
theorem dX2_critical_12 : decode cX2_critical 12 = .ok (.iconst 0, 1) := dk_3 (dk_at dksX2_critical_0 12 rfl rfl)
theorem dX2_critical_13 : decode cX2_critical 13 = .ok (.istore_n 2, 1) := dk_61 (dk_at dksX2_critical_0 13 rfl rfl)
theorem dX2_critical_14 : decode cX2_critical 14 = .ok (.iload_n 2, 1) := dk_28 (dk_at dksX2_critical_0 14 rfl rfl)
theorem dX2_critical_15 : decode cX2_critical 15 = .ok (.aload_n 0, 1) := dk_42 (dk_at dksX2_critical_0 15 rfl rfl)
theorem dX2_critical_16 : decode cX2_critical 16 = .ok (.invokevirtual 230, 3) := dk_182 0 230 (dk_at dksX2_critical_0 16 rfl rfl)
theorem dX2_critical_19 : decode cX2_critical 19 = .ok (.if_icmp .ge 27, 3) := dk_162 0 27 (dk_at dksX2_critical_0 19 rfl rfl)
theorem dX2_critical_22 : decode cX2_critical 22 = .ok (.iload_n 1, 1) := dk_27 (dk_at dksX2_critical_0 22 rfl rfl)
theorem dX2_critical_23 : decode cX2_critical 23 = .ok (.aload_n 0, 1) := dk_42 (dk_at dksX2_critical_0 23 rfl rfl)
theorem dX2_critical_24 : decode cX2_critical 24 = .ok (.iload_n 2, 1) := dk_28 (dk_at dksX2_critical_1 0 rfl rfl)
theorem dX2_critical_25 : decode cX2_critical 25 = .ok (.invokevirtual 323, 3) := dk_182 1 67 (dk_at dksX2_critical_1 1 rfl rfl)
theorem dX2_critical_28 : decode cX2_critical 28 = .ok (.ifCond .ne 9, 3) := dk_154 0 9 (dk_at dksX2_critical_1 4 rfl rfl)
theorem dX2_critical_31 : decode cX2_critical 31 = .ok (.iconst 1, 1) := dk_4 (dk_at dksX2_critical_1 7 rfl rfl)
theorem dX2_critical_32 : decode cX2_critical 32 = .ok (.iload_n 2, 1) := dk_28 (dk_at dksX2_critical_1 8 rfl rfl)
theorem dX2_critical_33 : decode cX2_critical 33 = .ok (.ishl, 1) := dk_120 (dk_at dksX2_critical_1 9 rfl rfl)
theorem dX2_critical_34 : decode cX2_critical 34 = .ok (.goto 4, 3) := dk_167 0 4 (dk_at dksX2_critical_1 10 rfl rfl)
theorem dX2_critical_37 : decode cX2_critical 37 = .ok (.iconst 0, 1) := dk_3 (dk_at dksX2_critical_1 13 rfl rfl)
theorem dX2_critical_38 : decode cX2_critical 38 = .ok (.ior, 1) := dk_128 (dk_at dksX2_critical_1 14 rfl rfl)
theorem dX2_critical_39 : decode cX2_critical 39 = .ok (.istore_n 1, 1) := dk_60 (dk_at dksX2_critical_1 15 rfl rfl)
theorem dX2_critical_40 : decode cX2_critical 40 = .ok (.iinc 2 1, 3) := dk_132 2 1 (dk_at dksX2_critical_1 16 rfl rfl)
theorem dX2_critical_43 : decode cX2_critical 43 = .ok (.goto (-29), 3) := dk_167 255 227 (dk_at dksX2_critical_1 19 rfl rfl)
theorem dX2_critical_46 : decode cX2_critical 46 = .ok (.iload_n 1, 1) := dk_27 (dk_at dksX2_critical_1 22 rfl rfl)
theorem dX2_critical_47 : decode cX2_critical 47 = .ok (.ireturn, 1) := dk_172 (dk_at dksX2_critical_1 23 rfl rfl)
abbrev cX2_mustPrecede : ByteArray := prog_16_method_86_code
def yX2_mustPrecede : MethodName := ⟨RX2, "mustPrecede", "(II)Z"⟩
def dkwX2_mustPrecede_1 : List UInt8 := [167, 0, 4, 3, 172]
abbrev dktX2_mustPrecede_1 : List UInt8 := dkwX2_mustPrecede_1 ++ []
def dkwX2_mustPrecede_0 : List UInt8 := [42, 42, 27, 28, 182, 1, 55, 182, 1, 58, 153, 0, 16, 42, 27, 28, 182, 1, 64, 155, 0, 7, 4]
abbrev dktX2_mustPrecede_0 : List UInt8 := dkwX2_mustPrecede_0 ++ dktX2_mustPrecede_1
theorem dksX2_mustPrecede_0 : cX2_mustPrecede.data.toList.drop 0 = dktX2_mustPrecede_0 := by decide +kernel
theorem dksX2_mustPrecede_1 : cX2_mustPrecede.data.toList.drop 23 = dktX2_mustPrecede_1 := dk_seg dksX2_mustPrecede_0 23 rfl rfl
theorem dX2_mustPrecede_0 : decode cX2_mustPrecede 0 = .ok (.aload_n 0, 1) := dk_42 (dk_at dksX2_mustPrecede_0 0 rfl rfl)
theorem dX2_mustPrecede_1 : decode cX2_mustPrecede 1 = .ok (.aload_n 0, 1) := dk_42 (dk_at dksX2_mustPrecede_0 1 rfl rfl)
theorem dX2_mustPrecede_2 : decode cX2_mustPrecede 2 = .ok (.iload_n 1, 1) := dk_27 (dk_at dksX2_mustPrecede_0 2 rfl rfl)
theorem dX2_mustPrecede_3 : decode cX2_mustPrecede 3 = .ok (.iload_n 2, 1) := dk_28 (dk_at dksX2_mustPrecede_0 3 rfl rfl)
theorem dX2_mustPrecede_4 : decode cX2_mustPrecede 4 = .ok (.invokevirtual 311, 3) := dk_182 1 55 (dk_at dksX2_mustPrecede_0 4 rfl rfl)
theorem dX2_mustPrecede_7 : decode cX2_mustPrecede 7 = .ok (.invokevirtual 314, 3) := dk_182 1 58 (dk_at dksX2_mustPrecede_0 7 rfl rfl)
theorem dX2_mustPrecede_10 : decode cX2_mustPrecede 10 = .ok (.ifCond .eq 16, 3) := dk_153 0 16 (dk_at dksX2_mustPrecede_0 10 rfl rfl)
theorem dX2_mustPrecede_13 : decode cX2_mustPrecede 13 = .ok (.aload_n 0, 1) := dk_42 (dk_at dksX2_mustPrecede_0 13 rfl rfl)
theorem dX2_mustPrecede_14 : decode cX2_mustPrecede 14 = .ok (.iload_n 1, 1) := dk_27 (dk_at dksX2_mustPrecede_0 14 rfl rfl)
theorem dX2_mustPrecede_15 : decode cX2_mustPrecede 15 = .ok (.iload_n 2, 1) := dk_28 (dk_at dksX2_mustPrecede_0 15 rfl rfl)
theorem dX2_mustPrecede_16 : decode cX2_mustPrecede 16 = .ok (.invokevirtual 320, 3) := dk_182 1 64 (dk_at dksX2_mustPrecede_0 16 rfl rfl)
theorem dX2_mustPrecede_19 : decode cX2_mustPrecede 19 = .ok (.ifCond .lt 7, 3) := dk_155 0 7 (dk_at dksX2_mustPrecede_0 19 rfl rfl)
theorem dX2_mustPrecede_22 : decode cX2_mustPrecede 22 = .ok (.iconst 1, 1) := dk_4 (dk_at dksX2_mustPrecede_0 22 rfl rfl)
theorem dX2_mustPrecede_23 : decode cX2_mustPrecede 23 = .ok (.goto 4, 3) := dk_167 0 4 (dk_at dksX2_mustPrecede_1 0 rfl rfl)
theorem dX2_mustPrecede_26 : decode cX2_mustPrecede 26 = .ok (.iconst 0, 1) := dk_3 (dk_at dksX2_mustPrecede_1 3 rfl rfl)
theorem dX2_mustPrecede_27 : decode cX2_mustPrecede 27 = .ok (.ireturn, 1) := dk_172 (dk_at dksX2_mustPrecede_1 4 rfl rfl)
abbrev cX2_canMeet : ByteArray := prog_16_method_87_code
def yX2_canMeet : MethodName := ⟨RX2, "canMeet", "(II)Z"⟩
def dkwX2_canMeet_1 : List UInt8 := [28, 182, 1, 61, 155, 0, 7, 4, 167, 0, 4, 3, 172]
abbrev dktX2_canMeet_1 : List UInt8 := dkwX2_canMeet_1 ++ []
def dkwX2_canMeet_0 : List UInt8 := [42, 42, 27, 28, 182, 1, 55, 182, 1, 58, 153, 0, 25, 42, 27, 28, 182, 1, 64, 157, 0, 16, 42, 27]
abbrev dktX2_canMeet_0 : List UInt8 := dkwX2_canMeet_0 ++ dktX2_canMeet_1
theorem dksX2_canMeet_0 : cX2_canMeet.data.toList.drop 0 = dktX2_canMeet_0 := by decide +kernel
theorem dksX2_canMeet_1 : cX2_canMeet.data.toList.drop 24 = dktX2_canMeet_1 := dk_seg dksX2_canMeet_0 24 rfl rfl
theorem dX2_canMeet_0 : decode cX2_canMeet 0 = .ok (.aload_n 0, 1) := dk_42 (dk_at dksX2_canMeet_0 0 rfl rfl)
theorem dX2_canMeet_1 : decode cX2_canMeet 1 = .ok (.aload_n 0, 1) := dk_42 (dk_at dksX2_canMeet_0 1 rfl rfl)
theorem dX2_canMeet_2 : decode cX2_canMeet 2 = .ok (.iload_n 1, 1) := dk_27 (dk_at dksX2_canMeet_0 2 rfl rfl)
theorem dX2_canMeet_3 : decode cX2_canMeet 3 = .ok (.iload_n 2, 1) := dk_28 (dk_at dksX2_canMeet_0 3 rfl rfl)
theorem dX2_canMeet_4 : decode cX2_canMeet 4 = .ok (.invokevirtual 311, 3) := dk_182 1 55 (dk_at dksX2_canMeet_0 4 rfl rfl)
theorem dX2_canMeet_7 : decode cX2_canMeet 7 = .ok (.invokevirtual 314, 3) := dk_182 1 58 (dk_at dksX2_canMeet_0 7 rfl rfl)
theorem dX2_canMeet_10 : decode cX2_canMeet 10 = .ok (.ifCond .eq 25, 3) := dk_153 0 25 (dk_at dksX2_canMeet_0 10 rfl rfl)
theorem dX2_canMeet_13 : decode cX2_canMeet 13 = .ok (.aload_n 0, 1) := dk_42 (dk_at dksX2_canMeet_0 13 rfl rfl)
theorem dX2_canMeet_14 : decode cX2_canMeet 14 = .ok (.iload_n 1, 1) := dk_27 (dk_at dksX2_canMeet_0 14 rfl rfl)
theorem dX2_canMeet_15 : decode cX2_canMeet 15 = .ok (.iload_n 2, 1) := dk_28 (dk_at dksX2_canMeet_0 15 rfl rfl)
theorem dX2_canMeet_16 : decode cX2_canMeet 16 = .ok (.invokevirtual 320, 3) := dk_182 1 64 (dk_at dksX2_canMeet_0 16 rfl rfl)
theorem dX2_canMeet_19 : decode cX2_canMeet 19 = .ok (.ifCond .gt 16, 3) := dk_157 0 16 (dk_at dksX2_canMeet_0 19 rfl rfl)
theorem dX2_canMeet_22 : decode cX2_canMeet 22 = .ok (.aload_n 0, 1) := dk_42 (dk_at dksX2_canMeet_0 22 rfl rfl)
theorem dX2_canMeet_23 : decode cX2_canMeet 23 = .ok (.iload_n 1, 1) := dk_27 (dk_at dksX2_canMeet_0 23 rfl rfl)
theorem dX2_canMeet_24 : decode cX2_canMeet 24 = .ok (.iload_n 2, 1) := dk_28 (dk_at dksX2_canMeet_1 0 rfl rfl)
theorem dX2_canMeet_25 : decode cX2_canMeet 25 = .ok (.invokevirtual 317, 3) := dk_182 1 61 (dk_at dksX2_canMeet_1 1 rfl rfl)
theorem dX2_canMeet_28 : decode cX2_canMeet 28 = .ok (.ifCond .lt 7, 3) := dk_155 0 7 (dk_at dksX2_canMeet_1 4 rfl rfl)
theorem dX2_canMeet_31 : decode cX2_canMeet 31 = .ok (.iconst 1, 1) := dk_4 (dk_at dksX2_canMeet_1 7 rfl rfl)
theorem dX2_canMeet_32 : decode cX2_canMeet 32 = .ok (.goto 4, 3) := dk_167 0 4 (dk_at dksX2_canMeet_1 8 rfl rfl)
theorem dX2_canMeet_35 : decode cX2_canMeet 35 = .ok (.iconst 0, 1) := dk_3 (dk_at dksX2_canMeet_1 11 rfl rfl)
theorem dX2_canMeet_36 : decode cX2_canMeet 36 = .ok (.ireturn, 1) := dk_172 (dk_at dksX2_canMeet_1 12 rfl rfl)
abbrev cX2_part : ByteArray := prog_16_method_89_code
def yX2_part : MethodName := ⟨RX2, "part", "(I)I"⟩
def dkwX2_part_0 : List UInt8 := [42, 42, 27, 182, 1, 32, 182, 1, 35, 153, 0, 11, 42, 27, 182, 1, 76, 167, 0, 4, 3, 172]
abbrev dktX2_part_0 : List UInt8 := dkwX2_part_0 ++ []
theorem dksX2_part_0 : cX2_part.data.toList.drop 0 = dktX2_part_0 := by decide +kernel
theorem dX2_part_0 : decode cX2_part 0 = .ok (.aload_n 0, 1) := dk_42 (dk_at dksX2_part_0 0 rfl rfl)
theorem dX2_part_1 : decode cX2_part 1 = .ok (.aload_n 0, 1) := dk_42 (dk_at dksX2_part_0 1 rfl rfl)
theorem dX2_part_2 : decode cX2_part 2 = .ok (.iload_n 1, 1) := dk_27 (dk_at dksX2_part_0 2 rfl rfl)
theorem dX2_part_3 : decode cX2_part 3 = .ok (.invokevirtual 288, 3) := dk_182 1 32 (dk_at dksX2_part_0 3 rfl rfl)
theorem dX2_part_6 : decode cX2_part 6 = .ok (.invokevirtual 291, 3) := dk_182 1 35 (dk_at dksX2_part_0 6 rfl rfl)
theorem dX2_part_9 : decode cX2_part 9 = .ok (.ifCond .eq 11, 3) := dk_153 0 11 (dk_at dksX2_part_0 9 rfl rfl)
theorem dX2_part_12 : decode cX2_part 12 = .ok (.aload_n 0, 1) := dk_42 (dk_at dksX2_part_0 12 rfl rfl)
theorem dX2_part_13 : decode cX2_part 13 = .ok (.iload_n 1, 1) := dk_27 (dk_at dksX2_part_0 13 rfl rfl)
theorem dX2_part_14 : decode cX2_part 14 = .ok (.invokevirtual 332, 3) := dk_182 1 76 (dk_at dksX2_part_0 14 rfl rfl)
theorem dX2_part_17 : decode cX2_part 17 = .ok (.goto 4, 3) := dk_167 0 4 (dk_at dksX2_part_0 17 rfl rfl)
theorem dX2_part_20 : decode cX2_part 20 = .ok (.iconst 0, 1) := dk_3 (dk_at dksX2_part_0 20 rfl rfl)
theorem dX2_part_21 : decode cX2_part 21 = .ok (.ireturn, 1) := dk_172 (dk_at dksX2_part_0 21 rfl rfl)
abbrev cX2_partOf : ByteArray := prog_16_method_88_code
def yX2_partOf : MethodName := ⟨RX2, "partOf", "(I)I"⟩
def dkwX2_partOf_3 : List UInt8 := [132, 3, 1, 167, 255, 187, 28, 172]
abbrev dktX2_partOf_3 : List UInt8 := dkwX2_partOf_3 ++ []
def dkwX2_partOf_2 : List UInt8 := [182, 0, 223, 154, 0, 15, 21, 5, 28, 126, 153, 0, 8, 28, 21, 5, 128, 61, 132, 4, 1, 167, 255, 202]
abbrev dktX2_partOf_2 : List UInt8 := dkwX2_partOf_2 ++ dktX2_partOf_3
def dkwX2_partOf_1 : List UInt8 := [4, 42, 21, 4, 3, 182, 0, 214, 120, 4, 42, 21, 4, 4, 182, 0, 214, 120, 128, 54, 5, 42, 21, 4]
abbrev dktX2_partOf_1 : List UInt8 := dkwX2_partOf_1 ++ dktX2_partOf_2
def dkwX2_partOf_0 : List UInt8 := [4, 27, 120, 61, 3, 62, 29, 16, 10, 162, 0, 69, 3, 54, 4, 21, 4, 42, 182, 0, 220, 162, 0, 51]
abbrev dktX2_partOf_0 : List UInt8 := dkwX2_partOf_0 ++ dktX2_partOf_1
theorem dksX2_partOf_0 : cX2_partOf.data.toList.drop 0 = dktX2_partOf_0 := by decide +kernel
theorem dksX2_partOf_1 : cX2_partOf.data.toList.drop 24 = dktX2_partOf_1 := dk_seg dksX2_partOf_0 24 rfl rfl
theorem dksX2_partOf_2 : cX2_partOf.data.toList.drop 48 = dktX2_partOf_2 := dk_seg dksX2_partOf_1 24 rfl rfl
theorem dksX2_partOf_3 : cX2_partOf.data.toList.drop 72 = dktX2_partOf_3 := dk_seg dksX2_partOf_2 24 rfl rfl
theorem dX2_partOf_0 : decode cX2_partOf 0 = .ok (.iconst 1, 1) := dk_4 (dk_at dksX2_partOf_0 0 rfl rfl)
theorem dX2_partOf_1 : decode cX2_partOf 1 = .ok (.iload_n 1, 1) := dk_27 (dk_at dksX2_partOf_0 1 rfl rfl)
theorem dX2_partOf_2 : decode cX2_partOf 2 = .ok (.ishl, 1) := dk_120 (dk_at dksX2_partOf_0 2 rfl rfl)
theorem dX2_partOf_3 : decode cX2_partOf 3 = .ok (.istore_n 2, 1) := dk_61 (dk_at dksX2_partOf_0 3 rfl rfl)
theorem dX2_partOf_4 : decode cX2_partOf 4 = .ok (.iconst 0, 1) := dk_3 (dk_at dksX2_partOf_0 4 rfl rfl)
theorem dX2_partOf_5 : decode cX2_partOf 5 = .ok (.istore_n 3, 1) := dk_62 (dk_at dksX2_partOf_0 5 rfl rfl)
theorem dX2_partOf_6 : decode cX2_partOf 6 = .ok (.iload_n 3, 1) := dk_29 (dk_at dksX2_partOf_0 6 rfl rfl)
theorem dX2_partOf_7 : decode cX2_partOf 7 = .ok (.bipush 10, 2) := dk_16 10 (dk_at dksX2_partOf_0 7 rfl rfl)
theorem dX2_partOf_9 : decode cX2_partOf 9 = .ok (.if_icmp .ge 69, 3) := dk_162 0 69 (dk_at dksX2_partOf_0 9 rfl rfl)
theorem dX2_partOf_12 : decode cX2_partOf 12 = .ok (.iconst 0, 1) := dk_3 (dk_at dksX2_partOf_0 12 rfl rfl)
theorem dX2_partOf_13 : decode cX2_partOf 13 = .ok (.istore 4, 2) := dk_54 4 (dk_at dksX2_partOf_0 13 rfl rfl)
theorem dX2_partOf_15 : decode cX2_partOf 15 = .ok (.iload 4, 2) := dk_21 4 (dk_at dksX2_partOf_0 15 rfl rfl)
theorem dX2_partOf_17 : decode cX2_partOf 17 = .ok (.aload_n 0, 1) := dk_42 (dk_at dksX2_partOf_0 17 rfl rfl)
theorem dX2_partOf_18 : decode cX2_partOf 18 = .ok (.invokevirtual 220, 3) := dk_182 0 220 (dk_at dksX2_partOf_0 18 rfl rfl)
theorem dX2_partOf_21 : decode cX2_partOf 21 = .ok (.if_icmp .ge 51, 3) := dk_162 0 51 (dk_at dksX2_partOf_0 21 rfl rfl)
theorem dX2_partOf_24 : decode cX2_partOf 24 = .ok (.iconst 1, 1) := dk_4 (dk_at dksX2_partOf_1 0 rfl rfl)
theorem dX2_partOf_25 : decode cX2_partOf 25 = .ok (.aload_n 0, 1) := dk_42 (dk_at dksX2_partOf_1 1 rfl rfl)
theorem dX2_partOf_26 : decode cX2_partOf 26 = .ok (.iload 4, 2) := dk_21 4 (dk_at dksX2_partOf_1 2 rfl rfl)
theorem dX2_partOf_28 : decode cX2_partOf 28 = .ok (.iconst 0, 1) := dk_3 (dk_at dksX2_partOf_1 4 rfl rfl)
theorem dX2_partOf_29 : decode cX2_partOf 29 = .ok (.invokevirtual 214, 3) := dk_182 0 214 (dk_at dksX2_partOf_1 5 rfl rfl)
theorem dX2_partOf_32 : decode cX2_partOf 32 = .ok (.ishl, 1) := dk_120 (dk_at dksX2_partOf_1 8 rfl rfl)
theorem dX2_partOf_33 : decode cX2_partOf 33 = .ok (.iconst 1, 1) := dk_4 (dk_at dksX2_partOf_1 9 rfl rfl)
theorem dX2_partOf_34 : decode cX2_partOf 34 = .ok (.aload_n 0, 1) := dk_42 (dk_at dksX2_partOf_1 10 rfl rfl)
theorem dX2_partOf_35 : decode cX2_partOf 35 = .ok (.iload 4, 2) := dk_21 4 (dk_at dksX2_partOf_1 11 rfl rfl)
theorem dX2_partOf_37 : decode cX2_partOf 37 = .ok (.iconst 1, 1) := dk_4 (dk_at dksX2_partOf_1 13 rfl rfl)
theorem dX2_partOf_38 : decode cX2_partOf 38 = .ok (.invokevirtual 214, 3) := dk_182 0 214 (dk_at dksX2_partOf_1 14 rfl rfl)
theorem dX2_partOf_41 : decode cX2_partOf 41 = .ok (.ishl, 1) := dk_120 (dk_at dksX2_partOf_1 17 rfl rfl)
theorem dX2_partOf_42 : decode cX2_partOf 42 = .ok (.ior, 1) := dk_128 (dk_at dksX2_partOf_1 18 rfl rfl)
theorem dX2_partOf_43 : decode cX2_partOf 43 = .ok (.istore 5, 2) := dk_54 5 (dk_at dksX2_partOf_1 19 rfl rfl)
theorem dX2_partOf_45 : decode cX2_partOf 45 = .ok (.aload_n 0, 1) := dk_42 (dk_at dksX2_partOf_1 21 rfl rfl)
theorem dX2_partOf_46 : decode cX2_partOf 46 = .ok (.iload 4, 2) := dk_21 4 (dk_at dksX2_partOf_1 22 rfl rfl)
theorem dX2_partOf_48 : decode cX2_partOf 48 = .ok (.invokevirtual 223, 3) := dk_182 0 223 (dk_at dksX2_partOf_2 0 rfl rfl)
theorem dX2_partOf_51 : decode cX2_partOf 51 = .ok (.ifCond .ne 15, 3) := dk_154 0 15 (dk_at dksX2_partOf_2 3 rfl rfl)
theorem dX2_partOf_54 : decode cX2_partOf 54 = .ok (.iload 5, 2) := dk_21 5 (dk_at dksX2_partOf_2 6 rfl rfl)
theorem dX2_partOf_56 : decode cX2_partOf 56 = .ok (.iload_n 2, 1) := dk_28 (dk_at dksX2_partOf_2 8 rfl rfl)
theorem dX2_partOf_57 : decode cX2_partOf 57 = .ok (.iand, 1) := dk_126 (dk_at dksX2_partOf_2 9 rfl rfl)
theorem dX2_partOf_58 : decode cX2_partOf 58 = .ok (.ifCond .eq 8, 3) := dk_153 0 8 (dk_at dksX2_partOf_2 10 rfl rfl)
theorem dX2_partOf_61 : decode cX2_partOf 61 = .ok (.iload_n 2, 1) := dk_28 (dk_at dksX2_partOf_2 13 rfl rfl)
theorem dX2_partOf_62 : decode cX2_partOf 62 = .ok (.iload 5, 2) := dk_21 5 (dk_at dksX2_partOf_2 14 rfl rfl)
theorem dX2_partOf_64 : decode cX2_partOf 64 = .ok (.ior, 1) := dk_128 (dk_at dksX2_partOf_2 16 rfl rfl)
theorem dX2_partOf_65 : decode cX2_partOf 65 = .ok (.istore_n 2, 1) := dk_61 (dk_at dksX2_partOf_2 17 rfl rfl)
theorem dX2_partOf_66 : decode cX2_partOf 66 = .ok (.iinc 4 1, 3) := dk_132 4 1 (dk_at dksX2_partOf_2 18 rfl rfl)
theorem dX2_partOf_69 : decode cX2_partOf 69 = .ok (.goto (-54), 3) := dk_167 255 202 (dk_at dksX2_partOf_2 21 rfl rfl)
theorem dX2_partOf_72 : decode cX2_partOf 72 = .ok (.iinc 3 1, 3) := dk_132 3 1 (dk_at dksX2_partOf_3 0 rfl rfl)
theorem dX2_partOf_75 : decode cX2_partOf 75 = .ok (.goto (-69), 3) := dk_167 255 187 (dk_at dksX2_partOf_3 3 rfl rfl)
theorem dX2_partOf_78 : decode cX2_partOf 78 = .ok (.iload_n 2, 1) := dk_28 (dk_at dksX2_partOf_3 6 rfl rfl)
theorem dX2_partOf_79 : decode cX2_partOf 79 = .ok (.ireturn, 1) := dk_172 (dk_at dksX2_partOf_3 7 rfl rfl)
abbrev cX2_parts : ByteArray := prog_16_method_90_code
def yX2_parts : MethodName := ⟨RX2, "parts", "()I"⟩
def dkwX2_parts_2 : List UInt8 := [167, 255, 223, 27, 172]
abbrev dktX2_parts_2 : List UInt8 := dkwX2_parts_2 ++ []
def dkwX2_parts_1 : List UInt8 := [28, 182, 1, 76, 4, 28, 120, 4, 100, 126, 154, 0, 7, 4, 167, 0, 4, 3, 96, 60, 132, 2, 1]
abbrev dktX2_parts_1 : List UInt8 := dkwX2_parts_1 ++ dktX2_parts_2
def dkwX2_parts_0 : List UInt8 := [42, 4, 182, 1, 35, 154, 0, 5, 3, 172, 3, 60, 3, 61, 28, 42, 182, 0, 230, 162, 0, 31, 27, 42]
abbrev dktX2_parts_0 : List UInt8 := dkwX2_parts_0 ++ dktX2_parts_1
theorem dksX2_parts_0 : cX2_parts.data.toList.drop 0 = dktX2_parts_0 := by decide +kernel
theorem dksX2_parts_1 : cX2_parts.data.toList.drop 24 = dktX2_parts_1 := dk_seg dksX2_parts_0 24 rfl rfl
theorem dksX2_parts_2 : cX2_parts.data.toList.drop 47 = dktX2_parts_2 := dk_seg dksX2_parts_1 23 rfl rfl
theorem dX2_parts_0 : decode cX2_parts 0 = .ok (.aload_n 0, 1) := dk_42 (dk_at dksX2_parts_0 0 rfl rfl)
theorem dX2_parts_1 : decode cX2_parts 1 = .ok (.iconst 1, 1) := dk_4 (dk_at dksX2_parts_0 1 rfl rfl)
theorem dX2_parts_2 : decode cX2_parts 2 = .ok (.invokevirtual 291, 3) := dk_182 1 35 (dk_at dksX2_parts_0 2 rfl rfl)
theorem dX2_parts_5 : decode cX2_parts 5 = .ok (.ifCond .ne 5, 3) := dk_154 0 5 (dk_at dksX2_parts_0 5 rfl rfl)
theorem dX2_parts_8 : decode cX2_parts 8 = .ok (.iconst 0, 1) := dk_3 (dk_at dksX2_parts_0 8 rfl rfl)
theorem dX2_parts_9 : decode cX2_parts 9 = .ok (.ireturn, 1) := dk_172 (dk_at dksX2_parts_0 9 rfl rfl)
theorem dX2_parts_10 : decode cX2_parts 10 = .ok (.iconst 0, 1) := dk_3 (dk_at dksX2_parts_0 10 rfl rfl)
theorem dX2_parts_11 : decode cX2_parts 11 = .ok (.istore_n 1, 1) := dk_60 (dk_at dksX2_parts_0 11 rfl rfl)
theorem dX2_parts_12 : decode cX2_parts 12 = .ok (.iconst 0, 1) := dk_3 (dk_at dksX2_parts_0 12 rfl rfl)
theorem dX2_parts_13 : decode cX2_parts 13 = .ok (.istore_n 2, 1) := dk_61 (dk_at dksX2_parts_0 13 rfl rfl)
theorem dX2_parts_14 : decode cX2_parts 14 = .ok (.iload_n 2, 1) := dk_28 (dk_at dksX2_parts_0 14 rfl rfl)
theorem dX2_parts_15 : decode cX2_parts 15 = .ok (.aload_n 0, 1) := dk_42 (dk_at dksX2_parts_0 15 rfl rfl)
theorem dX2_parts_16 : decode cX2_parts 16 = .ok (.invokevirtual 230, 3) := dk_182 0 230 (dk_at dksX2_parts_0 16 rfl rfl)
theorem dX2_parts_19 : decode cX2_parts 19 = .ok (.if_icmp .ge 31, 3) := dk_162 0 31 (dk_at dksX2_parts_0 19 rfl rfl)
theorem dX2_parts_22 : decode cX2_parts 22 = .ok (.iload_n 1, 1) := dk_27 (dk_at dksX2_parts_0 22 rfl rfl)
theorem dX2_parts_23 : decode cX2_parts 23 = .ok (.aload_n 0, 1) := dk_42 (dk_at dksX2_parts_0 23 rfl rfl)
theorem dX2_parts_24 : decode cX2_parts 24 = .ok (.iload_n 2, 1) := dk_28 (dk_at dksX2_parts_1 0 rfl rfl)
theorem dX2_parts_25 : decode cX2_parts 25 = .ok (.invokevirtual 332, 3) := dk_182 1 76 (dk_at dksX2_parts_1 1 rfl rfl)
theorem dX2_parts_28 : decode cX2_parts 28 = .ok (.iconst 1, 1) := dk_4 (dk_at dksX2_parts_1 4 rfl rfl)
theorem dX2_parts_29 : decode cX2_parts 29 = .ok (.iload_n 2, 1) := dk_28 (dk_at dksX2_parts_1 5 rfl rfl)
theorem dX2_parts_30 : decode cX2_parts 30 = .ok (.ishl, 1) := dk_120 (dk_at dksX2_parts_1 6 rfl rfl)
theorem dX2_parts_31 : decode cX2_parts 31 = .ok (.iconst 1, 1) := dk_4 (dk_at dksX2_parts_1 7 rfl rfl)
theorem dX2_parts_32 : decode cX2_parts 32 = .ok (.isub, 1) := dk_100 (dk_at dksX2_parts_1 8 rfl rfl)
theorem dX2_parts_33 : decode cX2_parts 33 = .ok (.iand, 1) := dk_126 (dk_at dksX2_parts_1 9 rfl rfl)
theorem dX2_parts_34 : decode cX2_parts 34 = .ok (.ifCond .ne 7, 3) := dk_154 0 7 (dk_at dksX2_parts_1 10 rfl rfl)
theorem dX2_parts_37 : decode cX2_parts 37 = .ok (.iconst 1, 1) := dk_4 (dk_at dksX2_parts_1 13 rfl rfl)
theorem dX2_parts_38 : decode cX2_parts 38 = .ok (.goto 4, 3) := dk_167 0 4 (dk_at dksX2_parts_1 14 rfl rfl)
theorem dX2_parts_41 : decode cX2_parts 41 = .ok (.iconst 0, 1) := dk_3 (dk_at dksX2_parts_1 17 rfl rfl)
theorem dX2_parts_42 : decode cX2_parts 42 = .ok (.iadd, 1) := dk_96 (dk_at dksX2_parts_1 18 rfl rfl)
theorem dX2_parts_43 : decode cX2_parts 43 = .ok (.istore_n 1, 1) := dk_60 (dk_at dksX2_parts_1 19 rfl rfl)
theorem dX2_parts_44 : decode cX2_parts 44 = .ok (.iinc 2 1, 3) := dk_132 2 1 (dk_at dksX2_parts_1 20 rfl rfl)
theorem dX2_parts_47 : decode cX2_parts 47 = .ok (.goto (-33), 3) := dk_167 255 223 (dk_at dksX2_parts_2 0 rfl rfl)
theorem dX2_parts_50 : decode cX2_parts 50 = .ok (.iload_n 1, 1) := dk_27 (dk_at dksX2_parts_2 3 rfl rfl)
theorem dX2_parts_51 : decode cX2_parts 51 = .ok (.ireturn, 1) := dk_172 (dk_at dksX2_parts_2 4 rfl rfl)
abbrev cX2_end : ByteArray := prog_16_method_91_code
def yX2_end : MethodName := ⟨RX2, "end", "()I"⟩
def dkwX2_end_1 : List UInt8 := [28, 182, 1, 52, 184, 1, 79, 60, 132, 2, 1, 167, 255, 235, 27, 172]
abbrev dktX2_end_1 : List UInt8 := dkwX2_end_1 ++ []
def dkwX2_end_0 : List UInt8 := [42, 4, 182, 1, 58, 154, 0, 5, 3, 172, 3, 60, 3, 61, 28, 42, 182, 0, 230, 162, 0, 19, 27, 42]
abbrev dktX2_end_0 : List UInt8 := dkwX2_end_0 ++ dktX2_end_1
theorem dksX2_end_0 : cX2_end.data.toList.drop 0 = dktX2_end_0 := by decide +kernel
theorem dksX2_end_1 : cX2_end.data.toList.drop 24 = dktX2_end_1 := dk_seg dksX2_end_0 24 rfl rfl
theorem dX2_end_0 : decode cX2_end 0 = .ok (.aload_n 0, 1) := dk_42 (dk_at dksX2_end_0 0 rfl rfl)
theorem dX2_end_1 : decode cX2_end 1 = .ok (.iconst 1, 1) := dk_4 (dk_at dksX2_end_0 1 rfl rfl)
theorem dX2_end_2 : decode cX2_end 2 = .ok (.invokevirtual 314, 3) := dk_182 1 58 (dk_at dksX2_end_0 2 rfl rfl)
theorem dX2_end_5 : decode cX2_end 5 = .ok (.ifCond .ne 5, 3) := dk_154 0 5 (dk_at dksX2_end_0 5 rfl rfl)
theorem dX2_end_8 : decode cX2_end 8 = .ok (.iconst 0, 1) := dk_3 (dk_at dksX2_end_0 8 rfl rfl)
theorem dX2_end_9 : decode cX2_end 9 = .ok (.ireturn, 1) := dk_172 (dk_at dksX2_end_0 9 rfl rfl)
theorem dX2_end_10 : decode cX2_end 10 = .ok (.iconst 0, 1) := dk_3 (dk_at dksX2_end_0 10 rfl rfl)
theorem dX2_end_11 : decode cX2_end 11 = .ok (.istore_n 1, 1) := dk_60 (dk_at dksX2_end_0 11 rfl rfl)
theorem dX2_end_12 : decode cX2_end 12 = .ok (.iconst 0, 1) := dk_3 (dk_at dksX2_end_0 12 rfl rfl)
theorem dX2_end_13 : decode cX2_end 13 = .ok (.istore_n 2, 1) := dk_61 (dk_at dksX2_end_0 13 rfl rfl)
theorem dX2_end_14 : decode cX2_end 14 = .ok (.iload_n 2, 1) := dk_28 (dk_at dksX2_end_0 14 rfl rfl)
theorem dX2_end_15 : decode cX2_end 15 = .ok (.aload_n 0, 1) := dk_42 (dk_at dksX2_end_0 15 rfl rfl)
theorem dX2_end_16 : decode cX2_end 16 = .ok (.invokevirtual 230, 3) := dk_182 0 230 (dk_at dksX2_end_0 16 rfl rfl)
theorem dX2_end_19 : decode cX2_end 19 = .ok (.if_icmp .ge 19, 3) := dk_162 0 19 (dk_at dksX2_end_0 19 rfl rfl)
theorem dX2_end_22 : decode cX2_end 22 = .ok (.iload_n 1, 1) := dk_27 (dk_at dksX2_end_0 22 rfl rfl)
theorem dX2_end_23 : decode cX2_end 23 = .ok (.aload_n 0, 1) := dk_42 (dk_at dksX2_end_0 23 rfl rfl)
theorem dX2_end_24 : decode cX2_end 24 = .ok (.iload_n 2, 1) := dk_28 (dk_at dksX2_end_1 0 rfl rfl)
theorem dX2_end_25 : decode cX2_end 25 = .ok (.invokevirtual 308, 3) := dk_182 1 52 (dk_at dksX2_end_1 1 rfl rfl)
theorem dX2_end_28 : decode cX2_end 28 = .ok (.invokestatic 335, 3) := dk_184 1 79 (dk_at dksX2_end_1 4 rfl rfl)
theorem dX2_end_31 : decode cX2_end 31 = .ok (.istore_n 1, 1) := dk_60 (dk_at dksX2_end_1 7 rfl rfl)
theorem dX2_end_32 : decode cX2_end 32 = .ok (.iinc 2 1, 3) := dk_132 2 1 (dk_at dksX2_end_1 8 rfl rfl)
theorem dX2_end_35 : decode cX2_end 35 = .ok (.goto (-21), 3) := dk_167 255 235 (dk_at dksX2_end_1 11 rfl rfl)
theorem dX2_end_38 : decode cX2_end 38 = .ok (.iload_n 1, 1) := dk_27 (dk_at dksX2_end_1 14 rfl rfl)
theorem dX2_end_39 : decode cX2_end 39 = .ok (.ireturn, 1) := dk_172 (dk_at dksX2_end_1 15 rfl rfl)
abbrev cX2_meanSlack : ByteArray := prog_16_method_92_code
def yX2_meanSlack : MethodName := ⟨RX2, "meanSlack", "()D"⟩
def dkwX2_meanSlack_2 : List UInt8 := [132, 3, 1, 167, 255, 222, 28, 135, 27, 135, 111, 175]
abbrev dktX2_meanSlack_2 : List UInt8 := dkwX2_meanSlack_2 ++ []
def dkwX2_meanSlack_1 : List UInt8 := [42, 29, 182, 1, 49, 2, 160, 0, 6, 167, 0, 14, 132, 1, 1, 28, 42, 29, 182, 1, 67, 96, 61]
abbrev dktX2_meanSlack_1 : List UInt8 := dkwX2_meanSlack_1 ++ dktX2_meanSlack_2
def dkwX2_meanSlack_0 : List UInt8 := [42, 4, 182, 1, 58, 154, 0, 5, 14, 175, 3, 60, 3, 61, 3, 62, 29, 42, 182, 0, 230, 162, 0, 32]
abbrev dktX2_meanSlack_0 : List UInt8 := dkwX2_meanSlack_0 ++ dktX2_meanSlack_1
theorem dksX2_meanSlack_0 : cX2_meanSlack.data.toList.drop 0 = dktX2_meanSlack_0 := by decide +kernel
theorem dksX2_meanSlack_1 : cX2_meanSlack.data.toList.drop 24 = dktX2_meanSlack_1 := dk_seg dksX2_meanSlack_0 24 rfl rfl
theorem dksX2_meanSlack_2 : cX2_meanSlack.data.toList.drop 47 = dktX2_meanSlack_2 := dk_seg dksX2_meanSlack_1 23 rfl rfl
theorem dX2_meanSlack_0 : decode cX2_meanSlack 0 = .ok (.aload_n 0, 1) := dk_42 (dk_at dksX2_meanSlack_0 0 rfl rfl)
theorem dX2_meanSlack_1 : decode cX2_meanSlack 1 = .ok (.iconst 1, 1) := dk_4 (dk_at dksX2_meanSlack_0 1 rfl rfl)
theorem dX2_meanSlack_2 : decode cX2_meanSlack 2 = .ok (.invokevirtual 314, 3) := dk_182 1 58 (dk_at dksX2_meanSlack_0 2 rfl rfl)
theorem dX2_meanSlack_5 : decode cX2_meanSlack 5 = .ok (.ifCond .ne 5, 3) := dk_154 0 5 (dk_at dksX2_meanSlack_0 5 rfl rfl)
theorem dX2_meanSlack_8 : decode cX2_meanSlack 8 = .ok (.dconst 0, 1) := dk_14 (dk_at dksX2_meanSlack_0 8 rfl rfl)
theorem dX2_meanSlack_9 : decode cX2_meanSlack 9 = .ok (.dreturn, 1) := dk_175 (dk_at dksX2_meanSlack_0 9 rfl rfl)
theorem dX2_meanSlack_10 : decode cX2_meanSlack 10 = .ok (.iconst 0, 1) := dk_3 (dk_at dksX2_meanSlack_0 10 rfl rfl)
theorem dX2_meanSlack_11 : decode cX2_meanSlack 11 = .ok (.istore_n 1, 1) := dk_60 (dk_at dksX2_meanSlack_0 11 rfl rfl)
theorem dX2_meanSlack_12 : decode cX2_meanSlack 12 = .ok (.iconst 0, 1) := dk_3 (dk_at dksX2_meanSlack_0 12 rfl rfl)
theorem dX2_meanSlack_13 : decode cX2_meanSlack 13 = .ok (.istore_n 2, 1) := dk_61 (dk_at dksX2_meanSlack_0 13 rfl rfl)
theorem dX2_meanSlack_14 : decode cX2_meanSlack 14 = .ok (.iconst 0, 1) := dk_3 (dk_at dksX2_meanSlack_0 14 rfl rfl)
theorem dX2_meanSlack_15 : decode cX2_meanSlack 15 = .ok (.istore_n 3, 1) := dk_62 (dk_at dksX2_meanSlack_0 15 rfl rfl)
theorem dX2_meanSlack_16 : decode cX2_meanSlack 16 = .ok (.iload_n 3, 1) := dk_29 (dk_at dksX2_meanSlack_0 16 rfl rfl)
theorem dX2_meanSlack_17 : decode cX2_meanSlack 17 = .ok (.aload_n 0, 1) := dk_42 (dk_at dksX2_meanSlack_0 17 rfl rfl)
theorem dX2_meanSlack_18 : decode cX2_meanSlack 18 = .ok (.invokevirtual 230, 3) := dk_182 0 230 (dk_at dksX2_meanSlack_0 18 rfl rfl)
theorem dX2_meanSlack_21 : decode cX2_meanSlack 21 = .ok (.if_icmp .ge 32, 3) := dk_162 0 32 (dk_at dksX2_meanSlack_0 21 rfl rfl)
theorem dX2_meanSlack_24 : decode cX2_meanSlack 24 = .ok (.aload_n 0, 1) := dk_42 (dk_at dksX2_meanSlack_1 0 rfl rfl)
theorem dX2_meanSlack_25 : decode cX2_meanSlack 25 = .ok (.iload_n 3, 1) := dk_29 (dk_at dksX2_meanSlack_1 1 rfl rfl)
theorem dX2_meanSlack_26 : decode cX2_meanSlack 26 = .ok (.invokevirtual 305, 3) := dk_182 1 49 (dk_at dksX2_meanSlack_1 2 rfl rfl)
theorem dX2_meanSlack_29 : decode cX2_meanSlack 29 = .ok (.iconst (-1), 1) := dk_2 (dk_at dksX2_meanSlack_1 5 rfl rfl)
theorem dX2_meanSlack_30 : decode cX2_meanSlack 30 = .ok (.if_icmp .ne 6, 3) := dk_160 0 6 (dk_at dksX2_meanSlack_1 6 rfl rfl)
theorem dX2_meanSlack_33 : decode cX2_meanSlack 33 = .ok (.goto 14, 3) := dk_167 0 14 (dk_at dksX2_meanSlack_1 9 rfl rfl)
theorem dX2_meanSlack_36 : decode cX2_meanSlack 36 = .ok (.iinc 1 1, 3) := dk_132 1 1 (dk_at dksX2_meanSlack_1 12 rfl rfl)
theorem dX2_meanSlack_39 : decode cX2_meanSlack 39 = .ok (.iload_n 2, 1) := dk_28 (dk_at dksX2_meanSlack_1 15 rfl rfl)
theorem dX2_meanSlack_40 : decode cX2_meanSlack 40 = .ok (.aload_n 0, 1) := dk_42 (dk_at dksX2_meanSlack_1 16 rfl rfl)
theorem dX2_meanSlack_41 : decode cX2_meanSlack 41 = .ok (.iload_n 3, 1) := dk_29 (dk_at dksX2_meanSlack_1 17 rfl rfl)
theorem dX2_meanSlack_42 : decode cX2_meanSlack 42 = .ok (.invokevirtual 323, 3) := dk_182 1 67 (dk_at dksX2_meanSlack_1 18 rfl rfl)
theorem dX2_meanSlack_45 : decode cX2_meanSlack 45 = .ok (.iadd, 1) := dk_96 (dk_at dksX2_meanSlack_1 21 rfl rfl)
theorem dX2_meanSlack_46 : decode cX2_meanSlack 46 = .ok (.istore_n 2, 1) := dk_61 (dk_at dksX2_meanSlack_1 22 rfl rfl)
theorem dX2_meanSlack_47 : decode cX2_meanSlack 47 = .ok (.iinc 3 1, 3) := dk_132 3 1 (dk_at dksX2_meanSlack_2 0 rfl rfl)
theorem dX2_meanSlack_50 : decode cX2_meanSlack 50 = .ok (.goto (-34), 3) := dk_167 255 222 (dk_at dksX2_meanSlack_2 3 rfl rfl)
theorem dX2_meanSlack_53 : decode cX2_meanSlack 53 = .ok (.iload_n 2, 1) := dk_28 (dk_at dksX2_meanSlack_2 6 rfl rfl)
theorem dX2_meanSlack_54 : decode cX2_meanSlack 54 = .ok (.i2d, 1) := dk_135 (dk_at dksX2_meanSlack_2 7 rfl rfl)
theorem dX2_meanSlack_55 : decode cX2_meanSlack 55 = .ok (.iload_n 1, 1) := dk_27 (dk_at dksX2_meanSlack_2 8 rfl rfl)
theorem dX2_meanSlack_56 : decode cX2_meanSlack 56 = .ok (.i2d, 1) := dk_135 (dk_at dksX2_meanSlack_2 9 rfl rfl)
theorem dX2_meanSlack_57 : decode cX2_meanSlack 57 = .ok (.ddiv, 1) := dk_111 (dk_at dksX2_meanSlack_2 10 rfl rfl)
theorem dX2_meanSlack_58 : decode cX2_meanSlack 58 = .ok (.dreturn, 1) := dk_175 (dk_at dksX2_meanSlack_2 11 rfl rfl)
abbrev cX2_neededShare : ByteArray := prog_16_method_94_code
def yX2_neededShare : MethodName := ⟨RX2, "neededShare", "()F"⟩
def dkwX2_neededShare_2 : List UInt8 := [167, 255, 229, 27, 154, 0, 7, 11, 167, 0, 8, 28, 134, 27, 134, 110, 174]
abbrev dktX2_neededShare_2 : List UInt8 := dkwX2_neededShare_2 ++ []
def dkwX2_neededShare_1 : List UInt8 := [162, 0, 25, 28, 42, 29, 182, 1, 73, 153, 0, 7, 4, 167, 0, 4, 3, 96, 61, 132, 3, 1]
abbrev dktX2_neededShare_1 : List UInt8 := dkwX2_neededShare_1 ++ dktX2_neededShare_2
def dkwX2_neededShare_0 : List UInt8 := [42, 4, 182, 1, 58, 154, 0, 5, 11, 174, 42, 182, 1, 82, 60, 3, 61, 3, 62, 29, 42, 182, 0, 220]
abbrev dktX2_neededShare_0 : List UInt8 := dkwX2_neededShare_0 ++ dktX2_neededShare_1
theorem dksX2_neededShare_0 : cX2_neededShare.data.toList.drop 0 = dktX2_neededShare_0 := by decide +kernel
theorem dksX2_neededShare_1 : cX2_neededShare.data.toList.drop 24 = dktX2_neededShare_1 := dk_seg dksX2_neededShare_0 24 rfl rfl
theorem dksX2_neededShare_2 : cX2_neededShare.data.toList.drop 46 = dktX2_neededShare_2 := dk_seg dksX2_neededShare_1 22 rfl rfl
theorem dX2_neededShare_0 : decode cX2_neededShare 0 = .ok (.aload_n 0, 1) := dk_42 (dk_at dksX2_neededShare_0 0 rfl rfl)
theorem dX2_neededShare_1 : decode cX2_neededShare 1 = .ok (.iconst 1, 1) := dk_4 (dk_at dksX2_neededShare_0 1 rfl rfl)
theorem dX2_neededShare_2 : decode cX2_neededShare 2 = .ok (.invokevirtual 314, 3) := dk_182 1 58 (dk_at dksX2_neededShare_0 2 rfl rfl)
theorem dX2_neededShare_5 : decode cX2_neededShare 5 = .ok (.ifCond .ne 5, 3) := dk_154 0 5 (dk_at dksX2_neededShare_0 5 rfl rfl)
theorem dX2_neededShare_8 : decode cX2_neededShare 8 = .ok (.fconst 0, 1) := dk_11 (dk_at dksX2_neededShare_0 8 rfl rfl)
theorem dX2_neededShare_9 : decode cX2_neededShare 9 = .ok (.freturn, 1) := dk_174 (dk_at dksX2_neededShare_0 9 rfl rfl)
theorem dX2_neededShare_10 : decode cX2_neededShare 10 = .ok (.aload_n 0, 1) := dk_42 (dk_at dksX2_neededShare_0 10 rfl rfl)
theorem dX2_neededShare_11 : decode cX2_neededShare 11 = .ok (.invokevirtual 338, 3) := dk_182 1 82 (dk_at dksX2_neededShare_0 11 rfl rfl)
theorem dX2_neededShare_14 : decode cX2_neededShare 14 = .ok (.istore_n 1, 1) := dk_60 (dk_at dksX2_neededShare_0 14 rfl rfl)
theorem dX2_neededShare_15 : decode cX2_neededShare 15 = .ok (.iconst 0, 1) := dk_3 (dk_at dksX2_neededShare_0 15 rfl rfl)
theorem dX2_neededShare_16 : decode cX2_neededShare 16 = .ok (.istore_n 2, 1) := dk_61 (dk_at dksX2_neededShare_0 16 rfl rfl)
theorem dX2_neededShare_17 : decode cX2_neededShare 17 = .ok (.iconst 0, 1) := dk_3 (dk_at dksX2_neededShare_0 17 rfl rfl)
theorem dX2_neededShare_18 : decode cX2_neededShare 18 = .ok (.istore_n 3, 1) := dk_62 (dk_at dksX2_neededShare_0 18 rfl rfl)
theorem dX2_neededShare_19 : decode cX2_neededShare 19 = .ok (.iload_n 3, 1) := dk_29 (dk_at dksX2_neededShare_0 19 rfl rfl)
theorem dX2_neededShare_20 : decode cX2_neededShare 20 = .ok (.aload_n 0, 1) := dk_42 (dk_at dksX2_neededShare_0 20 rfl rfl)
theorem dX2_neededShare_21 : decode cX2_neededShare 21 = .ok (.invokevirtual 220, 3) := dk_182 0 220 (dk_at dksX2_neededShare_0 21 rfl rfl)
theorem dX2_neededShare_24 : decode cX2_neededShare 24 = .ok (.if_icmp .ge 25, 3) := dk_162 0 25 (dk_at dksX2_neededShare_1 0 rfl rfl)
theorem dX2_neededShare_27 : decode cX2_neededShare 27 = .ok (.iload_n 2, 1) := dk_28 (dk_at dksX2_neededShare_1 3 rfl rfl)
theorem dX2_neededShare_28 : decode cX2_neededShare 28 = .ok (.aload_n 0, 1) := dk_42 (dk_at dksX2_neededShare_1 4 rfl rfl)
theorem dX2_neededShare_29 : decode cX2_neededShare 29 = .ok (.iload_n 3, 1) := dk_29 (dk_at dksX2_neededShare_1 5 rfl rfl)
theorem dX2_neededShare_30 : decode cX2_neededShare 30 = .ok (.invokevirtual 329, 3) := dk_182 1 73 (dk_at dksX2_neededShare_1 6 rfl rfl)
theorem dX2_neededShare_33 : decode cX2_neededShare 33 = .ok (.ifCond .eq 7, 3) := dk_153 0 7 (dk_at dksX2_neededShare_1 9 rfl rfl)
theorem dX2_neededShare_36 : decode cX2_neededShare 36 = .ok (.iconst 1, 1) := dk_4 (dk_at dksX2_neededShare_1 12 rfl rfl)
theorem dX2_neededShare_37 : decode cX2_neededShare 37 = .ok (.goto 4, 3) := dk_167 0 4 (dk_at dksX2_neededShare_1 13 rfl rfl)
theorem dX2_neededShare_40 : decode cX2_neededShare 40 = .ok (.iconst 0, 1) := dk_3 (dk_at dksX2_neededShare_1 16 rfl rfl)
theorem dX2_neededShare_41 : decode cX2_neededShare 41 = .ok (.iadd, 1) := dk_96 (dk_at dksX2_neededShare_1 17 rfl rfl)
theorem dX2_neededShare_42 : decode cX2_neededShare 42 = .ok (.istore_n 2, 1) := dk_61 (dk_at dksX2_neededShare_1 18 rfl rfl)
theorem dX2_neededShare_43 : decode cX2_neededShare 43 = .ok (.iinc 3 1, 3) := dk_132 3 1 (dk_at dksX2_neededShare_1 19 rfl rfl)
theorem dX2_neededShare_46 : decode cX2_neededShare 46 = .ok (.goto (-27), 3) := dk_167 255 229 (dk_at dksX2_neededShare_2 0 rfl rfl)
theorem dX2_neededShare_49 : decode cX2_neededShare 49 = .ok (.iload_n 1, 1) := dk_27 (dk_at dksX2_neededShare_2 3 rfl rfl)
theorem dX2_neededShare_50 : decode cX2_neededShare 50 = .ok (.ifCond .ne 7, 3) := dk_154 0 7 (dk_at dksX2_neededShare_2 4 rfl rfl)
theorem dX2_neededShare_53 : decode cX2_neededShare 53 = .ok (.fconst 0, 1) := dk_11 (dk_at dksX2_neededShare_2 7 rfl rfl)
theorem dX2_neededShare_54 : decode cX2_neededShare 54 = .ok (.goto 8, 3) := dk_167 0 8 (dk_at dksX2_neededShare_2 8 rfl rfl)
theorem dX2_neededShare_57 : decode cX2_neededShare 57 = .ok (.iload_n 2, 1) := dk_28 (dk_at dksX2_neededShare_2 11 rfl rfl)
theorem dX2_neededShare_58 : decode cX2_neededShare 58 = .ok (.i2f, 1) := dk_134 (dk_at dksX2_neededShare_2 12 rfl rfl)
theorem dX2_neededShare_59 : decode cX2_neededShare 59 = .ok (.iload_n 1, 1) := dk_27 (dk_at dksX2_neededShare_2 13 rfl rfl)
theorem dX2_neededShare_60 : decode cX2_neededShare 60 = .ok (.i2f, 1) := dk_134 (dk_at dksX2_neededShare_2 14 rfl rfl)
theorem dX2_neededShare_61 : decode cX2_neededShare 61 = .ok (.fdiv, 1) := dk_110 (dk_at dksX2_neededShare_2 15 rfl rfl)
theorem dX2_neededShare_62 : decode cX2_neededShare 62 = .ok (.freturn, 1) := dk_174 (dk_at dksX2_neededShare_2 16 rfl rfl)
abbrev cX2_windowsThere : ByteArray := prog_16_method_93_code
def yX2_windowsThere : MethodName := ⟨RX2, "windowsThere", "()I"⟩
def dkwX2_windowsThere_1 : List UInt8 := [167, 0, 4, 4, 96, 60, 132, 2, 1, 167, 255, 229, 27, 172]
abbrev dktX2_windowsThere_1 : List UInt8 := dkwX2_windowsThere_1 ++ []
def dkwX2_windowsThere_0 : List UInt8 := [3, 60, 3, 61, 28, 42, 182, 0, 220, 162, 0, 25, 27, 42, 28, 182, 0, 223, 153, 0, 7, 3]
abbrev dktX2_windowsThere_0 : List UInt8 := dkwX2_windowsThere_0 ++ dktX2_windowsThere_1
theorem dksX2_windowsThere_0 : cX2_windowsThere.data.toList.drop 0 = dktX2_windowsThere_0 := by decide +kernel
theorem dksX2_windowsThere_1 : cX2_windowsThere.data.toList.drop 22 = dktX2_windowsThere_1 := dk_seg dksX2_windowsThere_0 22 rfl rfl
theorem dX2_windowsThere_0 : decode cX2_windowsThere 0 = .ok (.iconst 0, 1) := dk_3 (dk_at dksX2_windowsThere_0 0 rfl rfl)
theorem dX2_windowsThere_1 : decode cX2_windowsThere 1 = .ok (.istore_n 1, 1) := dk_60 (dk_at dksX2_windowsThere_0 1 rfl rfl)
theorem dX2_windowsThere_2 : decode cX2_windowsThere 2 = .ok (.iconst 0, 1) := dk_3 (dk_at dksX2_windowsThere_0 2 rfl rfl)
theorem dX2_windowsThere_3 : decode cX2_windowsThere 3 = .ok (.istore_n 2, 1) := dk_61 (dk_at dksX2_windowsThere_0 3 rfl rfl)
theorem dX2_windowsThere_4 : decode cX2_windowsThere 4 = .ok (.iload_n 2, 1) := dk_28 (dk_at dksX2_windowsThere_0 4 rfl rfl)
theorem dX2_windowsThere_5 : decode cX2_windowsThere 5 = .ok (.aload_n 0, 1) := dk_42 (dk_at dksX2_windowsThere_0 5 rfl rfl)
theorem dX2_windowsThere_6 : decode cX2_windowsThere 6 = .ok (.invokevirtual 220, 3) := dk_182 0 220 (dk_at dksX2_windowsThere_0 6 rfl rfl)
theorem dX2_windowsThere_9 : decode cX2_windowsThere 9 = .ok (.if_icmp .ge 25, 3) := dk_162 0 25 (dk_at dksX2_windowsThere_0 9 rfl rfl)
theorem dX2_windowsThere_12 : decode cX2_windowsThere 12 = .ok (.iload_n 1, 1) := dk_27 (dk_at dksX2_windowsThere_0 12 rfl rfl)
theorem dX2_windowsThere_13 : decode cX2_windowsThere 13 = .ok (.aload_n 0, 1) := dk_42 (dk_at dksX2_windowsThere_0 13 rfl rfl)
theorem dX2_windowsThere_14 : decode cX2_windowsThere 14 = .ok (.iload_n 2, 1) := dk_28 (dk_at dksX2_windowsThere_0 14 rfl rfl)
theorem dX2_windowsThere_15 : decode cX2_windowsThere 15 = .ok (.invokevirtual 223, 3) := dk_182 0 223 (dk_at dksX2_windowsThere_0 15 rfl rfl)
theorem dX2_windowsThere_18 : decode cX2_windowsThere 18 = .ok (.ifCond .eq 7, 3) := dk_153 0 7 (dk_at dksX2_windowsThere_0 18 rfl rfl)
theorem dX2_windowsThere_21 : decode cX2_windowsThere 21 = .ok (.iconst 0, 1) := dk_3 (dk_at dksX2_windowsThere_0 21 rfl rfl)
theorem dX2_windowsThere_22 : decode cX2_windowsThere 22 = .ok (.goto 4, 3) := dk_167 0 4 (dk_at dksX2_windowsThere_1 0 rfl rfl)
theorem dX2_windowsThere_25 : decode cX2_windowsThere 25 = .ok (.iconst 1, 1) := dk_4 (dk_at dksX2_windowsThere_1 3 rfl rfl)
theorem dX2_windowsThere_26 : decode cX2_windowsThere 26 = .ok (.iadd, 1) := dk_96 (dk_at dksX2_windowsThere_1 4 rfl rfl)
theorem dX2_windowsThere_27 : decode cX2_windowsThere 27 = .ok (.istore_n 1, 1) := dk_60 (dk_at dksX2_windowsThere_1 5 rfl rfl)
theorem dX2_windowsThere_28 : decode cX2_windowsThere 28 = .ok (.iinc 2 1, 3) := dk_132 2 1 (dk_at dksX2_windowsThere_1 6 rfl rfl)
theorem dX2_windowsThere_31 : decode cX2_windowsThere 31 = .ok (.goto (-27), 3) := dk_167 255 229 (dk_at dksX2_windowsThere_1 9 rfl rfl)
theorem dX2_windowsThere_34 : decode cX2_windowsThere 34 = .ok (.iload_n 1, 1) := dk_27 (dk_at dksX2_windowsThere_1 12 rfl rfl)
theorem dX2_windowsThere_35 : decode cX2_windowsThere 35 = .ok (.ireturn, 1) := dk_172 (dk_at dksX2_windowsThere_1 13 rfl rfl)
abbrev cX2_widening : ByteArray := prog_16_method_96_code
def yX2_widening : MethodName := ⟨RX2, "widening", "(IZ)I"⟩
def dkwX2_widening_1 : List UInt8 := [182, 1, 85, 172]
abbrev dktX2_widening_1 : List UInt8 := dkwX2_widening_1 ++ []
def dkwX2_widening_0 : List UInt8 := [42, 42, 27, 182, 1, 39, 182, 1, 35, 153, 0, 10, 42, 182, 1, 20, 153, 0, 5, 3, 172, 42, 27, 28]
abbrev dktX2_widening_0 : List UInt8 := dkwX2_widening_0 ++ dktX2_widening_1
theorem dksX2_widening_0 : cX2_widening.data.toList.drop 0 = dktX2_widening_0 := by decide +kernel
theorem dksX2_widening_1 : cX2_widening.data.toList.drop 24 = dktX2_widening_1 := dk_seg dksX2_widening_0 24 rfl rfl
theorem dX2_widening_0 : decode cX2_widening 0 = .ok (.aload_n 0, 1) := dk_42 (dk_at dksX2_widening_0 0 rfl rfl)
theorem dX2_widening_1 : decode cX2_widening 1 = .ok (.aload_n 0, 1) := dk_42 (dk_at dksX2_widening_0 1 rfl rfl)
theorem dX2_widening_2 : decode cX2_widening 2 = .ok (.iload_n 1, 1) := dk_27 (dk_at dksX2_widening_0 2 rfl rfl)
theorem dX2_widening_3 : decode cX2_widening 3 = .ok (.invokevirtual 295, 3) := dk_182 1 39 (dk_at dksX2_widening_0 3 rfl rfl)
theorem dX2_widening_6 : decode cX2_widening 6 = .ok (.invokevirtual 291, 3) := dk_182 1 35 (dk_at dksX2_widening_0 6 rfl rfl)
theorem dX2_widening_9 : decode cX2_widening 9 = .ok (.ifCond .eq 10, 3) := dk_153 0 10 (dk_at dksX2_widening_0 9 rfl rfl)
theorem dX2_widening_12 : decode cX2_widening 12 = .ok (.aload_n 0, 1) := dk_42 (dk_at dksX2_widening_0 12 rfl rfl)
theorem dX2_widening_13 : decode cX2_widening 13 = .ok (.invokevirtual 276, 3) := dk_182 1 20 (dk_at dksX2_widening_0 13 rfl rfl)
theorem dX2_widening_16 : decode cX2_widening 16 = .ok (.ifCond .eq 5, 3) := dk_153 0 5 (dk_at dksX2_widening_0 16 rfl rfl)
theorem dX2_widening_19 : decode cX2_widening 19 = .ok (.iconst 0, 1) := dk_3 (dk_at dksX2_widening_0 19 rfl rfl)
theorem dX2_widening_20 : decode cX2_widening 20 = .ok (.ireturn, 1) := dk_172 (dk_at dksX2_widening_0 20 rfl rfl)
theorem dX2_widening_21 : decode cX2_widening 21 = .ok (.aload_n 0, 1) := dk_42 (dk_at dksX2_widening_0 21 rfl rfl)
theorem dX2_widening_22 : decode cX2_widening 22 = .ok (.iload_n 1, 1) := dk_27 (dk_at dksX2_widening_0 22 rfl rfl)
theorem dX2_widening_23 : decode cX2_widening 23 = .ok (.iload_n 2, 1) := dk_28 (dk_at dksX2_widening_0 23 rfl rfl)
theorem dX2_widening_24 : decode cX2_widening 24 = .ok (.invokevirtual 341, 3) := dk_182 1 85 (dk_at dksX2_widening_1 0 rfl rfl)
theorem dX2_widening_27 : decode cX2_widening 27 = .ok (.ireturn, 1) := dk_172 (dk_at dksX2_widening_1 3 rfl rfl)
abbrev cX2_wideningOf : ByteArray := prog_16_method_95_code
def yX2_wideningOf : MethodName := ⟨RX2, "wideningOf", "(IZ)I"⟩
def dkwX2_wideningOf_5 : List UInt8 := [27, 5, 182, 0, 214, 21, 6, 100, 167, 0, 12, 21, 6, 42, 27, 6, 182, 0, 214, 100, 172]
abbrev dktX2_wideningOf_5 : List UInt8 := dkwX2_wideningOf_5 ++ []
def dkwX2_wideningOf_4 : List UInt8 := [21, 5, 116, 54, 6, 21, 6, 3, 17, 3, 231, 184, 0, 102, 154, 0, 5, 2, 172, 28, 153, 0, 15, 42]
abbrev dktX2_wideningOf_4 : List UInt8 := dkwX2_wideningOf_4 ++ dktX2_wideningOf_5
def dkwX2_wideningOf_3 : List UInt8 := [182, 0, 233, 167, 0, 10, 42, 21, 4, 29, 182, 0, 233, 54, 5, 28, 153, 0, 8, 21, 5, 167, 0, 6]
abbrev dktX2_wideningOf_3 : List UInt8 := dkwX2_wideningOf_3 ++ dktX2_wideningOf_4
def dkwX2_wideningOf_2 : List UInt8 := [27, 3, 182, 0, 214, 62, 42, 27, 4, 182, 0, 214, 54, 4, 28, 153, 0, 13, 42, 29, 21, 4]
abbrev dktX2_wideningOf_2 : List UInt8 := dkwX2_wideningOf_2 ++ dktX2_wideningOf_3
def dkwX2_wideningOf_1 : List UInt8 := [42, 3, 5, 27, 104, 28, 153, 0, 7, 4, 167, 0, 4, 3, 96, 182, 1, 1, 154, 0, 5, 2, 172, 42]
abbrev dktX2_wideningOf_1 : List UInt8 := dkwX2_wideningOf_1 ++ dktX2_wideningOf_2
def dkwX2_wideningOf_0 : List UInt8 := [42, 27, 182, 0, 223, 154, 0, 17, 28, 154, 0, 15, 42, 27, 6, 182, 0, 214, 2, 160, 0, 5, 2, 172]
abbrev dktX2_wideningOf_0 : List UInt8 := dkwX2_wideningOf_0 ++ dktX2_wideningOf_1
theorem dksX2_wideningOf_0 : cX2_wideningOf.data.toList.drop 0 = dktX2_wideningOf_0 := by decide +kernel
theorem dksX2_wideningOf_1 : cX2_wideningOf.data.toList.drop 24 = dktX2_wideningOf_1 := dk_seg dksX2_wideningOf_0 24 rfl rfl
theorem dksX2_wideningOf_2 : cX2_wideningOf.data.toList.drop 48 = dktX2_wideningOf_2 := dk_seg dksX2_wideningOf_1 24 rfl rfl
theorem dksX2_wideningOf_3 : cX2_wideningOf.data.toList.drop 70 = dktX2_wideningOf_3 := dk_seg dksX2_wideningOf_2 22 rfl rfl
theorem dksX2_wideningOf_4 : cX2_wideningOf.data.toList.drop 94 = dktX2_wideningOf_4 := dk_seg dksX2_wideningOf_3 24 rfl rfl
theorem dksX2_wideningOf_5 : cX2_wideningOf.data.toList.drop 118 = dktX2_wideningOf_5 := dk_seg dksX2_wideningOf_4 24 rfl rfl
theorem dX2_wideningOf_0 : decode cX2_wideningOf 0 = .ok (.aload_n 0, 1) := dk_42 (dk_at dksX2_wideningOf_0 0 rfl rfl)
theorem dX2_wideningOf_1 : decode cX2_wideningOf 1 = .ok (.iload_n 1, 1) := dk_27 (dk_at dksX2_wideningOf_0 1 rfl rfl)
theorem dX2_wideningOf_2 : decode cX2_wideningOf 2 = .ok (.invokevirtual 223, 3) := dk_182 0 223 (dk_at dksX2_wideningOf_0 2 rfl rfl)
theorem dX2_wideningOf_5 : decode cX2_wideningOf 5 = .ok (.ifCond .ne 17, 3) := dk_154 0 17 (dk_at dksX2_wideningOf_0 5 rfl rfl)
theorem dX2_wideningOf_8 : decode cX2_wideningOf 8 = .ok (.iload_n 2, 1) := dk_28 (dk_at dksX2_wideningOf_0 8 rfl rfl)
theorem dX2_wideningOf_9 : decode cX2_wideningOf 9 = .ok (.ifCond .ne 15, 3) := dk_154 0 15 (dk_at dksX2_wideningOf_0 9 rfl rfl)
theorem dX2_wideningOf_12 : decode cX2_wideningOf 12 = .ok (.aload_n 0, 1) := dk_42 (dk_at dksX2_wideningOf_0 12 rfl rfl)
theorem dX2_wideningOf_13 : decode cX2_wideningOf 13 = .ok (.iload_n 1, 1) := dk_27 (dk_at dksX2_wideningOf_0 13 rfl rfl)
theorem dX2_wideningOf_14 : decode cX2_wideningOf 14 = .ok (.iconst 3, 1) := dk_6 (dk_at dksX2_wideningOf_0 14 rfl rfl)
theorem dX2_wideningOf_15 : decode cX2_wideningOf 15 = .ok (.invokevirtual 214, 3) := dk_182 0 214 (dk_at dksX2_wideningOf_0 15 rfl rfl)
theorem dX2_wideningOf_18 : decode cX2_wideningOf 18 = .ok (.iconst (-1), 1) := dk_2 (dk_at dksX2_wideningOf_0 18 rfl rfl)
theorem dX2_wideningOf_19 : decode cX2_wideningOf 19 = .ok (.if_icmp .ne 5, 3) := dk_160 0 5 (dk_at dksX2_wideningOf_0 19 rfl rfl)
theorem dX2_wideningOf_22 : decode cX2_wideningOf 22 = .ok (.iconst (-1), 1) := dk_2 (dk_at dksX2_wideningOf_0 22 rfl rfl)
theorem dX2_wideningOf_23 : decode cX2_wideningOf 23 = .ok (.ireturn, 1) := dk_172 (dk_at dksX2_wideningOf_0 23 rfl rfl)
theorem dX2_wideningOf_24 : decode cX2_wideningOf 24 = .ok (.aload_n 0, 1) := dk_42 (dk_at dksX2_wideningOf_1 0 rfl rfl)
theorem dX2_wideningOf_25 : decode cX2_wideningOf 25 = .ok (.iconst 0, 1) := dk_3 (dk_at dksX2_wideningOf_1 1 rfl rfl)
theorem dX2_wideningOf_26 : decode cX2_wideningOf 26 = .ok (.iconst 2, 1) := dk_5 (dk_at dksX2_wideningOf_1 2 rfl rfl)
theorem dX2_wideningOf_27 : decode cX2_wideningOf 27 = .ok (.iload_n 1, 1) := dk_27 (dk_at dksX2_wideningOf_1 3 rfl rfl)
theorem dX2_wideningOf_28 : decode cX2_wideningOf 28 = .ok (.imul, 1) := dk_104 (dk_at dksX2_wideningOf_1 4 rfl rfl)
theorem dX2_wideningOf_29 : decode cX2_wideningOf 29 = .ok (.iload_n 2, 1) := dk_28 (dk_at dksX2_wideningOf_1 5 rfl rfl)
theorem dX2_wideningOf_30 : decode cX2_wideningOf 30 = .ok (.ifCond .eq 7, 3) := dk_153 0 7 (dk_at dksX2_wideningOf_1 6 rfl rfl)
theorem dX2_wideningOf_33 : decode cX2_wideningOf 33 = .ok (.iconst 1, 1) := dk_4 (dk_at dksX2_wideningOf_1 9 rfl rfl)
theorem dX2_wideningOf_34 : decode cX2_wideningOf 34 = .ok (.goto 4, 3) := dk_167 0 4 (dk_at dksX2_wideningOf_1 10 rfl rfl)
theorem dX2_wideningOf_37 : decode cX2_wideningOf 37 = .ok (.iconst 0, 1) := dk_3 (dk_at dksX2_wideningOf_1 13 rfl rfl)
theorem dX2_wideningOf_38 : decode cX2_wideningOf 38 = .ok (.iadd, 1) := dk_96 (dk_at dksX2_wideningOf_1 14 rfl rfl)
theorem dX2_wideningOf_39 : decode cX2_wideningOf 39 = .ok (.invokevirtual 257, 3) := dk_182 1 1 (dk_at dksX2_wideningOf_1 15 rfl rfl)
theorem dX2_wideningOf_42 : decode cX2_wideningOf 42 = .ok (.ifCond .ne 5, 3) := dk_154 0 5 (dk_at dksX2_wideningOf_1 18 rfl rfl)
theorem dX2_wideningOf_45 : decode cX2_wideningOf 45 = .ok (.iconst (-1), 1) := dk_2 (dk_at dksX2_wideningOf_1 21 rfl rfl)
theorem dX2_wideningOf_46 : decode cX2_wideningOf 46 = .ok (.ireturn, 1) := dk_172 (dk_at dksX2_wideningOf_1 22 rfl rfl)
theorem dX2_wideningOf_47 : decode cX2_wideningOf 47 = .ok (.aload_n 0, 1) := dk_42 (dk_at dksX2_wideningOf_1 23 rfl rfl)
theorem dX2_wideningOf_48 : decode cX2_wideningOf 48 = .ok (.iload_n 1, 1) := dk_27 (dk_at dksX2_wideningOf_2 0 rfl rfl)
theorem dX2_wideningOf_49 : decode cX2_wideningOf 49 = .ok (.iconst 0, 1) := dk_3 (dk_at dksX2_wideningOf_2 1 rfl rfl)
theorem dX2_wideningOf_50 : decode cX2_wideningOf 50 = .ok (.invokevirtual 214, 3) := dk_182 0 214 (dk_at dksX2_wideningOf_2 2 rfl rfl)
theorem dX2_wideningOf_53 : decode cX2_wideningOf 53 = .ok (.istore_n 3, 1) := dk_62 (dk_at dksX2_wideningOf_2 5 rfl rfl)
theorem dX2_wideningOf_54 : decode cX2_wideningOf 54 = .ok (.aload_n 0, 1) := dk_42 (dk_at dksX2_wideningOf_2 6 rfl rfl)
theorem dX2_wideningOf_55 : decode cX2_wideningOf 55 = .ok (.iload_n 1, 1) := dk_27 (dk_at dksX2_wideningOf_2 7 rfl rfl)
theorem dX2_wideningOf_56 : decode cX2_wideningOf 56 = .ok (.iconst 1, 1) := dk_4 (dk_at dksX2_wideningOf_2 8 rfl rfl)
theorem dX2_wideningOf_57 : decode cX2_wideningOf 57 = .ok (.invokevirtual 214, 3) := dk_182 0 214 (dk_at dksX2_wideningOf_2 9 rfl rfl)
theorem dX2_wideningOf_60 : decode cX2_wideningOf 60 = .ok (.istore 4, 2) := dk_54 4 (dk_at dksX2_wideningOf_2 12 rfl rfl)
theorem dX2_wideningOf_62 : decode cX2_wideningOf 62 = .ok (.iload_n 2, 1) := dk_28 (dk_at dksX2_wideningOf_2 14 rfl rfl)
theorem dX2_wideningOf_63 : decode cX2_wideningOf 63 = .ok (.ifCond .eq 13, 3) := dk_153 0 13 (dk_at dksX2_wideningOf_2 15 rfl rfl)
theorem dX2_wideningOf_66 : decode cX2_wideningOf 66 = .ok (.aload_n 0, 1) := dk_42 (dk_at dksX2_wideningOf_2 18 rfl rfl)
theorem dX2_wideningOf_67 : decode cX2_wideningOf 67 = .ok (.iload_n 3, 1) := dk_29 (dk_at dksX2_wideningOf_2 19 rfl rfl)
theorem dX2_wideningOf_68 : decode cX2_wideningOf 68 = .ok (.iload 4, 2) := dk_21 4 (dk_at dksX2_wideningOf_2 20 rfl rfl)
theorem dX2_wideningOf_70 : decode cX2_wideningOf 70 = .ok (.invokevirtual 233, 3) := dk_182 0 233 (dk_at dksX2_wideningOf_3 0 rfl rfl)
theorem dX2_wideningOf_73 : decode cX2_wideningOf 73 = .ok (.goto 10, 3) := dk_167 0 10 (dk_at dksX2_wideningOf_3 3 rfl rfl)
theorem dX2_wideningOf_76 : decode cX2_wideningOf 76 = .ok (.aload_n 0, 1) := dk_42 (dk_at dksX2_wideningOf_3 6 rfl rfl)
theorem dX2_wideningOf_77 : decode cX2_wideningOf 77 = .ok (.iload 4, 2) := dk_21 4 (dk_at dksX2_wideningOf_3 7 rfl rfl)
theorem dX2_wideningOf_79 : decode cX2_wideningOf 79 = .ok (.iload_n 3, 1) := dk_29 (dk_at dksX2_wideningOf_3 9 rfl rfl)
theorem dX2_wideningOf_80 : decode cX2_wideningOf 80 = .ok (.invokevirtual 233, 3) := dk_182 0 233 (dk_at dksX2_wideningOf_3 10 rfl rfl)
theorem dX2_wideningOf_83 : decode cX2_wideningOf 83 = .ok (.istore 5, 2) := dk_54 5 (dk_at dksX2_wideningOf_3 13 rfl rfl)
theorem dX2_wideningOf_85 : decode cX2_wideningOf 85 = .ok (.iload_n 2, 1) := dk_28 (dk_at dksX2_wideningOf_3 15 rfl rfl)
theorem dX2_wideningOf_86 : decode cX2_wideningOf 86 = .ok (.ifCond .eq 8, 3) := dk_153 0 8 (dk_at dksX2_wideningOf_3 16 rfl rfl)
theorem dX2_wideningOf_89 : decode cX2_wideningOf 89 = .ok (.iload 5, 2) := dk_21 5 (dk_at dksX2_wideningOf_3 19 rfl rfl)
theorem dX2_wideningOf_91 : decode cX2_wideningOf 91 = .ok (.goto 6, 3) := dk_167 0 6 (dk_at dksX2_wideningOf_3 21 rfl rfl)
theorem dX2_wideningOf_94 : decode cX2_wideningOf 94 = .ok (.iload 5, 2) := dk_21 5 (dk_at dksX2_wideningOf_4 0 rfl rfl)
theorem dX2_wideningOf_96 : decode cX2_wideningOf 96 = .ok (.ineg, 1) := dk_116 (dk_at dksX2_wideningOf_4 2 rfl rfl)
theorem dX2_wideningOf_97 : decode cX2_wideningOf 97 = .ok (.istore 6, 2) := dk_54 6 (dk_at dksX2_wideningOf_4 3 rfl rfl)
theorem dX2_wideningOf_99 : decode cX2_wideningOf 99 = .ok (.iload 6, 2) := dk_21 6 (dk_at dksX2_wideningOf_4 5 rfl rfl)
theorem dX2_wideningOf_101 : decode cX2_wideningOf 101 = .ok (.iconst 0, 1) := dk_3 (dk_at dksX2_wideningOf_4 7 rfl rfl)
theorem dX2_wideningOf_102 : decode cX2_wideningOf 102 = .ok (.sipush 999, 3) := dk_17 3 231 (dk_at dksX2_wideningOf_4 8 rfl rfl)
theorem dX2_wideningOf_105 : decode cX2_wideningOf 105 = .ok (.invokestatic 102, 3) := dk_184 0 102 (dk_at dksX2_wideningOf_4 11 rfl rfl)
theorem dX2_wideningOf_108 : decode cX2_wideningOf 108 = .ok (.ifCond .ne 5, 3) := dk_154 0 5 (dk_at dksX2_wideningOf_4 14 rfl rfl)
theorem dX2_wideningOf_111 : decode cX2_wideningOf 111 = .ok (.iconst (-1), 1) := dk_2 (dk_at dksX2_wideningOf_4 17 rfl rfl)
theorem dX2_wideningOf_112 : decode cX2_wideningOf 112 = .ok (.ireturn, 1) := dk_172 (dk_at dksX2_wideningOf_4 18 rfl rfl)
theorem dX2_wideningOf_113 : decode cX2_wideningOf 113 = .ok (.iload_n 2, 1) := dk_28 (dk_at dksX2_wideningOf_4 19 rfl rfl)
theorem dX2_wideningOf_114 : decode cX2_wideningOf 114 = .ok (.ifCond .eq 15, 3) := dk_153 0 15 (dk_at dksX2_wideningOf_4 20 rfl rfl)
theorem dX2_wideningOf_117 : decode cX2_wideningOf 117 = .ok (.aload_n 0, 1) := dk_42 (dk_at dksX2_wideningOf_4 23 rfl rfl)
theorem dX2_wideningOf_118 : decode cX2_wideningOf 118 = .ok (.iload_n 1, 1) := dk_27 (dk_at dksX2_wideningOf_5 0 rfl rfl)
theorem dX2_wideningOf_119 : decode cX2_wideningOf 119 = .ok (.iconst 2, 1) := dk_5 (dk_at dksX2_wideningOf_5 1 rfl rfl)
theorem dX2_wideningOf_120 : decode cX2_wideningOf 120 = .ok (.invokevirtual 214, 3) := dk_182 0 214 (dk_at dksX2_wideningOf_5 2 rfl rfl)
theorem dX2_wideningOf_123 : decode cX2_wideningOf 123 = .ok (.iload 6, 2) := dk_21 6 (dk_at dksX2_wideningOf_5 5 rfl rfl)
theorem dX2_wideningOf_125 : decode cX2_wideningOf 125 = .ok (.isub, 1) := dk_100 (dk_at dksX2_wideningOf_5 7 rfl rfl)
theorem dX2_wideningOf_126 : decode cX2_wideningOf 126 = .ok (.goto 12, 3) := dk_167 0 12 (dk_at dksX2_wideningOf_5 8 rfl rfl)
theorem dX2_wideningOf_129 : decode cX2_wideningOf 129 = .ok (.iload 6, 2) := dk_21 6 (dk_at dksX2_wideningOf_5 11 rfl rfl)
theorem dX2_wideningOf_131 : decode cX2_wideningOf 131 = .ok (.aload_n 0, 1) := dk_42 (dk_at dksX2_wideningOf_5 13 rfl rfl)
theorem dX2_wideningOf_132 : decode cX2_wideningOf 132 = .ok (.iload_n 1, 1) := dk_27 (dk_at dksX2_wideningOf_5 14 rfl rfl)
theorem dX2_wideningOf_133 : decode cX2_wideningOf 133 = .ok (.iconst 3, 1) := dk_6 (dk_at dksX2_wideningOf_5 15 rfl rfl)
theorem dX2_wideningOf_134 : decode cX2_wideningOf 134 = .ok (.invokevirtual 214, 3) := dk_182 0 214 (dk_at dksX2_wideningOf_5 16 rfl rfl)
theorem dX2_wideningOf_137 : decode cX2_wideningOf 137 = .ok (.isub, 1) := dk_100 (dk_at dksX2_wideningOf_5 19 rfl rfl)
theorem dX2_wideningOf_138 : decode cX2_wideningOf 138 = .ok (.ireturn, 1) := dk_172 (dk_at dksX2_wideningOf_5 20 rfl rfl)
abbrev cX2_bestMend : ByteArray := prog_16_method_98_code
def yX2_bestMend : MethodName := ⟨RX2, "bestMend", "()I"⟩
def dkwX2_bestMend_0 : List UInt8 := [42, 4, 182, 1, 35, 153, 0, 10, 42, 182, 1, 98, 167, 0, 4, 3, 172]
abbrev dktX2_bestMend_0 : List UInt8 := dkwX2_bestMend_0 ++ []
theorem dksX2_bestMend_0 : cX2_bestMend.data.toList.drop 0 = dktX2_bestMend_0 := by decide +kernel
theorem dX2_bestMend_0 : decode cX2_bestMend 0 = .ok (.aload_n 0, 1) := dk_42 (dk_at dksX2_bestMend_0 0 rfl rfl)
theorem dX2_bestMend_1 : decode cX2_bestMend 1 = .ok (.iconst 1, 1) := dk_4 (dk_at dksX2_bestMend_0 1 rfl rfl)
theorem dX2_bestMend_2 : decode cX2_bestMend 2 = .ok (.invokevirtual 291, 3) := dk_182 1 35 (dk_at dksX2_bestMend_0 2 rfl rfl)
theorem dX2_bestMend_5 : decode cX2_bestMend 5 = .ok (.ifCond .eq 10, 3) := dk_153 0 10 (dk_at dksX2_bestMend_0 5 rfl rfl)
theorem dX2_bestMend_8 : decode cX2_bestMend 8 = .ok (.aload_n 0, 1) := dk_42 (dk_at dksX2_bestMend_0 8 rfl rfl)
theorem dX2_bestMend_9 : decode cX2_bestMend 9 = .ok (.invokevirtual 354, 3) := dk_182 1 98 (dk_at dksX2_bestMend_0 9 rfl rfl)
theorem dX2_bestMend_12 : decode cX2_bestMend 12 = .ok (.goto 4, 3) := dk_167 0 4 (dk_at dksX2_bestMend_0 12 rfl rfl)
theorem dX2_bestMend_15 : decode cX2_bestMend 15 = .ok (.iconst 0, 1) := dk_3 (dk_at dksX2_bestMend_0 15 rfl rfl)
theorem dX2_bestMend_16 : decode cX2_bestMend 16 = .ok (.ireturn, 1) := dk_172 (dk_at dksX2_bestMend_0 16 rfl rfl)
abbrev cX2_bestMendNow : ByteArray := prog_16_method_97_code
def yX2_bestMendNow : MethodName := ⟨RX2, "bestMendNow", "()I"⟩
def dkwX2_bestMendNow_5 : List UInt8 := [181, 1, 92, 132, 2, 1, 167, 255, 157, 27, 172]
abbrev dktX2_bestMendNow_5 : List UInt8 := dkwX2_bestMendNow_5 ++ []
def dkwX2_bestMendNow_4 : List UInt8 := [161, 0, 6, 167, 0, 24, 28, 60, 42, 21, 4, 181, 1, 89, 42, 21, 4, 42, 29, 7, 182, 0, 214, 104]
abbrev dktX2_bestMendNow_4 : List UInt8 := dkwX2_bestMendNow_4 ++ dktX2_bestMendNow_5
def dkwX2_bestMendNow_3 : List UInt8 := [2, 159, 0, 48, 27, 2, 159, 0, 22, 21, 4, 42, 29, 7, 182, 0, 214, 104, 42, 180, 1, 92]
abbrev dktX2_bestMendNow_3 : List UInt8 := dkwX2_bestMendNow_3 ++ dktX2_bestMendNow_4
def dkwX2_bestMendNow_2 : List UInt8 := [167, 0, 20, 42, 29, 28, 5, 112, 4, 160, 0, 7, 4, 167, 0, 4, 3, 182, 1, 85, 54, 4, 21, 4]
abbrev dktX2_bestMendNow_2 : List UInt8 := dkwX2_bestMendNow_2 ++ dktX2_bestMendNow_3
def dkwX2_bestMendNow_1 : List UInt8 := [5, 42, 182, 0, 220, 104, 162, 0, 95, 28, 5, 108, 62, 42, 29, 182, 1, 95, 153, 0, 7, 2]
abbrev dktX2_bestMendNow_1 : List UInt8 := dkwX2_bestMendNow_1 ++ dktX2_bestMendNow_2
def dkwX2_bestMendNow_0 : List UInt8 := [42, 2, 181, 1, 89, 42, 2, 181, 1, 92, 42, 182, 1, 20, 153, 0, 5, 2, 172, 2, 60, 3, 61, 28]
abbrev dktX2_bestMendNow_0 : List UInt8 := dkwX2_bestMendNow_0 ++ dktX2_bestMendNow_1
theorem dksX2_bestMendNow_0 : cX2_bestMendNow.data.toList.drop 0 = dktX2_bestMendNow_0 := by decide +kernel
theorem dksX2_bestMendNow_1 : cX2_bestMendNow.data.toList.drop 24 = dktX2_bestMendNow_1 := dk_seg dksX2_bestMendNow_0 24 rfl rfl
theorem dksX2_bestMendNow_2 : cX2_bestMendNow.data.toList.drop 46 = dktX2_bestMendNow_2 := dk_seg dksX2_bestMendNow_1 22 rfl rfl
theorem dksX2_bestMendNow_3 : cX2_bestMendNow.data.toList.drop 70 = dktX2_bestMendNow_3 := dk_seg dksX2_bestMendNow_2 24 rfl rfl
theorem dksX2_bestMendNow_4 : cX2_bestMendNow.data.toList.drop 92 = dktX2_bestMendNow_4 := dk_seg dksX2_bestMendNow_3 22 rfl rfl
theorem dksX2_bestMendNow_5 : cX2_bestMendNow.data.toList.drop 116 = dktX2_bestMendNow_5 := dk_seg dksX2_bestMendNow_4 24 rfl rfl
theorem dX2_bestMendNow_0 : decode cX2_bestMendNow 0 = .ok (.aload_n 0, 1) := dk_42 (dk_at dksX2_bestMendNow_0 0 rfl rfl)
theorem dX2_bestMendNow_1 : decode cX2_bestMendNow 1 = .ok (.iconst (-1), 1) := dk_2 (dk_at dksX2_bestMendNow_0 1 rfl rfl)
theorem dX2_bestMendNow_2 : decode cX2_bestMendNow 2 = .ok (.putfield 345, 3) := dk_181 1 89 (dk_at dksX2_bestMendNow_0 2 rfl rfl)
theorem dX2_bestMendNow_5 : decode cX2_bestMendNow 5 = .ok (.aload_n 0, 1) := dk_42 (dk_at dksX2_bestMendNow_0 5 rfl rfl)
theorem dX2_bestMendNow_6 : decode cX2_bestMendNow 6 = .ok (.iconst (-1), 1) := dk_2 (dk_at dksX2_bestMendNow_0 6 rfl rfl)
theorem dX2_bestMendNow_7 : decode cX2_bestMendNow 7 = .ok (.putfield 348, 3) := dk_181 1 92 (dk_at dksX2_bestMendNow_0 7 rfl rfl)
theorem dX2_bestMendNow_10 : decode cX2_bestMendNow 10 = .ok (.aload_n 0, 1) := dk_42 (dk_at dksX2_bestMendNow_0 10 rfl rfl)
theorem dX2_bestMendNow_11 : decode cX2_bestMendNow 11 = .ok (.invokevirtual 276, 3) := dk_182 1 20 (dk_at dksX2_bestMendNow_0 11 rfl rfl)
theorem dX2_bestMendNow_14 : decode cX2_bestMendNow 14 = .ok (.ifCond .eq 5, 3) := dk_153 0 5 (dk_at dksX2_bestMendNow_0 14 rfl rfl)
theorem dX2_bestMendNow_17 : decode cX2_bestMendNow 17 = .ok (.iconst (-1), 1) := dk_2 (dk_at dksX2_bestMendNow_0 17 rfl rfl)
theorem dX2_bestMendNow_18 : decode cX2_bestMendNow 18 = .ok (.ireturn, 1) := dk_172 (dk_at dksX2_bestMendNow_0 18 rfl rfl)
theorem dX2_bestMendNow_19 : decode cX2_bestMendNow 19 = .ok (.iconst (-1), 1) := dk_2 (dk_at dksX2_bestMendNow_0 19 rfl rfl)
theorem dX2_bestMendNow_20 : decode cX2_bestMendNow 20 = .ok (.istore_n 1, 1) := dk_60 (dk_at dksX2_bestMendNow_0 20 rfl rfl)
theorem dX2_bestMendNow_21 : decode cX2_bestMendNow 21 = .ok (.iconst 0, 1) := dk_3 (dk_at dksX2_bestMendNow_0 21 rfl rfl)
theorem dX2_bestMendNow_22 : decode cX2_bestMendNow 22 = .ok (.istore_n 2, 1) := dk_61 (dk_at dksX2_bestMendNow_0 22 rfl rfl)
theorem dX2_bestMendNow_23 : decode cX2_bestMendNow 23 = .ok (.iload_n 2, 1) := dk_28 (dk_at dksX2_bestMendNow_0 23 rfl rfl)
theorem dX2_bestMendNow_24 : decode cX2_bestMendNow 24 = .ok (.iconst 2, 1) := dk_5 (dk_at dksX2_bestMendNow_1 0 rfl rfl)
theorem dX2_bestMendNow_25 : decode cX2_bestMendNow 25 = .ok (.aload_n 0, 1) := dk_42 (dk_at dksX2_bestMendNow_1 1 rfl rfl)
theorem dX2_bestMendNow_26 : decode cX2_bestMendNow 26 = .ok (.invokevirtual 220, 3) := dk_182 0 220 (dk_at dksX2_bestMendNow_1 2 rfl rfl)
theorem dX2_bestMendNow_29 : decode cX2_bestMendNow 29 = .ok (.imul, 1) := dk_104 (dk_at dksX2_bestMendNow_1 5 rfl rfl)
theorem dX2_bestMendNow_30 : decode cX2_bestMendNow 30 = .ok (.if_icmp .ge 95, 3) := dk_162 0 95 (dk_at dksX2_bestMendNow_1 6 rfl rfl)
theorem dX2_bestMendNow_33 : decode cX2_bestMendNow 33 = .ok (.iload_n 2, 1) := dk_28 (dk_at dksX2_bestMendNow_1 9 rfl rfl)
theorem dX2_bestMendNow_34 : decode cX2_bestMendNow 34 = .ok (.iconst 2, 1) := dk_5 (dk_at dksX2_bestMendNow_1 10 rfl rfl)
theorem dX2_bestMendNow_35 : decode cX2_bestMendNow 35 = .ok (.idiv, 1) := dk_108 (dk_at dksX2_bestMendNow_1 11 rfl rfl)
theorem dX2_bestMendNow_36 : decode cX2_bestMendNow 36 = .ok (.istore_n 3, 1) := dk_62 (dk_at dksX2_bestMendNow_1 12 rfl rfl)
theorem dX2_bestMendNow_37 : decode cX2_bestMendNow 37 = .ok (.aload_n 0, 1) := dk_42 (dk_at dksX2_bestMendNow_1 13 rfl rfl)
theorem dX2_bestMendNow_38 : decode cX2_bestMendNow 38 = .ok (.iload_n 3, 1) := dk_29 (dk_at dksX2_bestMendNow_1 14 rfl rfl)
theorem dX2_bestMendNow_39 : decode cX2_bestMendNow 39 = .ok (.invokevirtual 351, 3) := dk_182 1 95 (dk_at dksX2_bestMendNow_1 15 rfl rfl)
theorem dX2_bestMendNow_42 : decode cX2_bestMendNow 42 = .ok (.ifCond .eq 7, 3) := dk_153 0 7 (dk_at dksX2_bestMendNow_1 18 rfl rfl)
theorem dX2_bestMendNow_45 : decode cX2_bestMendNow 45 = .ok (.iconst (-1), 1) := dk_2 (dk_at dksX2_bestMendNow_1 21 rfl rfl)
theorem dX2_bestMendNow_46 : decode cX2_bestMendNow 46 = .ok (.goto 20, 3) := dk_167 0 20 (dk_at dksX2_bestMendNow_2 0 rfl rfl)
theorem dX2_bestMendNow_49 : decode cX2_bestMendNow 49 = .ok (.aload_n 0, 1) := dk_42 (dk_at dksX2_bestMendNow_2 3 rfl rfl)
theorem dX2_bestMendNow_50 : decode cX2_bestMendNow 50 = .ok (.iload_n 3, 1) := dk_29 (dk_at dksX2_bestMendNow_2 4 rfl rfl)
theorem dX2_bestMendNow_51 : decode cX2_bestMendNow 51 = .ok (.iload_n 2, 1) := dk_28 (dk_at dksX2_bestMendNow_2 5 rfl rfl)
theorem dX2_bestMendNow_52 : decode cX2_bestMendNow 52 = .ok (.iconst 2, 1) := dk_5 (dk_at dksX2_bestMendNow_2 6 rfl rfl)
theorem dX2_bestMendNow_53 : decode cX2_bestMendNow 53 = .ok (.irem, 1) := dk_112 (dk_at dksX2_bestMendNow_2 7 rfl rfl)
theorem dX2_bestMendNow_54 : decode cX2_bestMendNow 54 = .ok (.iconst 1, 1) := dk_4 (dk_at dksX2_bestMendNow_2 8 rfl rfl)
theorem dX2_bestMendNow_55 : decode cX2_bestMendNow 55 = .ok (.if_icmp .ne 7, 3) := dk_160 0 7 (dk_at dksX2_bestMendNow_2 9 rfl rfl)
theorem dX2_bestMendNow_58 : decode cX2_bestMendNow 58 = .ok (.iconst 1, 1) := dk_4 (dk_at dksX2_bestMendNow_2 12 rfl rfl)
theorem dX2_bestMendNow_59 : decode cX2_bestMendNow 59 = .ok (.goto 4, 3) := dk_167 0 4 (dk_at dksX2_bestMendNow_2 13 rfl rfl)
theorem dX2_bestMendNow_62 : decode cX2_bestMendNow 62 = .ok (.iconst 0, 1) := dk_3 (dk_at dksX2_bestMendNow_2 16 rfl rfl)
theorem dX2_bestMendNow_63 : decode cX2_bestMendNow 63 = .ok (.invokevirtual 341, 3) := dk_182 1 85 (dk_at dksX2_bestMendNow_2 17 rfl rfl)
theorem dX2_bestMendNow_66 : decode cX2_bestMendNow 66 = .ok (.istore 4, 2) := dk_54 4 (dk_at dksX2_bestMendNow_2 20 rfl rfl)
theorem dX2_bestMendNow_68 : decode cX2_bestMendNow 68 = .ok (.iload 4, 2) := dk_21 4 (dk_at dksX2_bestMendNow_2 22 rfl rfl)
theorem dX2_bestMendNow_70 : decode cX2_bestMendNow 70 = .ok (.iconst (-1), 1) := dk_2 (dk_at dksX2_bestMendNow_3 0 rfl rfl)
theorem dX2_bestMendNow_71 : decode cX2_bestMendNow 71 = .ok (.if_icmp .eq 48, 3) := dk_159 0 48 (dk_at dksX2_bestMendNow_3 1 rfl rfl)
theorem dX2_bestMendNow_74 : decode cX2_bestMendNow 74 = .ok (.iload_n 1, 1) := dk_27 (dk_at dksX2_bestMendNow_3 4 rfl rfl)
theorem dX2_bestMendNow_75 : decode cX2_bestMendNow 75 = .ok (.iconst (-1), 1) := dk_2 (dk_at dksX2_bestMendNow_3 5 rfl rfl)
theorem dX2_bestMendNow_76 : decode cX2_bestMendNow 76 = .ok (.if_icmp .eq 22, 3) := dk_159 0 22 (dk_at dksX2_bestMendNow_3 6 rfl rfl)
theorem dX2_bestMendNow_79 : decode cX2_bestMendNow 79 = .ok (.iload 4, 2) := dk_21 4 (dk_at dksX2_bestMendNow_3 9 rfl rfl)
theorem dX2_bestMendNow_81 : decode cX2_bestMendNow 81 = .ok (.aload_n 0, 1) := dk_42 (dk_at dksX2_bestMendNow_3 11 rfl rfl)
theorem dX2_bestMendNow_82 : decode cX2_bestMendNow 82 = .ok (.iload_n 3, 1) := dk_29 (dk_at dksX2_bestMendNow_3 12 rfl rfl)
theorem dX2_bestMendNow_83 : decode cX2_bestMendNow 83 = .ok (.iconst 4, 1) := dk_7 (dk_at dksX2_bestMendNow_3 13 rfl rfl)
theorem dX2_bestMendNow_84 : decode cX2_bestMendNow 84 = .ok (.invokevirtual 214, 3) := dk_182 0 214 (dk_at dksX2_bestMendNow_3 14 rfl rfl)
theorem dX2_bestMendNow_87 : decode cX2_bestMendNow 87 = .ok (.imul, 1) := dk_104 (dk_at dksX2_bestMendNow_3 17 rfl rfl)
theorem dX2_bestMendNow_88 : decode cX2_bestMendNow 88 = .ok (.aload_n 0, 1) := dk_42 (dk_at dksX2_bestMendNow_3 18 rfl rfl)
theorem dX2_bestMendNow_89 : decode cX2_bestMendNow 89 = .ok (.getfield 348, 3) := dk_180 1 92 (dk_at dksX2_bestMendNow_3 19 rfl rfl)
theorem dX2_bestMendNow_92 : decode cX2_bestMendNow 92 = .ok (.if_icmp .lt 6, 3) := dk_161 0 6 (dk_at dksX2_bestMendNow_4 0 rfl rfl)
theorem dX2_bestMendNow_95 : decode cX2_bestMendNow 95 = .ok (.goto 24, 3) := dk_167 0 24 (dk_at dksX2_bestMendNow_4 3 rfl rfl)
theorem dX2_bestMendNow_98 : decode cX2_bestMendNow 98 = .ok (.iload_n 2, 1) := dk_28 (dk_at dksX2_bestMendNow_4 6 rfl rfl)
theorem dX2_bestMendNow_99 : decode cX2_bestMendNow 99 = .ok (.istore_n 1, 1) := dk_60 (dk_at dksX2_bestMendNow_4 7 rfl rfl)
theorem dX2_bestMendNow_100 : decode cX2_bestMendNow 100 = .ok (.aload_n 0, 1) := dk_42 (dk_at dksX2_bestMendNow_4 8 rfl rfl)
theorem dX2_bestMendNow_101 : decode cX2_bestMendNow 101 = .ok (.iload 4, 2) := dk_21 4 (dk_at dksX2_bestMendNow_4 9 rfl rfl)
theorem dX2_bestMendNow_103 : decode cX2_bestMendNow 103 = .ok (.putfield 345, 3) := dk_181 1 89 (dk_at dksX2_bestMendNow_4 11 rfl rfl)
theorem dX2_bestMendNow_106 : decode cX2_bestMendNow 106 = .ok (.aload_n 0, 1) := dk_42 (dk_at dksX2_bestMendNow_4 14 rfl rfl)
theorem dX2_bestMendNow_107 : decode cX2_bestMendNow 107 = .ok (.iload 4, 2) := dk_21 4 (dk_at dksX2_bestMendNow_4 15 rfl rfl)
theorem dX2_bestMendNow_109 : decode cX2_bestMendNow 109 = .ok (.aload_n 0, 1) := dk_42 (dk_at dksX2_bestMendNow_4 17 rfl rfl)
theorem dX2_bestMendNow_110 : decode cX2_bestMendNow 110 = .ok (.iload_n 3, 1) := dk_29 (dk_at dksX2_bestMendNow_4 18 rfl rfl)
theorem dX2_bestMendNow_111 : decode cX2_bestMendNow 111 = .ok (.iconst 4, 1) := dk_7 (dk_at dksX2_bestMendNow_4 19 rfl rfl)
theorem dX2_bestMendNow_112 : decode cX2_bestMendNow 112 = .ok (.invokevirtual 214, 3) := dk_182 0 214 (dk_at dksX2_bestMendNow_4 20 rfl rfl)
theorem dX2_bestMendNow_115 : decode cX2_bestMendNow 115 = .ok (.imul, 1) := dk_104 (dk_at dksX2_bestMendNow_4 23 rfl rfl)
theorem dX2_bestMendNow_116 : decode cX2_bestMendNow 116 = .ok (.putfield 348, 3) := dk_181 1 92 (dk_at dksX2_bestMendNow_5 0 rfl rfl)
theorem dX2_bestMendNow_119 : decode cX2_bestMendNow 119 = .ok (.iinc 2 1, 3) := dk_132 2 1 (dk_at dksX2_bestMendNow_5 3 rfl rfl)
theorem dX2_bestMendNow_122 : decode cX2_bestMendNow 122 = .ok (.goto (-99), 3) := dk_167 255 157 (dk_at dksX2_bestMendNow_5 6 rfl rfl)
theorem dX2_bestMendNow_125 : decode cX2_bestMendNow 125 = .ok (.iload_n 1, 1) := dk_27 (dk_at dksX2_bestMendNow_5 9 rfl rfl)
theorem dX2_bestMendNow_126 : decode cX2_bestMendNow 126 = .ok (.ireturn, 1) := dk_172 (dk_at dksX2_bestMendNow_5 10 rfl rfl)
abbrev cX2_isFirm : ByteArray := prog_16_method_33_code
def yX2_isFirm : MethodName := ⟨RX2, "isFirm", "(I)Z"⟩
def dkwX2_isFirm_0 : List UInt8 := [42, 27, 7, 182, 0, 214, 154, 0, 7, 4, 167, 0, 4, 3, 172]
abbrev dktX2_isFirm_0 : List UInt8 := dkwX2_isFirm_0 ++ []
theorem dksX2_isFirm_0 : cX2_isFirm.data.toList.drop 0 = dktX2_isFirm_0 := by decide +kernel
theorem dX2_isFirm_0 : decode cX2_isFirm 0 = .ok (.aload_n 0, 1) := dk_42 (dk_at dksX2_isFirm_0 0 rfl rfl)
theorem dX2_isFirm_1 : decode cX2_isFirm 1 = .ok (.iload_n 1, 1) := dk_27 (dk_at dksX2_isFirm_0 1 rfl rfl)
theorem dX2_isFirm_2 : decode cX2_isFirm 2 = .ok (.iconst 4, 1) := dk_7 (dk_at dksX2_isFirm_0 2 rfl rfl)
theorem dX2_isFirm_3 : decode cX2_isFirm 3 = .ok (.invokevirtual 214, 3) := dk_182 0 214 (dk_at dksX2_isFirm_0 3 rfl rfl)
theorem dX2_isFirm_6 : decode cX2_isFirm 6 = .ok (.ifCond .ne 7, 3) := dk_154 0 7 (dk_at dksX2_isFirm_0 6 rfl rfl)
theorem dX2_isFirm_9 : decode cX2_isFirm 9 = .ok (.iconst 1, 1) := dk_4 (dk_at dksX2_isFirm_0 9 rfl rfl)
theorem dX2_isFirm_10 : decode cX2_isFirm 10 = .ok (.goto 4, 3) := dk_167 0 4 (dk_at dksX2_isFirm_0 10 rfl rfl)
theorem dX2_isFirm_13 : decode cX2_isFirm 13 = .ok (.iconst 0, 1) := dk_3 (dk_at dksX2_isFirm_0 13 rfl rfl)
theorem dX2_isFirm_14 : decode cX2_isFirm 14 = .ok (.ireturn, 1) := dk_172 (dk_at dksX2_isFirm_0 14 rfl rfl)
abbrev cX2_mendCost : ByteArray := prog_16_method_99_code
def yX2_mendCost : MethodName := ⟨RX2, "mendCost", "()I"⟩
def dkwX2_mendCost_1 : List UInt8 := [42, 180, 1, 92, 172]
abbrev dktX2_mendCost_1 : List UInt8 := dkwX2_mendCost_1 ++ []
def dkwX2_mendCost_0 : List UInt8 := [42, 4, 182, 1, 35, 154, 0, 5, 3, 172, 42, 182, 1, 98, 60, 27, 2, 160, 0, 7, 2, 167, 0, 7]
abbrev dktX2_mendCost_0 : List UInt8 := dkwX2_mendCost_0 ++ dktX2_mendCost_1
theorem dksX2_mendCost_0 : cX2_mendCost.data.toList.drop 0 = dktX2_mendCost_0 := by decide +kernel
theorem dksX2_mendCost_1 : cX2_mendCost.data.toList.drop 24 = dktX2_mendCost_1 := dk_seg dksX2_mendCost_0 24 rfl rfl
theorem dX2_mendCost_0 : decode cX2_mendCost 0 = .ok (.aload_n 0, 1) := dk_42 (dk_at dksX2_mendCost_0 0 rfl rfl)
theorem dX2_mendCost_1 : decode cX2_mendCost 1 = .ok (.iconst 1, 1) := dk_4 (dk_at dksX2_mendCost_0 1 rfl rfl)
theorem dX2_mendCost_2 : decode cX2_mendCost 2 = .ok (.invokevirtual 291, 3) := dk_182 1 35 (dk_at dksX2_mendCost_0 2 rfl rfl)
theorem dX2_mendCost_5 : decode cX2_mendCost 5 = .ok (.ifCond .ne 5, 3) := dk_154 0 5 (dk_at dksX2_mendCost_0 5 rfl rfl)
theorem dX2_mendCost_8 : decode cX2_mendCost 8 = .ok (.iconst 0, 1) := dk_3 (dk_at dksX2_mendCost_0 8 rfl rfl)
theorem dX2_mendCost_9 : decode cX2_mendCost 9 = .ok (.ireturn, 1) := dk_172 (dk_at dksX2_mendCost_0 9 rfl rfl)
theorem dX2_mendCost_10 : decode cX2_mendCost 10 = .ok (.aload_n 0, 1) := dk_42 (dk_at dksX2_mendCost_0 10 rfl rfl)
theorem dX2_mendCost_11 : decode cX2_mendCost 11 = .ok (.invokevirtual 354, 3) := dk_182 1 98 (dk_at dksX2_mendCost_0 11 rfl rfl)
theorem dX2_mendCost_14 : decode cX2_mendCost 14 = .ok (.istore_n 1, 1) := dk_60 (dk_at dksX2_mendCost_0 14 rfl rfl)
theorem dX2_mendCost_15 : decode cX2_mendCost 15 = .ok (.iload_n 1, 1) := dk_27 (dk_at dksX2_mendCost_0 15 rfl rfl)
theorem dX2_mendCost_16 : decode cX2_mendCost 16 = .ok (.iconst (-1), 1) := dk_2 (dk_at dksX2_mendCost_0 16 rfl rfl)
theorem dX2_mendCost_17 : decode cX2_mendCost 17 = .ok (.if_icmp .ne 7, 3) := dk_160 0 7 (dk_at dksX2_mendCost_0 17 rfl rfl)
theorem dX2_mendCost_20 : decode cX2_mendCost 20 = .ok (.iconst (-1), 1) := dk_2 (dk_at dksX2_mendCost_0 20 rfl rfl)
theorem dX2_mendCost_21 : decode cX2_mendCost 21 = .ok (.goto 7, 3) := dk_167 0 7 (dk_at dksX2_mendCost_0 21 rfl rfl)
theorem dX2_mendCost_24 : decode cX2_mendCost 24 = .ok (.aload_n 0, 1) := dk_42 (dk_at dksX2_mendCost_1 0 rfl rfl)
theorem dX2_mendCost_25 : decode cX2_mendCost 25 = .ok (.getfield 348, 3) := dk_180 1 92 (dk_at dksX2_mendCost_1 1 rfl rfl)
theorem dX2_mendCost_28 : decode cX2_mendCost 28 = .ok (.ireturn, 1) := dk_172 (dk_at dksX2_mendCost_1 4 rfl rfl)
abbrev cX2_leastDrop : ByteArray := prog_16_method_104_code
def yX2_leastDrop : MethodName := ⟨RX2, "leastDrop", "()I"⟩
def dkwX2_leastDrop_0 : List UInt8 := [42, 4, 182, 1, 35, 153, 0, 10, 42, 182, 1, 115, 167, 0, 4, 3, 172]
abbrev dktX2_leastDrop_0 : List UInt8 := dkwX2_leastDrop_0 ++ []
theorem dksX2_leastDrop_0 : cX2_leastDrop.data.toList.drop 0 = dktX2_leastDrop_0 := by decide +kernel
theorem dX2_leastDrop_0 : decode cX2_leastDrop 0 = .ok (.aload_n 0, 1) := dk_42 (dk_at dksX2_leastDrop_0 0 rfl rfl)
theorem dX2_leastDrop_1 : decode cX2_leastDrop 1 = .ok (.iconst 1, 1) := dk_4 (dk_at dksX2_leastDrop_0 1 rfl rfl)
theorem dX2_leastDrop_2 : decode cX2_leastDrop 2 = .ok (.invokevirtual 291, 3) := dk_182 1 35 (dk_at dksX2_leastDrop_0 2 rfl rfl)
theorem dX2_leastDrop_5 : decode cX2_leastDrop 5 = .ok (.ifCond .eq 10, 3) := dk_153 0 10 (dk_at dksX2_leastDrop_0 5 rfl rfl)
theorem dX2_leastDrop_8 : decode cX2_leastDrop 8 = .ok (.aload_n 0, 1) := dk_42 (dk_at dksX2_leastDrop_0 8 rfl rfl)
theorem dX2_leastDrop_9 : decode cX2_leastDrop 9 = .ok (.invokevirtual 371, 3) := dk_182 1 115 (dk_at dksX2_leastDrop_0 9 rfl rfl)
theorem dX2_leastDrop_12 : decode cX2_leastDrop 12 = .ok (.goto 4, 3) := dk_167 0 4 (dk_at dksX2_leastDrop_0 12 rfl rfl)
theorem dX2_leastDrop_15 : decode cX2_leastDrop 15 = .ok (.iconst 0, 1) := dk_3 (dk_at dksX2_leastDrop_0 15 rfl rfl)
theorem dX2_leastDrop_16 : decode cX2_leastDrop 16 = .ok (.ireturn, 1) := dk_172 (dk_at dksX2_leastDrop_0 16 rfl rfl)
abbrev cX2_leastDropNow : ByteArray := prog_16_method_103_code
def yX2_leastDropNow : MethodName := ⟨RX2, "leastDropNow", "()I"⟩
def dkwX2_leastDropNow_2 : List UInt8 := [158, 0, 7, 4, 167, 0, 4, 3, 54, 4, 29, 4, 100, 27, 126, 62, 167, 255, 209, 28, 172]
abbrev dktX2_leastDropNow_2 : List UInt8 := dkwX2_leastDropNow_2 ++ []
def dkwX2_leastDropNow_1 : List UInt8 := [159, 0, 12, 42, 29, 28, 182, 1, 112, 153, 0, 14, 42, 29, 2, 182, 1, 1, 153, 0, 5, 29, 61, 29]
abbrev dktX2_leastDropNow_1 : List UInt8 := dkwX2_leastDropNow_1 ++ dktX2_leastDropNow_2
def dkwX2_leastDropNow_0 : List UInt8 := [42, 182, 0, 254, 42, 182, 1, 109, 60, 2, 61, 27, 62, 4, 54, 4, 21, 4, 153, 0, 48, 28, 2]
abbrev dktX2_leastDropNow_0 : List UInt8 := dkwX2_leastDropNow_0 ++ dktX2_leastDropNow_1
theorem dksX2_leastDropNow_0 : cX2_leastDropNow.data.toList.drop 0 = dktX2_leastDropNow_0 := by decide +kernel
theorem dksX2_leastDropNow_1 : cX2_leastDropNow.data.toList.drop 23 = dktX2_leastDropNow_1 := dk_seg dksX2_leastDropNow_0 23 rfl rfl
theorem dksX2_leastDropNow_2 : cX2_leastDropNow.data.toList.drop 47 = dktX2_leastDropNow_2 := dk_seg dksX2_leastDropNow_1 24 rfl rfl
theorem dX2_leastDropNow_0 : decode cX2_leastDropNow 0 = .ok (.aload_n 0, 1) := dk_42 (dk_at dksX2_leastDropNow_0 0 rfl rfl)
theorem dX2_leastDropNow_1 : decode cX2_leastDropNow 1 = .ok (.invokevirtual 254, 3) := dk_182 0 254 (dk_at dksX2_leastDropNow_0 1 rfl rfl)
theorem dX2_leastDropNow_4 : decode cX2_leastDropNow 4 = .ok (.aload_n 0, 1) := dk_42 (dk_at dksX2_leastDropNow_0 4 rfl rfl)
theorem dX2_leastDropNow_5 : decode cX2_leastDropNow 5 = .ok (.invokevirtual 365, 3) := dk_182 1 109 (dk_at dksX2_leastDropNow_0 5 rfl rfl)
theorem dX2_leastDropNow_8 : decode cX2_leastDropNow 8 = .ok (.istore_n 1, 1) := dk_60 (dk_at dksX2_leastDropNow_0 8 rfl rfl)
theorem dX2_leastDropNow_9 : decode cX2_leastDropNow 9 = .ok (.iconst (-1), 1) := dk_2 (dk_at dksX2_leastDropNow_0 9 rfl rfl)
theorem dX2_leastDropNow_10 : decode cX2_leastDropNow 10 = .ok (.istore_n 2, 1) := dk_61 (dk_at dksX2_leastDropNow_0 10 rfl rfl)
theorem dX2_leastDropNow_11 : decode cX2_leastDropNow 11 = .ok (.iload_n 1, 1) := dk_27 (dk_at dksX2_leastDropNow_0 11 rfl rfl)
theorem dX2_leastDropNow_12 : decode cX2_leastDropNow 12 = .ok (.istore_n 3, 1) := dk_62 (dk_at dksX2_leastDropNow_0 12 rfl rfl)
theorem dX2_leastDropNow_13 : decode cX2_leastDropNow 13 = .ok (.iconst 1, 1) := dk_4 (dk_at dksX2_leastDropNow_0 13 rfl rfl)
theorem dX2_leastDropNow_14 : decode cX2_leastDropNow 14 = .ok (.istore 4, 2) := dk_54 4 (dk_at dksX2_leastDropNow_0 14 rfl rfl)
theorem dX2_leastDropNow_16 : decode cX2_leastDropNow 16 = .ok (.iload 4, 2) := dk_21 4 (dk_at dksX2_leastDropNow_0 16 rfl rfl)
theorem dX2_leastDropNow_18 : decode cX2_leastDropNow 18 = .ok (.ifCond .eq 48, 3) := dk_153 0 48 (dk_at dksX2_leastDropNow_0 18 rfl rfl)
theorem dX2_leastDropNow_21 : decode cX2_leastDropNow 21 = .ok (.iload_n 2, 1) := dk_28 (dk_at dksX2_leastDropNow_0 21 rfl rfl)
theorem dX2_leastDropNow_22 : decode cX2_leastDropNow 22 = .ok (.iconst (-1), 1) := dk_2 (dk_at dksX2_leastDropNow_0 22 rfl rfl)
theorem dX2_leastDropNow_23 : decode cX2_leastDropNow 23 = .ok (.if_icmp .eq 12, 3) := dk_159 0 12 (dk_at dksX2_leastDropNow_1 0 rfl rfl)
theorem dX2_leastDropNow_26 : decode cX2_leastDropNow 26 = .ok (.aload_n 0, 1) := dk_42 (dk_at dksX2_leastDropNow_1 3 rfl rfl)
theorem dX2_leastDropNow_27 : decode cX2_leastDropNow 27 = .ok (.iload_n 3, 1) := dk_29 (dk_at dksX2_leastDropNow_1 4 rfl rfl)
theorem dX2_leastDropNow_28 : decode cX2_leastDropNow 28 = .ok (.iload_n 2, 1) := dk_28 (dk_at dksX2_leastDropNow_1 5 rfl rfl)
theorem dX2_leastDropNow_29 : decode cX2_leastDropNow 29 = .ok (.invokevirtual 368, 3) := dk_182 1 112 (dk_at dksX2_leastDropNow_1 6 rfl rfl)
theorem dX2_leastDropNow_32 : decode cX2_leastDropNow 32 = .ok (.ifCond .eq 14, 3) := dk_153 0 14 (dk_at dksX2_leastDropNow_1 9 rfl rfl)
theorem dX2_leastDropNow_35 : decode cX2_leastDropNow 35 = .ok (.aload_n 0, 1) := dk_42 (dk_at dksX2_leastDropNow_1 12 rfl rfl)
theorem dX2_leastDropNow_36 : decode cX2_leastDropNow 36 = .ok (.iload_n 3, 1) := dk_29 (dk_at dksX2_leastDropNow_1 13 rfl rfl)
theorem dX2_leastDropNow_37 : decode cX2_leastDropNow 37 = .ok (.iconst (-1), 1) := dk_2 (dk_at dksX2_leastDropNow_1 14 rfl rfl)
theorem dX2_leastDropNow_38 : decode cX2_leastDropNow 38 = .ok (.invokevirtual 257, 3) := dk_182 1 1 (dk_at dksX2_leastDropNow_1 15 rfl rfl)
theorem dX2_leastDropNow_41 : decode cX2_leastDropNow 41 = .ok (.ifCond .eq 5, 3) := dk_153 0 5 (dk_at dksX2_leastDropNow_1 18 rfl rfl)
theorem dX2_leastDropNow_44 : decode cX2_leastDropNow 44 = .ok (.iload_n 3, 1) := dk_29 (dk_at dksX2_leastDropNow_1 21 rfl rfl)
theorem dX2_leastDropNow_45 : decode cX2_leastDropNow 45 = .ok (.istore_n 2, 1) := dk_61 (dk_at dksX2_leastDropNow_1 22 rfl rfl)
theorem dX2_leastDropNow_46 : decode cX2_leastDropNow 46 = .ok (.iload_n 3, 1) := dk_29 (dk_at dksX2_leastDropNow_1 23 rfl rfl)
theorem dX2_leastDropNow_47 : decode cX2_leastDropNow 47 = .ok (.ifCond .le 7, 3) := dk_158 0 7 (dk_at dksX2_leastDropNow_2 0 rfl rfl)
theorem dX2_leastDropNow_50 : decode cX2_leastDropNow 50 = .ok (.iconst 1, 1) := dk_4 (dk_at dksX2_leastDropNow_2 3 rfl rfl)
theorem dX2_leastDropNow_51 : decode cX2_leastDropNow 51 = .ok (.goto 4, 3) := dk_167 0 4 (dk_at dksX2_leastDropNow_2 4 rfl rfl)
theorem dX2_leastDropNow_54 : decode cX2_leastDropNow 54 = .ok (.iconst 0, 1) := dk_3 (dk_at dksX2_leastDropNow_2 7 rfl rfl)
theorem dX2_leastDropNow_55 : decode cX2_leastDropNow 55 = .ok (.istore 4, 2) := dk_54 4 (dk_at dksX2_leastDropNow_2 8 rfl rfl)
theorem dX2_leastDropNow_57 : decode cX2_leastDropNow 57 = .ok (.iload_n 3, 1) := dk_29 (dk_at dksX2_leastDropNow_2 10 rfl rfl)
theorem dX2_leastDropNow_58 : decode cX2_leastDropNow 58 = .ok (.iconst 1, 1) := dk_4 (dk_at dksX2_leastDropNow_2 11 rfl rfl)
theorem dX2_leastDropNow_59 : decode cX2_leastDropNow 59 = .ok (.isub, 1) := dk_100 (dk_at dksX2_leastDropNow_2 12 rfl rfl)
theorem dX2_leastDropNow_60 : decode cX2_leastDropNow 60 = .ok (.iload_n 1, 1) := dk_27 (dk_at dksX2_leastDropNow_2 13 rfl rfl)
theorem dX2_leastDropNow_61 : decode cX2_leastDropNow 61 = .ok (.iand, 1) := dk_126 (dk_at dksX2_leastDropNow_2 14 rfl rfl)
theorem dX2_leastDropNow_62 : decode cX2_leastDropNow 62 = .ok (.istore_n 3, 1) := dk_62 (dk_at dksX2_leastDropNow_2 15 rfl rfl)
theorem dX2_leastDropNow_63 : decode cX2_leastDropNow 63 = .ok (.goto (-47), 3) := dk_167 255 209 (dk_at dksX2_leastDropNow_2 16 rfl rfl)
theorem dX2_leastDropNow_66 : decode cX2_leastDropNow 66 = .ok (.iload_n 2, 1) := dk_28 (dk_at dksX2_leastDropNow_2 19 rfl rfl)
theorem dX2_leastDropNow_67 : decode cX2_leastDropNow 67 = .ok (.ireturn, 1) := dk_172 (dk_at dksX2_leastDropNow_2 20 rfl rfl)
abbrev cX2_droppable : ByteArray := prog_16_method_102_code
def yX2_droppable : MethodName := ⟨RX2, "droppable", "()I"⟩
def dkwX2_droppable_1 : List UInt8 := [182, 0, 223, 153, 0, 7, 3, 167, 0, 6, 4, 28, 120, 128, 60, 132, 2, 1, 167, 255, 219, 27, 172]
abbrev dktX2_droppable_1 : List UInt8 := dkwX2_droppable_1 ++ []
def dkwX2_droppable_0 : List UInt8 := [3, 60, 3, 61, 28, 42, 182, 0, 220, 162, 0, 35, 27, 42, 28, 182, 1, 95, 154, 0, 11, 42, 28]
abbrev dktX2_droppable_0 : List UInt8 := dkwX2_droppable_0 ++ dktX2_droppable_1
theorem dksX2_droppable_0 : cX2_droppable.data.toList.drop 0 = dktX2_droppable_0 := by decide +kernel
theorem dksX2_droppable_1 : cX2_droppable.data.toList.drop 23 = dktX2_droppable_1 := dk_seg dksX2_droppable_0 23 rfl rfl
theorem dX2_droppable_0 : decode cX2_droppable 0 = .ok (.iconst 0, 1) := dk_3 (dk_at dksX2_droppable_0 0 rfl rfl)
theorem dX2_droppable_1 : decode cX2_droppable 1 = .ok (.istore_n 1, 1) := dk_60 (dk_at dksX2_droppable_0 1 rfl rfl)
theorem dX2_droppable_2 : decode cX2_droppable 2 = .ok (.iconst 0, 1) := dk_3 (dk_at dksX2_droppable_0 2 rfl rfl)
theorem dX2_droppable_3 : decode cX2_droppable 3 = .ok (.istore_n 2, 1) := dk_61 (dk_at dksX2_droppable_0 3 rfl rfl)
theorem dX2_droppable_4 : decode cX2_droppable 4 = .ok (.iload_n 2, 1) := dk_28 (dk_at dksX2_droppable_0 4 rfl rfl)
theorem dX2_droppable_5 : decode cX2_droppable 5 = .ok (.aload_n 0, 1) := dk_42 (dk_at dksX2_droppable_0 5 rfl rfl)
theorem dX2_droppable_6 : decode cX2_droppable 6 = .ok (.invokevirtual 220, 3) := dk_182 0 220 (dk_at dksX2_droppable_0 6 rfl rfl)
theorem dX2_droppable_9 : decode cX2_droppable 9 = .ok (.if_icmp .ge 35, 3) := dk_162 0 35 (dk_at dksX2_droppable_0 9 rfl rfl)
theorem dX2_droppable_12 : decode cX2_droppable 12 = .ok (.iload_n 1, 1) := dk_27 (dk_at dksX2_droppable_0 12 rfl rfl)
theorem dX2_droppable_13 : decode cX2_droppable 13 = .ok (.aload_n 0, 1) := dk_42 (dk_at dksX2_droppable_0 13 rfl rfl)
theorem dX2_droppable_14 : decode cX2_droppable 14 = .ok (.iload_n 2, 1) := dk_28 (dk_at dksX2_droppable_0 14 rfl rfl)
theorem dX2_droppable_15 : decode cX2_droppable 15 = .ok (.invokevirtual 351, 3) := dk_182 1 95 (dk_at dksX2_droppable_0 15 rfl rfl)
theorem dX2_droppable_18 : decode cX2_droppable 18 = .ok (.ifCond .ne 11, 3) := dk_154 0 11 (dk_at dksX2_droppable_0 18 rfl rfl)
theorem dX2_droppable_21 : decode cX2_droppable 21 = .ok (.aload_n 0, 1) := dk_42 (dk_at dksX2_droppable_0 21 rfl rfl)
theorem dX2_droppable_22 : decode cX2_droppable 22 = .ok (.iload_n 2, 1) := dk_28 (dk_at dksX2_droppable_0 22 rfl rfl)
theorem dX2_droppable_23 : decode cX2_droppable 23 = .ok (.invokevirtual 223, 3) := dk_182 0 223 (dk_at dksX2_droppable_1 0 rfl rfl)
theorem dX2_droppable_26 : decode cX2_droppable 26 = .ok (.ifCond .eq 7, 3) := dk_153 0 7 (dk_at dksX2_droppable_1 3 rfl rfl)
theorem dX2_droppable_29 : decode cX2_droppable 29 = .ok (.iconst 0, 1) := dk_3 (dk_at dksX2_droppable_1 6 rfl rfl)
theorem dX2_droppable_30 : decode cX2_droppable 30 = .ok (.goto 6, 3) := dk_167 0 6 (dk_at dksX2_droppable_1 7 rfl rfl)
theorem dX2_droppable_33 : decode cX2_droppable 33 = .ok (.iconst 1, 1) := dk_4 (dk_at dksX2_droppable_1 10 rfl rfl)
theorem dX2_droppable_34 : decode cX2_droppable 34 = .ok (.iload_n 2, 1) := dk_28 (dk_at dksX2_droppable_1 11 rfl rfl)
theorem dX2_droppable_35 : decode cX2_droppable 35 = .ok (.ishl, 1) := dk_120 (dk_at dksX2_droppable_1 12 rfl rfl)
theorem dX2_droppable_36 : decode cX2_droppable 36 = .ok (.ior, 1) := dk_128 (dk_at dksX2_droppable_1 13 rfl rfl)
theorem dX2_droppable_37 : decode cX2_droppable 37 = .ok (.istore_n 1, 1) := dk_60 (dk_at dksX2_droppable_1 14 rfl rfl)
theorem dX2_droppable_38 : decode cX2_droppable 38 = .ok (.iinc 2 1, 3) := dk_132 2 1 (dk_at dksX2_droppable_1 15 rfl rfl)
theorem dX2_droppable_41 : decode cX2_droppable 41 = .ok (.goto (-37), 3) := dk_167 255 219 (dk_at dksX2_droppable_1 18 rfl rfl)
theorem dX2_droppable_44 : decode cX2_droppable 44 = .ok (.iload_n 1, 1) := dk_27 (dk_at dksX2_droppable_1 21 rfl rfl)
theorem dX2_droppable_45 : decode cX2_droppable 45 = .ok (.ireturn, 1) := dk_172 (dk_at dksX2_droppable_1 22 rfl rfl)
abbrev cX2_isCheaper : ByteArray := prog_16_method_101_code
def yX2_isCheaper : MethodName := ⟨RX2, "isCheaper", "(II)Z"⟩
def dkwX2_isCheaper_2 : List UInt8 := [154, 0, 12, 27, 28, 162, 0, 7, 4, 167, 0, 4, 3, 172]
abbrev dktX2_isCheaper_2 : List UInt8 := dkwX2_isCheaper_2 ++ []
def dkwX2_isCheaper_1 : List UInt8 := [162, 0, 7, 4, 167, 0, 4, 3, 172, 27, 184, 1, 104, 28, 184, 1, 104, 100, 62, 29, 155, 0, 12, 29]
abbrev dktX2_isCheaper_1 : List UInt8 := dkwX2_isCheaper_1 ++ dktX2_isCheaper_2
def dkwX2_isCheaper_0 : List UInt8 := [42, 27, 182, 1, 101, 42, 28, 182, 1, 101, 159, 0, 22, 42, 27, 182, 1, 101, 42, 28, 182, 1, 101]
abbrev dktX2_isCheaper_0 : List UInt8 := dkwX2_isCheaper_0 ++ dktX2_isCheaper_1
theorem dksX2_isCheaper_0 : cX2_isCheaper.data.toList.drop 0 = dktX2_isCheaper_0 := by decide +kernel
theorem dksX2_isCheaper_1 : cX2_isCheaper.data.toList.drop 23 = dktX2_isCheaper_1 := dk_seg dksX2_isCheaper_0 23 rfl rfl
theorem dksX2_isCheaper_2 : cX2_isCheaper.data.toList.drop 47 = dktX2_isCheaper_2 := dk_seg dksX2_isCheaper_1 24 rfl rfl
theorem dX2_isCheaper_0 : decode cX2_isCheaper 0 = .ok (.aload_n 0, 1) := dk_42 (dk_at dksX2_isCheaper_0 0 rfl rfl)
theorem dX2_isCheaper_1 : decode cX2_isCheaper 1 = .ok (.iload_n 1, 1) := dk_27 (dk_at dksX2_isCheaper_0 1 rfl rfl)
theorem dX2_isCheaper_2 : decode cX2_isCheaper 2 = .ok (.invokevirtual 357, 3) := dk_182 1 101 (dk_at dksX2_isCheaper_0 2 rfl rfl)
theorem dX2_isCheaper_5 : decode cX2_isCheaper 5 = .ok (.aload_n 0, 1) := dk_42 (dk_at dksX2_isCheaper_0 5 rfl rfl)
theorem dX2_isCheaper_6 : decode cX2_isCheaper 6 = .ok (.iload_n 2, 1) := dk_28 (dk_at dksX2_isCheaper_0 6 rfl rfl)
theorem dX2_isCheaper_7 : decode cX2_isCheaper 7 = .ok (.invokevirtual 357, 3) := dk_182 1 101 (dk_at dksX2_isCheaper_0 7 rfl rfl)
theorem dX2_isCheaper_10 : decode cX2_isCheaper 10 = .ok (.if_icmp .eq 22, 3) := dk_159 0 22 (dk_at dksX2_isCheaper_0 10 rfl rfl)
theorem dX2_isCheaper_13 : decode cX2_isCheaper 13 = .ok (.aload_n 0, 1) := dk_42 (dk_at dksX2_isCheaper_0 13 rfl rfl)
theorem dX2_isCheaper_14 : decode cX2_isCheaper 14 = .ok (.iload_n 1, 1) := dk_27 (dk_at dksX2_isCheaper_0 14 rfl rfl)
theorem dX2_isCheaper_15 : decode cX2_isCheaper 15 = .ok (.invokevirtual 357, 3) := dk_182 1 101 (dk_at dksX2_isCheaper_0 15 rfl rfl)
theorem dX2_isCheaper_18 : decode cX2_isCheaper 18 = .ok (.aload_n 0, 1) := dk_42 (dk_at dksX2_isCheaper_0 18 rfl rfl)
theorem dX2_isCheaper_19 : decode cX2_isCheaper 19 = .ok (.iload_n 2, 1) := dk_28 (dk_at dksX2_isCheaper_0 19 rfl rfl)
theorem dX2_isCheaper_20 : decode cX2_isCheaper 20 = .ok (.invokevirtual 357, 3) := dk_182 1 101 (dk_at dksX2_isCheaper_0 20 rfl rfl)
theorem dX2_isCheaper_23 : decode cX2_isCheaper 23 = .ok (.if_icmp .ge 7, 3) := dk_162 0 7 (dk_at dksX2_isCheaper_1 0 rfl rfl)
theorem dX2_isCheaper_26 : decode cX2_isCheaper 26 = .ok (.iconst 1, 1) := dk_4 (dk_at dksX2_isCheaper_1 3 rfl rfl)
theorem dX2_isCheaper_27 : decode cX2_isCheaper 27 = .ok (.goto 4, 3) := dk_167 0 4 (dk_at dksX2_isCheaper_1 4 rfl rfl)
theorem dX2_isCheaper_30 : decode cX2_isCheaper 30 = .ok (.iconst 0, 1) := dk_3 (dk_at dksX2_isCheaper_1 7 rfl rfl)
theorem dX2_isCheaper_31 : decode cX2_isCheaper 31 = .ok (.ireturn, 1) := dk_172 (dk_at dksX2_isCheaper_1 8 rfl rfl)
theorem dX2_isCheaper_32 : decode cX2_isCheaper 32 = .ok (.iload_n 1, 1) := dk_27 (dk_at dksX2_isCheaper_1 9 rfl rfl)
theorem dX2_isCheaper_33 : decode cX2_isCheaper 33 = .ok (.invokestatic 360, 3) := dk_184 1 104 (dk_at dksX2_isCheaper_1 10 rfl rfl)
theorem dX2_isCheaper_36 : decode cX2_isCheaper 36 = .ok (.iload_n 2, 1) := dk_28 (dk_at dksX2_isCheaper_1 13 rfl rfl)
theorem dX2_isCheaper_37 : decode cX2_isCheaper 37 = .ok (.invokestatic 360, 3) := dk_184 1 104 (dk_at dksX2_isCheaper_1 14 rfl rfl)
theorem dX2_isCheaper_40 : decode cX2_isCheaper 40 = .ok (.isub, 1) := dk_100 (dk_at dksX2_isCheaper_1 17 rfl rfl)
theorem dX2_isCheaper_41 : decode cX2_isCheaper 41 = .ok (.istore_n 3, 1) := dk_62 (dk_at dksX2_isCheaper_1 18 rfl rfl)
theorem dX2_isCheaper_42 : decode cX2_isCheaper 42 = .ok (.iload_n 3, 1) := dk_29 (dk_at dksX2_isCheaper_1 19 rfl rfl)
theorem dX2_isCheaper_43 : decode cX2_isCheaper 43 = .ok (.ifCond .lt 12, 3) := dk_155 0 12 (dk_at dksX2_isCheaper_1 20 rfl rfl)
theorem dX2_isCheaper_46 : decode cX2_isCheaper 46 = .ok (.iload_n 3, 1) := dk_29 (dk_at dksX2_isCheaper_1 23 rfl rfl)
theorem dX2_isCheaper_47 : decode cX2_isCheaper 47 = .ok (.ifCond .ne 12, 3) := dk_154 0 12 (dk_at dksX2_isCheaper_2 0 rfl rfl)
theorem dX2_isCheaper_50 : decode cX2_isCheaper 50 = .ok (.iload_n 1, 1) := dk_27 (dk_at dksX2_isCheaper_2 3 rfl rfl)
theorem dX2_isCheaper_51 : decode cX2_isCheaper 51 = .ok (.iload_n 2, 1) := dk_28 (dk_at dksX2_isCheaper_2 4 rfl rfl)
theorem dX2_isCheaper_52 : decode cX2_isCheaper 52 = .ok (.if_icmp .ge 7, 3) := dk_162 0 7 (dk_at dksX2_isCheaper_2 5 rfl rfl)
theorem dX2_isCheaper_55 : decode cX2_isCheaper 55 = .ok (.iconst 1, 1) := dk_4 (dk_at dksX2_isCheaper_2 8 rfl rfl)
theorem dX2_isCheaper_56 : decode cX2_isCheaper 56 = .ok (.goto 4, 3) := dk_167 0 4 (dk_at dksX2_isCheaper_2 9 rfl rfl)
theorem dX2_isCheaper_59 : decode cX2_isCheaper 59 = .ok (.iconst 0, 1) := dk_3 (dk_at dksX2_isCheaper_2 12 rfl rfl)
theorem dX2_isCheaper_60 : decode cX2_isCheaper 60 = .ok (.ireturn, 1) := dk_172 (dk_at dksX2_isCheaper_2 13 rfl rfl)
abbrev cX2_costOf : ByteArray := prog_16_method_100_code
def yX2_costOf : MethodName := ⟨RX2, "costOf", "(I)I"⟩
def dkwX2_costOf_1 : List UInt8 := [182, 0, 214, 167, 0, 4, 3, 96, 61, 132, 3, 1, 167, 255, 224, 28, 172]
abbrev dktX2_costOf_1 : List UInt8 := dkwX2_costOf_1 ++ []
def dkwX2_costOf_0 : List UInt8 := [3, 61, 3, 62, 29, 42, 182, 0, 220, 162, 0, 30, 28, 27, 29, 184, 0, 135, 153, 0, 12, 42, 29, 7]
abbrev dktX2_costOf_0 : List UInt8 := dkwX2_costOf_0 ++ dktX2_costOf_1
theorem dksX2_costOf_0 : cX2_costOf.data.toList.drop 0 = dktX2_costOf_0 := by decide +kernel
theorem dksX2_costOf_1 : cX2_costOf.data.toList.drop 24 = dktX2_costOf_1 := dk_seg dksX2_costOf_0 24 rfl rfl
theorem dX2_costOf_0 : decode cX2_costOf 0 = .ok (.iconst 0, 1) := dk_3 (dk_at dksX2_costOf_0 0 rfl rfl)
theorem dX2_costOf_1 : decode cX2_costOf 1 = .ok (.istore_n 2, 1) := dk_61 (dk_at dksX2_costOf_0 1 rfl rfl)
theorem dX2_costOf_2 : decode cX2_costOf 2 = .ok (.iconst 0, 1) := dk_3 (dk_at dksX2_costOf_0 2 rfl rfl)
theorem dX2_costOf_3 : decode cX2_costOf 3 = .ok (.istore_n 3, 1) := dk_62 (dk_at dksX2_costOf_0 3 rfl rfl)
theorem dX2_costOf_4 : decode cX2_costOf 4 = .ok (.iload_n 3, 1) := dk_29 (dk_at dksX2_costOf_0 4 rfl rfl)
theorem dX2_costOf_5 : decode cX2_costOf 5 = .ok (.aload_n 0, 1) := dk_42 (dk_at dksX2_costOf_0 5 rfl rfl)
theorem dX2_costOf_6 : decode cX2_costOf 6 = .ok (.invokevirtual 220, 3) := dk_182 0 220 (dk_at dksX2_costOf_0 6 rfl rfl)
theorem dX2_costOf_9 : decode cX2_costOf 9 = .ok (.if_icmp .ge 30, 3) := dk_162 0 30 (dk_at dksX2_costOf_0 9 rfl rfl)
theorem dX2_costOf_12 : decode cX2_costOf 12 = .ok (.iload_n 2, 1) := dk_28 (dk_at dksX2_costOf_0 12 rfl rfl)
theorem dX2_costOf_13 : decode cX2_costOf 13 = .ok (.iload_n 1, 1) := dk_27 (dk_at dksX2_costOf_0 13 rfl rfl)
theorem dX2_costOf_14 : decode cX2_costOf 14 = .ok (.iload_n 3, 1) := dk_29 (dk_at dksX2_costOf_0 14 rfl rfl)
theorem dX2_costOf_15 : decode cX2_costOf 15 = .ok (.invokestatic 135, 3) := dk_184 0 135 (dk_at dksX2_costOf_0 15 rfl rfl)
theorem dX2_costOf_18 : decode cX2_costOf 18 = .ok (.ifCond .eq 12, 3) := dk_153 0 12 (dk_at dksX2_costOf_0 18 rfl rfl)
theorem dX2_costOf_21 : decode cX2_costOf 21 = .ok (.aload_n 0, 1) := dk_42 (dk_at dksX2_costOf_0 21 rfl rfl)
theorem dX2_costOf_22 : decode cX2_costOf 22 = .ok (.iload_n 3, 1) := dk_29 (dk_at dksX2_costOf_0 22 rfl rfl)
theorem dX2_costOf_23 : decode cX2_costOf 23 = .ok (.iconst 4, 1) := dk_7 (dk_at dksX2_costOf_0 23 rfl rfl)
theorem dX2_costOf_24 : decode cX2_costOf 24 = .ok (.invokevirtual 214, 3) := dk_182 0 214 (dk_at dksX2_costOf_1 0 rfl rfl)
theorem dX2_costOf_27 : decode cX2_costOf 27 = .ok (.goto 4, 3) := dk_167 0 4 (dk_at dksX2_costOf_1 3 rfl rfl)
theorem dX2_costOf_30 : decode cX2_costOf 30 = .ok (.iconst 0, 1) := dk_3 (dk_at dksX2_costOf_1 6 rfl rfl)
theorem dX2_costOf_31 : decode cX2_costOf 31 = .ok (.iadd, 1) := dk_96 (dk_at dksX2_costOf_1 7 rfl rfl)
theorem dX2_costOf_32 : decode cX2_costOf 32 = .ok (.istore_n 2, 1) := dk_61 (dk_at dksX2_costOf_1 8 rfl rfl)
theorem dX2_costOf_33 : decode cX2_costOf 33 = .ok (.iinc 3 1, 3) := dk_132 3 1 (dk_at dksX2_costOf_1 9 rfl rfl)
theorem dX2_costOf_36 : decode cX2_costOf 36 = .ok (.goto (-32), 3) := dk_167 255 224 (dk_at dksX2_costOf_1 12 rfl rfl)
theorem dX2_costOf_39 : decode cX2_costOf 39 = .ok (.iload_n 2, 1) := dk_28 (dk_at dksX2_costOf_1 15 rfl rfl)
theorem dX2_costOf_40 : decode cX2_costOf 40 = .ok (.ireturn, 1) := dk_172 (dk_at dksX2_costOf_1 16 rfl rfl)
abbrev cX2_dropCost : ByteArray := prog_16_method_105_code
def yX2_dropCost : MethodName := ⟨RX2, "dropCost", "()I"⟩
def dkwX2_dropCost_1 : List UInt8 := [42, 27, 182, 1, 101, 172]
abbrev dktX2_dropCost_1 : List UInt8 := dkwX2_dropCost_1 ++ []
def dkwX2_dropCost_0 : List UInt8 := [42, 4, 182, 1, 35, 154, 0, 5, 3, 172, 42, 182, 1, 115, 60, 27, 2, 160, 0, 7, 2, 167, 0, 8]
abbrev dktX2_dropCost_0 : List UInt8 := dkwX2_dropCost_0 ++ dktX2_dropCost_1
theorem dksX2_dropCost_0 : cX2_dropCost.data.toList.drop 0 = dktX2_dropCost_0 := by decide +kernel
theorem dksX2_dropCost_1 : cX2_dropCost.data.toList.drop 24 = dktX2_dropCost_1 := dk_seg dksX2_dropCost_0 24 rfl rfl
theorem dX2_dropCost_0 : decode cX2_dropCost 0 = .ok (.aload_n 0, 1) := dk_42 (dk_at dksX2_dropCost_0 0 rfl rfl)
theorem dX2_dropCost_1 : decode cX2_dropCost 1 = .ok (.iconst 1, 1) := dk_4 (dk_at dksX2_dropCost_0 1 rfl rfl)
theorem dX2_dropCost_2 : decode cX2_dropCost 2 = .ok (.invokevirtual 291, 3) := dk_182 1 35 (dk_at dksX2_dropCost_0 2 rfl rfl)
theorem dX2_dropCost_5 : decode cX2_dropCost 5 = .ok (.ifCond .ne 5, 3) := dk_154 0 5 (dk_at dksX2_dropCost_0 5 rfl rfl)
theorem dX2_dropCost_8 : decode cX2_dropCost 8 = .ok (.iconst 0, 1) := dk_3 (dk_at dksX2_dropCost_0 8 rfl rfl)
theorem dX2_dropCost_9 : decode cX2_dropCost 9 = .ok (.ireturn, 1) := dk_172 (dk_at dksX2_dropCost_0 9 rfl rfl)
theorem dX2_dropCost_10 : decode cX2_dropCost 10 = .ok (.aload_n 0, 1) := dk_42 (dk_at dksX2_dropCost_0 10 rfl rfl)
theorem dX2_dropCost_11 : decode cX2_dropCost 11 = .ok (.invokevirtual 371, 3) := dk_182 1 115 (dk_at dksX2_dropCost_0 11 rfl rfl)
theorem dX2_dropCost_14 : decode cX2_dropCost 14 = .ok (.istore_n 1, 1) := dk_60 (dk_at dksX2_dropCost_0 14 rfl rfl)
theorem dX2_dropCost_15 : decode cX2_dropCost 15 = .ok (.iload_n 1, 1) := dk_27 (dk_at dksX2_dropCost_0 15 rfl rfl)
theorem dX2_dropCost_16 : decode cX2_dropCost 16 = .ok (.iconst (-1), 1) := dk_2 (dk_at dksX2_dropCost_0 16 rfl rfl)
theorem dX2_dropCost_17 : decode cX2_dropCost 17 = .ok (.if_icmp .ne 7, 3) := dk_160 0 7 (dk_at dksX2_dropCost_0 17 rfl rfl)
theorem dX2_dropCost_20 : decode cX2_dropCost 20 = .ok (.iconst (-1), 1) := dk_2 (dk_at dksX2_dropCost_0 20 rfl rfl)
theorem dX2_dropCost_21 : decode cX2_dropCost 21 = .ok (.goto 8, 3) := dk_167 0 8 (dk_at dksX2_dropCost_0 21 rfl rfl)
theorem dX2_dropCost_24 : decode cX2_dropCost 24 = .ok (.aload_n 0, 1) := dk_42 (dk_at dksX2_dropCost_1 0 rfl rfl)
theorem dX2_dropCost_25 : decode cX2_dropCost 25 = .ok (.iload_n 1, 1) := dk_27 (dk_at dksX2_dropCost_1 1 rfl rfl)
theorem dX2_dropCost_26 : decode cX2_dropCost 26 = .ok (.invokevirtual 357, 3) := dk_182 1 101 (dk_at dksX2_dropCost_1 2 rfl rfl)
theorem dX2_dropCost_29 : decode cX2_dropCost 29 = .ok (.ireturn, 1) := dk_172 (dk_at dksX2_dropCost_1 5 rfl rfl)
abbrev cX2_runBreaks : ByteArray := prog_16_method_112_code
def yX2_runBreaks : MethodName := ⟨RX2, "runBreaks", "(I)I"⟩
def dkwX2_runBreaks_0 : List UInt8 := [42, 27, 184, 1, 136, 182, 1, 58, 153, 0, 13, 42, 27, 2, 3, 182, 1, 139, 167, 0, 4, 3, 172]
abbrev dktX2_runBreaks_0 : List UInt8 := dkwX2_runBreaks_0 ++ []
theorem dksX2_runBreaks_0 : cX2_runBreaks.data.toList.drop 0 = dktX2_runBreaks_0 := by decide +kernel
theorem dX2_runBreaks_0 : decode cX2_runBreaks 0 = .ok (.aload_n 0, 1) := dk_42 (dk_at dksX2_runBreaks_0 0 rfl rfl)
theorem dX2_runBreaks_1 : decode cX2_runBreaks 1 = .ok (.iload_n 1, 1) := dk_27 (dk_at dksX2_runBreaks_0 1 rfl rfl)
theorem dX2_runBreaks_2 : decode cX2_runBreaks 2 = .ok (.invokestatic 392, 3) := dk_184 1 136 (dk_at dksX2_runBreaks_0 2 rfl rfl)
theorem dX2_runBreaks_5 : decode cX2_runBreaks 5 = .ok (.invokevirtual 314, 3) := dk_182 1 58 (dk_at dksX2_runBreaks_0 5 rfl rfl)
theorem dX2_runBreaks_8 : decode cX2_runBreaks 8 = .ok (.ifCond .eq 13, 3) := dk_153 0 13 (dk_at dksX2_runBreaks_0 8 rfl rfl)
theorem dX2_runBreaks_11 : decode cX2_runBreaks 11 = .ok (.aload_n 0, 1) := dk_42 (dk_at dksX2_runBreaks_0 11 rfl rfl)
theorem dX2_runBreaks_12 : decode cX2_runBreaks 12 = .ok (.iload_n 1, 1) := dk_27 (dk_at dksX2_runBreaks_0 12 rfl rfl)
theorem dX2_runBreaks_13 : decode cX2_runBreaks 13 = .ok (.iconst (-1), 1) := dk_2 (dk_at dksX2_runBreaks_0 13 rfl rfl)
theorem dX2_runBreaks_14 : decode cX2_runBreaks 14 = .ok (.iconst 0, 1) := dk_3 (dk_at dksX2_runBreaks_0 14 rfl rfl)
theorem dX2_runBreaks_15 : decode cX2_runBreaks 15 = .ok (.invokevirtual 395, 3) := dk_182 1 139 (dk_at dksX2_runBreaks_0 15 rfl rfl)
theorem dX2_runBreaks_18 : decode cX2_runBreaks 18 = .ok (.goto 4, 3) := dk_167 0 4 (dk_at dksX2_runBreaks_0 18 rfl rfl)
theorem dX2_runBreaks_21 : decode cX2_runBreaks 21 = .ok (.iconst 0, 1) := dk_3 (dk_at dksX2_runBreaks_0 21 rfl rfl)
theorem dX2_runBreaks_22 : decode cX2_runBreaks 22 = .ok (.ireturn, 1) := dk_172 (dk_at dksX2_runBreaks_0 22 rfl rfl)
abbrev cX2_isPolicy : ByteArray := prog_16_method_55_code
def yX2_isPolicy : MethodName := ⟨RX2, "isPolicy", "(I)Z"⟩
def dkwX2_isPolicy_0 : List UInt8 := [26, 3, 6, 184, 0, 102, 172]
abbrev dktX2_isPolicy_0 : List UInt8 := dkwX2_isPolicy_0 ++ []
theorem dksX2_isPolicy_0 : cX2_isPolicy.data.toList.drop 0 = dktX2_isPolicy_0 := by decide +kernel
theorem dX2_isPolicy_0 : decode cX2_isPolicy 0 = .ok (.iload_n 0, 1) := dk_26 (dk_at dksX2_isPolicy_0 0 rfl rfl)
theorem dX2_isPolicy_1 : decode cX2_isPolicy 1 = .ok (.iconst 0, 1) := dk_3 (dk_at dksX2_isPolicy_0 1 rfl rfl)
theorem dX2_isPolicy_2 : decode cX2_isPolicy 2 = .ok (.iconst 3, 1) := dk_6 (dk_at dksX2_isPolicy_0 2 rfl rfl)
theorem dX2_isPolicy_3 : decode cX2_isPolicy 3 = .ok (.invokestatic 102, 3) := dk_184 0 102 (dk_at dksX2_isPolicy_0 3 rfl rfl)
theorem dX2_isPolicy_6 : decode cX2_isPolicy 6 = .ok (.ireturn, 1) := dk_172 (dk_at dksX2_isPolicy_0 6 rfl rfl)
abbrev cX2_runs : ByteArray := prog_16_method_111_code
def yX2_runs : MethodName := ⟨RX2, "runs", "(III)I"⟩
def dkwX2_runs_4 : List UInt8 := [54, 4, 42, 182, 1, 130, 54, 5, 167, 255, 173, 2, 172]
abbrev dktX2_runs_4 : List UInt8 := dkwX2_runs_4 ++ []
def dkwX2_runs_3 : List UInt8 := [182, 1, 49, 164, 0, 6, 21, 5, 172, 42, 21, 5, 21, 6, 182, 1, 124, 42, 3, 2, 182, 1, 1]
abbrev dktX2_runs_3 : List UInt8 := dkwX2_runs_3 ++ dktX2_runs_4
def dkwX2_runs_2 : List UInt8 := [21, 5, 96, 46, 96, 54, 6, 42, 21, 5, 182, 1, 49, 2, 159, 0, 17, 21, 6, 42, 21, 5]
abbrev dktX2_runs_2 : List UInt8 := dkwX2_runs_2 ++ dktX2_runs_3
def dkwX2_runs_1 : List UInt8 := [42, 27, 21, 5, 182, 1, 133, 21, 5, 28, 160, 0, 7, 29, 167, 0, 14, 42, 180, 0, 23, 17, 0, 156]
abbrev dktX2_runs_1 : List UInt8 := dkwX2_runs_1 ++ dktX2_runs_2
def dkwX2_runs_0 : List UInt8 := [42, 182, 1, 127, 42, 3, 2, 182, 1, 1, 54, 4, 42, 182, 1, 130, 54, 5, 21, 5, 2, 159, 0, 83]
abbrev dktX2_runs_0 : List UInt8 := dkwX2_runs_0 ++ dktX2_runs_1
theorem dksX2_runs_0 : cX2_runs.data.toList.drop 0 = dktX2_runs_0 := by decide +kernel
theorem dksX2_runs_1 : cX2_runs.data.toList.drop 24 = dktX2_runs_1 := dk_seg dksX2_runs_0 24 rfl rfl
theorem dksX2_runs_2 : cX2_runs.data.toList.drop 48 = dktX2_runs_2 := dk_seg dksX2_runs_1 24 rfl rfl
theorem dksX2_runs_3 : cX2_runs.data.toList.drop 70 = dktX2_runs_3 := dk_seg dksX2_runs_2 22 rfl rfl
theorem dksX2_runs_4 : cX2_runs.data.toList.drop 93 = dktX2_runs_4 := dk_seg dksX2_runs_3 23 rfl rfl
theorem dX2_runs_0 : decode cX2_runs 0 = .ok (.aload_n 0, 1) := dk_42 (dk_at dksX2_runs_0 0 rfl rfl)
theorem dX2_runs_1 : decode cX2_runs 1 = .ok (.invokevirtual 383, 3) := dk_182 1 127 (dk_at dksX2_runs_0 1 rfl rfl)
theorem dX2_runs_4 : decode cX2_runs 4 = .ok (.aload_n 0, 1) := dk_42 (dk_at dksX2_runs_0 4 rfl rfl)
theorem dX2_runs_5 : decode cX2_runs 5 = .ok (.iconst 0, 1) := dk_3 (dk_at dksX2_runs_0 5 rfl rfl)
theorem dX2_runs_6 : decode cX2_runs 6 = .ok (.iconst (-1), 1) := dk_2 (dk_at dksX2_runs_0 6 rfl rfl)
theorem dX2_runs_7 : decode cX2_runs 7 = .ok (.invokevirtual 257, 3) := dk_182 1 1 (dk_at dksX2_runs_0 7 rfl rfl)
theorem dX2_runs_10 : decode cX2_runs 10 = .ok (.istore 4, 2) := dk_54 4 (dk_at dksX2_runs_0 10 rfl rfl)
theorem dX2_runs_12 : decode cX2_runs 12 = .ok (.aload_n 0, 1) := dk_42 (dk_at dksX2_runs_0 12 rfl rfl)
theorem dX2_runs_13 : decode cX2_runs 13 = .ok (.invokevirtual 386, 3) := dk_182 1 130 (dk_at dksX2_runs_0 13 rfl rfl)
theorem dX2_runs_16 : decode cX2_runs 16 = .ok (.istore 5, 2) := dk_54 5 (dk_at dksX2_runs_0 16 rfl rfl)
theorem dX2_runs_18 : decode cX2_runs 18 = .ok (.iload 5, 2) := dk_21 5 (dk_at dksX2_runs_0 18 rfl rfl)
theorem dX2_runs_20 : decode cX2_runs 20 = .ok (.iconst (-1), 1) := dk_2 (dk_at dksX2_runs_0 20 rfl rfl)
theorem dX2_runs_21 : decode cX2_runs 21 = .ok (.if_icmp .eq 83, 3) := dk_159 0 83 (dk_at dksX2_runs_0 21 rfl rfl)
theorem dX2_runs_24 : decode cX2_runs 24 = .ok (.aload_n 0, 1) := dk_42 (dk_at dksX2_runs_1 0 rfl rfl)
theorem dX2_runs_25 : decode cX2_runs 25 = .ok (.iload_n 1, 1) := dk_27 (dk_at dksX2_runs_1 1 rfl rfl)
theorem dX2_runs_26 : decode cX2_runs 26 = .ok (.iload 5, 2) := dk_21 5 (dk_at dksX2_runs_1 2 rfl rfl)
theorem dX2_runs_28 : decode cX2_runs 28 = .ok (.invokevirtual 389, 3) := dk_182 1 133 (dk_at dksX2_runs_1 4 rfl rfl)
theorem dX2_runs_31 : decode cX2_runs 31 = .ok (.iload 5, 2) := dk_21 5 (dk_at dksX2_runs_1 7 rfl rfl)
theorem dX2_runs_33 : decode cX2_runs 33 = .ok (.iload_n 2, 1) := dk_28 (dk_at dksX2_runs_1 9 rfl rfl)
theorem dX2_runs_34 : decode cX2_runs 34 = .ok (.if_icmp .ne 7, 3) := dk_160 0 7 (dk_at dksX2_runs_1 10 rfl rfl)
theorem dX2_runs_37 : decode cX2_runs 37 = .ok (.iload_n 3, 1) := dk_29 (dk_at dksX2_runs_1 13 rfl rfl)
theorem dX2_runs_38 : decode cX2_runs 38 = .ok (.goto 14, 3) := dk_167 0 14 (dk_at dksX2_runs_1 14 rfl rfl)
theorem dX2_runs_41 : decode cX2_runs 41 = .ok (.aload_n 0, 1) := dk_42 (dk_at dksX2_runs_1 17 rfl rfl)
theorem dX2_runs_42 : decode cX2_runs 42 = .ok (.getfield 23, 3) := dk_180 0 23 (dk_at dksX2_runs_1 18 rfl rfl)
theorem dX2_runs_45 : decode cX2_runs 45 = .ok (.sipush 156, 3) := dk_17 0 156 (dk_at dksX2_runs_1 21 rfl rfl)
theorem dX2_runs_48 : decode cX2_runs 48 = .ok (.iload 5, 2) := dk_21 5 (dk_at dksX2_runs_2 0 rfl rfl)
theorem dX2_runs_50 : decode cX2_runs 50 = .ok (.iadd, 1) := dk_96 (dk_at dksX2_runs_2 2 rfl rfl)
theorem dX2_runs_51 : decode cX2_runs 51 = .ok (.iaload, 1) := dk_46 (dk_at dksX2_runs_2 3 rfl rfl)
theorem dX2_runs_52 : decode cX2_runs 52 = .ok (.iadd, 1) := dk_96 (dk_at dksX2_runs_2 4 rfl rfl)
theorem dX2_runs_53 : decode cX2_runs 53 = .ok (.istore 6, 2) := dk_54 6 (dk_at dksX2_runs_2 5 rfl rfl)
theorem dX2_runs_55 : decode cX2_runs 55 = .ok (.aload_n 0, 1) := dk_42 (dk_at dksX2_runs_2 7 rfl rfl)
theorem dX2_runs_56 : decode cX2_runs 56 = .ok (.iload 5, 2) := dk_21 5 (dk_at dksX2_runs_2 8 rfl rfl)
theorem dX2_runs_58 : decode cX2_runs 58 = .ok (.invokevirtual 305, 3) := dk_182 1 49 (dk_at dksX2_runs_2 10 rfl rfl)
theorem dX2_runs_61 : decode cX2_runs 61 = .ok (.iconst (-1), 1) := dk_2 (dk_at dksX2_runs_2 13 rfl rfl)
theorem dX2_runs_62 : decode cX2_runs 62 = .ok (.if_icmp .eq 17, 3) := dk_159 0 17 (dk_at dksX2_runs_2 14 rfl rfl)
theorem dX2_runs_65 : decode cX2_runs 65 = .ok (.iload 6, 2) := dk_21 6 (dk_at dksX2_runs_2 17 rfl rfl)
theorem dX2_runs_67 : decode cX2_runs 67 = .ok (.aload_n 0, 1) := dk_42 (dk_at dksX2_runs_2 19 rfl rfl)
theorem dX2_runs_68 : decode cX2_runs 68 = .ok (.iload 5, 2) := dk_21 5 (dk_at dksX2_runs_2 20 rfl rfl)
theorem dX2_runs_70 : decode cX2_runs 70 = .ok (.invokevirtual 305, 3) := dk_182 1 49 (dk_at dksX2_runs_3 0 rfl rfl)
theorem dX2_runs_73 : decode cX2_runs 73 = .ok (.if_icmp .le 6, 3) := dk_164 0 6 (dk_at dksX2_runs_3 3 rfl rfl)
theorem dX2_runs_76 : decode cX2_runs 76 = .ok (.iload 5, 2) := dk_21 5 (dk_at dksX2_runs_3 6 rfl rfl)
theorem dX2_runs_78 : decode cX2_runs 78 = .ok (.ireturn, 1) := dk_172 (dk_at dksX2_runs_3 8 rfl rfl)
theorem dX2_runs_79 : decode cX2_runs 79 = .ok (.aload_n 0, 1) := dk_42 (dk_at dksX2_runs_3 9 rfl rfl)
theorem dX2_runs_80 : decode cX2_runs 80 = .ok (.iload 5, 2) := dk_21 5 (dk_at dksX2_runs_3 10 rfl rfl)
theorem dX2_runs_82 : decode cX2_runs 82 = .ok (.iload 6, 2) := dk_21 6 (dk_at dksX2_runs_3 12 rfl rfl)
theorem dX2_runs_84 : decode cX2_runs 84 = .ok (.invokevirtual 380, 3) := dk_182 1 124 (dk_at dksX2_runs_3 14 rfl rfl)
theorem dX2_runs_87 : decode cX2_runs 87 = .ok (.aload_n 0, 1) := dk_42 (dk_at dksX2_runs_3 17 rfl rfl)
theorem dX2_runs_88 : decode cX2_runs 88 = .ok (.iconst 0, 1) := dk_3 (dk_at dksX2_runs_3 18 rfl rfl)
theorem dX2_runs_89 : decode cX2_runs 89 = .ok (.iconst (-1), 1) := dk_2 (dk_at dksX2_runs_3 19 rfl rfl)
theorem dX2_runs_90 : decode cX2_runs 90 = .ok (.invokevirtual 257, 3) := dk_182 1 1 (dk_at dksX2_runs_3 20 rfl rfl)
theorem dX2_runs_93 : decode cX2_runs 93 = .ok (.istore 4, 2) := dk_54 4 (dk_at dksX2_runs_4 0 rfl rfl)
theorem dX2_runs_95 : decode cX2_runs 95 = .ok (.aload_n 0, 1) := dk_42 (dk_at dksX2_runs_4 2 rfl rfl)
theorem dX2_runs_96 : decode cX2_runs 96 = .ok (.invokevirtual 386, 3) := dk_182 1 130 (dk_at dksX2_runs_4 3 rfl rfl)
theorem dX2_runs_99 : decode cX2_runs 99 = .ok (.istore 5, 2) := dk_54 5 (dk_at dksX2_runs_4 6 rfl rfl)
theorem dX2_runs_101 : decode cX2_runs 101 = .ok (.goto (-83), 3) := dk_167 255 173 (dk_at dksX2_runs_4 8 rfl rfl)
theorem dX2_runs_104 : decode cX2_runs 104 = .ok (.iconst (-1), 1) := dk_2 (dk_at dksX2_runs_4 11 rfl rfl)
theorem dX2_runs_105 : decode cX2_runs 105 = .ok (.ireturn, 1) := dk_172 (dk_at dksX2_runs_4 12 rfl rfl)
abbrev cX2_startsRun : ByteArray := prog_16_method_110_code
def yX2_startsRun : MethodName := ⟨RX2, "startsRun", "()V"⟩
def dkwX2_startsRun_1 : List UInt8 := [46, 2, 159, 0, 14, 42, 27, 42, 180, 0, 52, 27, 46, 182, 1, 124, 132, 1, 1, 167, 255, 224, 177]
abbrev dktX2_startsRun_1 : List UInt8 := dkwX2_startsRun_1 ++ []
def dkwX2_startsRun_0 : List UInt8 := [42, 182, 0, 254, 42, 3, 181, 1, 121, 3, 60, 27, 42, 182, 0, 230, 162, 0, 30, 42, 180, 0, 52, 27]
abbrev dktX2_startsRun_0 : List UInt8 := dkwX2_startsRun_0 ++ dktX2_startsRun_1
theorem dksX2_startsRun_0 : cX2_startsRun.data.toList.drop 0 = dktX2_startsRun_0 := by decide +kernel
theorem dksX2_startsRun_1 : cX2_startsRun.data.toList.drop 24 = dktX2_startsRun_1 := dk_seg dksX2_startsRun_0 24 rfl rfl
theorem dX2_startsRun_0 : decode cX2_startsRun 0 = .ok (.aload_n 0, 1) := dk_42 (dk_at dksX2_startsRun_0 0 rfl rfl)
theorem dX2_startsRun_1 : decode cX2_startsRun 1 = .ok (.invokevirtual 254, 3) := dk_182 0 254 (dk_at dksX2_startsRun_0 1 rfl rfl)
theorem dX2_startsRun_4 : decode cX2_startsRun 4 = .ok (.aload_n 0, 1) := dk_42 (dk_at dksX2_startsRun_0 4 rfl rfl)
theorem dX2_startsRun_5 : decode cX2_startsRun 5 = .ok (.iconst 0, 1) := dk_3 (dk_at dksX2_startsRun_0 5 rfl rfl)
theorem dX2_startsRun_6 : decode cX2_startsRun 6 = .ok (.putfield 377, 3) := dk_181 1 121 (dk_at dksX2_startsRun_0 6 rfl rfl)
theorem dX2_startsRun_9 : decode cX2_startsRun 9 = .ok (.iconst 0, 1) := dk_3 (dk_at dksX2_startsRun_0 9 rfl rfl)
theorem dX2_startsRun_10 : decode cX2_startsRun 10 = .ok (.istore_n 1, 1) := dk_60 (dk_at dksX2_startsRun_0 10 rfl rfl)
theorem dX2_startsRun_11 : decode cX2_startsRun 11 = .ok (.iload_n 1, 1) := dk_27 (dk_at dksX2_startsRun_0 11 rfl rfl)
theorem dX2_startsRun_12 : decode cX2_startsRun 12 = .ok (.aload_n 0, 1) := dk_42 (dk_at dksX2_startsRun_0 12 rfl rfl)
theorem dX2_startsRun_13 : decode cX2_startsRun 13 = .ok (.invokevirtual 230, 3) := dk_182 0 230 (dk_at dksX2_startsRun_0 13 rfl rfl)
theorem dX2_startsRun_16 : decode cX2_startsRun 16 = .ok (.if_icmp .ge 30, 3) := dk_162 0 30 (dk_at dksX2_startsRun_0 16 rfl rfl)
theorem dX2_startsRun_19 : decode cX2_startsRun 19 = .ok (.aload_n 0, 1) := dk_42 (dk_at dksX2_startsRun_0 19 rfl rfl)
theorem dX2_startsRun_20 : decode cX2_startsRun 20 = .ok (.getfield 52, 3) := dk_180 0 52 (dk_at dksX2_startsRun_0 20 rfl rfl)
theorem dX2_startsRun_23 : decode cX2_startsRun 23 = .ok (.iload_n 1, 1) := dk_27 (dk_at dksX2_startsRun_0 23 rfl rfl)
theorem dX2_startsRun_24 : decode cX2_startsRun 24 = .ok (.iaload, 1) := dk_46 (dk_at dksX2_startsRun_1 0 rfl rfl)
theorem dX2_startsRun_25 : decode cX2_startsRun 25 = .ok (.iconst (-1), 1) := dk_2 (dk_at dksX2_startsRun_1 1 rfl rfl)
theorem dX2_startsRun_26 : decode cX2_startsRun 26 = .ok (.if_icmp .eq 14, 3) := dk_159 0 14 (dk_at dksX2_startsRun_1 2 rfl rfl)
theorem dX2_startsRun_29 : decode cX2_startsRun 29 = .ok (.aload_n 0, 1) := dk_42 (dk_at dksX2_startsRun_1 5 rfl rfl)
theorem dX2_startsRun_30 : decode cX2_startsRun 30 = .ok (.iload_n 1, 1) := dk_27 (dk_at dksX2_startsRun_1 6 rfl rfl)
theorem dX2_startsRun_31 : decode cX2_startsRun 31 = .ok (.aload_n 0, 1) := dk_42 (dk_at dksX2_startsRun_1 7 rfl rfl)
theorem dX2_startsRun_32 : decode cX2_startsRun 32 = .ok (.getfield 52, 3) := dk_180 0 52 (dk_at dksX2_startsRun_1 8 rfl rfl)
theorem dX2_startsRun_35 : decode cX2_startsRun 35 = .ok (.iload_n 1, 1) := dk_27 (dk_at dksX2_startsRun_1 11 rfl rfl)
theorem dX2_startsRun_36 : decode cX2_startsRun 36 = .ok (.iaload, 1) := dk_46 (dk_at dksX2_startsRun_1 12 rfl rfl)
theorem dX2_startsRun_37 : decode cX2_startsRun 37 = .ok (.invokevirtual 380, 3) := dk_182 1 124 (dk_at dksX2_startsRun_1 13 rfl rfl)
theorem dX2_startsRun_40 : decode cX2_startsRun 40 = .ok (.iinc 1 1, 3) := dk_132 1 1 (dk_at dksX2_startsRun_1 16 rfl rfl)
theorem dX2_startsRun_43 : decode cX2_startsRun 43 = .ok (.goto (-32), 3) := dk_167 255 224 (dk_at dksX2_startsRun_1 19 rfl rfl)
theorem dX2_startsRun_46 : decode cX2_startsRun 46 = .ok (.return_, 1) := dk_177 (dk_at dksX2_startsRun_1 22 rfl rfl)
abbrev cX2_gets : ByteArray := prog_16_method_109_code
def yX2_gets : MethodName := ⟨RX2, "gets", "(II)V"⟩
def dkwX2_gets_1 : List UInt8 := [181, 1, 121, 177]
abbrev dktX2_gets_1 : List UInt8 := dkwX2_gets_1 ++ []
def dkwX2_gets_0 : List UInt8 := [42, 180, 0, 52, 27, 28, 79, 42, 180, 0, 67, 42, 180, 1, 121, 27, 79, 42, 89, 180, 1, 121, 4, 96]
abbrev dktX2_gets_0 : List UInt8 := dkwX2_gets_0 ++ dktX2_gets_1
theorem dksX2_gets_0 : cX2_gets.data.toList.drop 0 = dktX2_gets_0 := by decide +kernel
theorem dksX2_gets_1 : cX2_gets.data.toList.drop 24 = dktX2_gets_1 := dk_seg dksX2_gets_0 24 rfl rfl
theorem dX2_gets_0 : decode cX2_gets 0 = .ok (.aload_n 0, 1) := dk_42 (dk_at dksX2_gets_0 0 rfl rfl)
theorem dX2_gets_1 : decode cX2_gets 1 = .ok (.getfield 52, 3) := dk_180 0 52 (dk_at dksX2_gets_0 1 rfl rfl)
theorem dX2_gets_4 : decode cX2_gets 4 = .ok (.iload_n 1, 1) := dk_27 (dk_at dksX2_gets_0 4 rfl rfl)
theorem dX2_gets_5 : decode cX2_gets 5 = .ok (.iload_n 2, 1) := dk_28 (dk_at dksX2_gets_0 5 rfl rfl)
theorem dX2_gets_6 : decode cX2_gets 6 = .ok (.iastore, 1) := dk_79 (dk_at dksX2_gets_0 6 rfl rfl)
theorem dX2_gets_7 : decode cX2_gets 7 = .ok (.aload_n 0, 1) := dk_42 (dk_at dksX2_gets_0 7 rfl rfl)
theorem dX2_gets_8 : decode cX2_gets 8 = .ok (.getfield 67, 3) := dk_180 0 67 (dk_at dksX2_gets_0 8 rfl rfl)
theorem dX2_gets_11 : decode cX2_gets 11 = .ok (.aload_n 0, 1) := dk_42 (dk_at dksX2_gets_0 11 rfl rfl)
theorem dX2_gets_12 : decode cX2_gets 12 = .ok (.getfield 377, 3) := dk_180 1 121 (dk_at dksX2_gets_0 12 rfl rfl)
theorem dX2_gets_15 : decode cX2_gets 15 = .ok (.iload_n 1, 1) := dk_27 (dk_at dksX2_gets_0 15 rfl rfl)
theorem dX2_gets_16 : decode cX2_gets 16 = .ok (.iastore, 1) := dk_79 (dk_at dksX2_gets_0 16 rfl rfl)
theorem dX2_gets_17 : decode cX2_gets 17 = .ok (.aload_n 0, 1) := dk_42 (dk_at dksX2_gets_0 17 rfl rfl)
theorem dX2_gets_18 : decode cX2_gets 18 = .ok (.dup, 1) := dk_89 (dk_at dksX2_gets_0 18 rfl rfl)
theorem dX2_gets_19 : decode cX2_gets 19 = .ok (.getfield 377, 3) := dk_180 1 121 (dk_at dksX2_gets_0 19 rfl rfl)
theorem dX2_gets_22 : decode cX2_gets 22 = .ok (.iconst 1, 1) := dk_4 (dk_at dksX2_gets_0 22 rfl rfl)
theorem dX2_gets_23 : decode cX2_gets 23 = .ok (.iadd, 1) := dk_96 (dk_at dksX2_gets_0 23 rfl rfl)
theorem dX2_gets_24 : decode cX2_gets 24 = .ok (.putfield 377, 3) := dk_181 1 121 (dk_at dksX2_gets_1 0 rfl rfl)
theorem dX2_gets_27 : decode cX2_gets 27 = .ok (.return_, 1) := dk_177 (dk_at dksX2_gets_1 3 rfl rfl)
abbrev cX2_nextEvent : ByteArray := prog_16_method_106_code
def yX2_nextEvent : MethodName := ⟨RX2, "nextEvent", "()I"⟩
def dkwX2_nextEvent_2 : List UInt8 := [27, 172]
abbrev dktX2_nextEvent_2 : List UInt8 := dkwX2_nextEvent_2 ++ []
def dkwX2_nextEvent_1 : List UInt8 := [159, 0, 16, 42, 28, 182, 1, 52, 42, 27, 182, 1, 52, 162, 0, 5, 28, 60, 132, 2, 1, 167, 255, 215]
abbrev dktX2_nextEvent_1 : List UInt8 := dkwX2_nextEvent_1 ++ dktX2_nextEvent_2
def dkwX2_nextEvent_0 : List UInt8 := [2, 60, 3, 61, 28, 42, 182, 0, 230, 162, 0, 39, 42, 180, 0, 52, 28, 46, 2, 160, 0, 23, 27, 2]
abbrev dktX2_nextEvent_0 : List UInt8 := dkwX2_nextEvent_0 ++ dktX2_nextEvent_1
theorem dksX2_nextEvent_0 : cX2_nextEvent.data.toList.drop 0 = dktX2_nextEvent_0 := by decide +kernel
theorem dksX2_nextEvent_1 : cX2_nextEvent.data.toList.drop 24 = dktX2_nextEvent_1 := dk_seg dksX2_nextEvent_0 24 rfl rfl
theorem dksX2_nextEvent_2 : cX2_nextEvent.data.toList.drop 48 = dktX2_nextEvent_2 := dk_seg dksX2_nextEvent_1 24 rfl rfl
theorem dX2_nextEvent_0 : decode cX2_nextEvent 0 = .ok (.iconst (-1), 1) := dk_2 (dk_at dksX2_nextEvent_0 0 rfl rfl)
theorem dX2_nextEvent_1 : decode cX2_nextEvent 1 = .ok (.istore_n 1, 1) := dk_60 (dk_at dksX2_nextEvent_0 1 rfl rfl)
theorem dX2_nextEvent_2 : decode cX2_nextEvent 2 = .ok (.iconst 0, 1) := dk_3 (dk_at dksX2_nextEvent_0 2 rfl rfl)
theorem dX2_nextEvent_3 : decode cX2_nextEvent 3 = .ok (.istore_n 2, 1) := dk_61 (dk_at dksX2_nextEvent_0 3 rfl rfl)
theorem dX2_nextEvent_4 : decode cX2_nextEvent 4 = .ok (.iload_n 2, 1) := dk_28 (dk_at dksX2_nextEvent_0 4 rfl rfl)
theorem dX2_nextEvent_5 : decode cX2_nextEvent 5 = .ok (.aload_n 0, 1) := dk_42 (dk_at dksX2_nextEvent_0 5 rfl rfl)
theorem dX2_nextEvent_6 : decode cX2_nextEvent 6 = .ok (.invokevirtual 230, 3) := dk_182 0 230 (dk_at dksX2_nextEvent_0 6 rfl rfl)
theorem dX2_nextEvent_9 : decode cX2_nextEvent 9 = .ok (.if_icmp .ge 39, 3) := dk_162 0 39 (dk_at dksX2_nextEvent_0 9 rfl rfl)
theorem dX2_nextEvent_12 : decode cX2_nextEvent 12 = .ok (.aload_n 0, 1) := dk_42 (dk_at dksX2_nextEvent_0 12 rfl rfl)
theorem dX2_nextEvent_13 : decode cX2_nextEvent 13 = .ok (.getfield 52, 3) := dk_180 0 52 (dk_at dksX2_nextEvent_0 13 rfl rfl)
theorem dX2_nextEvent_16 : decode cX2_nextEvent 16 = .ok (.iload_n 2, 1) := dk_28 (dk_at dksX2_nextEvent_0 16 rfl rfl)
theorem dX2_nextEvent_17 : decode cX2_nextEvent 17 = .ok (.iaload, 1) := dk_46 (dk_at dksX2_nextEvent_0 17 rfl rfl)
theorem dX2_nextEvent_18 : decode cX2_nextEvent 18 = .ok (.iconst (-1), 1) := dk_2 (dk_at dksX2_nextEvent_0 18 rfl rfl)
theorem dX2_nextEvent_19 : decode cX2_nextEvent 19 = .ok (.if_icmp .ne 23, 3) := dk_160 0 23 (dk_at dksX2_nextEvent_0 19 rfl rfl)
theorem dX2_nextEvent_22 : decode cX2_nextEvent 22 = .ok (.iload_n 1, 1) := dk_27 (dk_at dksX2_nextEvent_0 22 rfl rfl)
theorem dX2_nextEvent_23 : decode cX2_nextEvent 23 = .ok (.iconst (-1), 1) := dk_2 (dk_at dksX2_nextEvent_0 23 rfl rfl)
theorem dX2_nextEvent_24 : decode cX2_nextEvent 24 = .ok (.if_icmp .eq 16, 3) := dk_159 0 16 (dk_at dksX2_nextEvent_1 0 rfl rfl)
theorem dX2_nextEvent_27 : decode cX2_nextEvent 27 = .ok (.aload_n 0, 1) := dk_42 (dk_at dksX2_nextEvent_1 3 rfl rfl)
theorem dX2_nextEvent_28 : decode cX2_nextEvent 28 = .ok (.iload_n 2, 1) := dk_28 (dk_at dksX2_nextEvent_1 4 rfl rfl)
theorem dX2_nextEvent_29 : decode cX2_nextEvent 29 = .ok (.invokevirtual 308, 3) := dk_182 1 52 (dk_at dksX2_nextEvent_1 5 rfl rfl)
theorem dX2_nextEvent_32 : decode cX2_nextEvent 32 = .ok (.aload_n 0, 1) := dk_42 (dk_at dksX2_nextEvent_1 8 rfl rfl)
theorem dX2_nextEvent_33 : decode cX2_nextEvent 33 = .ok (.iload_n 1, 1) := dk_27 (dk_at dksX2_nextEvent_1 9 rfl rfl)
theorem dX2_nextEvent_34 : decode cX2_nextEvent 34 = .ok (.invokevirtual 308, 3) := dk_182 1 52 (dk_at dksX2_nextEvent_1 10 rfl rfl)
theorem dX2_nextEvent_37 : decode cX2_nextEvent 37 = .ok (.if_icmp .ge 5, 3) := dk_162 0 5 (dk_at dksX2_nextEvent_1 13 rfl rfl)
theorem dX2_nextEvent_40 : decode cX2_nextEvent 40 = .ok (.iload_n 2, 1) := dk_28 (dk_at dksX2_nextEvent_1 16 rfl rfl)
theorem dX2_nextEvent_41 : decode cX2_nextEvent 41 = .ok (.istore_n 1, 1) := dk_60 (dk_at dksX2_nextEvent_1 17 rfl rfl)
theorem dX2_nextEvent_42 : decode cX2_nextEvent 42 = .ok (.iinc 2 1, 3) := dk_132 2 1 (dk_at dksX2_nextEvent_1 18 rfl rfl)
theorem dX2_nextEvent_45 : decode cX2_nextEvent 45 = .ok (.goto (-41), 3) := dk_167 255 215 (dk_at dksX2_nextEvent_1 21 rfl rfl)
theorem dX2_nextEvent_48 : decode cX2_nextEvent 48 = .ok (.iload_n 1, 1) := dk_27 (dk_at dksX2_nextEvent_2 0 rfl rfl)
theorem dX2_nextEvent_49 : decode cX2_nextEvent 49 = .ok (.ireturn, 1) := dk_172 (dk_at dksX2_nextEvent_2 1 rfl rfl)
abbrev cX2_timeBy : ByteArray := prog_16_method_108_code
def yX2_timeBy : MethodName := ⟨RX2, "timeBy", "(II)I"⟩
def dkwX2_timeBy_2 : List UInt8 := [42, 28, 182, 1, 67, 5, 108, 96, 172]
abbrev dktX2_timeBy_2 : List UInt8 := dkwX2_timeBy_2 ++ []
def dkwX2_timeBy_1 : List UInt8 := [42, 28, 182, 1, 52, 172, 27, 4, 160, 0, 11, 42, 28, 182, 1, 49, 167, 0, 16, 42, 28, 182, 1, 52]
abbrev dktX2_timeBy_1 : List UInt8 := dkwX2_timeBy_1 ++ dktX2_timeBy_2
def dkwX2_timeBy_0 : List UInt8 := [27, 6, 160, 0, 9, 42, 28, 182, 1, 118, 172, 27, 153, 0, 12, 42, 28, 182, 1, 49, 2, 160, 0, 9]
abbrev dktX2_timeBy_0 : List UInt8 := dkwX2_timeBy_0 ++ dktX2_timeBy_1
theorem dksX2_timeBy_0 : cX2_timeBy.data.toList.drop 0 = dktX2_timeBy_0 := by decide +kernel
theorem dksX2_timeBy_1 : cX2_timeBy.data.toList.drop 24 = dktX2_timeBy_1 := dk_seg dksX2_timeBy_0 24 rfl rfl
theorem dksX2_timeBy_2 : cX2_timeBy.data.toList.drop 48 = dktX2_timeBy_2 := dk_seg dksX2_timeBy_1 24 rfl rfl
theorem dX2_timeBy_0 : decode cX2_timeBy 0 = .ok (.iload_n 1, 1) := dk_27 (dk_at dksX2_timeBy_0 0 rfl rfl)
theorem dX2_timeBy_1 : decode cX2_timeBy 1 = .ok (.iconst 3, 1) := dk_6 (dk_at dksX2_timeBy_0 1 rfl rfl)
theorem dX2_timeBy_2 : decode cX2_timeBy 2 = .ok (.if_icmp .ne 9, 3) := dk_160 0 9 (dk_at dksX2_timeBy_0 2 rfl rfl)
theorem dX2_timeBy_5 : decode cX2_timeBy 5 = .ok (.aload_n 0, 1) := dk_42 (dk_at dksX2_timeBy_0 5 rfl rfl)
theorem dX2_timeBy_6 : decode cX2_timeBy 6 = .ok (.iload_n 2, 1) := dk_28 (dk_at dksX2_timeBy_0 6 rfl rfl)
theorem dX2_timeBy_7 : decode cX2_timeBy 7 = .ok (.invokevirtual 374, 3) := dk_182 1 118 (dk_at dksX2_timeBy_0 7 rfl rfl)
theorem dX2_timeBy_10 : decode cX2_timeBy 10 = .ok (.ireturn, 1) := dk_172 (dk_at dksX2_timeBy_0 10 rfl rfl)
theorem dX2_timeBy_11 : decode cX2_timeBy 11 = .ok (.iload_n 1, 1) := dk_27 (dk_at dksX2_timeBy_0 11 rfl rfl)
theorem dX2_timeBy_12 : decode cX2_timeBy 12 = .ok (.ifCond .eq 12, 3) := dk_153 0 12 (dk_at dksX2_timeBy_0 12 rfl rfl)
theorem dX2_timeBy_15 : decode cX2_timeBy 15 = .ok (.aload_n 0, 1) := dk_42 (dk_at dksX2_timeBy_0 15 rfl rfl)
theorem dX2_timeBy_16 : decode cX2_timeBy 16 = .ok (.iload_n 2, 1) := dk_28 (dk_at dksX2_timeBy_0 16 rfl rfl)
theorem dX2_timeBy_17 : decode cX2_timeBy 17 = .ok (.invokevirtual 305, 3) := dk_182 1 49 (dk_at dksX2_timeBy_0 17 rfl rfl)
theorem dX2_timeBy_20 : decode cX2_timeBy 20 = .ok (.iconst (-1), 1) := dk_2 (dk_at dksX2_timeBy_0 20 rfl rfl)
theorem dX2_timeBy_21 : decode cX2_timeBy 21 = .ok (.if_icmp .ne 9, 3) := dk_160 0 9 (dk_at dksX2_timeBy_0 21 rfl rfl)
theorem dX2_timeBy_24 : decode cX2_timeBy 24 = .ok (.aload_n 0, 1) := dk_42 (dk_at dksX2_timeBy_1 0 rfl rfl)
theorem dX2_timeBy_25 : decode cX2_timeBy 25 = .ok (.iload_n 2, 1) := dk_28 (dk_at dksX2_timeBy_1 1 rfl rfl)
theorem dX2_timeBy_26 : decode cX2_timeBy 26 = .ok (.invokevirtual 308, 3) := dk_182 1 52 (dk_at dksX2_timeBy_1 2 rfl rfl)
theorem dX2_timeBy_29 : decode cX2_timeBy 29 = .ok (.ireturn, 1) := dk_172 (dk_at dksX2_timeBy_1 5 rfl rfl)
theorem dX2_timeBy_30 : decode cX2_timeBy 30 = .ok (.iload_n 1, 1) := dk_27 (dk_at dksX2_timeBy_1 6 rfl rfl)
theorem dX2_timeBy_31 : decode cX2_timeBy 31 = .ok (.iconst 1, 1) := dk_4 (dk_at dksX2_timeBy_1 7 rfl rfl)
theorem dX2_timeBy_32 : decode cX2_timeBy 32 = .ok (.if_icmp .ne 11, 3) := dk_160 0 11 (dk_at dksX2_timeBy_1 8 rfl rfl)
theorem dX2_timeBy_35 : decode cX2_timeBy 35 = .ok (.aload_n 0, 1) := dk_42 (dk_at dksX2_timeBy_1 11 rfl rfl)
theorem dX2_timeBy_36 : decode cX2_timeBy 36 = .ok (.iload_n 2, 1) := dk_28 (dk_at dksX2_timeBy_1 12 rfl rfl)
theorem dX2_timeBy_37 : decode cX2_timeBy 37 = .ok (.invokevirtual 305, 3) := dk_182 1 49 (dk_at dksX2_timeBy_1 13 rfl rfl)
theorem dX2_timeBy_40 : decode cX2_timeBy 40 = .ok (.goto 16, 3) := dk_167 0 16 (dk_at dksX2_timeBy_1 16 rfl rfl)
theorem dX2_timeBy_43 : decode cX2_timeBy 43 = .ok (.aload_n 0, 1) := dk_42 (dk_at dksX2_timeBy_1 19 rfl rfl)
theorem dX2_timeBy_44 : decode cX2_timeBy 44 = .ok (.iload_n 2, 1) := dk_28 (dk_at dksX2_timeBy_1 20 rfl rfl)
theorem dX2_timeBy_45 : decode cX2_timeBy 45 = .ok (.invokevirtual 308, 3) := dk_182 1 52 (dk_at dksX2_timeBy_1 21 rfl rfl)
theorem dX2_timeBy_48 : decode cX2_timeBy 48 = .ok (.aload_n 0, 1) := dk_42 (dk_at dksX2_timeBy_2 0 rfl rfl)
theorem dX2_timeBy_49 : decode cX2_timeBy 49 = .ok (.iload_n 2, 1) := dk_28 (dk_at dksX2_timeBy_2 1 rfl rfl)
theorem dX2_timeBy_50 : decode cX2_timeBy 50 = .ok (.invokevirtual 323, 3) := dk_182 1 67 (dk_at dksX2_timeBy_2 2 rfl rfl)
theorem dX2_timeBy_53 : decode cX2_timeBy 53 = .ok (.iconst 2, 1) := dk_5 (dk_at dksX2_timeBy_2 5 rfl rfl)
theorem dX2_timeBy_54 : decode cX2_timeBy 54 = .ok (.idiv, 1) := dk_108 (dk_at dksX2_timeBy_2 6 rfl rfl)
theorem dX2_timeBy_55 : decode cX2_timeBy 55 = .ok (.iadd, 1) := dk_96 (dk_at dksX2_timeBy_2 7 rfl rfl)
theorem dX2_timeBy_56 : decode cX2_timeBy 56 = .ok (.ireturn, 1) := dk_172 (dk_at dksX2_timeBy_2 8 rfl rfl)
abbrev cX2_wishedTime : ByteArray := prog_16_method_107_code
def yX2_wishedTime : MethodName := ⟨RX2, "wishedTime", "(I)I"⟩
def dkwX2_wishedTime_1 : List UInt8 := [2, 160, 0, 7, 28, 167, 0, 12, 28, 42, 27, 182, 1, 49, 184, 0, 237, 172]
abbrev dktX2_wishedTime_1 : List UInt8 := dkwX2_wishedTime_1 ++ []
def dkwX2_wishedTime_0 : List UInt8 := [42, 180, 0, 23, 17, 0, 166, 27, 96, 46, 42, 27, 182, 1, 52, 184, 1, 79, 61, 42, 27, 182, 1, 49]
abbrev dktX2_wishedTime_0 : List UInt8 := dkwX2_wishedTime_0 ++ dktX2_wishedTime_1
theorem dksX2_wishedTime_0 : cX2_wishedTime.data.toList.drop 0 = dktX2_wishedTime_0 := by decide +kernel
theorem dksX2_wishedTime_1 : cX2_wishedTime.data.toList.drop 24 = dktX2_wishedTime_1 := dk_seg dksX2_wishedTime_0 24 rfl rfl
theorem dX2_wishedTime_0 : decode cX2_wishedTime 0 = .ok (.aload_n 0, 1) := dk_42 (dk_at dksX2_wishedTime_0 0 rfl rfl)
theorem dX2_wishedTime_1 : decode cX2_wishedTime 1 = .ok (.getfield 23, 3) := dk_180 0 23 (dk_at dksX2_wishedTime_0 1 rfl rfl)
theorem dX2_wishedTime_4 : decode cX2_wishedTime 4 = .ok (.sipush 166, 3) := dk_17 0 166 (dk_at dksX2_wishedTime_0 4 rfl rfl)
theorem dX2_wishedTime_7 : decode cX2_wishedTime 7 = .ok (.iload_n 1, 1) := dk_27 (dk_at dksX2_wishedTime_0 7 rfl rfl)
theorem dX2_wishedTime_8 : decode cX2_wishedTime 8 = .ok (.iadd, 1) := dk_96 (dk_at dksX2_wishedTime_0 8 rfl rfl)
theorem dX2_wishedTime_9 : decode cX2_wishedTime 9 = .ok (.iaload, 1) := dk_46 (dk_at dksX2_wishedTime_0 9 rfl rfl)
theorem dX2_wishedTime_10 : decode cX2_wishedTime 10 = .ok (.aload_n 0, 1) := dk_42 (dk_at dksX2_wishedTime_0 10 rfl rfl)
theorem dX2_wishedTime_11 : decode cX2_wishedTime 11 = .ok (.iload_n 1, 1) := dk_27 (dk_at dksX2_wishedTime_0 11 rfl rfl)
theorem dX2_wishedTime_12 : decode cX2_wishedTime 12 = .ok (.invokevirtual 308, 3) := dk_182 1 52 (dk_at dksX2_wishedTime_0 12 rfl rfl)
theorem dX2_wishedTime_15 : decode cX2_wishedTime 15 = .ok (.invokestatic 335, 3) := dk_184 1 79 (dk_at dksX2_wishedTime_0 15 rfl rfl)
theorem dX2_wishedTime_18 : decode cX2_wishedTime 18 = .ok (.istore_n 2, 1) := dk_61 (dk_at dksX2_wishedTime_0 18 rfl rfl)
theorem dX2_wishedTime_19 : decode cX2_wishedTime 19 = .ok (.aload_n 0, 1) := dk_42 (dk_at dksX2_wishedTime_0 19 rfl rfl)
theorem dX2_wishedTime_20 : decode cX2_wishedTime 20 = .ok (.iload_n 1, 1) := dk_27 (dk_at dksX2_wishedTime_0 20 rfl rfl)
theorem dX2_wishedTime_21 : decode cX2_wishedTime 21 = .ok (.invokevirtual 305, 3) := dk_182 1 49 (dk_at dksX2_wishedTime_0 21 rfl rfl)
theorem dX2_wishedTime_24 : decode cX2_wishedTime 24 = .ok (.iconst (-1), 1) := dk_2 (dk_at dksX2_wishedTime_1 0 rfl rfl)
theorem dX2_wishedTime_25 : decode cX2_wishedTime 25 = .ok (.if_icmp .ne 7, 3) := dk_160 0 7 (dk_at dksX2_wishedTime_1 1 rfl rfl)
theorem dX2_wishedTime_28 : decode cX2_wishedTime 28 = .ok (.iload_n 2, 1) := dk_28 (dk_at dksX2_wishedTime_1 4 rfl rfl)
theorem dX2_wishedTime_29 : decode cX2_wishedTime 29 = .ok (.goto 12, 3) := dk_167 0 12 (dk_at dksX2_wishedTime_1 5 rfl rfl)
theorem dX2_wishedTime_32 : decode cX2_wishedTime 32 = .ok (.iload_n 2, 1) := dk_28 (dk_at dksX2_wishedTime_1 8 rfl rfl)
theorem dX2_wishedTime_33 : decode cX2_wishedTime 33 = .ok (.aload_n 0, 1) := dk_42 (dk_at dksX2_wishedTime_1 9 rfl rfl)
theorem dX2_wishedTime_34 : decode cX2_wishedTime 34 = .ok (.iload_n 1, 1) := dk_27 (dk_at dksX2_wishedTime_1 10 rfl rfl)
theorem dX2_wishedTime_35 : decode cX2_wishedTime 35 = .ok (.invokevirtual 305, 3) := dk_182 1 49 (dk_at dksX2_wishedTime_1 11 rfl rfl)
theorem dX2_wishedTime_38 : decode cX2_wishedTime 38 = .ok (.invokestatic 237, 3) := dk_184 0 237 (dk_at dksX2_wishedTime_1 14 rfl rfl)
theorem dX2_wishedTime_41 : decode cX2_wishedTime 41 = .ok (.ireturn, 1) := dk_172 (dk_at dksX2_wishedTime_1 17 rfl rfl)
abbrev cX2_runTime : ByteArray := prog_16_method_113_code
def yX2_runTime : MethodName := ⟨RX2, "runTime", "(II)I"⟩
def dkwX2_runTime_1 : List UInt8 := [182, 1, 139, 62, 42, 180, 0, 52, 28, 46, 172]
abbrev dktX2_runTime_1 : List UInt8 := dkwX2_runTime_1 ++ []
def dkwX2_runTime_0 : List UInt8 := [42, 42, 28, 182, 1, 32, 27, 184, 1, 136, 182, 1, 142, 154, 0, 5, 3, 172, 42, 27, 2, 3]
abbrev dktX2_runTime_0 : List UInt8 := dkwX2_runTime_0 ++ dktX2_runTime_1
theorem dksX2_runTime_0 : cX2_runTime.data.toList.drop 0 = dktX2_runTime_0 := by decide +kernel
theorem dksX2_runTime_1 : cX2_runTime.data.toList.drop 22 = dktX2_runTime_1 := dk_seg dksX2_runTime_0 22 rfl rfl
theorem dX2_runTime_0 : decode cX2_runTime 0 = .ok (.aload_n 0, 1) := dk_42 (dk_at dksX2_runTime_0 0 rfl rfl)
theorem dX2_runTime_1 : decode cX2_runTime 1 = .ok (.aload_n 0, 1) := dk_42 (dk_at dksX2_runTime_0 1 rfl rfl)
theorem dX2_runTime_2 : decode cX2_runTime 2 = .ok (.iload_n 2, 1) := dk_28 (dk_at dksX2_runTime_0 2 rfl rfl)
theorem dX2_runTime_3 : decode cX2_runTime 3 = .ok (.invokevirtual 288, 3) := dk_182 1 32 (dk_at dksX2_runTime_0 3 rfl rfl)
theorem dX2_runTime_6 : decode cX2_runTime 6 = .ok (.iload_n 1, 1) := dk_27 (dk_at dksX2_runTime_0 6 rfl rfl)
theorem dX2_runTime_7 : decode cX2_runTime 7 = .ok (.invokestatic 392, 3) := dk_184 1 136 (dk_at dksX2_runTime_0 7 rfl rfl)
theorem dX2_runTime_10 : decode cX2_runTime 10 = .ok (.invokevirtual 398, 3) := dk_182 1 142 (dk_at dksX2_runTime_0 10 rfl rfl)
theorem dX2_runTime_13 : decode cX2_runTime 13 = .ok (.ifCond .ne 5, 3) := dk_154 0 5 (dk_at dksX2_runTime_0 13 rfl rfl)
theorem dX2_runTime_16 : decode cX2_runTime 16 = .ok (.iconst 0, 1) := dk_3 (dk_at dksX2_runTime_0 16 rfl rfl)
theorem dX2_runTime_17 : decode cX2_runTime 17 = .ok (.ireturn, 1) := dk_172 (dk_at dksX2_runTime_0 17 rfl rfl)
theorem dX2_runTime_18 : decode cX2_runTime 18 = .ok (.aload_n 0, 1) := dk_42 (dk_at dksX2_runTime_0 18 rfl rfl)
theorem dX2_runTime_19 : decode cX2_runTime 19 = .ok (.iload_n 1, 1) := dk_27 (dk_at dksX2_runTime_0 19 rfl rfl)
theorem dX2_runTime_20 : decode cX2_runTime 20 = .ok (.iconst (-1), 1) := dk_2 (dk_at dksX2_runTime_0 20 rfl rfl)
theorem dX2_runTime_21 : decode cX2_runTime 21 = .ok (.iconst 0, 1) := dk_3 (dk_at dksX2_runTime_0 21 rfl rfl)
theorem dX2_runTime_22 : decode cX2_runTime 22 = .ok (.invokevirtual 395, 3) := dk_182 1 139 (dk_at dksX2_runTime_1 0 rfl rfl)
theorem dX2_runTime_25 : decode cX2_runTime 25 = .ok (.istore_n 3, 1) := dk_62 (dk_at dksX2_runTime_1 3 rfl rfl)
theorem dX2_runTime_26 : decode cX2_runTime 26 = .ok (.aload_n 0, 1) := dk_42 (dk_at dksX2_runTime_1 4 rfl rfl)
theorem dX2_runTime_27 : decode cX2_runTime 27 = .ok (.getfield 52, 3) := dk_180 0 52 (dk_at dksX2_runTime_1 5 rfl rfl)
theorem dX2_runTime_30 : decode cX2_runTime 30 = .ok (.iload_n 2, 1) := dk_28 (dk_at dksX2_runTime_1 8 rfl rfl)
theorem dX2_runTime_31 : decode cX2_runTime 31 = .ok (.iaload, 1) := dk_46 (dk_at dksX2_runTime_1 9 rfl rfl)
theorem dX2_runTime_32 : decode cX2_runTime 32 = .ok (.ireturn, 1) := dk_172 (dk_at dksX2_runTime_1 10 rfl rfl)
abbrev cX2_maySeeFor : ByteArray := prog_16_method_52_code
def yX2_maySeeFor : MethodName := ⟨RX2, "maySeeFor", "(ZZ)Z"⟩
def dkwX2_maySeeFor_2 : List UInt8 := [167, 0, 4, 3, 172]
abbrev dktX2_maySeeFor_2 : List UInt8 := dkwX2_maySeeFor_2 ++ []
def dkwX2_maySeeFor_1 : List UInt8 := [167, 0, 12, 28, 153, 0, 7, 3, 167, 0, 4, 6, 181, 0, 73, 42, 180, 0, 73, 154, 0, 7, 4]
abbrev dktX2_maySeeFor_1 : List UInt8 := dkwX2_maySeeFor_1 ++ dktX2_maySeeFor_2
def dkwX2_maySeeFor_0 : List UInt8 := [42, 42, 180, 0, 207, 153, 0, 10, 42, 182, 1, 20, 154, 0, 7, 4, 167, 0, 20, 27, 154, 0, 7, 5]
abbrev dktX2_maySeeFor_0 : List UInt8 := dkwX2_maySeeFor_0 ++ dktX2_maySeeFor_1
theorem dksX2_maySeeFor_0 : cX2_maySeeFor.data.toList.drop 0 = dktX2_maySeeFor_0 := by decide +kernel
theorem dksX2_maySeeFor_1 : cX2_maySeeFor.data.toList.drop 24 = dktX2_maySeeFor_1 := dk_seg dksX2_maySeeFor_0 24 rfl rfl
theorem dksX2_maySeeFor_2 : cX2_maySeeFor.data.toList.drop 47 = dktX2_maySeeFor_2 := dk_seg dksX2_maySeeFor_1 23 rfl rfl
theorem dX2_maySeeFor_0 : decode cX2_maySeeFor 0 = .ok (.aload_n 0, 1) := dk_42 (dk_at dksX2_maySeeFor_0 0 rfl rfl)
theorem dX2_maySeeFor_1 : decode cX2_maySeeFor 1 = .ok (.aload_n 0, 1) := dk_42 (dk_at dksX2_maySeeFor_0 1 rfl rfl)
theorem dX2_maySeeFor_2 : decode cX2_maySeeFor 2 = .ok (.getfield 207, 3) := dk_180 0 207 (dk_at dksX2_maySeeFor_0 2 rfl rfl)
theorem dX2_maySeeFor_5 : decode cX2_maySeeFor 5 = .ok (.ifCond .eq 10, 3) := dk_153 0 10 (dk_at dksX2_maySeeFor_0 5 rfl rfl)
theorem dX2_maySeeFor_8 : decode cX2_maySeeFor 8 = .ok (.aload_n 0, 1) := dk_42 (dk_at dksX2_maySeeFor_0 8 rfl rfl)
theorem dX2_maySeeFor_9 : decode cX2_maySeeFor 9 = .ok (.invokevirtual 276, 3) := dk_182 1 20 (dk_at dksX2_maySeeFor_0 9 rfl rfl)
theorem dX2_maySeeFor_12 : decode cX2_maySeeFor 12 = .ok (.ifCond .ne 7, 3) := dk_154 0 7 (dk_at dksX2_maySeeFor_0 12 rfl rfl)
theorem dX2_maySeeFor_15 : decode cX2_maySeeFor 15 = .ok (.iconst 1, 1) := dk_4 (dk_at dksX2_maySeeFor_0 15 rfl rfl)
theorem dX2_maySeeFor_16 : decode cX2_maySeeFor 16 = .ok (.goto 20, 3) := dk_167 0 20 (dk_at dksX2_maySeeFor_0 16 rfl rfl)
theorem dX2_maySeeFor_19 : decode cX2_maySeeFor 19 = .ok (.iload_n 1, 1) := dk_27 (dk_at dksX2_maySeeFor_0 19 rfl rfl)
theorem dX2_maySeeFor_20 : decode cX2_maySeeFor 20 = .ok (.ifCond .ne 7, 3) := dk_154 0 7 (dk_at dksX2_maySeeFor_0 20 rfl rfl)
theorem dX2_maySeeFor_23 : decode cX2_maySeeFor 23 = .ok (.iconst 2, 1) := dk_5 (dk_at dksX2_maySeeFor_0 23 rfl rfl)
theorem dX2_maySeeFor_24 : decode cX2_maySeeFor 24 = .ok (.goto 12, 3) := dk_167 0 12 (dk_at dksX2_maySeeFor_1 0 rfl rfl)
theorem dX2_maySeeFor_27 : decode cX2_maySeeFor 27 = .ok (.iload_n 2, 1) := dk_28 (dk_at dksX2_maySeeFor_1 3 rfl rfl)
theorem dX2_maySeeFor_28 : decode cX2_maySeeFor 28 = .ok (.ifCond .eq 7, 3) := dk_153 0 7 (dk_at dksX2_maySeeFor_1 4 rfl rfl)
theorem dX2_maySeeFor_31 : decode cX2_maySeeFor 31 = .ok (.iconst 0, 1) := dk_3 (dk_at dksX2_maySeeFor_1 7 rfl rfl)
theorem dX2_maySeeFor_32 : decode cX2_maySeeFor 32 = .ok (.goto 4, 3) := dk_167 0 4 (dk_at dksX2_maySeeFor_1 8 rfl rfl)
theorem dX2_maySeeFor_35 : decode cX2_maySeeFor 35 = .ok (.iconst 3, 1) := dk_6 (dk_at dksX2_maySeeFor_1 11 rfl rfl)
theorem dX2_maySeeFor_36 : decode cX2_maySeeFor 36 = .ok (.putfield 73, 3) := dk_181 0 73 (dk_at dksX2_maySeeFor_1 12 rfl rfl)
theorem dX2_maySeeFor_39 : decode cX2_maySeeFor 39 = .ok (.aload_n 0, 1) := dk_42 (dk_at dksX2_maySeeFor_1 15 rfl rfl)
theorem dX2_maySeeFor_40 : decode cX2_maySeeFor 40 = .ok (.getfield 73, 3) := dk_180 0 73 (dk_at dksX2_maySeeFor_1 16 rfl rfl)
theorem dX2_maySeeFor_43 : decode cX2_maySeeFor 43 = .ok (.ifCond .ne 7, 3) := dk_154 0 7 (dk_at dksX2_maySeeFor_1 19 rfl rfl)
theorem dX2_maySeeFor_46 : decode cX2_maySeeFor 46 = .ok (.iconst 1, 1) := dk_4 (dk_at dksX2_maySeeFor_1 22 rfl rfl)
theorem dX2_maySeeFor_47 : decode cX2_maySeeFor 47 = .ok (.goto 4, 3) := dk_167 0 4 (dk_at dksX2_maySeeFor_2 0 rfl rfl)
theorem dX2_maySeeFor_50 : decode cX2_maySeeFor 50 = .ok (.iconst 0, 1) := dk_3 (dk_at dksX2_maySeeFor_2 3 rfl rfl)
theorem dX2_maySeeFor_51 : decode cX2_maySeeFor 51 = .ok (.ireturn, 1) := dk_172 (dk_at dksX2_maySeeFor_2 4 rfl rfl)
abbrev cX2_runEnd : ByteArray := prog_16_method_114_code
def yX2_runEnd : MethodName := ⟨RX2, "runEnd", "(I)I"⟩
def dkwX2_runEnd_2 : List UInt8 := [61, 132, 3, 1, 167, 255, 234, 28, 172]
abbrev dktX2_runEnd_2 : List UInt8 := dkwX2_runEnd_2 ++ []
def dkwX2_runEnd_1 : List UInt8 := [2, 172, 3, 61, 3, 62, 29, 42, 182, 0, 230, 162, 0, 20, 28, 42, 180, 0, 52, 29, 46, 184, 1, 79]
abbrev dktX2_runEnd_1 : List UInt8 := dkwX2_runEnd_1 ++ dktX2_runEnd_2
def dkwX2_runEnd_0 : List UInt8 := [42, 27, 184, 1, 136, 182, 1, 58, 154, 0, 5, 3, 172, 42, 27, 2, 3, 182, 1, 139, 2, 159, 0, 5]
abbrev dktX2_runEnd_0 : List UInt8 := dkwX2_runEnd_0 ++ dktX2_runEnd_1
theorem dksX2_runEnd_0 : cX2_runEnd.data.toList.drop 0 = dktX2_runEnd_0 := by decide +kernel
theorem dksX2_runEnd_1 : cX2_runEnd.data.toList.drop 24 = dktX2_runEnd_1 := dk_seg dksX2_runEnd_0 24 rfl rfl
theorem dksX2_runEnd_2 : cX2_runEnd.data.toList.drop 48 = dktX2_runEnd_2 := dk_seg dksX2_runEnd_1 24 rfl rfl
theorem dX2_runEnd_0 : decode cX2_runEnd 0 = .ok (.aload_n 0, 1) := dk_42 (dk_at dksX2_runEnd_0 0 rfl rfl)
theorem dX2_runEnd_1 : decode cX2_runEnd 1 = .ok (.iload_n 1, 1) := dk_27 (dk_at dksX2_runEnd_0 1 rfl rfl)
theorem dX2_runEnd_2 : decode cX2_runEnd 2 = .ok (.invokestatic 392, 3) := dk_184 1 136 (dk_at dksX2_runEnd_0 2 rfl rfl)
theorem dX2_runEnd_5 : decode cX2_runEnd 5 = .ok (.invokevirtual 314, 3) := dk_182 1 58 (dk_at dksX2_runEnd_0 5 rfl rfl)
theorem dX2_runEnd_8 : decode cX2_runEnd 8 = .ok (.ifCond .ne 5, 3) := dk_154 0 5 (dk_at dksX2_runEnd_0 8 rfl rfl)
theorem dX2_runEnd_11 : decode cX2_runEnd 11 = .ok (.iconst 0, 1) := dk_3 (dk_at dksX2_runEnd_0 11 rfl rfl)
theorem dX2_runEnd_12 : decode cX2_runEnd 12 = .ok (.ireturn, 1) := dk_172 (dk_at dksX2_runEnd_0 12 rfl rfl)
theorem dX2_runEnd_13 : decode cX2_runEnd 13 = .ok (.aload_n 0, 1) := dk_42 (dk_at dksX2_runEnd_0 13 rfl rfl)
theorem dX2_runEnd_14 : decode cX2_runEnd 14 = .ok (.iload_n 1, 1) := dk_27 (dk_at dksX2_runEnd_0 14 rfl rfl)
theorem dX2_runEnd_15 : decode cX2_runEnd 15 = .ok (.iconst (-1), 1) := dk_2 (dk_at dksX2_runEnd_0 15 rfl rfl)
theorem dX2_runEnd_16 : decode cX2_runEnd 16 = .ok (.iconst 0, 1) := dk_3 (dk_at dksX2_runEnd_0 16 rfl rfl)
theorem dX2_runEnd_17 : decode cX2_runEnd 17 = .ok (.invokevirtual 395, 3) := dk_182 1 139 (dk_at dksX2_runEnd_0 17 rfl rfl)
theorem dX2_runEnd_20 : decode cX2_runEnd 20 = .ok (.iconst (-1), 1) := dk_2 (dk_at dksX2_runEnd_0 20 rfl rfl)
theorem dX2_runEnd_21 : decode cX2_runEnd 21 = .ok (.if_icmp .eq 5, 3) := dk_159 0 5 (dk_at dksX2_runEnd_0 21 rfl rfl)
theorem dX2_runEnd_24 : decode cX2_runEnd 24 = .ok (.iconst (-1), 1) := dk_2 (dk_at dksX2_runEnd_1 0 rfl rfl)
theorem dX2_runEnd_25 : decode cX2_runEnd 25 = .ok (.ireturn, 1) := dk_172 (dk_at dksX2_runEnd_1 1 rfl rfl)
theorem dX2_runEnd_26 : decode cX2_runEnd 26 = .ok (.iconst 0, 1) := dk_3 (dk_at dksX2_runEnd_1 2 rfl rfl)
theorem dX2_runEnd_27 : decode cX2_runEnd 27 = .ok (.istore_n 2, 1) := dk_61 (dk_at dksX2_runEnd_1 3 rfl rfl)
theorem dX2_runEnd_28 : decode cX2_runEnd 28 = .ok (.iconst 0, 1) := dk_3 (dk_at dksX2_runEnd_1 4 rfl rfl)
theorem dX2_runEnd_29 : decode cX2_runEnd 29 = .ok (.istore_n 3, 1) := dk_62 (dk_at dksX2_runEnd_1 5 rfl rfl)
theorem dX2_runEnd_30 : decode cX2_runEnd 30 = .ok (.iload_n 3, 1) := dk_29 (dk_at dksX2_runEnd_1 6 rfl rfl)
theorem dX2_runEnd_31 : decode cX2_runEnd 31 = .ok (.aload_n 0, 1) := dk_42 (dk_at dksX2_runEnd_1 7 rfl rfl)
theorem dX2_runEnd_32 : decode cX2_runEnd 32 = .ok (.invokevirtual 230, 3) := dk_182 0 230 (dk_at dksX2_runEnd_1 8 rfl rfl)
theorem dX2_runEnd_35 : decode cX2_runEnd 35 = .ok (.if_icmp .ge 20, 3) := dk_162 0 20 (dk_at dksX2_runEnd_1 11 rfl rfl)
theorem dX2_runEnd_38 : decode cX2_runEnd 38 = .ok (.iload_n 2, 1) := dk_28 (dk_at dksX2_runEnd_1 14 rfl rfl)
theorem dX2_runEnd_39 : decode cX2_runEnd 39 = .ok (.aload_n 0, 1) := dk_42 (dk_at dksX2_runEnd_1 15 rfl rfl)
theorem dX2_runEnd_40 : decode cX2_runEnd 40 = .ok (.getfield 52, 3) := dk_180 0 52 (dk_at dksX2_runEnd_1 16 rfl rfl)
theorem dX2_runEnd_43 : decode cX2_runEnd 43 = .ok (.iload_n 3, 1) := dk_29 (dk_at dksX2_runEnd_1 19 rfl rfl)
theorem dX2_runEnd_44 : decode cX2_runEnd 44 = .ok (.iaload, 1) := dk_46 (dk_at dksX2_runEnd_1 20 rfl rfl)
theorem dX2_runEnd_45 : decode cX2_runEnd 45 = .ok (.invokestatic 335, 3) := dk_184 1 79 (dk_at dksX2_runEnd_1 21 rfl rfl)
theorem dX2_runEnd_48 : decode cX2_runEnd 48 = .ok (.istore_n 2, 1) := dk_61 (dk_at dksX2_runEnd_2 0 rfl rfl)
theorem dX2_runEnd_49 : decode cX2_runEnd 49 = .ok (.iinc 3 1, 3) := dk_132 3 1 (dk_at dksX2_runEnd_2 1 rfl rfl)
theorem dX2_runEnd_52 : decode cX2_runEnd 52 = .ok (.goto (-22), 3) := dk_167 255 234 (dk_at dksX2_runEnd_2 4 rfl rfl)
theorem dX2_runEnd_55 : decode cX2_runEnd 55 = .ok (.iload_n 2, 1) := dk_28 (dk_at dksX2_runEnd_2 7 rfl rfl)
theorem dX2_runEnd_56 : decode cX2_runEnd 56 = .ok (.ireturn, 1) := dk_172 (dk_at dksX2_runEnd_2 8 rfl rfl)
abbrev cX2_spare : ByteArray := prog_16_method_116_code
def yX2_spare : MethodName := ⟨RX2, "spare", "(II)I"⟩
def dkwX2_spare_2 : List UInt8 := [3, 172, 42, 27, 28, 182, 1, 145, 172]
abbrev dktX2_spare_2 : List UInt8 := dkwX2_spare_2 ++ []
def dkwX2_spare_1 : List UInt8 := [180, 0, 23, 17, 0, 146, 28, 96, 46, 2, 160, 0, 7, 4, 167, 0, 4, 3, 182, 1, 142, 154, 0, 5]
abbrev dktX2_spare_1 : List UInt8 := dkwX2_spare_1 ++ dktX2_spare_2
def dkwX2_spare_0 : List UInt8 := [42, 42, 28, 182, 1, 32, 27, 184, 1, 136, 153, 0, 29, 42, 28, 182, 1, 32, 153, 0, 21, 42]
abbrev dktX2_spare_0 : List UInt8 := dkwX2_spare_0 ++ dktX2_spare_1
theorem dksX2_spare_0 : cX2_spare.data.toList.drop 0 = dktX2_spare_0 := by decide +kernel
theorem dksX2_spare_1 : cX2_spare.data.toList.drop 22 = dktX2_spare_1 := dk_seg dksX2_spare_0 22 rfl rfl
theorem dksX2_spare_2 : cX2_spare.data.toList.drop 46 = dktX2_spare_2 := dk_seg dksX2_spare_1 24 rfl rfl
theorem dX2_spare_0 : decode cX2_spare 0 = .ok (.aload_n 0, 1) := dk_42 (dk_at dksX2_spare_0 0 rfl rfl)
theorem dX2_spare_1 : decode cX2_spare 1 = .ok (.aload_n 0, 1) := dk_42 (dk_at dksX2_spare_0 1 rfl rfl)
theorem dX2_spare_2 : decode cX2_spare 2 = .ok (.iload_n 2, 1) := dk_28 (dk_at dksX2_spare_0 2 rfl rfl)
theorem dX2_spare_3 : decode cX2_spare 3 = .ok (.invokevirtual 288, 3) := dk_182 1 32 (dk_at dksX2_spare_0 3 rfl rfl)
theorem dX2_spare_6 : decode cX2_spare 6 = .ok (.iload_n 1, 1) := dk_27 (dk_at dksX2_spare_0 6 rfl rfl)
theorem dX2_spare_7 : decode cX2_spare 7 = .ok (.invokestatic 392, 3) := dk_184 1 136 (dk_at dksX2_spare_0 7 rfl rfl)
theorem dX2_spare_10 : decode cX2_spare 10 = .ok (.ifCond .eq 29, 3) := dk_153 0 29 (dk_at dksX2_spare_0 10 rfl rfl)
theorem dX2_spare_13 : decode cX2_spare 13 = .ok (.aload_n 0, 1) := dk_42 (dk_at dksX2_spare_0 13 rfl rfl)
theorem dX2_spare_14 : decode cX2_spare 14 = .ok (.iload_n 2, 1) := dk_28 (dk_at dksX2_spare_0 14 rfl rfl)
theorem dX2_spare_15 : decode cX2_spare 15 = .ok (.invokevirtual 288, 3) := dk_182 1 32 (dk_at dksX2_spare_0 15 rfl rfl)
theorem dX2_spare_18 : decode cX2_spare 18 = .ok (.ifCond .eq 21, 3) := dk_153 0 21 (dk_at dksX2_spare_0 18 rfl rfl)
theorem dX2_spare_21 : decode cX2_spare 21 = .ok (.aload_n 0, 1) := dk_42 (dk_at dksX2_spare_0 21 rfl rfl)
theorem dX2_spare_22 : decode cX2_spare 22 = .ok (.getfield 23, 3) := dk_180 0 23 (dk_at dksX2_spare_1 0 rfl rfl)
theorem dX2_spare_25 : decode cX2_spare 25 = .ok (.sipush 146, 3) := dk_17 0 146 (dk_at dksX2_spare_1 3 rfl rfl)
theorem dX2_spare_28 : decode cX2_spare 28 = .ok (.iload_n 2, 1) := dk_28 (dk_at dksX2_spare_1 6 rfl rfl)
theorem dX2_spare_29 : decode cX2_spare 29 = .ok (.iadd, 1) := dk_96 (dk_at dksX2_spare_1 7 rfl rfl)
theorem dX2_spare_30 : decode cX2_spare 30 = .ok (.iaload, 1) := dk_46 (dk_at dksX2_spare_1 8 rfl rfl)
theorem dX2_spare_31 : decode cX2_spare 31 = .ok (.iconst (-1), 1) := dk_2 (dk_at dksX2_spare_1 9 rfl rfl)
theorem dX2_spare_32 : decode cX2_spare 32 = .ok (.if_icmp .ne 7, 3) := dk_160 0 7 (dk_at dksX2_spare_1 10 rfl rfl)
theorem dX2_spare_35 : decode cX2_spare 35 = .ok (.iconst 1, 1) := dk_4 (dk_at dksX2_spare_1 13 rfl rfl)
theorem dX2_spare_36 : decode cX2_spare 36 = .ok (.goto 4, 3) := dk_167 0 4 (dk_at dksX2_spare_1 14 rfl rfl)
theorem dX2_spare_39 : decode cX2_spare 39 = .ok (.iconst 0, 1) := dk_3 (dk_at dksX2_spare_1 17 rfl rfl)
theorem dX2_spare_40 : decode cX2_spare 40 = .ok (.invokevirtual 398, 3) := dk_182 1 142 (dk_at dksX2_spare_1 18 rfl rfl)
theorem dX2_spare_43 : decode cX2_spare 43 = .ok (.ifCond .ne 5, 3) := dk_154 0 5 (dk_at dksX2_spare_1 21 rfl rfl)
theorem dX2_spare_46 : decode cX2_spare 46 = .ok (.iconst 0, 1) := dk_3 (dk_at dksX2_spare_2 0 rfl rfl)
theorem dX2_spare_47 : decode cX2_spare 47 = .ok (.ireturn, 1) := dk_172 (dk_at dksX2_spare_2 1 rfl rfl)
theorem dX2_spare_48 : decode cX2_spare 48 = .ok (.aload_n 0, 1) := dk_42 (dk_at dksX2_spare_2 2 rfl rfl)
theorem dX2_spare_49 : decode cX2_spare 49 = .ok (.iload_n 1, 1) := dk_27 (dk_at dksX2_spare_2 3 rfl rfl)
theorem dX2_spare_50 : decode cX2_spare 50 = .ok (.iload_n 2, 1) := dk_28 (dk_at dksX2_spare_2 4 rfl rfl)
theorem dX2_spare_51 : decode cX2_spare 51 = .ok (.invokevirtual 401, 3) := dk_182 1 145 (dk_at dksX2_spare_2 5 rfl rfl)
theorem dX2_spare_54 : decode cX2_spare 54 = .ok (.ireturn, 1) := dk_172 (dk_at dksX2_spare_2 8 rfl rfl)
abbrev cX2_spareOf : ByteArray := prog_16_method_115_code
def yX2_spareOf : MethodName := ⟨RX2, "spareOf", "(II)I"⟩
def dkwX2_spareOf_1 : List UInt8 := [29, 172]
abbrev dktX2_spareOf_1 : List UInt8 := dkwX2_spareOf_1 ++ []
def dkwX2_spareOf_0 : List UInt8 := [16, 99, 62, 29, 155, 0, 20, 42, 27, 28, 29, 182, 1, 139, 2, 159, 0, 9, 132, 3, 255, 167, 255, 238]
abbrev dktX2_spareOf_0 : List UInt8 := dkwX2_spareOf_0 ++ dktX2_spareOf_1
theorem dksX2_spareOf_0 : cX2_spareOf.data.toList.drop 0 = dktX2_spareOf_0 := by decide +kernel
theorem dksX2_spareOf_1 : cX2_spareOf.data.toList.drop 24 = dktX2_spareOf_1 := dk_seg dksX2_spareOf_0 24 rfl rfl
theorem dX2_spareOf_0 : decode cX2_spareOf 0 = .ok (.bipush 99, 2) := dk_16 99 (dk_at dksX2_spareOf_0 0 rfl rfl)
theorem dX2_spareOf_2 : decode cX2_spareOf 2 = .ok (.istore_n 3, 1) := dk_62 (dk_at dksX2_spareOf_0 2 rfl rfl)
theorem dX2_spareOf_3 : decode cX2_spareOf 3 = .ok (.iload_n 3, 1) := dk_29 (dk_at dksX2_spareOf_0 3 rfl rfl)
theorem dX2_spareOf_4 : decode cX2_spareOf 4 = .ok (.ifCond .lt 20, 3) := dk_155 0 20 (dk_at dksX2_spareOf_0 4 rfl rfl)
theorem dX2_spareOf_7 : decode cX2_spareOf 7 = .ok (.aload_n 0, 1) := dk_42 (dk_at dksX2_spareOf_0 7 rfl rfl)
theorem dX2_spareOf_8 : decode cX2_spareOf 8 = .ok (.iload_n 1, 1) := dk_27 (dk_at dksX2_spareOf_0 8 rfl rfl)
theorem dX2_spareOf_9 : decode cX2_spareOf 9 = .ok (.iload_n 2, 1) := dk_28 (dk_at dksX2_spareOf_0 9 rfl rfl)
theorem dX2_spareOf_10 : decode cX2_spareOf 10 = .ok (.iload_n 3, 1) := dk_29 (dk_at dksX2_spareOf_0 10 rfl rfl)
theorem dX2_spareOf_11 : decode cX2_spareOf 11 = .ok (.invokevirtual 395, 3) := dk_182 1 139 (dk_at dksX2_spareOf_0 11 rfl rfl)
theorem dX2_spareOf_14 : decode cX2_spareOf 14 = .ok (.iconst (-1), 1) := dk_2 (dk_at dksX2_spareOf_0 14 rfl rfl)
theorem dX2_spareOf_15 : decode cX2_spareOf 15 = .ok (.if_icmp .eq 9, 3) := dk_159 0 9 (dk_at dksX2_spareOf_0 15 rfl rfl)
theorem dX2_spareOf_18 : decode cX2_spareOf 18 = .ok (.iinc 3 (-1), 3) := dk_132 3 255 (dk_at dksX2_spareOf_0 18 rfl rfl)
theorem dX2_spareOf_21 : decode cX2_spareOf 21 = .ok (.goto (-18), 3) := dk_167 255 238 (dk_at dksX2_spareOf_0 21 rfl rfl)
theorem dX2_spareOf_24 : decode cX2_spareOf 24 = .ok (.iload_n 3, 1) := dk_29 (dk_at dksX2_spareOf_1 0 rfl rfl)
theorem dX2_spareOf_25 : decode cX2_spareOf 25 = .ok (.ireturn, 1) := dk_172 (dk_at dksX2_spareOf_1 1 rfl rfl)
abbrev cX2_weakest : ByteArray := prog_16_method_117_code
def yX2_weakest : MethodName := ⟨RX2, "weakest", "(I)I"⟩
def dkwX2_weakest_3 : List UInt8 := [21, 4, 61, 21, 5, 62, 132, 4, 1, 167, 255, 197, 28, 172]
abbrev dktX2_weakest_3 : List UInt8 := dkwX2_weakest_3 ++ []
def dkwX2_weakest_2 : List UInt8 := [42, 27, 21, 4, 182, 1, 145, 54, 5, 28, 2, 159, 0, 12, 21, 5, 29, 161, 0, 6, 167, 0, 9]
abbrev dktX2_weakest_2 : List UInt8 := dkwX2_weakest_2 ++ dktX2_weakest_3
def dkwX2_weakest_1 : List UInt8 := [182, 0, 230, 162, 0, 56, 42, 180, 0, 23, 17, 0, 146, 21, 4, 96, 46, 2, 159, 0, 6, 167, 0, 32]
abbrev dktX2_weakest_1 : List UInt8 := dkwX2_weakest_1 ++ dktX2_weakest_2
def dkwX2_weakest_0 : List UInt8 := [42, 27, 184, 1, 136, 182, 1, 58, 154, 0, 5, 3, 172, 2, 61, 3, 62, 3, 54, 4, 21, 4, 42]
abbrev dktX2_weakest_0 : List UInt8 := dkwX2_weakest_0 ++ dktX2_weakest_1
theorem dksX2_weakest_0 : cX2_weakest.data.toList.drop 0 = dktX2_weakest_0 := by decide +kernel
theorem dksX2_weakest_1 : cX2_weakest.data.toList.drop 23 = dktX2_weakest_1 := dk_seg dksX2_weakest_0 23 rfl rfl
theorem dksX2_weakest_2 : cX2_weakest.data.toList.drop 47 = dktX2_weakest_2 := dk_seg dksX2_weakest_1 24 rfl rfl
theorem dksX2_weakest_3 : cX2_weakest.data.toList.drop 70 = dktX2_weakest_3 := dk_seg dksX2_weakest_2 23 rfl rfl
theorem dX2_weakest_0 : decode cX2_weakest 0 = .ok (.aload_n 0, 1) := dk_42 (dk_at dksX2_weakest_0 0 rfl rfl)
theorem dX2_weakest_1 : decode cX2_weakest 1 = .ok (.iload_n 1, 1) := dk_27 (dk_at dksX2_weakest_0 1 rfl rfl)
theorem dX2_weakest_2 : decode cX2_weakest 2 = .ok (.invokestatic 392, 3) := dk_184 1 136 (dk_at dksX2_weakest_0 2 rfl rfl)
theorem dX2_weakest_5 : decode cX2_weakest 5 = .ok (.invokevirtual 314, 3) := dk_182 1 58 (dk_at dksX2_weakest_0 5 rfl rfl)
theorem dX2_weakest_8 : decode cX2_weakest 8 = .ok (.ifCond .ne 5, 3) := dk_154 0 5 (dk_at dksX2_weakest_0 8 rfl rfl)
theorem dX2_weakest_11 : decode cX2_weakest 11 = .ok (.iconst 0, 1) := dk_3 (dk_at dksX2_weakest_0 11 rfl rfl)
theorem dX2_weakest_12 : decode cX2_weakest 12 = .ok (.ireturn, 1) := dk_172 (dk_at dksX2_weakest_0 12 rfl rfl)
theorem dX2_weakest_13 : decode cX2_weakest 13 = .ok (.iconst (-1), 1) := dk_2 (dk_at dksX2_weakest_0 13 rfl rfl)
theorem dX2_weakest_14 : decode cX2_weakest 14 = .ok (.istore_n 2, 1) := dk_61 (dk_at dksX2_weakest_0 14 rfl rfl)
theorem dX2_weakest_15 : decode cX2_weakest 15 = .ok (.iconst 0, 1) := dk_3 (dk_at dksX2_weakest_0 15 rfl rfl)
theorem dX2_weakest_16 : decode cX2_weakest 16 = .ok (.istore_n 3, 1) := dk_62 (dk_at dksX2_weakest_0 16 rfl rfl)
theorem dX2_weakest_17 : decode cX2_weakest 17 = .ok (.iconst 0, 1) := dk_3 (dk_at dksX2_weakest_0 17 rfl rfl)
theorem dX2_weakest_18 : decode cX2_weakest 18 = .ok (.istore 4, 2) := dk_54 4 (dk_at dksX2_weakest_0 18 rfl rfl)
theorem dX2_weakest_20 : decode cX2_weakest 20 = .ok (.iload 4, 2) := dk_21 4 (dk_at dksX2_weakest_0 20 rfl rfl)
theorem dX2_weakest_22 : decode cX2_weakest 22 = .ok (.aload_n 0, 1) := dk_42 (dk_at dksX2_weakest_0 22 rfl rfl)
theorem dX2_weakest_23 : decode cX2_weakest 23 = .ok (.invokevirtual 230, 3) := dk_182 0 230 (dk_at dksX2_weakest_1 0 rfl rfl)
theorem dX2_weakest_26 : decode cX2_weakest 26 = .ok (.if_icmp .ge 56, 3) := dk_162 0 56 (dk_at dksX2_weakest_1 3 rfl rfl)
theorem dX2_weakest_29 : decode cX2_weakest 29 = .ok (.aload_n 0, 1) := dk_42 (dk_at dksX2_weakest_1 6 rfl rfl)
theorem dX2_weakest_30 : decode cX2_weakest 30 = .ok (.getfield 23, 3) := dk_180 0 23 (dk_at dksX2_weakest_1 7 rfl rfl)
theorem dX2_weakest_33 : decode cX2_weakest 33 = .ok (.sipush 146, 3) := dk_17 0 146 (dk_at dksX2_weakest_1 10 rfl rfl)
theorem dX2_weakest_36 : decode cX2_weakest 36 = .ok (.iload 4, 2) := dk_21 4 (dk_at dksX2_weakest_1 13 rfl rfl)
theorem dX2_weakest_38 : decode cX2_weakest 38 = .ok (.iadd, 1) := dk_96 (dk_at dksX2_weakest_1 15 rfl rfl)
theorem dX2_weakest_39 : decode cX2_weakest 39 = .ok (.iaload, 1) := dk_46 (dk_at dksX2_weakest_1 16 rfl rfl)
theorem dX2_weakest_40 : decode cX2_weakest 40 = .ok (.iconst (-1), 1) := dk_2 (dk_at dksX2_weakest_1 17 rfl rfl)
theorem dX2_weakest_41 : decode cX2_weakest 41 = .ok (.if_icmp .eq 6, 3) := dk_159 0 6 (dk_at dksX2_weakest_1 18 rfl rfl)
theorem dX2_weakest_44 : decode cX2_weakest 44 = .ok (.goto 32, 3) := dk_167 0 32 (dk_at dksX2_weakest_1 21 rfl rfl)
theorem dX2_weakest_47 : decode cX2_weakest 47 = .ok (.aload_n 0, 1) := dk_42 (dk_at dksX2_weakest_2 0 rfl rfl)
theorem dX2_weakest_48 : decode cX2_weakest 48 = .ok (.iload_n 1, 1) := dk_27 (dk_at dksX2_weakest_2 1 rfl rfl)
theorem dX2_weakest_49 : decode cX2_weakest 49 = .ok (.iload 4, 2) := dk_21 4 (dk_at dksX2_weakest_2 2 rfl rfl)
theorem dX2_weakest_51 : decode cX2_weakest 51 = .ok (.invokevirtual 401, 3) := dk_182 1 145 (dk_at dksX2_weakest_2 4 rfl rfl)
theorem dX2_weakest_54 : decode cX2_weakest 54 = .ok (.istore 5, 2) := dk_54 5 (dk_at dksX2_weakest_2 7 rfl rfl)
theorem dX2_weakest_56 : decode cX2_weakest 56 = .ok (.iload_n 2, 1) := dk_28 (dk_at dksX2_weakest_2 9 rfl rfl)
theorem dX2_weakest_57 : decode cX2_weakest 57 = .ok (.iconst (-1), 1) := dk_2 (dk_at dksX2_weakest_2 10 rfl rfl)
theorem dX2_weakest_58 : decode cX2_weakest 58 = .ok (.if_icmp .eq 12, 3) := dk_159 0 12 (dk_at dksX2_weakest_2 11 rfl rfl)
theorem dX2_weakest_61 : decode cX2_weakest 61 = .ok (.iload 5, 2) := dk_21 5 (dk_at dksX2_weakest_2 14 rfl rfl)
theorem dX2_weakest_63 : decode cX2_weakest 63 = .ok (.iload_n 3, 1) := dk_29 (dk_at dksX2_weakest_2 16 rfl rfl)
theorem dX2_weakest_64 : decode cX2_weakest 64 = .ok (.if_icmp .lt 6, 3) := dk_161 0 6 (dk_at dksX2_weakest_2 17 rfl rfl)
theorem dX2_weakest_67 : decode cX2_weakest 67 = .ok (.goto 9, 3) := dk_167 0 9 (dk_at dksX2_weakest_2 20 rfl rfl)
theorem dX2_weakest_70 : decode cX2_weakest 70 = .ok (.iload 4, 2) := dk_21 4 (dk_at dksX2_weakest_3 0 rfl rfl)
theorem dX2_weakest_72 : decode cX2_weakest 72 = .ok (.istore_n 2, 1) := dk_61 (dk_at dksX2_weakest_3 2 rfl rfl)
theorem dX2_weakest_73 : decode cX2_weakest 73 = .ok (.iload 5, 2) := dk_21 5 (dk_at dksX2_weakest_3 3 rfl rfl)
theorem dX2_weakest_75 : decode cX2_weakest 75 = .ok (.istore_n 3, 1) := dk_62 (dk_at dksX2_weakest_3 5 rfl rfl)
theorem dX2_weakest_76 : decode cX2_weakest 76 = .ok (.iinc 4 1, 3) := dk_132 4 1 (dk_at dksX2_weakest_3 6 rfl rfl)
theorem dX2_weakest_79 : decode cX2_weakest 79 = .ok (.goto (-59), 3) := dk_167 255 197 (dk_at dksX2_weakest_3 9 rfl rfl)
theorem dX2_weakest_82 : decode cX2_weakest 82 = .ok (.iload_n 2, 1) := dk_28 (dk_at dksX2_weakest_3 12 rfl rfl)
theorem dX2_weakest_83 : decode cX2_weakest 83 = .ok (.ireturn, 1) := dk_172 (dk_at dksX2_weakest_3 13 rfl rfl)
abbrev cX2_writeEvent : ByteArray := prog_16_method_123_code
def yX2_writeEvent : MethodName := ⟨RX2, "writeEvent", "(I)I"⟩
def dkwX2_writeEvent_3 : List UInt8 := [182, 1, 154, 42, 180, 1, 148, 172]
abbrev dktX2_writeEvent_3 : List UInt8 := dkwX2_writeEvent_3 ++ []
def dkwX2_writeEvent_2 : List UInt8 := [27, 182, 1, 49, 182, 1, 166, 42, 180, 0, 23, 17, 0, 146, 27, 96, 46, 2, 159, 0, 9, 42, 16, 33]
abbrev dktX2_writeEvent_2 : List UInt8 := dkwX2_writeEvent_2 ++ dktX2_writeEvent_3
def dkwX2_writeEvent_1 : List UInt8 := [42, 16, 32, 182, 1, 154, 42, 42, 27, 182, 1, 52, 182, 1, 151, 42, 19, 1, 160, 182, 1, 162, 42, 42]
abbrev dktX2_writeEvent_1 : List UInt8 := dkwX2_writeEvent_1 ++ dktX2_writeEvent_2
def dkwX2_writeEvent_0 : List UInt8 := [42, 42, 27, 182, 1, 32, 182, 1, 58, 154, 0, 5, 3, 172, 42, 3, 181, 1, 148, 42, 27, 182, 1, 157]
abbrev dktX2_writeEvent_0 : List UInt8 := dkwX2_writeEvent_0 ++ dktX2_writeEvent_1
theorem dksX2_writeEvent_0 : cX2_writeEvent.data.toList.drop 0 = dktX2_writeEvent_0 := by decide +kernel
theorem dksX2_writeEvent_1 : cX2_writeEvent.data.toList.drop 24 = dktX2_writeEvent_1 := dk_seg dksX2_writeEvent_0 24 rfl rfl
theorem dksX2_writeEvent_2 : cX2_writeEvent.data.toList.drop 48 = dktX2_writeEvent_2 := dk_seg dksX2_writeEvent_1 24 rfl rfl
theorem dksX2_writeEvent_3 : cX2_writeEvent.data.toList.drop 72 = dktX2_writeEvent_3 := dk_seg dksX2_writeEvent_2 24 rfl rfl
theorem dX2_writeEvent_0 : decode cX2_writeEvent 0 = .ok (.aload_n 0, 1) := dk_42 (dk_at dksX2_writeEvent_0 0 rfl rfl)
theorem dX2_writeEvent_1 : decode cX2_writeEvent 1 = .ok (.aload_n 0, 1) := dk_42 (dk_at dksX2_writeEvent_0 1 rfl rfl)
theorem dX2_writeEvent_2 : decode cX2_writeEvent 2 = .ok (.iload_n 1, 1) := dk_27 (dk_at dksX2_writeEvent_0 2 rfl rfl)
theorem dX2_writeEvent_3 : decode cX2_writeEvent 3 = .ok (.invokevirtual 288, 3) := dk_182 1 32 (dk_at dksX2_writeEvent_0 3 rfl rfl)
theorem dX2_writeEvent_6 : decode cX2_writeEvent 6 = .ok (.invokevirtual 314, 3) := dk_182 1 58 (dk_at dksX2_writeEvent_0 6 rfl rfl)
theorem dX2_writeEvent_9 : decode cX2_writeEvent 9 = .ok (.ifCond .ne 5, 3) := dk_154 0 5 (dk_at dksX2_writeEvent_0 9 rfl rfl)
theorem dX2_writeEvent_12 : decode cX2_writeEvent 12 = .ok (.iconst 0, 1) := dk_3 (dk_at dksX2_writeEvent_0 12 rfl rfl)
theorem dX2_writeEvent_13 : decode cX2_writeEvent 13 = .ok (.ireturn, 1) := dk_172 (dk_at dksX2_writeEvent_0 13 rfl rfl)
theorem dX2_writeEvent_14 : decode cX2_writeEvent 14 = .ok (.aload_n 0, 1) := dk_42 (dk_at dksX2_writeEvent_0 14 rfl rfl)
theorem dX2_writeEvent_15 : decode cX2_writeEvent 15 = .ok (.iconst 0, 1) := dk_3 (dk_at dksX2_writeEvent_0 15 rfl rfl)
theorem dX2_writeEvent_16 : decode cX2_writeEvent 16 = .ok (.putfield 404, 3) := dk_181 1 148 (dk_at dksX2_writeEvent_0 16 rfl rfl)
theorem dX2_writeEvent_19 : decode cX2_writeEvent 19 = .ok (.aload_n 0, 1) := dk_42 (dk_at dksX2_writeEvent_0 19 rfl rfl)
theorem dX2_writeEvent_20 : decode cX2_writeEvent 20 = .ok (.iload_n 1, 1) := dk_27 (dk_at dksX2_writeEvent_0 20 rfl rfl)
theorem dX2_writeEvent_21 : decode cX2_writeEvent 21 = .ok (.invokevirtual 413, 3) := dk_182 1 157 (dk_at dksX2_writeEvent_0 21 rfl rfl)
theorem dX2_writeEvent_24 : decode cX2_writeEvent 24 = .ok (.aload_n 0, 1) := dk_42 (dk_at dksX2_writeEvent_1 0 rfl rfl)
theorem dX2_writeEvent_25 : decode cX2_writeEvent 25 = .ok (.bipush 32, 2) := dk_16 32 (dk_at dksX2_writeEvent_1 1 rfl rfl)
theorem dX2_writeEvent_27 : decode cX2_writeEvent 27 = .ok (.invokevirtual 410, 3) := dk_182 1 154 (dk_at dksX2_writeEvent_1 3 rfl rfl)
theorem dX2_writeEvent_30 : decode cX2_writeEvent 30 = .ok (.aload_n 0, 1) := dk_42 (dk_at dksX2_writeEvent_1 6 rfl rfl)
theorem dX2_writeEvent_31 : decode cX2_writeEvent 31 = .ok (.aload_n 0, 1) := dk_42 (dk_at dksX2_writeEvent_1 7 rfl rfl)
theorem dX2_writeEvent_32 : decode cX2_writeEvent 32 = .ok (.iload_n 1, 1) := dk_27 (dk_at dksX2_writeEvent_1 8 rfl rfl)
theorem dX2_writeEvent_33 : decode cX2_writeEvent 33 = .ok (.invokevirtual 308, 3) := dk_182 1 52 (dk_at dksX2_writeEvent_1 9 rfl rfl)
theorem dX2_writeEvent_36 : decode cX2_writeEvent 36 = .ok (.invokevirtual 407, 3) := dk_182 1 151 (dk_at dksX2_writeEvent_1 12 rfl rfl)
theorem dX2_writeEvent_39 : decode cX2_writeEvent 39 = .ok (.aload_n 0, 1) := dk_42 (dk_at dksX2_writeEvent_1 15 rfl rfl)
theorem dX2_writeEvent_40 : decode cX2_writeEvent 40 = .ok (.ldc_w 416, 3) := dk_19 1 160 (dk_at dksX2_writeEvent_1 16 rfl rfl)
theorem dX2_writeEvent_43 : decode cX2_writeEvent 43 = .ok (.invokevirtual 418, 3) := dk_182 1 162 (dk_at dksX2_writeEvent_1 19 rfl rfl)
theorem dX2_writeEvent_46 : decode cX2_writeEvent 46 = .ok (.aload_n 0, 1) := dk_42 (dk_at dksX2_writeEvent_1 22 rfl rfl)
theorem dX2_writeEvent_47 : decode cX2_writeEvent 47 = .ok (.aload_n 0, 1) := dk_42 (dk_at dksX2_writeEvent_1 23 rfl rfl)
theorem dX2_writeEvent_48 : decode cX2_writeEvent 48 = .ok (.iload_n 1, 1) := dk_27 (dk_at dksX2_writeEvent_2 0 rfl rfl)
theorem dX2_writeEvent_49 : decode cX2_writeEvent 49 = .ok (.invokevirtual 305, 3) := dk_182 1 49 (dk_at dksX2_writeEvent_2 1 rfl rfl)
theorem dX2_writeEvent_52 : decode cX2_writeEvent 52 = .ok (.invokevirtual 422, 3) := dk_182 1 166 (dk_at dksX2_writeEvent_2 4 rfl rfl)
theorem dX2_writeEvent_55 : decode cX2_writeEvent 55 = .ok (.aload_n 0, 1) := dk_42 (dk_at dksX2_writeEvent_2 7 rfl rfl)
theorem dX2_writeEvent_56 : decode cX2_writeEvent 56 = .ok (.getfield 23, 3) := dk_180 0 23 (dk_at dksX2_writeEvent_2 8 rfl rfl)
theorem dX2_writeEvent_59 : decode cX2_writeEvent 59 = .ok (.sipush 146, 3) := dk_17 0 146 (dk_at dksX2_writeEvent_2 11 rfl rfl)
theorem dX2_writeEvent_62 : decode cX2_writeEvent 62 = .ok (.iload_n 1, 1) := dk_27 (dk_at dksX2_writeEvent_2 14 rfl rfl)
theorem dX2_writeEvent_63 : decode cX2_writeEvent 63 = .ok (.iadd, 1) := dk_96 (dk_at dksX2_writeEvent_2 15 rfl rfl)
theorem dX2_writeEvent_64 : decode cX2_writeEvent 64 = .ok (.iaload, 1) := dk_46 (dk_at dksX2_writeEvent_2 16 rfl rfl)
theorem dX2_writeEvent_65 : decode cX2_writeEvent 65 = .ok (.iconst (-1), 1) := dk_2 (dk_at dksX2_writeEvent_2 17 rfl rfl)
theorem dX2_writeEvent_66 : decode cX2_writeEvent 66 = .ok (.if_icmp .eq 9, 3) := dk_159 0 9 (dk_at dksX2_writeEvent_2 18 rfl rfl)
theorem dX2_writeEvent_69 : decode cX2_writeEvent 69 = .ok (.aload_n 0, 1) := dk_42 (dk_at dksX2_writeEvent_2 21 rfl rfl)
theorem dX2_writeEvent_70 : decode cX2_writeEvent 70 = .ok (.bipush 33, 2) := dk_16 33 (dk_at dksX2_writeEvent_2 22 rfl rfl)
theorem dX2_writeEvent_72 : decode cX2_writeEvent 72 = .ok (.invokevirtual 410, 3) := dk_182 1 154 (dk_at dksX2_writeEvent_3 0 rfl rfl)
theorem dX2_writeEvent_75 : decode cX2_writeEvent 75 = .ok (.aload_n 0, 1) := dk_42 (dk_at dksX2_writeEvent_3 3 rfl rfl)
theorem dX2_writeEvent_76 : decode cX2_writeEvent 76 = .ok (.getfield 404, 3) := dk_180 1 148 (dk_at dksX2_writeEvent_3 4 rfl rfl)
theorem dX2_writeEvent_79 : decode cX2_writeEvent 79 = .ok (.ireturn, 1) := dk_172 (dk_at dksX2_writeEvent_3 7 rfl rfl)
abbrev cX2_writesName : ByteArray := prog_16_method_120_code
def yX2_writesName : MethodName := ⟨RX2, "writesName", "(I)V"⟩
def dkwX2_writesName_1 : List UInt8 := [182, 1, 154, 132, 2, 1, 167, 255, 229, 177]
abbrev dktX2_writesName_1 : List UInt8 := dkwX2_writesName_1 ++ []
def dkwX2_writesName_0 : List UInt8 := [3, 61, 28, 42, 27, 182, 0, 125, 162, 0, 24, 42, 42, 180, 0, 17, 16, 8, 27, 104, 28, 96, 51]
abbrev dktX2_writesName_0 : List UInt8 := dkwX2_writesName_0 ++ dktX2_writesName_1
theorem dksX2_writesName_0 : cX2_writesName.data.toList.drop 0 = dktX2_writesName_0 := by decide +kernel
theorem dksX2_writesName_1 : cX2_writesName.data.toList.drop 23 = dktX2_writesName_1 := dk_seg dksX2_writesName_0 23 rfl rfl
theorem dX2_writesName_0 : decode cX2_writesName 0 = .ok (.iconst 0, 1) := dk_3 (dk_at dksX2_writesName_0 0 rfl rfl)
theorem dX2_writesName_1 : decode cX2_writesName 1 = .ok (.istore_n 2, 1) := dk_61 (dk_at dksX2_writesName_0 1 rfl rfl)
theorem dX2_writesName_2 : decode cX2_writesName 2 = .ok (.iload_n 2, 1) := dk_28 (dk_at dksX2_writesName_0 2 rfl rfl)
theorem dX2_writesName_3 : decode cX2_writesName 3 = .ok (.aload_n 0, 1) := dk_42 (dk_at dksX2_writesName_0 3 rfl rfl)
theorem dX2_writesName_4 : decode cX2_writesName 4 = .ok (.iload_n 1, 1) := dk_27 (dk_at dksX2_writesName_0 4 rfl rfl)
theorem dX2_writesName_5 : decode cX2_writesName 5 = .ok (.invokevirtual 125, 3) := dk_182 0 125 (dk_at dksX2_writesName_0 5 rfl rfl)
theorem dX2_writesName_8 : decode cX2_writesName 8 = .ok (.if_icmp .ge 24, 3) := dk_162 0 24 (dk_at dksX2_writesName_0 8 rfl rfl)
theorem dX2_writesName_11 : decode cX2_writesName 11 = .ok (.aload_n 0, 1) := dk_42 (dk_at dksX2_writesName_0 11 rfl rfl)
theorem dX2_writesName_12 : decode cX2_writesName 12 = .ok (.aload_n 0, 1) := dk_42 (dk_at dksX2_writesName_0 12 rfl rfl)
theorem dX2_writesName_13 : decode cX2_writesName 13 = .ok (.getfield 17, 3) := dk_180 0 17 (dk_at dksX2_writesName_0 13 rfl rfl)
theorem dX2_writesName_16 : decode cX2_writesName 16 = .ok (.bipush 8, 2) := dk_16 8 (dk_at dksX2_writesName_0 16 rfl rfl)
theorem dX2_writesName_18 : decode cX2_writesName 18 = .ok (.iload_n 1, 1) := dk_27 (dk_at dksX2_writesName_0 18 rfl rfl)
theorem dX2_writesName_19 : decode cX2_writesName 19 = .ok (.imul, 1) := dk_104 (dk_at dksX2_writesName_0 19 rfl rfl)
theorem dX2_writesName_20 : decode cX2_writesName 20 = .ok (.iload_n 2, 1) := dk_28 (dk_at dksX2_writesName_0 20 rfl rfl)
theorem dX2_writesName_21 : decode cX2_writesName 21 = .ok (.iadd, 1) := dk_96 (dk_at dksX2_writesName_0 21 rfl rfl)
theorem dX2_writesName_22 : decode cX2_writesName 22 = .ok (.baload, 1) := dk_51 (dk_at dksX2_writesName_0 22 rfl rfl)
theorem dX2_writesName_23 : decode cX2_writesName 23 = .ok (.invokevirtual 410, 3) := dk_182 1 154 (dk_at dksX2_writesName_1 0 rfl rfl)
theorem dX2_writesName_26 : decode cX2_writesName 26 = .ok (.iinc 2 1, 3) := dk_132 2 1 (dk_at dksX2_writesName_1 3 rfl rfl)
theorem dX2_writesName_29 : decode cX2_writesName 29 = .ok (.goto (-27), 3) := dk_167 255 229 (dk_at dksX2_writesName_1 6 rfl rfl)
theorem dX2_writesName_32 : decode cX2_writesName 32 = .ok (.return_, 1) := dk_177 (dk_at dksX2_writesName_1 9 rfl rfl)
abbrev cX2_writesByte : ByteArray := prog_16_method_118_code
def yX2_writesByte : MethodName := ⟨RX2, "writesByte", "(I)V"⟩
def dkwX2_writesByte_0 : List UInt8 := [42, 180, 0, 70, 42, 180, 1, 148, 27, 145, 84, 42, 89, 180, 1, 148, 4, 96, 181, 1, 148, 177]
abbrev dktX2_writesByte_0 : List UInt8 := dkwX2_writesByte_0 ++ []
theorem dksX2_writesByte_0 : cX2_writesByte.data.toList.drop 0 = dktX2_writesByte_0 := by decide +kernel
theorem dX2_writesByte_0 : decode cX2_writesByte 0 = .ok (.aload_n 0, 1) := dk_42 (dk_at dksX2_writesByte_0 0 rfl rfl)
theorem dX2_writesByte_1 : decode cX2_writesByte 1 = .ok (.getfield 70, 3) := dk_180 0 70 (dk_at dksX2_writesByte_0 1 rfl rfl)
theorem dX2_writesByte_4 : decode cX2_writesByte 4 = .ok (.aload_n 0, 1) := dk_42 (dk_at dksX2_writesByte_0 4 rfl rfl)
theorem dX2_writesByte_5 : decode cX2_writesByte 5 = .ok (.getfield 404, 3) := dk_180 1 148 (dk_at dksX2_writesByte_0 5 rfl rfl)
theorem dX2_writesByte_8 : decode cX2_writesByte 8 = .ok (.iload_n 1, 1) := dk_27 (dk_at dksX2_writesByte_0 8 rfl rfl)
theorem dX2_writesByte_9 : decode cX2_writesByte 9 = .ok (.i2b, 1) := dk_145 (dk_at dksX2_writesByte_0 9 rfl rfl)
theorem dX2_writesByte_10 : decode cX2_writesByte 10 = .ok (.bastore, 1) := dk_84 (dk_at dksX2_writesByte_0 10 rfl rfl)
theorem dX2_writesByte_11 : decode cX2_writesByte 11 = .ok (.aload_n 0, 1) := dk_42 (dk_at dksX2_writesByte_0 11 rfl rfl)
theorem dX2_writesByte_12 : decode cX2_writesByte 12 = .ok (.dup, 1) := dk_89 (dk_at dksX2_writesByte_0 12 rfl rfl)
theorem dX2_writesByte_13 : decode cX2_writesByte 13 = .ok (.getfield 404, 3) := dk_180 1 148 (dk_at dksX2_writesByte_0 13 rfl rfl)
theorem dX2_writesByte_16 : decode cX2_writesByte 16 = .ok (.iconst 1, 1) := dk_4 (dk_at dksX2_writesByte_0 16 rfl rfl)
theorem dX2_writesByte_17 : decode cX2_writesByte 17 = .ok (.iadd, 1) := dk_96 (dk_at dksX2_writesByte_0 17 rfl rfl)
theorem dX2_writesByte_18 : decode cX2_writesByte 18 = .ok (.putfield 404, 3) := dk_181 1 148 (dk_at dksX2_writesByte_0 18 rfl rfl)
theorem dX2_writesByte_21 : decode cX2_writesByte 21 = .ok (.return_, 1) := dk_177 (dk_at dksX2_writesByte_0 21 rfl rfl)
abbrev cX2_writesNumber : ByteArray := prog_16_method_119_code
def yX2_writesNumber : MethodName := ⟨RX2, "writesNumber", "(I)V"⟩
def dkwX2_writesNumber_1 : List UInt8 := [182, 1, 154, 177]
abbrev dktX2_writesNumber_1 : List UInt8 := dkwX2_writesNumber_1 ++ []
def dkwX2_writesNumber_0 : List UInt8 := [27, 16, 9, 164, 0, 11, 42, 27, 16, 10, 108, 182, 1, 151, 42, 16, 48, 27, 16, 10, 112, 96]
abbrev dktX2_writesNumber_0 : List UInt8 := dkwX2_writesNumber_0 ++ dktX2_writesNumber_1
theorem dksX2_writesNumber_0 : cX2_writesNumber.data.toList.drop 0 = dktX2_writesNumber_0 := by decide +kernel
theorem dksX2_writesNumber_1 : cX2_writesNumber.data.toList.drop 22 = dktX2_writesNumber_1 := dk_seg dksX2_writesNumber_0 22 rfl rfl
theorem dX2_writesNumber_0 : decode cX2_writesNumber 0 = .ok (.iload_n 1, 1) := dk_27 (dk_at dksX2_writesNumber_0 0 rfl rfl)
theorem dX2_writesNumber_1 : decode cX2_writesNumber 1 = .ok (.bipush 9, 2) := dk_16 9 (dk_at dksX2_writesNumber_0 1 rfl rfl)
theorem dX2_writesNumber_3 : decode cX2_writesNumber 3 = .ok (.if_icmp .le 11, 3) := dk_164 0 11 (dk_at dksX2_writesNumber_0 3 rfl rfl)
theorem dX2_writesNumber_6 : decode cX2_writesNumber 6 = .ok (.aload_n 0, 1) := dk_42 (dk_at dksX2_writesNumber_0 6 rfl rfl)
theorem dX2_writesNumber_7 : decode cX2_writesNumber 7 = .ok (.iload_n 1, 1) := dk_27 (dk_at dksX2_writesNumber_0 7 rfl rfl)
theorem dX2_writesNumber_8 : decode cX2_writesNumber 8 = .ok (.bipush 10, 2) := dk_16 10 (dk_at dksX2_writesNumber_0 8 rfl rfl)
theorem dX2_writesNumber_10 : decode cX2_writesNumber 10 = .ok (.idiv, 1) := dk_108 (dk_at dksX2_writesNumber_0 10 rfl rfl)
theorem dX2_writesNumber_11 : decode cX2_writesNumber 11 = .ok (.invokevirtual 407, 3) := dk_182 1 151 (dk_at dksX2_writesNumber_0 11 rfl rfl)
theorem dX2_writesNumber_14 : decode cX2_writesNumber 14 = .ok (.aload_n 0, 1) := dk_42 (dk_at dksX2_writesNumber_0 14 rfl rfl)
theorem dX2_writesNumber_15 : decode cX2_writesNumber 15 = .ok (.bipush 48, 2) := dk_16 48 (dk_at dksX2_writesNumber_0 15 rfl rfl)
theorem dX2_writesNumber_17 : decode cX2_writesNumber 17 = .ok (.iload_n 1, 1) := dk_27 (dk_at dksX2_writesNumber_0 17 rfl rfl)
theorem dX2_writesNumber_18 : decode cX2_writesNumber 18 = .ok (.bipush 10, 2) := dk_16 10 (dk_at dksX2_writesNumber_0 18 rfl rfl)
theorem dX2_writesNumber_20 : decode cX2_writesNumber 20 = .ok (.irem, 1) := dk_112 (dk_at dksX2_writesNumber_0 20 rfl rfl)
theorem dX2_writesNumber_21 : decode cX2_writesNumber 21 = .ok (.iadd, 1) := dk_96 (dk_at dksX2_writesNumber_0 21 rfl rfl)
theorem dX2_writesNumber_22 : decode cX2_writesNumber 22 = .ok (.invokevirtual 410, 3) := dk_182 1 154 (dk_at dksX2_writesNumber_1 0 rfl rfl)
theorem dX2_writesNumber_25 : decode cX2_writesNumber 25 = .ok (.return_, 1) := dk_177 (dk_at dksX2_writesNumber_1 3 rfl rfl)
abbrev cX2_writesWord : ByteArray := prog_16_method_121_code
def yX2_writesWord : MethodName := ⟨RX2, "writesWord", "(Ljava/lang/String;)V"⟩
def dkwX2_writesWord_1 : List UInt8 := [167, 255, 236, 177]
abbrev dktX2_writesWord_1 : List UInt8 := dkwX2_writesWord_1 ++ []
def dkwX2_writesWord_0 : List UInt8 := [3, 61, 28, 43, 182, 0, 109, 162, 0, 18, 42, 43, 28, 182, 0, 115, 182, 1, 154, 132, 2, 1]
abbrev dktX2_writesWord_0 : List UInt8 := dkwX2_writesWord_0 ++ dktX2_writesWord_1
theorem dksX2_writesWord_0 : cX2_writesWord.data.toList.drop 0 = dktX2_writesWord_0 := by decide +kernel
theorem dksX2_writesWord_1 : cX2_writesWord.data.toList.drop 22 = dktX2_writesWord_1 := dk_seg dksX2_writesWord_0 22 rfl rfl
theorem dX2_writesWord_0 : decode cX2_writesWord 0 = .ok (.iconst 0, 1) := dk_3 (dk_at dksX2_writesWord_0 0 rfl rfl)
theorem dX2_writesWord_1 : decode cX2_writesWord 1 = .ok (.istore_n 2, 1) := dk_61 (dk_at dksX2_writesWord_0 1 rfl rfl)
theorem dX2_writesWord_2 : decode cX2_writesWord 2 = .ok (.iload_n 2, 1) := dk_28 (dk_at dksX2_writesWord_0 2 rfl rfl)
theorem dX2_writesWord_3 : decode cX2_writesWord 3 = .ok (.aload_n 1, 1) := dk_43 (dk_at dksX2_writesWord_0 3 rfl rfl)
theorem dX2_writesWord_4 : decode cX2_writesWord 4 = .ok (.invokevirtual 109, 3) := dk_182 0 109 (dk_at dksX2_writesWord_0 4 rfl rfl)
theorem dX2_writesWord_7 : decode cX2_writesWord 7 = .ok (.if_icmp .ge 18, 3) := dk_162 0 18 (dk_at dksX2_writesWord_0 7 rfl rfl)
theorem dX2_writesWord_10 : decode cX2_writesWord 10 = .ok (.aload_n 0, 1) := dk_42 (dk_at dksX2_writesWord_0 10 rfl rfl)
theorem dX2_writesWord_11 : decode cX2_writesWord 11 = .ok (.aload_n 1, 1) := dk_43 (dk_at dksX2_writesWord_0 11 rfl rfl)
theorem dX2_writesWord_12 : decode cX2_writesWord 12 = .ok (.iload_n 2, 1) := dk_28 (dk_at dksX2_writesWord_0 12 rfl rfl)
theorem dX2_writesWord_13 : decode cX2_writesWord 13 = .ok (.invokevirtual 115, 3) := dk_182 0 115 (dk_at dksX2_writesWord_0 13 rfl rfl)
theorem dX2_writesWord_16 : decode cX2_writesWord 16 = .ok (.invokevirtual 410, 3) := dk_182 1 154 (dk_at dksX2_writesWord_0 16 rfl rfl)
theorem dX2_writesWord_19 : decode cX2_writesWord 19 = .ok (.iinc 2 1, 3) := dk_132 2 1 (dk_at dksX2_writesWord_0 19 rfl rfl)
theorem dX2_writesWord_22 : decode cX2_writesWord 22 = .ok (.goto (-20), 3) := dk_167 255 236 (dk_at dksX2_writesWord_1 0 rfl rfl)
theorem dX2_writesWord_25 : decode cX2_writesWord 25 = .ok (.return_, 1) := dk_177 (dk_at dksX2_writesWord_1 3 rfl rfl)
abbrev cX2_writesTime : ByteArray := prog_16_method_122_code
def yX2_writesTime : MethodName := ⟨RX2, "writesTime", "(I)V"⟩
def dkwX2_writesTime_0 : List UInt8 := [27, 2, 160, 0, 12, 42, 16, 42, 182, 1, 154, 167, 0, 8, 42, 27, 182, 1, 151, 177]
abbrev dktX2_writesTime_0 : List UInt8 := dkwX2_writesTime_0 ++ []
theorem dksX2_writesTime_0 : cX2_writesTime.data.toList.drop 0 = dktX2_writesTime_0 := by decide +kernel
theorem dX2_writesTime_0 : decode cX2_writesTime 0 = .ok (.iload_n 1, 1) := dk_27 (dk_at dksX2_writesTime_0 0 rfl rfl)
theorem dX2_writesTime_1 : decode cX2_writesTime 1 = .ok (.iconst (-1), 1) := dk_2 (dk_at dksX2_writesTime_0 1 rfl rfl)
theorem dX2_writesTime_2 : decode cX2_writesTime 2 = .ok (.if_icmp .ne 12, 3) := dk_160 0 12 (dk_at dksX2_writesTime_0 2 rfl rfl)
theorem dX2_writesTime_5 : decode cX2_writesTime 5 = .ok (.aload_n 0, 1) := dk_42 (dk_at dksX2_writesTime_0 5 rfl rfl)
theorem dX2_writesTime_6 : decode cX2_writesTime 6 = .ok (.bipush 42, 2) := dk_16 42 (dk_at dksX2_writesTime_0 6 rfl rfl)
theorem dX2_writesTime_8 : decode cX2_writesTime 8 = .ok (.invokevirtual 410, 3) := dk_182 1 154 (dk_at dksX2_writesTime_0 8 rfl rfl)
theorem dX2_writesTime_11 : decode cX2_writesTime 11 = .ok (.goto 8, 3) := dk_167 0 8 (dk_at dksX2_writesTime_0 11 rfl rfl)
theorem dX2_writesTime_14 : decode cX2_writesTime 14 = .ok (.aload_n 0, 1) := dk_42 (dk_at dksX2_writesTime_0 14 rfl rfl)
theorem dX2_writesTime_15 : decode cX2_writesTime 15 = .ok (.iload_n 1, 1) := dk_27 (dk_at dksX2_writesTime_0 15 rfl rfl)
theorem dX2_writesTime_16 : decode cX2_writesTime 16 = .ok (.invokevirtual 407, 3) := dk_182 1 151 (dk_at dksX2_writesTime_0 16 rfl rfl)
theorem dX2_writesTime_19 : decode cX2_writesTime 19 = .ok (.return_, 1) := dk_177 (dk_at dksX2_writesTime_0 19 rfl rfl)
abbrev cX2_writeRound : ByteArray := prog_16_method_125_code
def yX2_writeRound : MethodName := ⟨RX2, "writeRound", "()I"⟩
def dkwX2_writeRound_3 : List UInt8 := [167, 0, 11, 42, 42, 180, 1, 26, 182, 1, 157, 42, 180, 1, 148, 172]
abbrev dktX2_writeRound_3 : List UInt8 := dkwX2_writeRound_3 ++ []
def dkwX2_writeRound_2 : List UInt8 := [182, 1, 162, 132, 1, 1, 167, 255, 224, 42, 180, 1, 8, 154, 0, 13, 42, 19, 1, 174, 182, 1, 162]
abbrev dktX2_writeRound_2 : List UInt8 := dkwX2_writeRound_2 ++ dktX2_writeRound_3
def dkwX2_writeRound_1 : List UInt8 := [180, 1, 8, 162, 0, 30, 42, 42, 42, 180, 0, 64, 27, 46, 182, 1, 169, 182, 1, 157, 42, 19, 1, 172]
abbrev dktX2_writeRound_1 : List UInt8 := dkwX2_writeRound_1 ++ dktX2_writeRound_2
def dkwX2_writeRound_0 : List UInt8 := [42, 4, 182, 1, 35, 154, 0, 5, 3, 172, 42, 182, 1, 46, 42, 3, 181, 1, 148, 3, 60, 27, 42]
abbrev dktX2_writeRound_0 : List UInt8 := dkwX2_writeRound_0 ++ dktX2_writeRound_1
theorem dksX2_writeRound_0 : cX2_writeRound.data.toList.drop 0 = dktX2_writeRound_0 := by decide +kernel
theorem dksX2_writeRound_1 : cX2_writeRound.data.toList.drop 23 = dktX2_writeRound_1 := dk_seg dksX2_writeRound_0 23 rfl rfl
theorem dksX2_writeRound_2 : cX2_writeRound.data.toList.drop 47 = dktX2_writeRound_2 := dk_seg dksX2_writeRound_1 24 rfl rfl
theorem dksX2_writeRound_3 : cX2_writeRound.data.toList.drop 70 = dktX2_writeRound_3 := dk_seg dksX2_writeRound_2 23 rfl rfl
theorem dX2_writeRound_0 : decode cX2_writeRound 0 = .ok (.aload_n 0, 1) := dk_42 (dk_at dksX2_writeRound_0 0 rfl rfl)
theorem dX2_writeRound_1 : decode cX2_writeRound 1 = .ok (.iconst 1, 1) := dk_4 (dk_at dksX2_writeRound_0 1 rfl rfl)
theorem dX2_writeRound_2 : decode cX2_writeRound 2 = .ok (.invokevirtual 291, 3) := dk_182 1 35 (dk_at dksX2_writeRound_0 2 rfl rfl)
theorem dX2_writeRound_5 : decode cX2_writeRound 5 = .ok (.ifCond .ne 5, 3) := dk_154 0 5 (dk_at dksX2_writeRound_0 5 rfl rfl)
theorem dX2_writeRound_8 : decode cX2_writeRound 8 = .ok (.iconst 0, 1) := dk_3 (dk_at dksX2_writeRound_0 8 rfl rfl)
theorem dX2_writeRound_9 : decode cX2_writeRound 9 = .ok (.ireturn, 1) := dk_172 (dk_at dksX2_writeRound_0 9 rfl rfl)
theorem dX2_writeRound_10 : decode cX2_writeRound 10 = .ok (.aload_n 0, 1) := dk_42 (dk_at dksX2_writeRound_0 10 rfl rfl)
theorem dX2_writeRound_11 : decode cX2_writeRound 11 = .ok (.invokevirtual 302, 3) := dk_182 1 46 (dk_at dksX2_writeRound_0 11 rfl rfl)
theorem dX2_writeRound_14 : decode cX2_writeRound 14 = .ok (.aload_n 0, 1) := dk_42 (dk_at dksX2_writeRound_0 14 rfl rfl)
theorem dX2_writeRound_15 : decode cX2_writeRound 15 = .ok (.iconst 0, 1) := dk_3 (dk_at dksX2_writeRound_0 15 rfl rfl)
theorem dX2_writeRound_16 : decode cX2_writeRound 16 = .ok (.putfield 404, 3) := dk_181 1 148 (dk_at dksX2_writeRound_0 16 rfl rfl)
theorem dX2_writeRound_19 : decode cX2_writeRound 19 = .ok (.iconst 0, 1) := dk_3 (dk_at dksX2_writeRound_0 19 rfl rfl)
theorem dX2_writeRound_20 : decode cX2_writeRound 20 = .ok (.istore_n 1, 1) := dk_60 (dk_at dksX2_writeRound_0 20 rfl rfl)
theorem dX2_writeRound_21 : decode cX2_writeRound 21 = .ok (.iload_n 1, 1) := dk_27 (dk_at dksX2_writeRound_0 21 rfl rfl)
theorem dX2_writeRound_22 : decode cX2_writeRound 22 = .ok (.aload_n 0, 1) := dk_42 (dk_at dksX2_writeRound_0 22 rfl rfl)
theorem dX2_writeRound_23 : decode cX2_writeRound 23 = .ok (.getfield 264, 3) := dk_180 1 8 (dk_at dksX2_writeRound_1 0 rfl rfl)
theorem dX2_writeRound_26 : decode cX2_writeRound 26 = .ok (.if_icmp .ge 30, 3) := dk_162 0 30 (dk_at dksX2_writeRound_1 3 rfl rfl)
theorem dX2_writeRound_29 : decode cX2_writeRound 29 = .ok (.aload_n 0, 1) := dk_42 (dk_at dksX2_writeRound_1 6 rfl rfl)
theorem dX2_writeRound_30 : decode cX2_writeRound 30 = .ok (.aload_n 0, 1) := dk_42 (dk_at dksX2_writeRound_1 7 rfl rfl)
theorem dX2_writeRound_31 : decode cX2_writeRound 31 = .ok (.aload_n 0, 1) := dk_42 (dk_at dksX2_writeRound_1 8 rfl rfl)
theorem dX2_writeRound_32 : decode cX2_writeRound 32 = .ok (.getfield 64, 3) := dk_180 0 64 (dk_at dksX2_writeRound_1 9 rfl rfl)
theorem dX2_writeRound_35 : decode cX2_writeRound 35 = .ok (.iload_n 1, 1) := dk_27 (dk_at dksX2_writeRound_1 12 rfl rfl)
theorem dX2_writeRound_36 : decode cX2_writeRound 36 = .ok (.iaload, 1) := dk_46 (dk_at dksX2_writeRound_1 13 rfl rfl)
theorem dX2_writeRound_37 : decode cX2_writeRound 37 = .ok (.invokevirtual 425, 3) := dk_182 1 169 (dk_at dksX2_writeRound_1 14 rfl rfl)
theorem dX2_writeRound_40 : decode cX2_writeRound 40 = .ok (.invokevirtual 413, 3) := dk_182 1 157 (dk_at dksX2_writeRound_1 17 rfl rfl)
theorem dX2_writeRound_43 : decode cX2_writeRound 43 = .ok (.aload_n 0, 1) := dk_42 (dk_at dksX2_writeRound_1 20 rfl rfl)
theorem dX2_writeRound_44 : decode cX2_writeRound 44 = .ok (.ldc_w 428, 3) := dk_19 1 172 (dk_at dksX2_writeRound_1 21 rfl rfl)
theorem dX2_writeRound_47 : decode cX2_writeRound 47 = .ok (.invokevirtual 418, 3) := dk_182 1 162 (dk_at dksX2_writeRound_2 0 rfl rfl)
theorem dX2_writeRound_50 : decode cX2_writeRound 50 = .ok (.iinc 1 1, 3) := dk_132 1 1 (dk_at dksX2_writeRound_2 3 rfl rfl)
theorem dX2_writeRound_53 : decode cX2_writeRound 53 = .ok (.goto (-32), 3) := dk_167 255 224 (dk_at dksX2_writeRound_2 6 rfl rfl)
theorem dX2_writeRound_56 : decode cX2_writeRound 56 = .ok (.aload_n 0, 1) := dk_42 (dk_at dksX2_writeRound_2 9 rfl rfl)
theorem dX2_writeRound_57 : decode cX2_writeRound 57 = .ok (.getfield 264, 3) := dk_180 1 8 (dk_at dksX2_writeRound_2 10 rfl rfl)
theorem dX2_writeRound_60 : decode cX2_writeRound 60 = .ok (.ifCond .ne 13, 3) := dk_154 0 13 (dk_at dksX2_writeRound_2 13 rfl rfl)
theorem dX2_writeRound_63 : decode cX2_writeRound 63 = .ok (.aload_n 0, 1) := dk_42 (dk_at dksX2_writeRound_2 16 rfl rfl)
theorem dX2_writeRound_64 : decode cX2_writeRound 64 = .ok (.ldc_w 430, 3) := dk_19 1 174 (dk_at dksX2_writeRound_2 17 rfl rfl)
theorem dX2_writeRound_67 : decode cX2_writeRound 67 = .ok (.invokevirtual 418, 3) := dk_182 1 162 (dk_at dksX2_writeRound_2 20 rfl rfl)
theorem dX2_writeRound_70 : decode cX2_writeRound 70 = .ok (.goto 11, 3) := dk_167 0 11 (dk_at dksX2_writeRound_3 0 rfl rfl)
theorem dX2_writeRound_73 : decode cX2_writeRound 73 = .ok (.aload_n 0, 1) := dk_42 (dk_at dksX2_writeRound_3 3 rfl rfl)
theorem dX2_writeRound_74 : decode cX2_writeRound 74 = .ok (.aload_n 0, 1) := dk_42 (dk_at dksX2_writeRound_3 4 rfl rfl)
theorem dX2_writeRound_75 : decode cX2_writeRound 75 = .ok (.getfield 282, 3) := dk_180 1 26 (dk_at dksX2_writeRound_3 5 rfl rfl)
theorem dX2_writeRound_78 : decode cX2_writeRound 78 = .ok (.invokevirtual 413, 3) := dk_182 1 157 (dk_at dksX2_writeRound_3 8 rfl rfl)
theorem dX2_writeRound_81 : decode cX2_writeRound 81 = .ok (.aload_n 0, 1) := dk_42 (dk_at dksX2_writeRound_3 11 rfl rfl)
theorem dX2_writeRound_82 : decode cX2_writeRound 82 = .ok (.getfield 404, 3) := dk_180 1 148 (dk_at dksX2_writeRound_3 12 rfl rfl)
theorem dX2_writeRound_85 : decode cX2_writeRound 85 = .ok (.ireturn, 1) := dk_172 (dk_at dksX2_writeRound_3 15 rfl rfl)
abbrev cX2_fromOf : ByteArray := prog_16_method_124_code
def yX2_fromOf : MethodName := ⟨RX2, "fromOf", "(I)I"⟩
def dkwX2_fromOf_1 : List UInt8 := [172]
abbrev dktX2_fromOf_1 : List UInt8 := dkwX2_fromOf_1 ++ []
def dkwX2_fromOf_0 : List UInt8 := [3, 61, 42, 180, 0, 49, 28, 46, 27, 159, 0, 9, 132, 2, 1, 167, 255, 243, 42, 180, 0, 40, 28, 46]
abbrev dktX2_fromOf_0 : List UInt8 := dkwX2_fromOf_0 ++ dktX2_fromOf_1
theorem dksX2_fromOf_0 : cX2_fromOf.data.toList.drop 0 = dktX2_fromOf_0 := by decide +kernel
theorem dksX2_fromOf_1 : cX2_fromOf.data.toList.drop 24 = dktX2_fromOf_1 := dk_seg dksX2_fromOf_0 24 rfl rfl
theorem dX2_fromOf_0 : decode cX2_fromOf 0 = .ok (.iconst 0, 1) := dk_3 (dk_at dksX2_fromOf_0 0 rfl rfl)
theorem dX2_fromOf_1 : decode cX2_fromOf 1 = .ok (.istore_n 2, 1) := dk_61 (dk_at dksX2_fromOf_0 1 rfl rfl)
theorem dX2_fromOf_2 : decode cX2_fromOf 2 = .ok (.aload_n 0, 1) := dk_42 (dk_at dksX2_fromOf_0 2 rfl rfl)
theorem dX2_fromOf_3 : decode cX2_fromOf 3 = .ok (.getfield 49, 3) := dk_180 0 49 (dk_at dksX2_fromOf_0 3 rfl rfl)
theorem dX2_fromOf_6 : decode cX2_fromOf 6 = .ok (.iload_n 2, 1) := dk_28 (dk_at dksX2_fromOf_0 6 rfl rfl)
theorem dX2_fromOf_7 : decode cX2_fromOf 7 = .ok (.iaload, 1) := dk_46 (dk_at dksX2_fromOf_0 7 rfl rfl)
theorem dX2_fromOf_8 : decode cX2_fromOf 8 = .ok (.iload_n 1, 1) := dk_27 (dk_at dksX2_fromOf_0 8 rfl rfl)
theorem dX2_fromOf_9 : decode cX2_fromOf 9 = .ok (.if_icmp .eq 9, 3) := dk_159 0 9 (dk_at dksX2_fromOf_0 9 rfl rfl)
theorem dX2_fromOf_12 : decode cX2_fromOf 12 = .ok (.iinc 2 1, 3) := dk_132 2 1 (dk_at dksX2_fromOf_0 12 rfl rfl)
theorem dX2_fromOf_15 : decode cX2_fromOf 15 = .ok (.goto (-13), 3) := dk_167 255 243 (dk_at dksX2_fromOf_0 15 rfl rfl)
theorem dX2_fromOf_18 : decode cX2_fromOf 18 = .ok (.aload_n 0, 1) := dk_42 (dk_at dksX2_fromOf_0 18 rfl rfl)
theorem dX2_fromOf_19 : decode cX2_fromOf 19 = .ok (.getfield 40, 3) := dk_180 0 40 (dk_at dksX2_fromOf_0 19 rfl rfl)
theorem dX2_fromOf_22 : decode cX2_fromOf 22 = .ok (.iload_n 2, 1) := dk_28 (dk_at dksX2_fromOf_0 22 rfl rfl)
theorem dX2_fromOf_23 : decode cX2_fromOf 23 = .ok (.iaload, 1) := dk_46 (dk_at dksX2_fromOf_0 23 rfl rfl)
theorem dX2_fromOf_24 : decode cX2_fromOf 24 = .ok (.ireturn, 1) := dk_172 (dk_at dksX2_fromOf_1 0 rfl rfl)
abbrev cX2_writeRun : ByteArray := prog_16_method_126_code
def yX2_writeRun : MethodName := ⟨RX2, "writeRun", "(I)I"⟩
def dkwX2_writeRun_4 : List UInt8 := [16, 32, 182, 1, 154, 42, 28, 182, 1, 157, 42, 16, 63, 182, 1, 154, 42, 180, 1, 148, 172]
abbrev dktX2_writeRun_4 : List UInt8 := dkwX2_writeRun_4 ++ []
def dkwX2_writeRun_3 : List UInt8 := [29, 46, 46, 182, 1, 151, 132, 3, 1, 167, 255, 204, 28, 2, 160, 0, 8, 42, 180, 1, 148, 172, 42]
abbrev dktX2_writeRun_3 : List UInt8 := dkwX2_writeRun_3 ++ dktX2_writeRun_4
def dkwX2_writeRun_2 : List UInt8 := [42, 180, 0, 67, 29, 46, 182, 1, 157, 42, 16, 64, 182, 1, 154, 42, 42, 180, 0, 52, 42, 180, 0, 67]
abbrev dktX2_writeRun_2 : List UInt8 := dkwX2_writeRun_2 ++ dktX2_writeRun_3
def dkwX2_writeRun_1 : List UInt8 := [181, 1, 148, 3, 62, 29, 42, 180, 1, 121, 162, 0, 50, 29, 158, 0, 9, 42, 16, 32, 182, 1, 154, 42]
abbrev dktX2_writeRun_1 : List UInt8 := dkwX2_writeRun_1 ++ dktX2_writeRun_2
def dkwX2_writeRun_0 : List UInt8 := [42, 27, 184, 1, 136, 182, 1, 58, 154, 0, 5, 3, 172, 42, 27, 2, 3, 182, 1, 139, 61, 42, 3]
abbrev dktX2_writeRun_0 : List UInt8 := dkwX2_writeRun_0 ++ dktX2_writeRun_1
theorem dksX2_writeRun_0 : cX2_writeRun.data.toList.drop 0 = dktX2_writeRun_0 := by decide +kernel
theorem dksX2_writeRun_1 : cX2_writeRun.data.toList.drop 23 = dktX2_writeRun_1 := dk_seg dksX2_writeRun_0 23 rfl rfl
theorem dksX2_writeRun_2 : cX2_writeRun.data.toList.drop 47 = dktX2_writeRun_2 := dk_seg dksX2_writeRun_1 24 rfl rfl
theorem dksX2_writeRun_3 : cX2_writeRun.data.toList.drop 71 = dktX2_writeRun_3 := dk_seg dksX2_writeRun_2 24 rfl rfl
theorem dksX2_writeRun_4 : cX2_writeRun.data.toList.drop 94 = dktX2_writeRun_4 := dk_seg dksX2_writeRun_3 23 rfl rfl
theorem dX2_writeRun_0 : decode cX2_writeRun 0 = .ok (.aload_n 0, 1) := dk_42 (dk_at dksX2_writeRun_0 0 rfl rfl)
theorem dX2_writeRun_1 : decode cX2_writeRun 1 = .ok (.iload_n 1, 1) := dk_27 (dk_at dksX2_writeRun_0 1 rfl rfl)
theorem dX2_writeRun_2 : decode cX2_writeRun 2 = .ok (.invokestatic 392, 3) := dk_184 1 136 (dk_at dksX2_writeRun_0 2 rfl rfl)
theorem dX2_writeRun_5 : decode cX2_writeRun 5 = .ok (.invokevirtual 314, 3) := dk_182 1 58 (dk_at dksX2_writeRun_0 5 rfl rfl)
theorem dX2_writeRun_8 : decode cX2_writeRun 8 = .ok (.ifCond .ne 5, 3) := dk_154 0 5 (dk_at dksX2_writeRun_0 8 rfl rfl)
theorem dX2_writeRun_11 : decode cX2_writeRun 11 = .ok (.iconst 0, 1) := dk_3 (dk_at dksX2_writeRun_0 11 rfl rfl)
theorem dX2_writeRun_12 : decode cX2_writeRun 12 = .ok (.ireturn, 1) := dk_172 (dk_at dksX2_writeRun_0 12 rfl rfl)
theorem dX2_writeRun_13 : decode cX2_writeRun 13 = .ok (.aload_n 0, 1) := dk_42 (dk_at dksX2_writeRun_0 13 rfl rfl)
theorem dX2_writeRun_14 : decode cX2_writeRun 14 = .ok (.iload_n 1, 1) := dk_27 (dk_at dksX2_writeRun_0 14 rfl rfl)
theorem dX2_writeRun_15 : decode cX2_writeRun 15 = .ok (.iconst (-1), 1) := dk_2 (dk_at dksX2_writeRun_0 15 rfl rfl)
theorem dX2_writeRun_16 : decode cX2_writeRun 16 = .ok (.iconst 0, 1) := dk_3 (dk_at dksX2_writeRun_0 16 rfl rfl)
theorem dX2_writeRun_17 : decode cX2_writeRun 17 = .ok (.invokevirtual 395, 3) := dk_182 1 139 (dk_at dksX2_writeRun_0 17 rfl rfl)
theorem dX2_writeRun_20 : decode cX2_writeRun 20 = .ok (.istore_n 2, 1) := dk_61 (dk_at dksX2_writeRun_0 20 rfl rfl)
theorem dX2_writeRun_21 : decode cX2_writeRun 21 = .ok (.aload_n 0, 1) := dk_42 (dk_at dksX2_writeRun_0 21 rfl rfl)
theorem dX2_writeRun_22 : decode cX2_writeRun 22 = .ok (.iconst 0, 1) := dk_3 (dk_at dksX2_writeRun_0 22 rfl rfl)
theorem dX2_writeRun_23 : decode cX2_writeRun 23 = .ok (.putfield 404, 3) := dk_181 1 148 (dk_at dksX2_writeRun_1 0 rfl rfl)
theorem dX2_writeRun_26 : decode cX2_writeRun 26 = .ok (.iconst 0, 1) := dk_3 (dk_at dksX2_writeRun_1 3 rfl rfl)
theorem dX2_writeRun_27 : decode cX2_writeRun 27 = .ok (.istore_n 3, 1) := dk_62 (dk_at dksX2_writeRun_1 4 rfl rfl)
theorem dX2_writeRun_28 : decode cX2_writeRun 28 = .ok (.iload_n 3, 1) := dk_29 (dk_at dksX2_writeRun_1 5 rfl rfl)
theorem dX2_writeRun_29 : decode cX2_writeRun 29 = .ok (.aload_n 0, 1) := dk_42 (dk_at dksX2_writeRun_1 6 rfl rfl)
theorem dX2_writeRun_30 : decode cX2_writeRun 30 = .ok (.getfield 377, 3) := dk_180 1 121 (dk_at dksX2_writeRun_1 7 rfl rfl)
theorem dX2_writeRun_33 : decode cX2_writeRun 33 = .ok (.if_icmp .ge 50, 3) := dk_162 0 50 (dk_at dksX2_writeRun_1 10 rfl rfl)
theorem dX2_writeRun_36 : decode cX2_writeRun 36 = .ok (.iload_n 3, 1) := dk_29 (dk_at dksX2_writeRun_1 13 rfl rfl)
theorem dX2_writeRun_37 : decode cX2_writeRun 37 = .ok (.ifCond .le 9, 3) := dk_158 0 9 (dk_at dksX2_writeRun_1 14 rfl rfl)
theorem dX2_writeRun_40 : decode cX2_writeRun 40 = .ok (.aload_n 0, 1) := dk_42 (dk_at dksX2_writeRun_1 17 rfl rfl)
theorem dX2_writeRun_41 : decode cX2_writeRun 41 = .ok (.bipush 32, 2) := dk_16 32 (dk_at dksX2_writeRun_1 18 rfl rfl)
theorem dX2_writeRun_43 : decode cX2_writeRun 43 = .ok (.invokevirtual 410, 3) := dk_182 1 154 (dk_at dksX2_writeRun_1 20 rfl rfl)
theorem dX2_writeRun_46 : decode cX2_writeRun 46 = .ok (.aload_n 0, 1) := dk_42 (dk_at dksX2_writeRun_1 23 rfl rfl)
theorem dX2_writeRun_47 : decode cX2_writeRun 47 = .ok (.aload_n 0, 1) := dk_42 (dk_at dksX2_writeRun_2 0 rfl rfl)
theorem dX2_writeRun_48 : decode cX2_writeRun 48 = .ok (.getfield 67, 3) := dk_180 0 67 (dk_at dksX2_writeRun_2 1 rfl rfl)
theorem dX2_writeRun_51 : decode cX2_writeRun 51 = .ok (.iload_n 3, 1) := dk_29 (dk_at dksX2_writeRun_2 4 rfl rfl)
theorem dX2_writeRun_52 : decode cX2_writeRun 52 = .ok (.iaload, 1) := dk_46 (dk_at dksX2_writeRun_2 5 rfl rfl)
theorem dX2_writeRun_53 : decode cX2_writeRun 53 = .ok (.invokevirtual 413, 3) := dk_182 1 157 (dk_at dksX2_writeRun_2 6 rfl rfl)
theorem dX2_writeRun_56 : decode cX2_writeRun 56 = .ok (.aload_n 0, 1) := dk_42 (dk_at dksX2_writeRun_2 9 rfl rfl)
theorem dX2_writeRun_57 : decode cX2_writeRun 57 = .ok (.bipush 64, 2) := dk_16 64 (dk_at dksX2_writeRun_2 10 rfl rfl)
theorem dX2_writeRun_59 : decode cX2_writeRun 59 = .ok (.invokevirtual 410, 3) := dk_182 1 154 (dk_at dksX2_writeRun_2 12 rfl rfl)
theorem dX2_writeRun_62 : decode cX2_writeRun 62 = .ok (.aload_n 0, 1) := dk_42 (dk_at dksX2_writeRun_2 15 rfl rfl)
theorem dX2_writeRun_63 : decode cX2_writeRun 63 = .ok (.aload_n 0, 1) := dk_42 (dk_at dksX2_writeRun_2 16 rfl rfl)
theorem dX2_writeRun_64 : decode cX2_writeRun 64 = .ok (.getfield 52, 3) := dk_180 0 52 (dk_at dksX2_writeRun_2 17 rfl rfl)
theorem dX2_writeRun_67 : decode cX2_writeRun 67 = .ok (.aload_n 0, 1) := dk_42 (dk_at dksX2_writeRun_2 20 rfl rfl)
theorem dX2_writeRun_68 : decode cX2_writeRun 68 = .ok (.getfield 67, 3) := dk_180 0 67 (dk_at dksX2_writeRun_2 21 rfl rfl)
theorem dX2_writeRun_71 : decode cX2_writeRun 71 = .ok (.iload_n 3, 1) := dk_29 (dk_at dksX2_writeRun_3 0 rfl rfl)
theorem dX2_writeRun_72 : decode cX2_writeRun 72 = .ok (.iaload, 1) := dk_46 (dk_at dksX2_writeRun_3 1 rfl rfl)
theorem dX2_writeRun_73 : decode cX2_writeRun 73 = .ok (.iaload, 1) := dk_46 (dk_at dksX2_writeRun_3 2 rfl rfl)
theorem dX2_writeRun_74 : decode cX2_writeRun 74 = .ok (.invokevirtual 407, 3) := dk_182 1 151 (dk_at dksX2_writeRun_3 3 rfl rfl)
theorem dX2_writeRun_77 : decode cX2_writeRun 77 = .ok (.iinc 3 1, 3) := dk_132 3 1 (dk_at dksX2_writeRun_3 6 rfl rfl)
theorem dX2_writeRun_80 : decode cX2_writeRun 80 = .ok (.goto (-52), 3) := dk_167 255 204 (dk_at dksX2_writeRun_3 9 rfl rfl)
theorem dX2_writeRun_83 : decode cX2_writeRun 83 = .ok (.iload_n 2, 1) := dk_28 (dk_at dksX2_writeRun_3 12 rfl rfl)
theorem dX2_writeRun_84 : decode cX2_writeRun 84 = .ok (.iconst (-1), 1) := dk_2 (dk_at dksX2_writeRun_3 13 rfl rfl)
theorem dX2_writeRun_85 : decode cX2_writeRun 85 = .ok (.if_icmp .ne 8, 3) := dk_160 0 8 (dk_at dksX2_writeRun_3 14 rfl rfl)
theorem dX2_writeRun_88 : decode cX2_writeRun 88 = .ok (.aload_n 0, 1) := dk_42 (dk_at dksX2_writeRun_3 17 rfl rfl)
theorem dX2_writeRun_89 : decode cX2_writeRun 89 = .ok (.getfield 404, 3) := dk_180 1 148 (dk_at dksX2_writeRun_3 18 rfl rfl)
theorem dX2_writeRun_92 : decode cX2_writeRun 92 = .ok (.ireturn, 1) := dk_172 (dk_at dksX2_writeRun_3 21 rfl rfl)
theorem dX2_writeRun_93 : decode cX2_writeRun 93 = .ok (.aload_n 0, 1) := dk_42 (dk_at dksX2_writeRun_3 22 rfl rfl)
theorem dX2_writeRun_94 : decode cX2_writeRun 94 = .ok (.bipush 32, 2) := dk_16 32 (dk_at dksX2_writeRun_4 0 rfl rfl)
theorem dX2_writeRun_96 : decode cX2_writeRun 96 = .ok (.invokevirtual 410, 3) := dk_182 1 154 (dk_at dksX2_writeRun_4 2 rfl rfl)
theorem dX2_writeRun_99 : decode cX2_writeRun 99 = .ok (.aload_n 0, 1) := dk_42 (dk_at dksX2_writeRun_4 5 rfl rfl)
theorem dX2_writeRun_100 : decode cX2_writeRun 100 = .ok (.iload_n 2, 1) := dk_28 (dk_at dksX2_writeRun_4 6 rfl rfl)
theorem dX2_writeRun_101 : decode cX2_writeRun 101 = .ok (.invokevirtual 413, 3) := dk_182 1 157 (dk_at dksX2_writeRun_4 7 rfl rfl)
theorem dX2_writeRun_104 : decode cX2_writeRun 104 = .ok (.aload_n 0, 1) := dk_42 (dk_at dksX2_writeRun_4 10 rfl rfl)
theorem dX2_writeRun_105 : decode cX2_writeRun 105 = .ok (.bipush 63, 2) := dk_16 63 (dk_at dksX2_writeRun_4 11 rfl rfl)
theorem dX2_writeRun_107 : decode cX2_writeRun 107 = .ok (.invokevirtual 410, 3) := dk_182 1 154 (dk_at dksX2_writeRun_4 13 rfl rfl)
theorem dX2_writeRun_110 : decode cX2_writeRun 110 = .ok (.aload_n 0, 1) := dk_42 (dk_at dksX2_writeRun_4 16 rfl rfl)
theorem dX2_writeRun_111 : decode cX2_writeRun 111 = .ok (.getfield 404, 3) := dk_180 1 148 (dk_at dksX2_writeRun_4 17 rfl rfl)
theorem dX2_writeRun_114 : decode cX2_writeRun 114 = .ok (.ireturn, 1) := dk_172 (dk_at dksX2_writeRun_4 20 rfl rfl)
abbrev cX2_textByte : ByteArray := prog_16_method_127_code
def yX2_textByte : MethodName := ⟨RX2, "textByte", "(I)I"⟩
def dkwX2_textByte_1 : List UInt8 := [180, 0, 73, 158, 0, 7, 3, 167, 0, 9, 42, 180, 0, 70, 27, 51, 172]
abbrev dktX2_textByte_1 : List UInt8 := dkwX2_textByte_1 ++ []
def dkwX2_textByte_0 : List UInt8 := [42, 27, 3, 42, 180, 1, 148, 4, 100, 184, 0, 102, 153, 0, 7, 3, 167, 0, 4, 4, 181, 0, 73, 42]
abbrev dktX2_textByte_0 : List UInt8 := dkwX2_textByte_0 ++ dktX2_textByte_1
theorem dksX2_textByte_0 : cX2_textByte.data.toList.drop 0 = dktX2_textByte_0 := by decide +kernel
theorem dksX2_textByte_1 : cX2_textByte.data.toList.drop 24 = dktX2_textByte_1 := dk_seg dksX2_textByte_0 24 rfl rfl
theorem dX2_textByte_0 : decode cX2_textByte 0 = .ok (.aload_n 0, 1) := dk_42 (dk_at dksX2_textByte_0 0 rfl rfl)
theorem dX2_textByte_1 : decode cX2_textByte 1 = .ok (.iload_n 1, 1) := dk_27 (dk_at dksX2_textByte_0 1 rfl rfl)
theorem dX2_textByte_2 : decode cX2_textByte 2 = .ok (.iconst 0, 1) := dk_3 (dk_at dksX2_textByte_0 2 rfl rfl)
theorem dX2_textByte_3 : decode cX2_textByte 3 = .ok (.aload_n 0, 1) := dk_42 (dk_at dksX2_textByte_0 3 rfl rfl)
theorem dX2_textByte_4 : decode cX2_textByte 4 = .ok (.getfield 404, 3) := dk_180 1 148 (dk_at dksX2_textByte_0 4 rfl rfl)
theorem dX2_textByte_7 : decode cX2_textByte 7 = .ok (.iconst 1, 1) := dk_4 (dk_at dksX2_textByte_0 7 rfl rfl)
theorem dX2_textByte_8 : decode cX2_textByte 8 = .ok (.isub, 1) := dk_100 (dk_at dksX2_textByte_0 8 rfl rfl)
theorem dX2_textByte_9 : decode cX2_textByte 9 = .ok (.invokestatic 102, 3) := dk_184 0 102 (dk_at dksX2_textByte_0 9 rfl rfl)
theorem dX2_textByte_12 : decode cX2_textByte 12 = .ok (.ifCond .eq 7, 3) := dk_153 0 7 (dk_at dksX2_textByte_0 12 rfl rfl)
theorem dX2_textByte_15 : decode cX2_textByte 15 = .ok (.iconst 0, 1) := dk_3 (dk_at dksX2_textByte_0 15 rfl rfl)
theorem dX2_textByte_16 : decode cX2_textByte 16 = .ok (.goto 4, 3) := dk_167 0 4 (dk_at dksX2_textByte_0 16 rfl rfl)
theorem dX2_textByte_19 : decode cX2_textByte 19 = .ok (.iconst 1, 1) := dk_4 (dk_at dksX2_textByte_0 19 rfl rfl)
theorem dX2_textByte_20 : decode cX2_textByte 20 = .ok (.putfield 73, 3) := dk_181 0 73 (dk_at dksX2_textByte_0 20 rfl rfl)
theorem dX2_textByte_23 : decode cX2_textByte 23 = .ok (.aload_n 0, 1) := dk_42 (dk_at dksX2_textByte_0 23 rfl rfl)
theorem dX2_textByte_24 : decode cX2_textByte 24 = .ok (.getfield 73, 3) := dk_180 0 73 (dk_at dksX2_textByte_1 0 rfl rfl)
theorem dX2_textByte_27 : decode cX2_textByte 27 = .ok (.ifCond .le 7, 3) := dk_158 0 7 (dk_at dksX2_textByte_1 3 rfl rfl)
theorem dX2_textByte_30 : decode cX2_textByte 30 = .ok (.iconst 0, 1) := dk_3 (dk_at dksX2_textByte_1 6 rfl rfl)
theorem dX2_textByte_31 : decode cX2_textByte 31 = .ok (.goto 9, 3) := dk_167 0 9 (dk_at dksX2_textByte_1 7 rfl rfl)
theorem dX2_textByte_34 : decode cX2_textByte 34 = .ok (.aload_n 0, 1) := dk_42 (dk_at dksX2_textByte_1 10 rfl rfl)
theorem dX2_textByte_35 : decode cX2_textByte 35 = .ok (.getfield 70, 3) := dk_180 0 70 (dk_at dksX2_textByte_1 11 rfl rfl)
theorem dX2_textByte_38 : decode cX2_textByte 38 = .ok (.iload_n 1, 1) := dk_27 (dk_at dksX2_textByte_1 14 rfl rfl)
theorem dX2_textByte_39 : decode cX2_textByte 39 = .ok (.baload, 1) := dk_51 (dk_at dksX2_textByte_1 15 rfl rfl)
theorem dX2_textByte_40 : decode cX2_textByte 40 = .ok (.ireturn, 1) := dk_172 (dk_at dksX2_textByte_1 16 rfl rfl)
abbrev cX2_setLow : ByteArray := prog_16_method_131_code
def yX2_setLow : MethodName := ⟨RX2, "setLow", "(II)I"⟩
def dkwX2_setLow_2 : List UInt8 := [28, 182, 1, 182, 167, 0, 4, 3, 172]
abbrev dktX2_setLow_2 : List UInt8 := dkwX2_setLow_2 ++ []
def dkwX2_setLow_1 : List UInt8 := [167, 0, 4, 3, 62, 42, 42, 27, 182, 1, 39, 29, 182, 1, 42, 153, 0, 16, 42, 27, 5, 184, 0, 162]
abbrev dktX2_setLow_1 : List UInt8 := dkwX2_setLow_1 ++ dktX2_setLow_2
def dkwX2_setLow_0 : List UInt8 := [42, 27, 182, 1, 39, 153, 0, 20, 28, 42, 27, 6, 182, 0, 214, 184, 1, 179, 153, 0, 7, 4]
abbrev dktX2_setLow_0 : List UInt8 := dkwX2_setLow_0 ++ dktX2_setLow_1
theorem dksX2_setLow_0 : cX2_setLow.data.toList.drop 0 = dktX2_setLow_0 := by decide +kernel
theorem dksX2_setLow_1 : cX2_setLow.data.toList.drop 22 = dktX2_setLow_1 := dk_seg dksX2_setLow_0 22 rfl rfl
theorem dksX2_setLow_2 : cX2_setLow.data.toList.drop 46 = dktX2_setLow_2 := dk_seg dksX2_setLow_1 24 rfl rfl
theorem dX2_setLow_0 : decode cX2_setLow 0 = .ok (.aload_n 0, 1) := dk_42 (dk_at dksX2_setLow_0 0 rfl rfl)
theorem dX2_setLow_1 : decode cX2_setLow 1 = .ok (.iload_n 1, 1) := dk_27 (dk_at dksX2_setLow_0 1 rfl rfl)
theorem dX2_setLow_2 : decode cX2_setLow 2 = .ok (.invokevirtual 295, 3) := dk_182 1 39 (dk_at dksX2_setLow_0 2 rfl rfl)
theorem dX2_setLow_5 : decode cX2_setLow 5 = .ok (.ifCond .eq 20, 3) := dk_153 0 20 (dk_at dksX2_setLow_0 5 rfl rfl)
theorem dX2_setLow_8 : decode cX2_setLow 8 = .ok (.iload_n 2, 1) := dk_28 (dk_at dksX2_setLow_0 8 rfl rfl)
theorem dX2_setLow_9 : decode cX2_setLow 9 = .ok (.aload_n 0, 1) := dk_42 (dk_at dksX2_setLow_0 9 rfl rfl)
theorem dX2_setLow_10 : decode cX2_setLow 10 = .ok (.iload_n 1, 1) := dk_27 (dk_at dksX2_setLow_0 10 rfl rfl)
theorem dX2_setLow_11 : decode cX2_setLow 11 = .ok (.iconst 3, 1) := dk_6 (dk_at dksX2_setLow_0 11 rfl rfl)
theorem dX2_setLow_12 : decode cX2_setLow 12 = .ok (.invokevirtual 214, 3) := dk_182 0 214 (dk_at dksX2_setLow_0 12 rfl rfl)
theorem dX2_setLow_15 : decode cX2_setLow 15 = .ok (.invokestatic 435, 3) := dk_184 1 179 (dk_at dksX2_setLow_0 15 rfl rfl)
theorem dX2_setLow_18 : decode cX2_setLow 18 = .ok (.ifCond .eq 7, 3) := dk_153 0 7 (dk_at dksX2_setLow_0 18 rfl rfl)
theorem dX2_setLow_21 : decode cX2_setLow 21 = .ok (.iconst 1, 1) := dk_4 (dk_at dksX2_setLow_0 21 rfl rfl)
theorem dX2_setLow_22 : decode cX2_setLow 22 = .ok (.goto 4, 3) := dk_167 0 4 (dk_at dksX2_setLow_1 0 rfl rfl)
theorem dX2_setLow_25 : decode cX2_setLow 25 = .ok (.iconst 0, 1) := dk_3 (dk_at dksX2_setLow_1 3 rfl rfl)
theorem dX2_setLow_26 : decode cX2_setLow 26 = .ok (.istore_n 3, 1) := dk_62 (dk_at dksX2_setLow_1 4 rfl rfl)
theorem dX2_setLow_27 : decode cX2_setLow 27 = .ok (.aload_n 0, 1) := dk_42 (dk_at dksX2_setLow_1 5 rfl rfl)
theorem dX2_setLow_28 : decode cX2_setLow 28 = .ok (.aload_n 0, 1) := dk_42 (dk_at dksX2_setLow_1 6 rfl rfl)
theorem dX2_setLow_29 : decode cX2_setLow 29 = .ok (.iload_n 1, 1) := dk_27 (dk_at dksX2_setLow_1 7 rfl rfl)
theorem dX2_setLow_30 : decode cX2_setLow 30 = .ok (.invokevirtual 295, 3) := dk_182 1 39 (dk_at dksX2_setLow_1 8 rfl rfl)
theorem dX2_setLow_33 : decode cX2_setLow 33 = .ok (.iload_n 3, 1) := dk_29 (dk_at dksX2_setLow_1 11 rfl rfl)
theorem dX2_setLow_34 : decode cX2_setLow 34 = .ok (.invokevirtual 298, 3) := dk_182 1 42 (dk_at dksX2_setLow_1 12 rfl rfl)
theorem dX2_setLow_37 : decode cX2_setLow 37 = .ok (.ifCond .eq 16, 3) := dk_153 0 16 (dk_at dksX2_setLow_1 15 rfl rfl)
theorem dX2_setLow_40 : decode cX2_setLow 40 = .ok (.aload_n 0, 1) := dk_42 (dk_at dksX2_setLow_1 18 rfl rfl)
theorem dX2_setLow_41 : decode cX2_setLow 41 = .ok (.iload_n 1, 1) := dk_27 (dk_at dksX2_setLow_1 19 rfl rfl)
theorem dX2_setLow_42 : decode cX2_setLow 42 = .ok (.iconst 2, 1) := dk_5 (dk_at dksX2_setLow_1 20 rfl rfl)
theorem dX2_setLow_43 : decode cX2_setLow 43 = .ok (.invokestatic 162, 3) := dk_184 0 162 (dk_at dksX2_setLow_1 21 rfl rfl)
theorem dX2_setLow_46 : decode cX2_setLow 46 = .ok (.iload_n 2, 1) := dk_28 (dk_at dksX2_setLow_2 0 rfl rfl)
theorem dX2_setLow_47 : decode cX2_setLow 47 = .ok (.invokevirtual 438, 3) := dk_182 1 182 (dk_at dksX2_setLow_2 1 rfl rfl)
theorem dX2_setLow_50 : decode cX2_setLow 50 = .ok (.goto 4, 3) := dk_167 0 4 (dk_at dksX2_setLow_2 4 rfl rfl)
theorem dX2_setLow_53 : decode cX2_setLow 53 = .ok (.iconst 0, 1) := dk_3 (dk_at dksX2_setLow_2 7 rfl rfl)
theorem dX2_setLow_54 : decode cX2_setLow 54 = .ok (.ireturn, 1) := dk_172 (dk_at dksX2_setLow_2 8 rfl rfl)
abbrev cX2_areInOrder : ByteArray := prog_16_method_130_code
def yX2_areInOrder : MethodName := ⟨RX2, "areInOrder", "(II)Z"⟩
def dkwX2_areInOrder_1 : List UInt8 := [153, 0, 7, 4, 167, 0, 4, 3, 172]
abbrev dktX2_areInOrder_1 : List UInt8 := dkwX2_areInOrder_1 ++ []
def dkwX2_areInOrder_0 : List UInt8 := [26, 3, 17, 3, 231, 184, 0, 102, 153, 0, 23, 27, 2, 159, 0, 14, 27, 26, 17, 3, 231, 184, 0, 102]
abbrev dktX2_areInOrder_0 : List UInt8 := dkwX2_areInOrder_0 ++ dktX2_areInOrder_1
theorem dksX2_areInOrder_0 : cX2_areInOrder.data.toList.drop 0 = dktX2_areInOrder_0 := by decide +kernel
theorem dksX2_areInOrder_1 : cX2_areInOrder.data.toList.drop 24 = dktX2_areInOrder_1 := dk_seg dksX2_areInOrder_0 24 rfl rfl
theorem dX2_areInOrder_0 : decode cX2_areInOrder 0 = .ok (.iload_n 0, 1) := dk_26 (dk_at dksX2_areInOrder_0 0 rfl rfl)
theorem dX2_areInOrder_1 : decode cX2_areInOrder 1 = .ok (.iconst 0, 1) := dk_3 (dk_at dksX2_areInOrder_0 1 rfl rfl)
theorem dX2_areInOrder_2 : decode cX2_areInOrder 2 = .ok (.sipush 999, 3) := dk_17 3 231 (dk_at dksX2_areInOrder_0 2 rfl rfl)
theorem dX2_areInOrder_5 : decode cX2_areInOrder 5 = .ok (.invokestatic 102, 3) := dk_184 0 102 (dk_at dksX2_areInOrder_0 5 rfl rfl)
theorem dX2_areInOrder_8 : decode cX2_areInOrder 8 = .ok (.ifCond .eq 23, 3) := dk_153 0 23 (dk_at dksX2_areInOrder_0 8 rfl rfl)
theorem dX2_areInOrder_11 : decode cX2_areInOrder 11 = .ok (.iload_n 1, 1) := dk_27 (dk_at dksX2_areInOrder_0 11 rfl rfl)
theorem dX2_areInOrder_12 : decode cX2_areInOrder 12 = .ok (.iconst (-1), 1) := dk_2 (dk_at dksX2_areInOrder_0 12 rfl rfl)
theorem dX2_areInOrder_13 : decode cX2_areInOrder 13 = .ok (.if_icmp .eq 14, 3) := dk_159 0 14 (dk_at dksX2_areInOrder_0 13 rfl rfl)
theorem dX2_areInOrder_16 : decode cX2_areInOrder 16 = .ok (.iload_n 1, 1) := dk_27 (dk_at dksX2_areInOrder_0 16 rfl rfl)
theorem dX2_areInOrder_17 : decode cX2_areInOrder 17 = .ok (.iload_n 0, 1) := dk_26 (dk_at dksX2_areInOrder_0 17 rfl rfl)
theorem dX2_areInOrder_18 : decode cX2_areInOrder 18 = .ok (.sipush 999, 3) := dk_17 3 231 (dk_at dksX2_areInOrder_0 18 rfl rfl)
theorem dX2_areInOrder_21 : decode cX2_areInOrder 21 = .ok (.invokestatic 102, 3) := dk_184 0 102 (dk_at dksX2_areInOrder_0 21 rfl rfl)
theorem dX2_areInOrder_24 : decode cX2_areInOrder 24 = .ok (.ifCond .eq 7, 3) := dk_153 0 7 (dk_at dksX2_areInOrder_1 0 rfl rfl)
theorem dX2_areInOrder_27 : decode cX2_areInOrder 27 = .ok (.iconst 1, 1) := dk_4 (dk_at dksX2_areInOrder_1 3 rfl rfl)
theorem dX2_areInOrder_28 : decode cX2_areInOrder 28 = .ok (.goto 4, 3) := dk_167 0 4 (dk_at dksX2_areInOrder_1 4 rfl rfl)
theorem dX2_areInOrder_31 : decode cX2_areInOrder 31 = .ok (.iconst 0, 1) := dk_3 (dk_at dksX2_areInOrder_1 7 rfl rfl)
theorem dX2_areInOrder_32 : decode cX2_areInOrder 32 = .ok (.ireturn, 1) := dk_172 (dk_at dksX2_areInOrder_1 8 rfl rfl)
abbrev cX2_sets : ByteArray := prog_16_method_129_code
def yX2_sets : MethodName := ⟨RX2, "sets", "(II)I"⟩
def dkwX2_sets_0 : List UInt8 := [42, 180, 0, 23, 27, 46, 62, 42, 182, 1, 176, 42, 180, 0, 23, 27, 28, 79, 29, 172]
abbrev dktX2_sets_0 : List UInt8 := dkwX2_sets_0 ++ []
theorem dksX2_sets_0 : cX2_sets.data.toList.drop 0 = dktX2_sets_0 := by decide +kernel
theorem dX2_sets_0 : decode cX2_sets 0 = .ok (.aload_n 0, 1) := dk_42 (dk_at dksX2_sets_0 0 rfl rfl)
theorem dX2_sets_1 : decode cX2_sets 1 = .ok (.getfield 23, 3) := dk_180 0 23 (dk_at dksX2_sets_0 1 rfl rfl)
theorem dX2_sets_4 : decode cX2_sets 4 = .ok (.iload_n 1, 1) := dk_27 (dk_at dksX2_sets_0 4 rfl rfl)
theorem dX2_sets_5 : decode cX2_sets 5 = .ok (.iaload, 1) := dk_46 (dk_at dksX2_sets_0 5 rfl rfl)
theorem dX2_sets_6 : decode cX2_sets 6 = .ok (.istore_n 3, 1) := dk_62 (dk_at dksX2_sets_0 6 rfl rfl)
theorem dX2_sets_7 : decode cX2_sets 7 = .ok (.aload_n 0, 1) := dk_42 (dk_at dksX2_sets_0 7 rfl rfl)
theorem dX2_sets_8 : decode cX2_sets 8 = .ok (.invokevirtual 432, 3) := dk_182 1 176 (dk_at dksX2_sets_0 8 rfl rfl)
theorem dX2_sets_11 : decode cX2_sets 11 = .ok (.aload_n 0, 1) := dk_42 (dk_at dksX2_sets_0 11 rfl rfl)
theorem dX2_sets_12 : decode cX2_sets 12 = .ok (.getfield 23, 3) := dk_180 0 23 (dk_at dksX2_sets_0 12 rfl rfl)
theorem dX2_sets_15 : decode cX2_sets 15 = .ok (.iload_n 1, 1) := dk_27 (dk_at dksX2_sets_0 15 rfl rfl)
theorem dX2_sets_16 : decode cX2_sets 16 = .ok (.iload_n 2, 1) := dk_28 (dk_at dksX2_sets_0 16 rfl rfl)
theorem dX2_sets_17 : decode cX2_sets 17 = .ok (.iastore, 1) := dk_79 (dk_at dksX2_sets_0 17 rfl rfl)
theorem dX2_sets_18 : decode cX2_sets 18 = .ok (.iload_n 3, 1) := dk_29 (dk_at dksX2_sets_0 18 rfl rfl)
theorem dX2_sets_19 : decode cX2_sets 19 = .ok (.ireturn, 1) := dk_172 (dk_at dksX2_sets_0 19 rfl rfl)
abbrev cX2_remembers : ByteArray := prog_16_method_128_code
def yX2_remembers : MethodName := ⟨RX2, "remembers", "()V"⟩
def dkwX2_remembers_3 : List UInt8 := [89, 180, 0, 211, 4, 96, 181, 0, 211, 177]
abbrev dktX2_remembers_3 : List UInt8 := dkwX2_remembers_3 ++ []
def dkwX2_remembers_2 : List UInt8 := [181, 0, 211, 42, 180, 0, 23, 3, 42, 180, 0, 30, 42, 180, 0, 211, 17, 0, 176, 104, 184, 0, 200, 42]
abbrev dktX2_remembers_2 : List UInt8 := dkwX2_remembers_2 ++ dktX2_remembers_3
def dkwX2_remembers_1 : List UInt8 := [180, 0, 30, 27, 17, 0, 176, 96, 46, 79, 132, 1, 1, 167, 255, 230, 42, 89, 180, 0, 211, 4, 100]
abbrev dktX2_remembers_1 : List UInt8 := dkwX2_remembers_1 ++ dktX2_remembers_2
def dkwX2_remembers_0 : List UInt8 := [42, 180, 0, 211, 16, 8, 160, 0, 44, 3, 60, 27, 17, 4, 208, 162, 0, 25, 42, 180, 0, 30, 27, 42]
abbrev dktX2_remembers_0 : List UInt8 := dkwX2_remembers_0 ++ dktX2_remembers_1
theorem dksX2_remembers_0 : cX2_remembers.data.toList.drop 0 = dktX2_remembers_0 := by decide +kernel
theorem dksX2_remembers_1 : cX2_remembers.data.toList.drop 24 = dktX2_remembers_1 := dk_seg dksX2_remembers_0 24 rfl rfl
theorem dksX2_remembers_2 : cX2_remembers.data.toList.drop 47 = dktX2_remembers_2 := dk_seg dksX2_remembers_1 23 rfl rfl
theorem dksX2_remembers_3 : cX2_remembers.data.toList.drop 71 = dktX2_remembers_3 := dk_seg dksX2_remembers_2 24 rfl rfl
theorem dX2_remembers_0 : decode cX2_remembers 0 = .ok (.aload_n 0, 1) := dk_42 (dk_at dksX2_remembers_0 0 rfl rfl)
theorem dX2_remembers_1 : decode cX2_remembers 1 = .ok (.getfield 211, 3) := dk_180 0 211 (dk_at dksX2_remembers_0 1 rfl rfl)
theorem dX2_remembers_4 : decode cX2_remembers 4 = .ok (.bipush 8, 2) := dk_16 8 (dk_at dksX2_remembers_0 4 rfl rfl)
theorem dX2_remembers_6 : decode cX2_remembers 6 = .ok (.if_icmp .ne 44, 3) := dk_160 0 44 (dk_at dksX2_remembers_0 6 rfl rfl)
theorem dX2_remembers_9 : decode cX2_remembers 9 = .ok (.iconst 0, 1) := dk_3 (dk_at dksX2_remembers_0 9 rfl rfl)
theorem dX2_remembers_10 : decode cX2_remembers 10 = .ok (.istore_n 1, 1) := dk_60 (dk_at dksX2_remembers_0 10 rfl rfl)
theorem dX2_remembers_11 : decode cX2_remembers 11 = .ok (.iload_n 1, 1) := dk_27 (dk_at dksX2_remembers_0 11 rfl rfl)
theorem dX2_remembers_12 : decode cX2_remembers 12 = .ok (.sipush 1232, 3) := dk_17 4 208 (dk_at dksX2_remembers_0 12 rfl rfl)
theorem dX2_remembers_15 : decode cX2_remembers 15 = .ok (.if_icmp .ge 25, 3) := dk_162 0 25 (dk_at dksX2_remembers_0 15 rfl rfl)
theorem dX2_remembers_18 : decode cX2_remembers 18 = .ok (.aload_n 0, 1) := dk_42 (dk_at dksX2_remembers_0 18 rfl rfl)
theorem dX2_remembers_19 : decode cX2_remembers 19 = .ok (.getfield 30, 3) := dk_180 0 30 (dk_at dksX2_remembers_0 19 rfl rfl)
theorem dX2_remembers_22 : decode cX2_remembers 22 = .ok (.iload_n 1, 1) := dk_27 (dk_at dksX2_remembers_0 22 rfl rfl)
theorem dX2_remembers_23 : decode cX2_remembers 23 = .ok (.aload_n 0, 1) := dk_42 (dk_at dksX2_remembers_0 23 rfl rfl)
theorem dX2_remembers_24 : decode cX2_remembers 24 = .ok (.getfield 30, 3) := dk_180 0 30 (dk_at dksX2_remembers_1 0 rfl rfl)
theorem dX2_remembers_27 : decode cX2_remembers 27 = .ok (.iload_n 1, 1) := dk_27 (dk_at dksX2_remembers_1 3 rfl rfl)
theorem dX2_remembers_28 : decode cX2_remembers 28 = .ok (.sipush 176, 3) := dk_17 0 176 (dk_at dksX2_remembers_1 4 rfl rfl)
theorem dX2_remembers_31 : decode cX2_remembers 31 = .ok (.iadd, 1) := dk_96 (dk_at dksX2_remembers_1 7 rfl rfl)
theorem dX2_remembers_32 : decode cX2_remembers 32 = .ok (.iaload, 1) := dk_46 (dk_at dksX2_remembers_1 8 rfl rfl)
theorem dX2_remembers_33 : decode cX2_remembers 33 = .ok (.iastore, 1) := dk_79 (dk_at dksX2_remembers_1 9 rfl rfl)
theorem dX2_remembers_34 : decode cX2_remembers 34 = .ok (.iinc 1 1, 3) := dk_132 1 1 (dk_at dksX2_remembers_1 10 rfl rfl)
theorem dX2_remembers_37 : decode cX2_remembers 37 = .ok (.goto (-26), 3) := dk_167 255 230 (dk_at dksX2_remembers_1 13 rfl rfl)
theorem dX2_remembers_40 : decode cX2_remembers 40 = .ok (.aload_n 0, 1) := dk_42 (dk_at dksX2_remembers_1 16 rfl rfl)
theorem dX2_remembers_41 : decode cX2_remembers 41 = .ok (.dup, 1) := dk_89 (dk_at dksX2_remembers_1 17 rfl rfl)
theorem dX2_remembers_42 : decode cX2_remembers 42 = .ok (.getfield 211, 3) := dk_180 0 211 (dk_at dksX2_remembers_1 18 rfl rfl)
theorem dX2_remembers_45 : decode cX2_remembers 45 = .ok (.iconst 1, 1) := dk_4 (dk_at dksX2_remembers_1 21 rfl rfl)
theorem dX2_remembers_46 : decode cX2_remembers 46 = .ok (.isub, 1) := dk_100 (dk_at dksX2_remembers_1 22 rfl rfl)
theorem dX2_remembers_47 : decode cX2_remembers 47 = .ok (.putfield 211, 3) := dk_181 0 211 (dk_at dksX2_remembers_2 0 rfl rfl)
theorem dX2_remembers_50 : decode cX2_remembers 50 = .ok (.aload_n 0, 1) := dk_42 (dk_at dksX2_remembers_2 3 rfl rfl)
theorem dX2_remembers_51 : decode cX2_remembers 51 = .ok (.getfield 23, 3) := dk_180 0 23 (dk_at dksX2_remembers_2 4 rfl rfl)
theorem dX2_remembers_54 : decode cX2_remembers 54 = .ok (.iconst 0, 1) := dk_3 (dk_at dksX2_remembers_2 7 rfl rfl)
theorem dX2_remembers_55 : decode cX2_remembers 55 = .ok (.aload_n 0, 1) := dk_42 (dk_at dksX2_remembers_2 8 rfl rfl)
theorem dX2_remembers_56 : decode cX2_remembers 56 = .ok (.getfield 30, 3) := dk_180 0 30 (dk_at dksX2_remembers_2 9 rfl rfl)
theorem dX2_remembers_59 : decode cX2_remembers 59 = .ok (.aload_n 0, 1) := dk_42 (dk_at dksX2_remembers_2 12 rfl rfl)
theorem dX2_remembers_60 : decode cX2_remembers 60 = .ok (.getfield 211, 3) := dk_180 0 211 (dk_at dksX2_remembers_2 13 rfl rfl)
theorem dX2_remembers_63 : decode cX2_remembers 63 = .ok (.sipush 176, 3) := dk_17 0 176 (dk_at dksX2_remembers_2 16 rfl rfl)
theorem dX2_remembers_66 : decode cX2_remembers 66 = .ok (.imul, 1) := dk_104 (dk_at dksX2_remembers_2 19 rfl rfl)
theorem dX2_remembers_67 : decode cX2_remembers 67 = .ok (.invokestatic 200, 3) := dk_184 0 200 (dk_at dksX2_remembers_2 20 rfl rfl)
theorem dX2_remembers_70 : decode cX2_remembers 70 = .ok (.aload_n 0, 1) := dk_42 (dk_at dksX2_remembers_2 23 rfl rfl)
theorem dX2_remembers_71 : decode cX2_remembers 71 = .ok (.dup, 1) := dk_89 (dk_at dksX2_remembers_3 0 rfl rfl)
theorem dX2_remembers_72 : decode cX2_remembers 72 = .ok (.getfield 211, 3) := dk_180 0 211 (dk_at dksX2_remembers_3 1 rfl rfl)
theorem dX2_remembers_75 : decode cX2_remembers 75 = .ok (.iconst 1, 1) := dk_4 (dk_at dksX2_remembers_3 4 rfl rfl)
theorem dX2_remembers_76 : decode cX2_remembers 76 = .ok (.iadd, 1) := dk_96 (dk_at dksX2_remembers_3 5 rfl rfl)
theorem dX2_remembers_77 : decode cX2_remembers 77 = .ok (.putfield 211, 3) := dk_181 0 211 (dk_at dksX2_remembers_3 6 rfl rfl)
theorem dX2_remembers_80 : decode cX2_remembers 80 = .ok (.return_, 1) := dk_177 (dk_at dksX2_remembers_3 9 rfl rfl)
abbrev cX2_setHigh : ByteArray := prog_16_method_132_code
def yX2_setHigh : MethodName := ⟨RX2, "setHigh", "(II)I"⟩
def dkwX2_setHigh_2 : List UInt8 := [28, 182, 1, 182, 167, 0, 4, 3, 172]
abbrev dktX2_setHigh_2 : List UInt8 := dkwX2_setHigh_2 ++ []
def dkwX2_setHigh_1 : List UInt8 := [167, 0, 4, 3, 62, 42, 42, 27, 182, 1, 39, 29, 182, 1, 42, 153, 0, 16, 42, 27, 6, 184, 0, 162]
abbrev dktX2_setHigh_1 : List UInt8 := dkwX2_setHigh_1 ++ dktX2_setHigh_2
def dkwX2_setHigh_0 : List UInt8 := [42, 27, 182, 1, 39, 153, 0, 20, 42, 27, 5, 182, 0, 214, 28, 184, 1, 179, 153, 0, 7, 4]
abbrev dktX2_setHigh_0 : List UInt8 := dkwX2_setHigh_0 ++ dktX2_setHigh_1
theorem dksX2_setHigh_0 : cX2_setHigh.data.toList.drop 0 = dktX2_setHigh_0 := by decide +kernel
theorem dksX2_setHigh_1 : cX2_setHigh.data.toList.drop 22 = dktX2_setHigh_1 := dk_seg dksX2_setHigh_0 22 rfl rfl
theorem dksX2_setHigh_2 : cX2_setHigh.data.toList.drop 46 = dktX2_setHigh_2 := dk_seg dksX2_setHigh_1 24 rfl rfl
theorem dX2_setHigh_0 : decode cX2_setHigh 0 = .ok (.aload_n 0, 1) := dk_42 (dk_at dksX2_setHigh_0 0 rfl rfl)
theorem dX2_setHigh_1 : decode cX2_setHigh 1 = .ok (.iload_n 1, 1) := dk_27 (dk_at dksX2_setHigh_0 1 rfl rfl)
theorem dX2_setHigh_2 : decode cX2_setHigh 2 = .ok (.invokevirtual 295, 3) := dk_182 1 39 (dk_at dksX2_setHigh_0 2 rfl rfl)
theorem dX2_setHigh_5 : decode cX2_setHigh 5 = .ok (.ifCond .eq 20, 3) := dk_153 0 20 (dk_at dksX2_setHigh_0 5 rfl rfl)
theorem dX2_setHigh_8 : decode cX2_setHigh 8 = .ok (.aload_n 0, 1) := dk_42 (dk_at dksX2_setHigh_0 8 rfl rfl)
theorem dX2_setHigh_9 : decode cX2_setHigh 9 = .ok (.iload_n 1, 1) := dk_27 (dk_at dksX2_setHigh_0 9 rfl rfl)
theorem dX2_setHigh_10 : decode cX2_setHigh 10 = .ok (.iconst 2, 1) := dk_5 (dk_at dksX2_setHigh_0 10 rfl rfl)
theorem dX2_setHigh_11 : decode cX2_setHigh 11 = .ok (.invokevirtual 214, 3) := dk_182 0 214 (dk_at dksX2_setHigh_0 11 rfl rfl)
theorem dX2_setHigh_14 : decode cX2_setHigh 14 = .ok (.iload_n 2, 1) := dk_28 (dk_at dksX2_setHigh_0 14 rfl rfl)
theorem dX2_setHigh_15 : decode cX2_setHigh 15 = .ok (.invokestatic 435, 3) := dk_184 1 179 (dk_at dksX2_setHigh_0 15 rfl rfl)
theorem dX2_setHigh_18 : decode cX2_setHigh 18 = .ok (.ifCond .eq 7, 3) := dk_153 0 7 (dk_at dksX2_setHigh_0 18 rfl rfl)
theorem dX2_setHigh_21 : decode cX2_setHigh 21 = .ok (.iconst 1, 1) := dk_4 (dk_at dksX2_setHigh_0 21 rfl rfl)
theorem dX2_setHigh_22 : decode cX2_setHigh 22 = .ok (.goto 4, 3) := dk_167 0 4 (dk_at dksX2_setHigh_1 0 rfl rfl)
theorem dX2_setHigh_25 : decode cX2_setHigh 25 = .ok (.iconst 0, 1) := dk_3 (dk_at dksX2_setHigh_1 3 rfl rfl)
theorem dX2_setHigh_26 : decode cX2_setHigh 26 = .ok (.istore_n 3, 1) := dk_62 (dk_at dksX2_setHigh_1 4 rfl rfl)
theorem dX2_setHigh_27 : decode cX2_setHigh 27 = .ok (.aload_n 0, 1) := dk_42 (dk_at dksX2_setHigh_1 5 rfl rfl)
theorem dX2_setHigh_28 : decode cX2_setHigh 28 = .ok (.aload_n 0, 1) := dk_42 (dk_at dksX2_setHigh_1 6 rfl rfl)
theorem dX2_setHigh_29 : decode cX2_setHigh 29 = .ok (.iload_n 1, 1) := dk_27 (dk_at dksX2_setHigh_1 7 rfl rfl)
theorem dX2_setHigh_30 : decode cX2_setHigh 30 = .ok (.invokevirtual 295, 3) := dk_182 1 39 (dk_at dksX2_setHigh_1 8 rfl rfl)
theorem dX2_setHigh_33 : decode cX2_setHigh 33 = .ok (.iload_n 3, 1) := dk_29 (dk_at dksX2_setHigh_1 11 rfl rfl)
theorem dX2_setHigh_34 : decode cX2_setHigh 34 = .ok (.invokevirtual 298, 3) := dk_182 1 42 (dk_at dksX2_setHigh_1 12 rfl rfl)
theorem dX2_setHigh_37 : decode cX2_setHigh 37 = .ok (.ifCond .eq 16, 3) := dk_153 0 16 (dk_at dksX2_setHigh_1 15 rfl rfl)
theorem dX2_setHigh_40 : decode cX2_setHigh 40 = .ok (.aload_n 0, 1) := dk_42 (dk_at dksX2_setHigh_1 18 rfl rfl)
theorem dX2_setHigh_41 : decode cX2_setHigh 41 = .ok (.iload_n 1, 1) := dk_27 (dk_at dksX2_setHigh_1 19 rfl rfl)
theorem dX2_setHigh_42 : decode cX2_setHigh 42 = .ok (.iconst 3, 1) := dk_6 (dk_at dksX2_setHigh_1 20 rfl rfl)
theorem dX2_setHigh_43 : decode cX2_setHigh 43 = .ok (.invokestatic 162, 3) := dk_184 0 162 (dk_at dksX2_setHigh_1 21 rfl rfl)
theorem dX2_setHigh_46 : decode cX2_setHigh 46 = .ok (.iload_n 2, 1) := dk_28 (dk_at dksX2_setHigh_2 0 rfl rfl)
theorem dX2_setHigh_47 : decode cX2_setHigh 47 = .ok (.invokevirtual 438, 3) := dk_182 1 182 (dk_at dksX2_setHigh_2 1 rfl rfl)
theorem dX2_setHigh_50 : decode cX2_setHigh 50 = .ok (.goto 4, 3) := dk_167 0 4 (dk_at dksX2_setHigh_2 4 rfl rfl)
theorem dX2_setHigh_53 : decode cX2_setHigh 53 = .ok (.iconst 0, 1) := dk_3 (dk_at dksX2_setHigh_2 7 rfl rfl)
theorem dX2_setHigh_54 : decode cX2_setHigh 54 = .ok (.ireturn, 1) := dk_172 (dk_at dksX2_setHigh_2 8 rfl rfl)
abbrev cX2_setCost : ByteArray := prog_16_method_134_code
def yX2_setCost : MethodName := ⟨RX2, "setCost", "(II)I"⟩
def dkwX2_setCost_3 : List UInt8 := [28, 182, 1, 182, 167, 0, 4, 3, 172]
abbrev dktX2_setCost_3 : List UInt8 := dkwX2_setCost_3 ++ []
def dkwX2_setCost_2 : List UInt8 := [153, 0, 11, 29, 153, 0, 7, 4, 167, 0, 4, 3, 182, 1, 42, 153, 0, 16, 42, 27, 7, 184, 0, 162]
abbrev dktX2_setCost_2 : List UInt8 := dkwX2_setCost_2 ++ dktX2_setCost_3
def dkwX2_setCost_1 : List UInt8 := [16, 10, 162, 0, 7, 4, 167, 0, 4, 3, 62, 42, 42, 27, 182, 1, 39, 28, 3, 16, 99, 184, 0, 102]
abbrev dktX2_setCost_1 : List UInt8 := dkwX2_setCost_1 ++ dktX2_setCost_2
def dkwX2_setCost_0 : List UInt8 := [28, 153, 0, 28, 42, 27, 182, 1, 39, 153, 0, 11, 42, 27, 182, 1, 95, 153, 0, 12, 42, 182, 1, 185]
abbrev dktX2_setCost_0 : List UInt8 := dkwX2_setCost_0 ++ dktX2_setCost_1
theorem dksX2_setCost_0 : cX2_setCost.data.toList.drop 0 = dktX2_setCost_0 := by decide +kernel
theorem dksX2_setCost_1 : cX2_setCost.data.toList.drop 24 = dktX2_setCost_1 := dk_seg dksX2_setCost_0 24 rfl rfl
theorem dksX2_setCost_2 : cX2_setCost.data.toList.drop 48 = dktX2_setCost_2 := dk_seg dksX2_setCost_1 24 rfl rfl
theorem dksX2_setCost_3 : cX2_setCost.data.toList.drop 72 = dktX2_setCost_3 := dk_seg dksX2_setCost_2 24 rfl rfl
theorem dX2_setCost_0 : decode cX2_setCost 0 = .ok (.iload_n 2, 1) := dk_28 (dk_at dksX2_setCost_0 0 rfl rfl)
theorem dX2_setCost_1 : decode cX2_setCost 1 = .ok (.ifCond .eq 28, 3) := dk_153 0 28 (dk_at dksX2_setCost_0 1 rfl rfl)
theorem dX2_setCost_4 : decode cX2_setCost 4 = .ok (.aload_n 0, 1) := dk_42 (dk_at dksX2_setCost_0 4 rfl rfl)
theorem dX2_setCost_5 : decode cX2_setCost 5 = .ok (.iload_n 1, 1) := dk_27 (dk_at dksX2_setCost_0 5 rfl rfl)
theorem dX2_setCost_6 : decode cX2_setCost 6 = .ok (.invokevirtual 295, 3) := dk_182 1 39 (dk_at dksX2_setCost_0 6 rfl rfl)
theorem dX2_setCost_9 : decode cX2_setCost 9 = .ok (.ifCond .eq 11, 3) := dk_153 0 11 (dk_at dksX2_setCost_0 9 rfl rfl)
theorem dX2_setCost_12 : decode cX2_setCost 12 = .ok (.aload_n 0, 1) := dk_42 (dk_at dksX2_setCost_0 12 rfl rfl)
theorem dX2_setCost_13 : decode cX2_setCost 13 = .ok (.iload_n 1, 1) := dk_27 (dk_at dksX2_setCost_0 13 rfl rfl)
theorem dX2_setCost_14 : decode cX2_setCost 14 = .ok (.invokevirtual 351, 3) := dk_182 1 95 (dk_at dksX2_setCost_0 14 rfl rfl)
theorem dX2_setCost_17 : decode cX2_setCost 17 = .ok (.ifCond .eq 12, 3) := dk_153 0 12 (dk_at dksX2_setCost_0 17 rfl rfl)
theorem dX2_setCost_20 : decode cX2_setCost 20 = .ok (.aload_n 0, 1) := dk_42 (dk_at dksX2_setCost_0 20 rfl rfl)
theorem dX2_setCost_21 : decode cX2_setCost 21 = .ok (.invokevirtual 441, 3) := dk_182 1 185 (dk_at dksX2_setCost_0 21 rfl rfl)
theorem dX2_setCost_24 : decode cX2_setCost 24 = .ok (.bipush 10, 2) := dk_16 10 (dk_at dksX2_setCost_1 0 rfl rfl)
theorem dX2_setCost_26 : decode cX2_setCost 26 = .ok (.if_icmp .ge 7, 3) := dk_162 0 7 (dk_at dksX2_setCost_1 2 rfl rfl)
theorem dX2_setCost_29 : decode cX2_setCost 29 = .ok (.iconst 1, 1) := dk_4 (dk_at dksX2_setCost_1 5 rfl rfl)
theorem dX2_setCost_30 : decode cX2_setCost 30 = .ok (.goto 4, 3) := dk_167 0 4 (dk_at dksX2_setCost_1 6 rfl rfl)
theorem dX2_setCost_33 : decode cX2_setCost 33 = .ok (.iconst 0, 1) := dk_3 (dk_at dksX2_setCost_1 9 rfl rfl)
theorem dX2_setCost_34 : decode cX2_setCost 34 = .ok (.istore_n 3, 1) := dk_62 (dk_at dksX2_setCost_1 10 rfl rfl)
theorem dX2_setCost_35 : decode cX2_setCost 35 = .ok (.aload_n 0, 1) := dk_42 (dk_at dksX2_setCost_1 11 rfl rfl)
theorem dX2_setCost_36 : decode cX2_setCost 36 = .ok (.aload_n 0, 1) := dk_42 (dk_at dksX2_setCost_1 12 rfl rfl)
theorem dX2_setCost_37 : decode cX2_setCost 37 = .ok (.iload_n 1, 1) := dk_27 (dk_at dksX2_setCost_1 13 rfl rfl)
theorem dX2_setCost_38 : decode cX2_setCost 38 = .ok (.invokevirtual 295, 3) := dk_182 1 39 (dk_at dksX2_setCost_1 14 rfl rfl)
theorem dX2_setCost_41 : decode cX2_setCost 41 = .ok (.iload_n 2, 1) := dk_28 (dk_at dksX2_setCost_1 17 rfl rfl)
theorem dX2_setCost_42 : decode cX2_setCost 42 = .ok (.iconst 0, 1) := dk_3 (dk_at dksX2_setCost_1 18 rfl rfl)
theorem dX2_setCost_43 : decode cX2_setCost 43 = .ok (.bipush 99, 2) := dk_16 99 (dk_at dksX2_setCost_1 19 rfl rfl)
theorem dX2_setCost_45 : decode cX2_setCost 45 = .ok (.invokestatic 102, 3) := dk_184 0 102 (dk_at dksX2_setCost_1 21 rfl rfl)
theorem dX2_setCost_48 : decode cX2_setCost 48 = .ok (.ifCond .eq 11, 3) := dk_153 0 11 (dk_at dksX2_setCost_2 0 rfl rfl)
theorem dX2_setCost_51 : decode cX2_setCost 51 = .ok (.iload_n 3, 1) := dk_29 (dk_at dksX2_setCost_2 3 rfl rfl)
theorem dX2_setCost_52 : decode cX2_setCost 52 = .ok (.ifCond .eq 7, 3) := dk_153 0 7 (dk_at dksX2_setCost_2 4 rfl rfl)
theorem dX2_setCost_55 : decode cX2_setCost 55 = .ok (.iconst 1, 1) := dk_4 (dk_at dksX2_setCost_2 7 rfl rfl)
theorem dX2_setCost_56 : decode cX2_setCost 56 = .ok (.goto 4, 3) := dk_167 0 4 (dk_at dksX2_setCost_2 8 rfl rfl)
theorem dX2_setCost_59 : decode cX2_setCost 59 = .ok (.iconst 0, 1) := dk_3 (dk_at dksX2_setCost_2 11 rfl rfl)
theorem dX2_setCost_60 : decode cX2_setCost 60 = .ok (.invokevirtual 298, 3) := dk_182 1 42 (dk_at dksX2_setCost_2 12 rfl rfl)
theorem dX2_setCost_63 : decode cX2_setCost 63 = .ok (.ifCond .eq 16, 3) := dk_153 0 16 (dk_at dksX2_setCost_2 15 rfl rfl)
theorem dX2_setCost_66 : decode cX2_setCost 66 = .ok (.aload_n 0, 1) := dk_42 (dk_at dksX2_setCost_2 18 rfl rfl)
theorem dX2_setCost_67 : decode cX2_setCost 67 = .ok (.iload_n 1, 1) := dk_27 (dk_at dksX2_setCost_2 19 rfl rfl)
theorem dX2_setCost_68 : decode cX2_setCost 68 = .ok (.iconst 4, 1) := dk_7 (dk_at dksX2_setCost_2 20 rfl rfl)
theorem dX2_setCost_69 : decode cX2_setCost 69 = .ok (.invokestatic 162, 3) := dk_184 0 162 (dk_at dksX2_setCost_2 21 rfl rfl)
theorem dX2_setCost_72 : decode cX2_setCost 72 = .ok (.iload_n 2, 1) := dk_28 (dk_at dksX2_setCost_3 0 rfl rfl)
theorem dX2_setCost_73 : decode cX2_setCost 73 = .ok (.invokevirtual 438, 3) := dk_182 1 182 (dk_at dksX2_setCost_3 1 rfl rfl)
theorem dX2_setCost_76 : decode cX2_setCost 76 = .ok (.goto 4, 3) := dk_167 0 4 (dk_at dksX2_setCost_3 4 rfl rfl)
theorem dX2_setCost_79 : decode cX2_setCost 79 = .ok (.iconst 0, 1) := dk_3 (dk_at dksX2_setCost_3 7 rfl rfl)
theorem dX2_setCost_80 : decode cX2_setCost 80 = .ok (.ireturn, 1) := dk_172 (dk_at dksX2_setCost_3 8 rfl rfl)
abbrev cX2_softNow : ByteArray := prog_16_method_133_code
def yX2_softNow : MethodName := ⟨RX2, "softNow", "()I"⟩
def dkwX2_softNow_1 : List UInt8 := [167, 0, 4, 4, 96, 60, 132, 2, 1, 167, 255, 229, 27, 172]
abbrev dktX2_softNow_1 : List UInt8 := dkwX2_softNow_1 ++ []
def dkwX2_softNow_0 : List UInt8 := [3, 60, 3, 61, 28, 42, 182, 0, 220, 162, 0, 25, 27, 42, 28, 182, 1, 95, 153, 0, 7, 3]
abbrev dktX2_softNow_0 : List UInt8 := dkwX2_softNow_0 ++ dktX2_softNow_1
theorem dksX2_softNow_0 : cX2_softNow.data.toList.drop 0 = dktX2_softNow_0 := by decide +kernel
theorem dksX2_softNow_1 : cX2_softNow.data.toList.drop 22 = dktX2_softNow_1 := dk_seg dksX2_softNow_0 22 rfl rfl
theorem dX2_softNow_0 : decode cX2_softNow 0 = .ok (.iconst 0, 1) := dk_3 (dk_at dksX2_softNow_0 0 rfl rfl)
theorem dX2_softNow_1 : decode cX2_softNow 1 = .ok (.istore_n 1, 1) := dk_60 (dk_at dksX2_softNow_0 1 rfl rfl)
theorem dX2_softNow_2 : decode cX2_softNow 2 = .ok (.iconst 0, 1) := dk_3 (dk_at dksX2_softNow_0 2 rfl rfl)
theorem dX2_softNow_3 : decode cX2_softNow 3 = .ok (.istore_n 2, 1) := dk_61 (dk_at dksX2_softNow_0 3 rfl rfl)
theorem dX2_softNow_4 : decode cX2_softNow 4 = .ok (.iload_n 2, 1) := dk_28 (dk_at dksX2_softNow_0 4 rfl rfl)
theorem dX2_softNow_5 : decode cX2_softNow 5 = .ok (.aload_n 0, 1) := dk_42 (dk_at dksX2_softNow_0 5 rfl rfl)
theorem dX2_softNow_6 : decode cX2_softNow 6 = .ok (.invokevirtual 220, 3) := dk_182 0 220 (dk_at dksX2_softNow_0 6 rfl rfl)
theorem dX2_softNow_9 : decode cX2_softNow 9 = .ok (.if_icmp .ge 25, 3) := dk_162 0 25 (dk_at dksX2_softNow_0 9 rfl rfl)
theorem dX2_softNow_12 : decode cX2_softNow 12 = .ok (.iload_n 1, 1) := dk_27 (dk_at dksX2_softNow_0 12 rfl rfl)
theorem dX2_softNow_13 : decode cX2_softNow 13 = .ok (.aload_n 0, 1) := dk_42 (dk_at dksX2_softNow_0 13 rfl rfl)
theorem dX2_softNow_14 : decode cX2_softNow 14 = .ok (.iload_n 2, 1) := dk_28 (dk_at dksX2_softNow_0 14 rfl rfl)
theorem dX2_softNow_15 : decode cX2_softNow 15 = .ok (.invokevirtual 351, 3) := dk_182 1 95 (dk_at dksX2_softNow_0 15 rfl rfl)
theorem dX2_softNow_18 : decode cX2_softNow 18 = .ok (.ifCond .eq 7, 3) := dk_153 0 7 (dk_at dksX2_softNow_0 18 rfl rfl)
theorem dX2_softNow_21 : decode cX2_softNow 21 = .ok (.iconst 0, 1) := dk_3 (dk_at dksX2_softNow_0 21 rfl rfl)
theorem dX2_softNow_22 : decode cX2_softNow 22 = .ok (.goto 4, 3) := dk_167 0 4 (dk_at dksX2_softNow_1 0 rfl rfl)
theorem dX2_softNow_25 : decode cX2_softNow 25 = .ok (.iconst 1, 1) := dk_4 (dk_at dksX2_softNow_1 3 rfl rfl)
theorem dX2_softNow_26 : decode cX2_softNow 26 = .ok (.iadd, 1) := dk_96 (dk_at dksX2_softNow_1 4 rfl rfl)
theorem dX2_softNow_27 : decode cX2_softNow 27 = .ok (.istore_n 1, 1) := dk_60 (dk_at dksX2_softNow_1 5 rfl rfl)
theorem dX2_softNow_28 : decode cX2_softNow 28 = .ok (.iinc 2 1, 3) := dk_132 2 1 (dk_at dksX2_softNow_1 6 rfl rfl)
theorem dX2_softNow_31 : decode cX2_softNow 31 = .ok (.goto (-27), 3) := dk_167 255 229 (dk_at dksX2_softNow_1 9 rfl rfl)
theorem dX2_softNow_34 : decode cX2_softNow 34 = .ok (.iload_n 1, 1) := dk_27 (dk_at dksX2_softNow_1 12 rfl rfl)
theorem dX2_softNow_35 : decode cX2_softNow 35 = .ok (.ireturn, 1) := dk_172 (dk_at dksX2_softNow_1 13 rfl rfl)
abbrev cX2_turn : ByteArray := prog_16_method_135_code
def yX2_turn : MethodName := ⟨RX2, "turn", "(I)Z"⟩
def dkwX2_turn_1 : List UInt8 := [182, 0, 214, 100, 182, 1, 182, 154, 0, 7, 4, 167, 0, 4, 3, 172]
abbrev dktX2_turn_1 : List UInt8 := dkwX2_turn_1 ++ []
def dkwX2_turn_0 : List UInt8 := [42, 42, 27, 182, 1, 39, 182, 1, 35, 154, 0, 5, 3, 172, 42, 27, 8, 184, 0, 162, 4, 42, 27, 8]
abbrev dktX2_turn_0 : List UInt8 := dkwX2_turn_0 ++ dktX2_turn_1
theorem dksX2_turn_0 : cX2_turn.data.toList.drop 0 = dktX2_turn_0 := by decide +kernel
theorem dksX2_turn_1 : cX2_turn.data.toList.drop 24 = dktX2_turn_1 := dk_seg dksX2_turn_0 24 rfl rfl
theorem dX2_turn_0 : decode cX2_turn 0 = .ok (.aload_n 0, 1) := dk_42 (dk_at dksX2_turn_0 0 rfl rfl)
theorem dX2_turn_1 : decode cX2_turn 1 = .ok (.aload_n 0, 1) := dk_42 (dk_at dksX2_turn_0 1 rfl rfl)
theorem dX2_turn_2 : decode cX2_turn 2 = .ok (.iload_n 1, 1) := dk_27 (dk_at dksX2_turn_0 2 rfl rfl)
theorem dX2_turn_3 : decode cX2_turn 3 = .ok (.invokevirtual 295, 3) := dk_182 1 39 (dk_at dksX2_turn_0 3 rfl rfl)
theorem dX2_turn_6 : decode cX2_turn 6 = .ok (.invokevirtual 291, 3) := dk_182 1 35 (dk_at dksX2_turn_0 6 rfl rfl)
theorem dX2_turn_9 : decode cX2_turn 9 = .ok (.ifCond .ne 5, 3) := dk_154 0 5 (dk_at dksX2_turn_0 9 rfl rfl)
theorem dX2_turn_12 : decode cX2_turn 12 = .ok (.iconst 0, 1) := dk_3 (dk_at dksX2_turn_0 12 rfl rfl)
theorem dX2_turn_13 : decode cX2_turn 13 = .ok (.ireturn, 1) := dk_172 (dk_at dksX2_turn_0 13 rfl rfl)
theorem dX2_turn_14 : decode cX2_turn 14 = .ok (.aload_n 0, 1) := dk_42 (dk_at dksX2_turn_0 14 rfl rfl)
theorem dX2_turn_15 : decode cX2_turn 15 = .ok (.iload_n 1, 1) := dk_27 (dk_at dksX2_turn_0 15 rfl rfl)
theorem dX2_turn_16 : decode cX2_turn 16 = .ok (.iconst 5, 1) := dk_8 (dk_at dksX2_turn_0 16 rfl rfl)
theorem dX2_turn_17 : decode cX2_turn 17 = .ok (.invokestatic 162, 3) := dk_184 0 162 (dk_at dksX2_turn_0 17 rfl rfl)
theorem dX2_turn_20 : decode cX2_turn 20 = .ok (.iconst 1, 1) := dk_4 (dk_at dksX2_turn_0 20 rfl rfl)
theorem dX2_turn_21 : decode cX2_turn 21 = .ok (.aload_n 0, 1) := dk_42 (dk_at dksX2_turn_0 21 rfl rfl)
theorem dX2_turn_22 : decode cX2_turn 22 = .ok (.iload_n 1, 1) := dk_27 (dk_at dksX2_turn_0 22 rfl rfl)
theorem dX2_turn_23 : decode cX2_turn 23 = .ok (.iconst 5, 1) := dk_8 (dk_at dksX2_turn_0 23 rfl rfl)
theorem dX2_turn_24 : decode cX2_turn 24 = .ok (.invokevirtual 214, 3) := dk_182 0 214 (dk_at dksX2_turn_1 0 rfl rfl)
theorem dX2_turn_27 : decode cX2_turn 27 = .ok (.isub, 1) := dk_100 (dk_at dksX2_turn_1 3 rfl rfl)
theorem dX2_turn_28 : decode cX2_turn 28 = .ok (.invokevirtual 438, 3) := dk_182 1 182 (dk_at dksX2_turn_1 4 rfl rfl)
theorem dX2_turn_31 : decode cX2_turn 31 = .ok (.ifCond .ne 7, 3) := dk_154 0 7 (dk_at dksX2_turn_1 7 rfl rfl)
theorem dX2_turn_34 : decode cX2_turn 34 = .ok (.iconst 1, 1) := dk_4 (dk_at dksX2_turn_1 10 rfl rfl)
theorem dX2_turn_35 : decode cX2_turn 35 = .ok (.goto 4, 3) := dk_167 0 4 (dk_at dksX2_turn_1 11 rfl rfl)
theorem dX2_turn_38 : decode cX2_turn 38 = .ok (.iconst 0, 1) := dk_3 (dk_at dksX2_turn_1 14 rfl rfl)
theorem dX2_turn_39 : decode cX2_turn 39 = .ok (.ireturn, 1) := dk_172 (dk_at dksX2_turn_1 15 rfl rfl)
abbrev cX2_addWindow : ByteArray := prog_16_method_136_code
def yX2_addWindow : MethodName := ⟨RX2, "addWindow", "(IIII)I"⟩
def dkwX2_addWindow_2 : List UInt8 := [182, 1, 176, 42, 27, 28, 29, 21, 4, 3, 182, 0, 158, 172]
abbrev dktX2_addWindow_2 : List UInt8 := dkwX2_addWindow_2 ++ []
def dkwX2_addWindow_1 : List UInt8 := [167, 0, 4, 3, 54, 5, 42, 42, 27, 28, 182, 1, 55, 21, 5, 182, 1, 42, 154, 0, 5, 3, 172, 42]
abbrev dktX2_addWindow_1 : List UInt8 := dkwX2_addWindow_1 ++ dktX2_addWindow_2
def dkwX2_addWindow_0 : List UInt8 := [27, 28, 159, 0, 25, 29, 21, 4, 184, 1, 179, 153, 0, 16, 42, 182, 0, 220, 16, 24, 162, 0, 7, 4]
abbrev dktX2_addWindow_0 : List UInt8 := dkwX2_addWindow_0 ++ dktX2_addWindow_1
theorem dksX2_addWindow_0 : cX2_addWindow.data.toList.drop 0 = dktX2_addWindow_0 := by decide +kernel
theorem dksX2_addWindow_1 : cX2_addWindow.data.toList.drop 24 = dktX2_addWindow_1 := dk_seg dksX2_addWindow_0 24 rfl rfl
theorem dksX2_addWindow_2 : cX2_addWindow.data.toList.drop 48 = dktX2_addWindow_2 := dk_seg dksX2_addWindow_1 24 rfl rfl
theorem dX2_addWindow_0 : decode cX2_addWindow 0 = .ok (.iload_n 1, 1) := dk_27 (dk_at dksX2_addWindow_0 0 rfl rfl)
theorem dX2_addWindow_1 : decode cX2_addWindow 1 = .ok (.iload_n 2, 1) := dk_28 (dk_at dksX2_addWindow_0 1 rfl rfl)
theorem dX2_addWindow_2 : decode cX2_addWindow 2 = .ok (.if_icmp .eq 25, 3) := dk_159 0 25 (dk_at dksX2_addWindow_0 2 rfl rfl)
theorem dX2_addWindow_5 : decode cX2_addWindow 5 = .ok (.iload_n 3, 1) := dk_29 (dk_at dksX2_addWindow_0 5 rfl rfl)
theorem dX2_addWindow_6 : decode cX2_addWindow 6 = .ok (.iload 4, 2) := dk_21 4 (dk_at dksX2_addWindow_0 6 rfl rfl)
theorem dX2_addWindow_8 : decode cX2_addWindow 8 = .ok (.invokestatic 435, 3) := dk_184 1 179 (dk_at dksX2_addWindow_0 8 rfl rfl)
theorem dX2_addWindow_11 : decode cX2_addWindow 11 = .ok (.ifCond .eq 16, 3) := dk_153 0 16 (dk_at dksX2_addWindow_0 11 rfl rfl)
theorem dX2_addWindow_14 : decode cX2_addWindow 14 = .ok (.aload_n 0, 1) := dk_42 (dk_at dksX2_addWindow_0 14 rfl rfl)
theorem dX2_addWindow_15 : decode cX2_addWindow 15 = .ok (.invokevirtual 220, 3) := dk_182 0 220 (dk_at dksX2_addWindow_0 15 rfl rfl)
theorem dX2_addWindow_18 : decode cX2_addWindow 18 = .ok (.bipush 24, 2) := dk_16 24 (dk_at dksX2_addWindow_0 18 rfl rfl)
theorem dX2_addWindow_20 : decode cX2_addWindow 20 = .ok (.if_icmp .ge 7, 3) := dk_162 0 7 (dk_at dksX2_addWindow_0 20 rfl rfl)
theorem dX2_addWindow_23 : decode cX2_addWindow 23 = .ok (.iconst 1, 1) := dk_4 (dk_at dksX2_addWindow_0 23 rfl rfl)
theorem dX2_addWindow_24 : decode cX2_addWindow 24 = .ok (.goto 4, 3) := dk_167 0 4 (dk_at dksX2_addWindow_1 0 rfl rfl)
theorem dX2_addWindow_27 : decode cX2_addWindow 27 = .ok (.iconst 0, 1) := dk_3 (dk_at dksX2_addWindow_1 3 rfl rfl)
theorem dX2_addWindow_28 : decode cX2_addWindow 28 = .ok (.istore 5, 2) := dk_54 5 (dk_at dksX2_addWindow_1 4 rfl rfl)
theorem dX2_addWindow_30 : decode cX2_addWindow 30 = .ok (.aload_n 0, 1) := dk_42 (dk_at dksX2_addWindow_1 6 rfl rfl)
theorem dX2_addWindow_31 : decode cX2_addWindow 31 = .ok (.aload_n 0, 1) := dk_42 (dk_at dksX2_addWindow_1 7 rfl rfl)
theorem dX2_addWindow_32 : decode cX2_addWindow 32 = .ok (.iload_n 1, 1) := dk_27 (dk_at dksX2_addWindow_1 8 rfl rfl)
theorem dX2_addWindow_33 : decode cX2_addWindow 33 = .ok (.iload_n 2, 1) := dk_28 (dk_at dksX2_addWindow_1 9 rfl rfl)
theorem dX2_addWindow_34 : decode cX2_addWindow 34 = .ok (.invokevirtual 311, 3) := dk_182 1 55 (dk_at dksX2_addWindow_1 10 rfl rfl)
theorem dX2_addWindow_37 : decode cX2_addWindow 37 = .ok (.iload 5, 2) := dk_21 5 (dk_at dksX2_addWindow_1 13 rfl rfl)
theorem dX2_addWindow_39 : decode cX2_addWindow 39 = .ok (.invokevirtual 298, 3) := dk_182 1 42 (dk_at dksX2_addWindow_1 15 rfl rfl)
theorem dX2_addWindow_42 : decode cX2_addWindow 42 = .ok (.ifCond .ne 5, 3) := dk_154 0 5 (dk_at dksX2_addWindow_1 18 rfl rfl)
theorem dX2_addWindow_45 : decode cX2_addWindow 45 = .ok (.iconst 0, 1) := dk_3 (dk_at dksX2_addWindow_1 21 rfl rfl)
theorem dX2_addWindow_46 : decode cX2_addWindow 46 = .ok (.ireturn, 1) := dk_172 (dk_at dksX2_addWindow_1 22 rfl rfl)
theorem dX2_addWindow_47 : decode cX2_addWindow 47 = .ok (.aload_n 0, 1) := dk_42 (dk_at dksX2_addWindow_1 23 rfl rfl)
theorem dX2_addWindow_48 : decode cX2_addWindow 48 = .ok (.invokevirtual 432, 3) := dk_182 1 176 (dk_at dksX2_addWindow_2 0 rfl rfl)
theorem dX2_addWindow_51 : decode cX2_addWindow 51 = .ok (.aload_n 0, 1) := dk_42 (dk_at dksX2_addWindow_2 3 rfl rfl)
theorem dX2_addWindow_52 : decode cX2_addWindow 52 = .ok (.iload_n 1, 1) := dk_27 (dk_at dksX2_addWindow_2 4 rfl rfl)
theorem dX2_addWindow_53 : decode cX2_addWindow 53 = .ok (.iload_n 2, 1) := dk_28 (dk_at dksX2_addWindow_2 5 rfl rfl)
theorem dX2_addWindow_54 : decode cX2_addWindow 54 = .ok (.iload_n 3, 1) := dk_29 (dk_at dksX2_addWindow_2 6 rfl rfl)
theorem dX2_addWindow_55 : decode cX2_addWindow 55 = .ok (.iload 4, 2) := dk_21 4 (dk_at dksX2_addWindow_2 7 rfl rfl)
theorem dX2_addWindow_57 : decode cX2_addWindow 57 = .ok (.iconst 0, 1) := dk_3 (dk_at dksX2_addWindow_2 9 rfl rfl)
theorem dX2_addWindow_58 : decode cX2_addWindow 58 = .ok (.invokevirtual 158, 3) := dk_182 0 158 (dk_at dksX2_addWindow_2 10 rfl rfl)
theorem dX2_addWindow_61 : decode cX2_addWindow 61 = .ok (.ireturn, 1) := dk_172 (dk_at dksX2_addWindow_2 13 rfl rfl)
abbrev cX2_fix : ByteArray := prog_16_method_138_code
def yX2_fix : MethodName := ⟨RX2, "fix", "(II)I"⟩
def dkwX2_fix_3 : List UInt8 := [21, 4, 172]
abbrev dktX2_fix_3 : List UInt8 := dkwX2_fix_3 ++ []
def dkwX2_fix_2 : List UInt8 := [154, 0, 5, 3, 172, 42, 27, 182, 1, 67, 54, 4, 42, 17, 0, 146, 27, 96, 28, 182, 1, 182, 54, 5]
abbrev dktX2_fix_2 : List UInt8 := dkwX2_fix_2 ++ dktX2_fix_3
def dkwX2_fix_1 : List UInt8 := [28, 182, 1, 188, 153, 0, 7, 4, 167, 0, 4, 3, 62, 42, 42, 27, 182, 1, 32, 29, 182, 1, 142]
abbrev dktX2_fix_1 : List UInt8 := dkwX2_fix_1 ++ dktX2_fix_2
def dkwX2_fix_0 : List UInt8 := [42, 180, 0, 207, 153, 0, 31, 42, 182, 1, 20, 153, 0, 24, 42, 27, 182, 1, 32, 153, 0, 16, 42, 27]
abbrev dktX2_fix_0 : List UInt8 := dkwX2_fix_0 ++ dktX2_fix_1
theorem dksX2_fix_0 : cX2_fix.data.toList.drop 0 = dktX2_fix_0 := by decide +kernel
theorem dksX2_fix_1 : cX2_fix.data.toList.drop 24 = dktX2_fix_1 := dk_seg dksX2_fix_0 24 rfl rfl
theorem dksX2_fix_2 : cX2_fix.data.toList.drop 47 = dktX2_fix_2 := dk_seg dksX2_fix_1 23 rfl rfl
theorem dksX2_fix_3 : cX2_fix.data.toList.drop 71 = dktX2_fix_3 := dk_seg dksX2_fix_2 24 rfl rfl
theorem dX2_fix_0 : decode cX2_fix 0 = .ok (.aload_n 0, 1) := dk_42 (dk_at dksX2_fix_0 0 rfl rfl)
theorem dX2_fix_1 : decode cX2_fix 1 = .ok (.getfield 207, 3) := dk_180 0 207 (dk_at dksX2_fix_0 1 rfl rfl)
theorem dX2_fix_4 : decode cX2_fix 4 = .ok (.ifCond .eq 31, 3) := dk_153 0 31 (dk_at dksX2_fix_0 4 rfl rfl)
theorem dX2_fix_7 : decode cX2_fix 7 = .ok (.aload_n 0, 1) := dk_42 (dk_at dksX2_fix_0 7 rfl rfl)
theorem dX2_fix_8 : decode cX2_fix 8 = .ok (.invokevirtual 276, 3) := dk_182 1 20 (dk_at dksX2_fix_0 8 rfl rfl)
theorem dX2_fix_11 : decode cX2_fix 11 = .ok (.ifCond .eq 24, 3) := dk_153 0 24 (dk_at dksX2_fix_0 11 rfl rfl)
theorem dX2_fix_14 : decode cX2_fix 14 = .ok (.aload_n 0, 1) := dk_42 (dk_at dksX2_fix_0 14 rfl rfl)
theorem dX2_fix_15 : decode cX2_fix 15 = .ok (.iload_n 1, 1) := dk_27 (dk_at dksX2_fix_0 15 rfl rfl)
theorem dX2_fix_16 : decode cX2_fix 16 = .ok (.invokevirtual 288, 3) := dk_182 1 32 (dk_at dksX2_fix_0 16 rfl rfl)
theorem dX2_fix_19 : decode cX2_fix 19 = .ok (.ifCond .eq 16, 3) := dk_153 0 16 (dk_at dksX2_fix_0 19 rfl rfl)
theorem dX2_fix_22 : decode cX2_fix 22 = .ok (.aload_n 0, 1) := dk_42 (dk_at dksX2_fix_0 22 rfl rfl)
theorem dX2_fix_23 : decode cX2_fix 23 = .ok (.iload_n 1, 1) := dk_27 (dk_at dksX2_fix_0 23 rfl rfl)
theorem dX2_fix_24 : decode cX2_fix 24 = .ok (.iload_n 2, 1) := dk_28 (dk_at dksX2_fix_1 0 rfl rfl)
theorem dX2_fix_25 : decode cX2_fix 25 = .ok (.invokevirtual 444, 3) := dk_182 1 188 (dk_at dksX2_fix_1 1 rfl rfl)
theorem dX2_fix_28 : decode cX2_fix 28 = .ok (.ifCond .eq 7, 3) := dk_153 0 7 (dk_at dksX2_fix_1 4 rfl rfl)
theorem dX2_fix_31 : decode cX2_fix 31 = .ok (.iconst 1, 1) := dk_4 (dk_at dksX2_fix_1 7 rfl rfl)
theorem dX2_fix_32 : decode cX2_fix 32 = .ok (.goto 4, 3) := dk_167 0 4 (dk_at dksX2_fix_1 8 rfl rfl)
theorem dX2_fix_35 : decode cX2_fix 35 = .ok (.iconst 0, 1) := dk_3 (dk_at dksX2_fix_1 11 rfl rfl)
theorem dX2_fix_36 : decode cX2_fix 36 = .ok (.istore_n 3, 1) := dk_62 (dk_at dksX2_fix_1 12 rfl rfl)
theorem dX2_fix_37 : decode cX2_fix 37 = .ok (.aload_n 0, 1) := dk_42 (dk_at dksX2_fix_1 13 rfl rfl)
theorem dX2_fix_38 : decode cX2_fix 38 = .ok (.aload_n 0, 1) := dk_42 (dk_at dksX2_fix_1 14 rfl rfl)
theorem dX2_fix_39 : decode cX2_fix 39 = .ok (.iload_n 1, 1) := dk_27 (dk_at dksX2_fix_1 15 rfl rfl)
theorem dX2_fix_40 : decode cX2_fix 40 = .ok (.invokevirtual 288, 3) := dk_182 1 32 (dk_at dksX2_fix_1 16 rfl rfl)
theorem dX2_fix_43 : decode cX2_fix 43 = .ok (.iload_n 3, 1) := dk_29 (dk_at dksX2_fix_1 19 rfl rfl)
theorem dX2_fix_44 : decode cX2_fix 44 = .ok (.invokevirtual 398, 3) := dk_182 1 142 (dk_at dksX2_fix_1 20 rfl rfl)
theorem dX2_fix_47 : decode cX2_fix 47 = .ok (.ifCond .ne 5, 3) := dk_154 0 5 (dk_at dksX2_fix_2 0 rfl rfl)
theorem dX2_fix_50 : decode cX2_fix 50 = .ok (.iconst 0, 1) := dk_3 (dk_at dksX2_fix_2 3 rfl rfl)
theorem dX2_fix_51 : decode cX2_fix 51 = .ok (.ireturn, 1) := dk_172 (dk_at dksX2_fix_2 4 rfl rfl)
theorem dX2_fix_52 : decode cX2_fix 52 = .ok (.aload_n 0, 1) := dk_42 (dk_at dksX2_fix_2 5 rfl rfl)
theorem dX2_fix_53 : decode cX2_fix 53 = .ok (.iload_n 1, 1) := dk_27 (dk_at dksX2_fix_2 6 rfl rfl)
theorem dX2_fix_54 : decode cX2_fix 54 = .ok (.invokevirtual 323, 3) := dk_182 1 67 (dk_at dksX2_fix_2 7 rfl rfl)
theorem dX2_fix_57 : decode cX2_fix 57 = .ok (.istore 4, 2) := dk_54 4 (dk_at dksX2_fix_2 10 rfl rfl)
theorem dX2_fix_59 : decode cX2_fix 59 = .ok (.aload_n 0, 1) := dk_42 (dk_at dksX2_fix_2 12 rfl rfl)
theorem dX2_fix_60 : decode cX2_fix 60 = .ok (.sipush 146, 3) := dk_17 0 146 (dk_at dksX2_fix_2 13 rfl rfl)
theorem dX2_fix_63 : decode cX2_fix 63 = .ok (.iload_n 1, 1) := dk_27 (dk_at dksX2_fix_2 16 rfl rfl)
theorem dX2_fix_64 : decode cX2_fix 64 = .ok (.iadd, 1) := dk_96 (dk_at dksX2_fix_2 17 rfl rfl)
theorem dX2_fix_65 : decode cX2_fix 65 = .ok (.iload_n 2, 1) := dk_28 (dk_at dksX2_fix_2 18 rfl rfl)
theorem dX2_fix_66 : decode cX2_fix 66 = .ok (.invokevirtual 438, 3) := dk_182 1 182 (dk_at dksX2_fix_2 19 rfl rfl)
theorem dX2_fix_69 : decode cX2_fix 69 = .ok (.istore 5, 2) := dk_54 5 (dk_at dksX2_fix_2 22 rfl rfl)
theorem dX2_fix_71 : decode cX2_fix 71 = .ok (.iload 4, 2) := dk_21 4 (dk_at dksX2_fix_3 0 rfl rfl)
theorem dX2_fix_73 : decode cX2_fix 73 = .ok (.ireturn, 1) := dk_172 (dk_at dksX2_fix_3 2 rfl rfl)
abbrev cX2_canBeAt : ByteArray := prog_16_method_137_code
def yX2_canBeAt : MethodName := ⟨RX2, "canBeAt", "(II)Z"⟩
def dkwX2_canBeAt_2 : List UInt8 := [163, 0, 7, 4, 167, 0, 4, 3, 172]
abbrev dktX2_canBeAt_2 : List UInt8 := dkwX2_canBeAt_2 ++ []
def dkwX2_canBeAt_1 : List UInt8 := [184, 0, 102, 154, 0, 5, 3, 172, 42, 27, 182, 1, 49, 2, 159, 0, 12, 28, 42, 27, 182, 1, 49]
abbrev dktX2_canBeAt_1 : List UInt8 := dkwX2_canBeAt_1 ++ dktX2_canBeAt_2
def dkwX2_canBeAt_0 : List UInt8 := [42, 180, 0, 23, 17, 0, 146, 27, 96, 46, 2, 160, 0, 18, 28, 42, 27, 182, 1, 52, 17, 3, 231]
abbrev dktX2_canBeAt_0 : List UInt8 := dkwX2_canBeAt_0 ++ dktX2_canBeAt_1
theorem dksX2_canBeAt_0 : cX2_canBeAt.data.toList.drop 0 = dktX2_canBeAt_0 := by decide +kernel
theorem dksX2_canBeAt_1 : cX2_canBeAt.data.toList.drop 23 = dktX2_canBeAt_1 := dk_seg dksX2_canBeAt_0 23 rfl rfl
theorem dksX2_canBeAt_2 : cX2_canBeAt.data.toList.drop 46 = dktX2_canBeAt_2 := dk_seg dksX2_canBeAt_1 23 rfl rfl
theorem dX2_canBeAt_0 : decode cX2_canBeAt 0 = .ok (.aload_n 0, 1) := dk_42 (dk_at dksX2_canBeAt_0 0 rfl rfl)
theorem dX2_canBeAt_1 : decode cX2_canBeAt 1 = .ok (.getfield 23, 3) := dk_180 0 23 (dk_at dksX2_canBeAt_0 1 rfl rfl)
theorem dX2_canBeAt_4 : decode cX2_canBeAt 4 = .ok (.sipush 146, 3) := dk_17 0 146 (dk_at dksX2_canBeAt_0 4 rfl rfl)
theorem dX2_canBeAt_7 : decode cX2_canBeAt 7 = .ok (.iload_n 1, 1) := dk_27 (dk_at dksX2_canBeAt_0 7 rfl rfl)
theorem dX2_canBeAt_8 : decode cX2_canBeAt 8 = .ok (.iadd, 1) := dk_96 (dk_at dksX2_canBeAt_0 8 rfl rfl)
theorem dX2_canBeAt_9 : decode cX2_canBeAt 9 = .ok (.iaload, 1) := dk_46 (dk_at dksX2_canBeAt_0 9 rfl rfl)
theorem dX2_canBeAt_10 : decode cX2_canBeAt 10 = .ok (.iconst (-1), 1) := dk_2 (dk_at dksX2_canBeAt_0 10 rfl rfl)
theorem dX2_canBeAt_11 : decode cX2_canBeAt 11 = .ok (.if_icmp .ne 18, 3) := dk_160 0 18 (dk_at dksX2_canBeAt_0 11 rfl rfl)
theorem dX2_canBeAt_14 : decode cX2_canBeAt 14 = .ok (.iload_n 2, 1) := dk_28 (dk_at dksX2_canBeAt_0 14 rfl rfl)
theorem dX2_canBeAt_15 : decode cX2_canBeAt 15 = .ok (.aload_n 0, 1) := dk_42 (dk_at dksX2_canBeAt_0 15 rfl rfl)
theorem dX2_canBeAt_16 : decode cX2_canBeAt 16 = .ok (.iload_n 1, 1) := dk_27 (dk_at dksX2_canBeAt_0 16 rfl rfl)
theorem dX2_canBeAt_17 : decode cX2_canBeAt 17 = .ok (.invokevirtual 308, 3) := dk_182 1 52 (dk_at dksX2_canBeAt_0 17 rfl rfl)
theorem dX2_canBeAt_20 : decode cX2_canBeAt 20 = .ok (.sipush 999, 3) := dk_17 3 231 (dk_at dksX2_canBeAt_0 20 rfl rfl)
theorem dX2_canBeAt_23 : decode cX2_canBeAt 23 = .ok (.invokestatic 102, 3) := dk_184 0 102 (dk_at dksX2_canBeAt_1 0 rfl rfl)
theorem dX2_canBeAt_26 : decode cX2_canBeAt 26 = .ok (.ifCond .ne 5, 3) := dk_154 0 5 (dk_at dksX2_canBeAt_1 3 rfl rfl)
theorem dX2_canBeAt_29 : decode cX2_canBeAt 29 = .ok (.iconst 0, 1) := dk_3 (dk_at dksX2_canBeAt_1 6 rfl rfl)
theorem dX2_canBeAt_30 : decode cX2_canBeAt 30 = .ok (.ireturn, 1) := dk_172 (dk_at dksX2_canBeAt_1 7 rfl rfl)
theorem dX2_canBeAt_31 : decode cX2_canBeAt 31 = .ok (.aload_n 0, 1) := dk_42 (dk_at dksX2_canBeAt_1 8 rfl rfl)
theorem dX2_canBeAt_32 : decode cX2_canBeAt 32 = .ok (.iload_n 1, 1) := dk_27 (dk_at dksX2_canBeAt_1 9 rfl rfl)
theorem dX2_canBeAt_33 : decode cX2_canBeAt 33 = .ok (.invokevirtual 305, 3) := dk_182 1 49 (dk_at dksX2_canBeAt_1 10 rfl rfl)
theorem dX2_canBeAt_36 : decode cX2_canBeAt 36 = .ok (.iconst (-1), 1) := dk_2 (dk_at dksX2_canBeAt_1 13 rfl rfl)
theorem dX2_canBeAt_37 : decode cX2_canBeAt 37 = .ok (.if_icmp .eq 12, 3) := dk_159 0 12 (dk_at dksX2_canBeAt_1 14 rfl rfl)
theorem dX2_canBeAt_40 : decode cX2_canBeAt 40 = .ok (.iload_n 2, 1) := dk_28 (dk_at dksX2_canBeAt_1 17 rfl rfl)
theorem dX2_canBeAt_41 : decode cX2_canBeAt 41 = .ok (.aload_n 0, 1) := dk_42 (dk_at dksX2_canBeAt_1 18 rfl rfl)
theorem dX2_canBeAt_42 : decode cX2_canBeAt 42 = .ok (.iload_n 1, 1) := dk_27 (dk_at dksX2_canBeAt_1 19 rfl rfl)
theorem dX2_canBeAt_43 : decode cX2_canBeAt 43 = .ok (.invokevirtual 305, 3) := dk_182 1 49 (dk_at dksX2_canBeAt_1 20 rfl rfl)
theorem dX2_canBeAt_46 : decode cX2_canBeAt 46 = .ok (.if_icmp .gt 7, 3) := dk_163 0 7 (dk_at dksX2_canBeAt_2 0 rfl rfl)
theorem dX2_canBeAt_49 : decode cX2_canBeAt 49 = .ok (.iconst 1, 1) := dk_4 (dk_at dksX2_canBeAt_2 3 rfl rfl)
theorem dX2_canBeAt_50 : decode cX2_canBeAt 50 = .ok (.goto 4, 3) := dk_167 0 4 (dk_at dksX2_canBeAt_2 4 rfl rfl)
theorem dX2_canBeAt_53 : decode cX2_canBeAt 53 = .ok (.iconst 0, 1) := dk_3 (dk_at dksX2_canBeAt_2 7 rfl rfl)
theorem dX2_canBeAt_54 : decode cX2_canBeAt 54 = .ok (.ireturn, 1) := dk_172 (dk_at dksX2_canBeAt_2 8 rfl rfl)
abbrev cX2_free : ByteArray := prog_16_method_139_code
def yX2_free : MethodName := ⟨RX2, "free", "(I)I"⟩
def dkwX2_free_2 : List UInt8 := [17, 0, 146, 27, 96, 2, 182, 1, 182, 167, 0, 4, 3, 172]
abbrev dktX2_free_2 : List UInt8 := dkwX2_free_2 ++ []
def dkwX2_free_1 : List UInt8 := [17, 0, 146, 27, 96, 46, 2, 159, 0, 7, 4, 167, 0, 4, 3, 182, 1, 42, 153, 0, 16, 42]
abbrev dktX2_free_1 : List UInt8 := dkwX2_free_1 ++ dktX2_free_2
def dkwX2_free_0 : List UInt8 := [42, 42, 27, 182, 1, 32, 27, 158, 0, 29, 42, 27, 182, 1, 32, 153, 0, 21, 42, 180, 0, 23]
abbrev dktX2_free_0 : List UInt8 := dkwX2_free_0 ++ dktX2_free_1
theorem dksX2_free_0 : cX2_free.data.toList.drop 0 = dktX2_free_0 := by decide +kernel
theorem dksX2_free_1 : cX2_free.data.toList.drop 22 = dktX2_free_1 := dk_seg dksX2_free_0 22 rfl rfl
theorem dksX2_free_2 : cX2_free.data.toList.drop 44 = dktX2_free_2 := dk_seg dksX2_free_1 22 rfl rfl
theorem dX2_free_0 : decode cX2_free 0 = .ok (.aload_n 0, 1) := dk_42 (dk_at dksX2_free_0 0 rfl rfl)
theorem dX2_free_1 : decode cX2_free 1 = .ok (.aload_n 0, 1) := dk_42 (dk_at dksX2_free_0 1 rfl rfl)
theorem dX2_free_2 : decode cX2_free 2 = .ok (.iload_n 1, 1) := dk_27 (dk_at dksX2_free_0 2 rfl rfl)
theorem dX2_free_3 : decode cX2_free 3 = .ok (.invokevirtual 288, 3) := dk_182 1 32 (dk_at dksX2_free_0 3 rfl rfl)
theorem dX2_free_6 : decode cX2_free 6 = .ok (.iload_n 1, 1) := dk_27 (dk_at dksX2_free_0 6 rfl rfl)
theorem dX2_free_7 : decode cX2_free 7 = .ok (.ifCond .le 29, 3) := dk_158 0 29 (dk_at dksX2_free_0 7 rfl rfl)
theorem dX2_free_10 : decode cX2_free 10 = .ok (.aload_n 0, 1) := dk_42 (dk_at dksX2_free_0 10 rfl rfl)
theorem dX2_free_11 : decode cX2_free 11 = .ok (.iload_n 1, 1) := dk_27 (dk_at dksX2_free_0 11 rfl rfl)
theorem dX2_free_12 : decode cX2_free 12 = .ok (.invokevirtual 288, 3) := dk_182 1 32 (dk_at dksX2_free_0 12 rfl rfl)
theorem dX2_free_15 : decode cX2_free 15 = .ok (.ifCond .eq 21, 3) := dk_153 0 21 (dk_at dksX2_free_0 15 rfl rfl)
theorem dX2_free_18 : decode cX2_free 18 = .ok (.aload_n 0, 1) := dk_42 (dk_at dksX2_free_0 18 rfl rfl)
theorem dX2_free_19 : decode cX2_free 19 = .ok (.getfield 23, 3) := dk_180 0 23 (dk_at dksX2_free_0 19 rfl rfl)
theorem dX2_free_22 : decode cX2_free 22 = .ok (.sipush 146, 3) := dk_17 0 146 (dk_at dksX2_free_1 0 rfl rfl)
theorem dX2_free_25 : decode cX2_free 25 = .ok (.iload_n 1, 1) := dk_27 (dk_at dksX2_free_1 3 rfl rfl)
theorem dX2_free_26 : decode cX2_free 26 = .ok (.iadd, 1) := dk_96 (dk_at dksX2_free_1 4 rfl rfl)
theorem dX2_free_27 : decode cX2_free 27 = .ok (.iaload, 1) := dk_46 (dk_at dksX2_free_1 5 rfl rfl)
theorem dX2_free_28 : decode cX2_free 28 = .ok (.iconst (-1), 1) := dk_2 (dk_at dksX2_free_1 6 rfl rfl)
theorem dX2_free_29 : decode cX2_free 29 = .ok (.if_icmp .eq 7, 3) := dk_159 0 7 (dk_at dksX2_free_1 7 rfl rfl)
theorem dX2_free_32 : decode cX2_free 32 = .ok (.iconst 1, 1) := dk_4 (dk_at dksX2_free_1 10 rfl rfl)
theorem dX2_free_33 : decode cX2_free 33 = .ok (.goto 4, 3) := dk_167 0 4 (dk_at dksX2_free_1 11 rfl rfl)
theorem dX2_free_36 : decode cX2_free 36 = .ok (.iconst 0, 1) := dk_3 (dk_at dksX2_free_1 14 rfl rfl)
theorem dX2_free_37 : decode cX2_free 37 = .ok (.invokevirtual 298, 3) := dk_182 1 42 (dk_at dksX2_free_1 15 rfl rfl)
theorem dX2_free_40 : decode cX2_free 40 = .ok (.ifCond .eq 16, 3) := dk_153 0 16 (dk_at dksX2_free_1 18 rfl rfl)
theorem dX2_free_43 : decode cX2_free 43 = .ok (.aload_n 0, 1) := dk_42 (dk_at dksX2_free_1 21 rfl rfl)
theorem dX2_free_44 : decode cX2_free 44 = .ok (.sipush 146, 3) := dk_17 0 146 (dk_at dksX2_free_2 0 rfl rfl)
theorem dX2_free_47 : decode cX2_free 47 = .ok (.iload_n 1, 1) := dk_27 (dk_at dksX2_free_2 3 rfl rfl)
theorem dX2_free_48 : decode cX2_free 48 = .ok (.iadd, 1) := dk_96 (dk_at dksX2_free_2 4 rfl rfl)
theorem dX2_free_49 : decode cX2_free 49 = .ok (.iconst (-1), 1) := dk_2 (dk_at dksX2_free_2 5 rfl rfl)
theorem dX2_free_50 : decode cX2_free 50 = .ok (.invokevirtual 438, 3) := dk_182 1 182 (dk_at dksX2_free_2 6 rfl rfl)
theorem dX2_free_53 : decode cX2_free 53 = .ok (.goto 4, 3) := dk_167 0 4 (dk_at dksX2_free_2 9 rfl rfl)
theorem dX2_free_56 : decode cX2_free 56 = .ok (.iconst 0, 1) := dk_3 (dk_at dksX2_free_2 12 rfl rfl)
theorem dX2_free_57 : decode cX2_free 57 = .ok (.ireturn, 1) := dk_172 (dk_at dksX2_free_2 13 rfl rfl)
abbrev cX2_setDelay : ByteArray := prog_16_method_140_code
def yX2_setDelay : MethodName := ⟨RX2, "setDelay", "(II)I"⟩
def dkwX2_setDelay_1 : List UInt8 := [3, 182, 1, 42, 153, 0, 16, 42, 17, 0, 156, 27, 96, 28, 182, 1, 182, 167, 0, 4, 3, 172]
abbrev dktX2_setDelay_1 : List UInt8 := dkwX2_setDelay_1 ++ []
def dkwX2_setDelay_0 : List UInt8 := [42, 42, 27, 182, 1, 32, 27, 158, 0, 17, 28, 3, 16, 99, 184, 0, 102, 153, 0, 7, 4, 167, 0, 4]
abbrev dktX2_setDelay_0 : List UInt8 := dkwX2_setDelay_0 ++ dktX2_setDelay_1
theorem dksX2_setDelay_0 : cX2_setDelay.data.toList.drop 0 = dktX2_setDelay_0 := by decide +kernel
theorem dksX2_setDelay_1 : cX2_setDelay.data.toList.drop 24 = dktX2_setDelay_1 := dk_seg dksX2_setDelay_0 24 rfl rfl
theorem dX2_setDelay_0 : decode cX2_setDelay 0 = .ok (.aload_n 0, 1) := dk_42 (dk_at dksX2_setDelay_0 0 rfl rfl)
theorem dX2_setDelay_1 : decode cX2_setDelay 1 = .ok (.aload_n 0, 1) := dk_42 (dk_at dksX2_setDelay_0 1 rfl rfl)
theorem dX2_setDelay_2 : decode cX2_setDelay 2 = .ok (.iload_n 1, 1) := dk_27 (dk_at dksX2_setDelay_0 2 rfl rfl)
theorem dX2_setDelay_3 : decode cX2_setDelay 3 = .ok (.invokevirtual 288, 3) := dk_182 1 32 (dk_at dksX2_setDelay_0 3 rfl rfl)
theorem dX2_setDelay_6 : decode cX2_setDelay 6 = .ok (.iload_n 1, 1) := dk_27 (dk_at dksX2_setDelay_0 6 rfl rfl)
theorem dX2_setDelay_7 : decode cX2_setDelay 7 = .ok (.ifCond .le 17, 3) := dk_158 0 17 (dk_at dksX2_setDelay_0 7 rfl rfl)
theorem dX2_setDelay_10 : decode cX2_setDelay 10 = .ok (.iload_n 2, 1) := dk_28 (dk_at dksX2_setDelay_0 10 rfl rfl)
theorem dX2_setDelay_11 : decode cX2_setDelay 11 = .ok (.iconst 0, 1) := dk_3 (dk_at dksX2_setDelay_0 11 rfl rfl)
theorem dX2_setDelay_12 : decode cX2_setDelay 12 = .ok (.bipush 99, 2) := dk_16 99 (dk_at dksX2_setDelay_0 12 rfl rfl)
theorem dX2_setDelay_14 : decode cX2_setDelay 14 = .ok (.invokestatic 102, 3) := dk_184 0 102 (dk_at dksX2_setDelay_0 14 rfl rfl)
theorem dX2_setDelay_17 : decode cX2_setDelay 17 = .ok (.ifCond .eq 7, 3) := dk_153 0 7 (dk_at dksX2_setDelay_0 17 rfl rfl)
theorem dX2_setDelay_20 : decode cX2_setDelay 20 = .ok (.iconst 1, 1) := dk_4 (dk_at dksX2_setDelay_0 20 rfl rfl)
theorem dX2_setDelay_21 : decode cX2_setDelay 21 = .ok (.goto 4, 3) := dk_167 0 4 (dk_at dksX2_setDelay_0 21 rfl rfl)
theorem dX2_setDelay_24 : decode cX2_setDelay 24 = .ok (.iconst 0, 1) := dk_3 (dk_at dksX2_setDelay_1 0 rfl rfl)
theorem dX2_setDelay_25 : decode cX2_setDelay 25 = .ok (.invokevirtual 298, 3) := dk_182 1 42 (dk_at dksX2_setDelay_1 1 rfl rfl)
theorem dX2_setDelay_28 : decode cX2_setDelay 28 = .ok (.ifCond .eq 16, 3) := dk_153 0 16 (dk_at dksX2_setDelay_1 4 rfl rfl)
theorem dX2_setDelay_31 : decode cX2_setDelay 31 = .ok (.aload_n 0, 1) := dk_42 (dk_at dksX2_setDelay_1 7 rfl rfl)
theorem dX2_setDelay_32 : decode cX2_setDelay 32 = .ok (.sipush 156, 3) := dk_17 0 156 (dk_at dksX2_setDelay_1 8 rfl rfl)
theorem dX2_setDelay_35 : decode cX2_setDelay 35 = .ok (.iload_n 1, 1) := dk_27 (dk_at dksX2_setDelay_1 11 rfl rfl)
theorem dX2_setDelay_36 : decode cX2_setDelay 36 = .ok (.iadd, 1) := dk_96 (dk_at dksX2_setDelay_1 12 rfl rfl)
theorem dX2_setDelay_37 : decode cX2_setDelay 37 = .ok (.iload_n 2, 1) := dk_28 (dk_at dksX2_setDelay_1 13 rfl rfl)
theorem dX2_setDelay_38 : decode cX2_setDelay 38 = .ok (.invokevirtual 438, 3) := dk_182 1 182 (dk_at dksX2_setDelay_1 14 rfl rfl)
theorem dX2_setDelay_41 : decode cX2_setDelay 41 = .ok (.goto 4, 3) := dk_167 0 4 (dk_at dksX2_setDelay_1 17 rfl rfl)
theorem dX2_setDelay_44 : decode cX2_setDelay 44 = .ok (.iconst 0, 1) := dk_3 (dk_at dksX2_setDelay_1 20 rfl rfl)
theorem dX2_setDelay_45 : decode cX2_setDelay 45 = .ok (.ireturn, 1) := dk_172 (dk_at dksX2_setDelay_1 21 rfl rfl)
abbrev cX2_setWish : ByteArray := prog_16_method_141_code
def yX2_setWish : MethodName := ⟨RX2, "setWish", "(II)I"⟩
def dkwX2_setWish_2 : List UInt8 := [172]
abbrev dktX2_setWish_2 : List UInt8 := dkwX2_setWish_2 ++ []
def dkwX2_setWish_1 : List UInt8 := [167, 0, 4, 3, 182, 1, 42, 153, 0, 16, 42, 17, 0, 166, 27, 96, 28, 182, 1, 182, 167, 0, 4, 3]
abbrev dktX2_setWish_1 : List UInt8 := dkwX2_setWish_1 ++ dktX2_setWish_2
def dkwX2_setWish_0 : List UInt8 := [42, 42, 27, 182, 1, 32, 27, 158, 0, 18, 28, 2, 17, 3, 231, 184, 0, 102, 153, 0, 7, 4]
abbrev dktX2_setWish_0 : List UInt8 := dkwX2_setWish_0 ++ dktX2_setWish_1
theorem dksX2_setWish_0 : cX2_setWish.data.toList.drop 0 = dktX2_setWish_0 := by decide +kernel
theorem dksX2_setWish_1 : cX2_setWish.data.toList.drop 22 = dktX2_setWish_1 := dk_seg dksX2_setWish_0 22 rfl rfl
theorem dksX2_setWish_2 : cX2_setWish.data.toList.drop 46 = dktX2_setWish_2 := dk_seg dksX2_setWish_1 24 rfl rfl
theorem dX2_setWish_0 : decode cX2_setWish 0 = .ok (.aload_n 0, 1) := dk_42 (dk_at dksX2_setWish_0 0 rfl rfl)
theorem dX2_setWish_1 : decode cX2_setWish 1 = .ok (.aload_n 0, 1) := dk_42 (dk_at dksX2_setWish_0 1 rfl rfl)
theorem dX2_setWish_2 : decode cX2_setWish 2 = .ok (.iload_n 1, 1) := dk_27 (dk_at dksX2_setWish_0 2 rfl rfl)
theorem dX2_setWish_3 : decode cX2_setWish 3 = .ok (.invokevirtual 288, 3) := dk_182 1 32 (dk_at dksX2_setWish_0 3 rfl rfl)
theorem dX2_setWish_6 : decode cX2_setWish 6 = .ok (.iload_n 1, 1) := dk_27 (dk_at dksX2_setWish_0 6 rfl rfl)
theorem dX2_setWish_7 : decode cX2_setWish 7 = .ok (.ifCond .le 18, 3) := dk_158 0 18 (dk_at dksX2_setWish_0 7 rfl rfl)
theorem dX2_setWish_10 : decode cX2_setWish 10 = .ok (.iload_n 2, 1) := dk_28 (dk_at dksX2_setWish_0 10 rfl rfl)
theorem dX2_setWish_11 : decode cX2_setWish 11 = .ok (.iconst (-1), 1) := dk_2 (dk_at dksX2_setWish_0 11 rfl rfl)
theorem dX2_setWish_12 : decode cX2_setWish 12 = .ok (.sipush 999, 3) := dk_17 3 231 (dk_at dksX2_setWish_0 12 rfl rfl)
theorem dX2_setWish_15 : decode cX2_setWish 15 = .ok (.invokestatic 102, 3) := dk_184 0 102 (dk_at dksX2_setWish_0 15 rfl rfl)
theorem dX2_setWish_18 : decode cX2_setWish 18 = .ok (.ifCond .eq 7, 3) := dk_153 0 7 (dk_at dksX2_setWish_0 18 rfl rfl)
theorem dX2_setWish_21 : decode cX2_setWish 21 = .ok (.iconst 1, 1) := dk_4 (dk_at dksX2_setWish_0 21 rfl rfl)
theorem dX2_setWish_22 : decode cX2_setWish 22 = .ok (.goto 4, 3) := dk_167 0 4 (dk_at dksX2_setWish_1 0 rfl rfl)
theorem dX2_setWish_25 : decode cX2_setWish 25 = .ok (.iconst 0, 1) := dk_3 (dk_at dksX2_setWish_1 3 rfl rfl)
theorem dX2_setWish_26 : decode cX2_setWish 26 = .ok (.invokevirtual 298, 3) := dk_182 1 42 (dk_at dksX2_setWish_1 4 rfl rfl)
theorem dX2_setWish_29 : decode cX2_setWish 29 = .ok (.ifCond .eq 16, 3) := dk_153 0 16 (dk_at dksX2_setWish_1 7 rfl rfl)
theorem dX2_setWish_32 : decode cX2_setWish 32 = .ok (.aload_n 0, 1) := dk_42 (dk_at dksX2_setWish_1 10 rfl rfl)
theorem dX2_setWish_33 : decode cX2_setWish 33 = .ok (.sipush 166, 3) := dk_17 0 166 (dk_at dksX2_setWish_1 11 rfl rfl)
theorem dX2_setWish_36 : decode cX2_setWish 36 = .ok (.iload_n 1, 1) := dk_27 (dk_at dksX2_setWish_1 14 rfl rfl)
theorem dX2_setWish_37 : decode cX2_setWish 37 = .ok (.iadd, 1) := dk_96 (dk_at dksX2_setWish_1 15 rfl rfl)
theorem dX2_setWish_38 : decode cX2_setWish 38 = .ok (.iload_n 2, 1) := dk_28 (dk_at dksX2_setWish_1 16 rfl rfl)
theorem dX2_setWish_39 : decode cX2_setWish 39 = .ok (.invokevirtual 438, 3) := dk_182 1 182 (dk_at dksX2_setWish_1 17 rfl rfl)
theorem dX2_setWish_42 : decode cX2_setWish 42 = .ok (.goto 4, 3) := dk_167 0 4 (dk_at dksX2_setWish_1 20 rfl rfl)
theorem dX2_setWish_45 : decode cX2_setWish 45 = .ok (.iconst 0, 1) := dk_3 (dk_at dksX2_setWish_1 23 rfl rfl)
theorem dX2_setWish_46 : decode cX2_setWish 46 = .ok (.ireturn, 1) := dk_172 (dk_at dksX2_setWish_2 0 rfl rfl)
abbrev cX2_tighten : ByteArray := prog_16_method_143_code
def yX2_tighten : MethodName := ⟨RX2, "tighten", "()I"⟩
def dkwX2_tighten_4 : List UInt8 := [132, 2, 1, 167, 255, 178, 27, 172]
abbrev dktX2_tighten_4 : List UInt8 := dkwX2_tighten_4 ++ []
def dkwX2_tighten_3 : List UInt8 := [184, 0, 162, 42, 42, 28, 3, 182, 0, 214, 42, 28, 4, 182, 0, 214, 182, 1, 61, 182, 1, 191, 96, 60]
abbrev dktX2_tighten_3 : List UInt8 := dkwX2_tighten_3 ++ dktX2_tighten_4
def dkwX2_tighten_2 : List UInt8 := [3, 182, 0, 214, 42, 28, 4, 182, 0, 214, 182, 1, 64, 182, 1, 191, 96, 60, 27, 42, 28, 6]
abbrev dktX2_tighten_2 : List UInt8 := dkwX2_tighten_2 ++ dktX2_tighten_3
def dkwX2_tighten_1 : List UInt8 := [162, 0, 76, 42, 28, 182, 0, 223, 153, 0, 6, 167, 0, 59, 27, 42, 28, 5, 184, 0, 162, 42, 42, 28]
abbrev dktX2_tighten_1 : List UInt8 := dkwX2_tighten_1 ++ dktX2_tighten_2
def dkwX2_tighten_0 : List UInt8 := [42, 4, 182, 1, 58, 154, 0, 5, 3, 172, 42, 182, 1, 176, 3, 60, 3, 61, 28, 42, 182, 0, 220]
abbrev dktX2_tighten_0 : List UInt8 := dkwX2_tighten_0 ++ dktX2_tighten_1
theorem dksX2_tighten_0 : cX2_tighten.data.toList.drop 0 = dktX2_tighten_0 := by decide +kernel
theorem dksX2_tighten_1 : cX2_tighten.data.toList.drop 23 = dktX2_tighten_1 := dk_seg dksX2_tighten_0 23 rfl rfl
theorem dksX2_tighten_2 : cX2_tighten.data.toList.drop 47 = dktX2_tighten_2 := dk_seg dksX2_tighten_1 24 rfl rfl
theorem dksX2_tighten_3 : cX2_tighten.data.toList.drop 69 = dktX2_tighten_3 := dk_seg dksX2_tighten_2 22 rfl rfl
theorem dksX2_tighten_4 : cX2_tighten.data.toList.drop 93 = dktX2_tighten_4 := dk_seg dksX2_tighten_3 24 rfl rfl
theorem dX2_tighten_0 : decode cX2_tighten 0 = .ok (.aload_n 0, 1) := dk_42 (dk_at dksX2_tighten_0 0 rfl rfl)
theorem dX2_tighten_1 : decode cX2_tighten 1 = .ok (.iconst 1, 1) := dk_4 (dk_at dksX2_tighten_0 1 rfl rfl)
theorem dX2_tighten_2 : decode cX2_tighten 2 = .ok (.invokevirtual 314, 3) := dk_182 1 58 (dk_at dksX2_tighten_0 2 rfl rfl)
theorem dX2_tighten_5 : decode cX2_tighten 5 = .ok (.ifCond .ne 5, 3) := dk_154 0 5 (dk_at dksX2_tighten_0 5 rfl rfl)
theorem dX2_tighten_8 : decode cX2_tighten 8 = .ok (.iconst 0, 1) := dk_3 (dk_at dksX2_tighten_0 8 rfl rfl)
theorem dX2_tighten_9 : decode cX2_tighten 9 = .ok (.ireturn, 1) := dk_172 (dk_at dksX2_tighten_0 9 rfl rfl)
theorem dX2_tighten_10 : decode cX2_tighten 10 = .ok (.aload_n 0, 1) := dk_42 (dk_at dksX2_tighten_0 10 rfl rfl)
theorem dX2_tighten_11 : decode cX2_tighten 11 = .ok (.invokevirtual 432, 3) := dk_182 1 176 (dk_at dksX2_tighten_0 11 rfl rfl)
theorem dX2_tighten_14 : decode cX2_tighten 14 = .ok (.iconst 0, 1) := dk_3 (dk_at dksX2_tighten_0 14 rfl rfl)
theorem dX2_tighten_15 : decode cX2_tighten 15 = .ok (.istore_n 1, 1) := dk_60 (dk_at dksX2_tighten_0 15 rfl rfl)
theorem dX2_tighten_16 : decode cX2_tighten 16 = .ok (.iconst 0, 1) := dk_3 (dk_at dksX2_tighten_0 16 rfl rfl)
theorem dX2_tighten_17 : decode cX2_tighten 17 = .ok (.istore_n 2, 1) := dk_61 (dk_at dksX2_tighten_0 17 rfl rfl)
theorem dX2_tighten_18 : decode cX2_tighten 18 = .ok (.iload_n 2, 1) := dk_28 (dk_at dksX2_tighten_0 18 rfl rfl)
theorem dX2_tighten_19 : decode cX2_tighten 19 = .ok (.aload_n 0, 1) := dk_42 (dk_at dksX2_tighten_0 19 rfl rfl)
theorem dX2_tighten_20 : decode cX2_tighten 20 = .ok (.invokevirtual 220, 3) := dk_182 0 220 (dk_at dksX2_tighten_0 20 rfl rfl)
theorem dX2_tighten_23 : decode cX2_tighten 23 = .ok (.if_icmp .ge 76, 3) := dk_162 0 76 (dk_at dksX2_tighten_1 0 rfl rfl)
theorem dX2_tighten_26 : decode cX2_tighten 26 = .ok (.aload_n 0, 1) := dk_42 (dk_at dksX2_tighten_1 3 rfl rfl)
theorem dX2_tighten_27 : decode cX2_tighten 27 = .ok (.iload_n 2, 1) := dk_28 (dk_at dksX2_tighten_1 4 rfl rfl)
theorem dX2_tighten_28 : decode cX2_tighten 28 = .ok (.invokevirtual 223, 3) := dk_182 0 223 (dk_at dksX2_tighten_1 5 rfl rfl)
theorem dX2_tighten_31 : decode cX2_tighten 31 = .ok (.ifCond .eq 6, 3) := dk_153 0 6 (dk_at dksX2_tighten_1 8 rfl rfl)
theorem dX2_tighten_34 : decode cX2_tighten 34 = .ok (.goto 59, 3) := dk_167 0 59 (dk_at dksX2_tighten_1 11 rfl rfl)
theorem dX2_tighten_37 : decode cX2_tighten 37 = .ok (.iload_n 1, 1) := dk_27 (dk_at dksX2_tighten_1 14 rfl rfl)
theorem dX2_tighten_38 : decode cX2_tighten 38 = .ok (.aload_n 0, 1) := dk_42 (dk_at dksX2_tighten_1 15 rfl rfl)
theorem dX2_tighten_39 : decode cX2_tighten 39 = .ok (.iload_n 2, 1) := dk_28 (dk_at dksX2_tighten_1 16 rfl rfl)
theorem dX2_tighten_40 : decode cX2_tighten 40 = .ok (.iconst 2, 1) := dk_5 (dk_at dksX2_tighten_1 17 rfl rfl)
theorem dX2_tighten_41 : decode cX2_tighten 41 = .ok (.invokestatic 162, 3) := dk_184 0 162 (dk_at dksX2_tighten_1 18 rfl rfl)
theorem dX2_tighten_44 : decode cX2_tighten 44 = .ok (.aload_n 0, 1) := dk_42 (dk_at dksX2_tighten_1 21 rfl rfl)
theorem dX2_tighten_45 : decode cX2_tighten 45 = .ok (.aload_n 0, 1) := dk_42 (dk_at dksX2_tighten_1 22 rfl rfl)
theorem dX2_tighten_46 : decode cX2_tighten 46 = .ok (.iload_n 2, 1) := dk_28 (dk_at dksX2_tighten_1 23 rfl rfl)
theorem dX2_tighten_47 : decode cX2_tighten 47 = .ok (.iconst 0, 1) := dk_3 (dk_at dksX2_tighten_2 0 rfl rfl)
theorem dX2_tighten_48 : decode cX2_tighten 48 = .ok (.invokevirtual 214, 3) := dk_182 0 214 (dk_at dksX2_tighten_2 1 rfl rfl)
theorem dX2_tighten_51 : decode cX2_tighten 51 = .ok (.aload_n 0, 1) := dk_42 (dk_at dksX2_tighten_2 4 rfl rfl)
theorem dX2_tighten_52 : decode cX2_tighten 52 = .ok (.iload_n 2, 1) := dk_28 (dk_at dksX2_tighten_2 5 rfl rfl)
theorem dX2_tighten_53 : decode cX2_tighten 53 = .ok (.iconst 1, 1) := dk_4 (dk_at dksX2_tighten_2 6 rfl rfl)
theorem dX2_tighten_54 : decode cX2_tighten 54 = .ok (.invokevirtual 214, 3) := dk_182 0 214 (dk_at dksX2_tighten_2 7 rfl rfl)
theorem dX2_tighten_57 : decode cX2_tighten 57 = .ok (.invokevirtual 320, 3) := dk_182 1 64 (dk_at dksX2_tighten_2 10 rfl rfl)
theorem dX2_tighten_60 : decode cX2_tighten 60 = .ok (.invokevirtual 447, 3) := dk_182 1 191 (dk_at dksX2_tighten_2 13 rfl rfl)
theorem dX2_tighten_63 : decode cX2_tighten 63 = .ok (.iadd, 1) := dk_96 (dk_at dksX2_tighten_2 16 rfl rfl)
theorem dX2_tighten_64 : decode cX2_tighten 64 = .ok (.istore_n 1, 1) := dk_60 (dk_at dksX2_tighten_2 17 rfl rfl)
theorem dX2_tighten_65 : decode cX2_tighten 65 = .ok (.iload_n 1, 1) := dk_27 (dk_at dksX2_tighten_2 18 rfl rfl)
theorem dX2_tighten_66 : decode cX2_tighten 66 = .ok (.aload_n 0, 1) := dk_42 (dk_at dksX2_tighten_2 19 rfl rfl)
theorem dX2_tighten_67 : decode cX2_tighten 67 = .ok (.iload_n 2, 1) := dk_28 (dk_at dksX2_tighten_2 20 rfl rfl)
theorem dX2_tighten_68 : decode cX2_tighten 68 = .ok (.iconst 3, 1) := dk_6 (dk_at dksX2_tighten_2 21 rfl rfl)
theorem dX2_tighten_69 : decode cX2_tighten 69 = .ok (.invokestatic 162, 3) := dk_184 0 162 (dk_at dksX2_tighten_3 0 rfl rfl)
theorem dX2_tighten_72 : decode cX2_tighten 72 = .ok (.aload_n 0, 1) := dk_42 (dk_at dksX2_tighten_3 3 rfl rfl)
theorem dX2_tighten_73 : decode cX2_tighten 73 = .ok (.aload_n 0, 1) := dk_42 (dk_at dksX2_tighten_3 4 rfl rfl)
theorem dX2_tighten_74 : decode cX2_tighten 74 = .ok (.iload_n 2, 1) := dk_28 (dk_at dksX2_tighten_3 5 rfl rfl)
theorem dX2_tighten_75 : decode cX2_tighten 75 = .ok (.iconst 0, 1) := dk_3 (dk_at dksX2_tighten_3 6 rfl rfl)
theorem dX2_tighten_76 : decode cX2_tighten 76 = .ok (.invokevirtual 214, 3) := dk_182 0 214 (dk_at dksX2_tighten_3 7 rfl rfl)
theorem dX2_tighten_79 : decode cX2_tighten 79 = .ok (.aload_n 0, 1) := dk_42 (dk_at dksX2_tighten_3 10 rfl rfl)
theorem dX2_tighten_80 : decode cX2_tighten 80 = .ok (.iload_n 2, 1) := dk_28 (dk_at dksX2_tighten_3 11 rfl rfl)
theorem dX2_tighten_81 : decode cX2_tighten 81 = .ok (.iconst 1, 1) := dk_4 (dk_at dksX2_tighten_3 12 rfl rfl)
theorem dX2_tighten_82 : decode cX2_tighten 82 = .ok (.invokevirtual 214, 3) := dk_182 0 214 (dk_at dksX2_tighten_3 13 rfl rfl)
theorem dX2_tighten_85 : decode cX2_tighten 85 = .ok (.invokevirtual 317, 3) := dk_182 1 61 (dk_at dksX2_tighten_3 16 rfl rfl)
theorem dX2_tighten_88 : decode cX2_tighten 88 = .ok (.invokevirtual 447, 3) := dk_182 1 191 (dk_at dksX2_tighten_3 19 rfl rfl)
theorem dX2_tighten_91 : decode cX2_tighten 91 = .ok (.iadd, 1) := dk_96 (dk_at dksX2_tighten_3 22 rfl rfl)
theorem dX2_tighten_92 : decode cX2_tighten 92 = .ok (.istore_n 1, 1) := dk_60 (dk_at dksX2_tighten_3 23 rfl rfl)
theorem dX2_tighten_93 : decode cX2_tighten 93 = .ok (.iinc 2 1, 3) := dk_132 2 1 (dk_at dksX2_tighten_4 0 rfl rfl)
theorem dX2_tighten_96 : decode cX2_tighten 96 = .ok (.goto (-78), 3) := dk_167 255 178 (dk_at dksX2_tighten_4 3 rfl rfl)
theorem dX2_tighten_99 : decode cX2_tighten 99 = .ok (.iload_n 1, 1) := dk_27 (dk_at dksX2_tighten_4 6 rfl rfl)
theorem dX2_tighten_100 : decode cX2_tighten 100 = .ok (.ireturn, 1) := dk_172 (dk_at dksX2_tighten_4 7 rfl rfl)
abbrev cX2_tightens : ByteArray := prog_16_method_142_code
def yX2_tightens : MethodName := ⟨RX2, "tightens", "(II)I"⟩
def dkwX2_tightens_1 : List UInt8 := [28, 79, 4, 172]
abbrev dktX2_tightens_1 : List UInt8 := dkwX2_tightens_1 ++ []
def dkwX2_tightens_0 : List UInt8 := [28, 17, 3, 231, 163, 0, 13, 42, 180, 0, 23, 27, 46, 28, 160, 0, 5, 3, 172, 42, 180, 0, 23, 27]
abbrev dktX2_tightens_0 : List UInt8 := dkwX2_tightens_0 ++ dktX2_tightens_1
theorem dksX2_tightens_0 : cX2_tightens.data.toList.drop 0 = dktX2_tightens_0 := by decide +kernel
theorem dksX2_tightens_1 : cX2_tightens.data.toList.drop 24 = dktX2_tightens_1 := dk_seg dksX2_tightens_0 24 rfl rfl
theorem dX2_tightens_0 : decode cX2_tightens 0 = .ok (.iload_n 2, 1) := dk_28 (dk_at dksX2_tightens_0 0 rfl rfl)
theorem dX2_tightens_1 : decode cX2_tightens 1 = .ok (.sipush 999, 3) := dk_17 3 231 (dk_at dksX2_tightens_0 1 rfl rfl)
theorem dX2_tightens_4 : decode cX2_tightens 4 = .ok (.if_icmp .gt 13, 3) := dk_163 0 13 (dk_at dksX2_tightens_0 4 rfl rfl)
theorem dX2_tightens_7 : decode cX2_tightens 7 = .ok (.aload_n 0, 1) := dk_42 (dk_at dksX2_tightens_0 7 rfl rfl)
theorem dX2_tightens_8 : decode cX2_tightens 8 = .ok (.getfield 23, 3) := dk_180 0 23 (dk_at dksX2_tightens_0 8 rfl rfl)
theorem dX2_tightens_11 : decode cX2_tightens 11 = .ok (.iload_n 1, 1) := dk_27 (dk_at dksX2_tightens_0 11 rfl rfl)
theorem dX2_tightens_12 : decode cX2_tightens 12 = .ok (.iaload, 1) := dk_46 (dk_at dksX2_tightens_0 12 rfl rfl)
theorem dX2_tightens_13 : decode cX2_tightens 13 = .ok (.iload_n 2, 1) := dk_28 (dk_at dksX2_tightens_0 13 rfl rfl)
theorem dX2_tightens_14 : decode cX2_tightens 14 = .ok (.if_icmp .ne 5, 3) := dk_160 0 5 (dk_at dksX2_tightens_0 14 rfl rfl)
theorem dX2_tightens_17 : decode cX2_tightens 17 = .ok (.iconst 0, 1) := dk_3 (dk_at dksX2_tightens_0 17 rfl rfl)
theorem dX2_tightens_18 : decode cX2_tightens 18 = .ok (.ireturn, 1) := dk_172 (dk_at dksX2_tightens_0 18 rfl rfl)
theorem dX2_tightens_19 : decode cX2_tightens 19 = .ok (.aload_n 0, 1) := dk_42 (dk_at dksX2_tightens_0 19 rfl rfl)
theorem dX2_tightens_20 : decode cX2_tightens 20 = .ok (.getfield 23, 3) := dk_180 0 23 (dk_at dksX2_tightens_0 20 rfl rfl)
theorem dX2_tightens_23 : decode cX2_tightens 23 = .ok (.iload_n 1, 1) := dk_27 (dk_at dksX2_tightens_0 23 rfl rfl)
theorem dX2_tightens_24 : decode cX2_tightens 24 = .ok (.iload_n 2, 1) := dk_28 (dk_at dksX2_tightens_1 0 rfl rfl)
theorem dX2_tightens_25 : decode cX2_tightens 25 = .ok (.iastore, 1) := dk_79 (dk_at dksX2_tightens_1 1 rfl rfl)
theorem dX2_tightens_26 : decode cX2_tightens 26 = .ok (.iconst 1, 1) := dk_4 (dk_at dksX2_tightens_1 2 rfl rfl)
theorem dX2_tightens_27 : decode cX2_tightens 27 = .ok (.ireturn, 1) := dk_172 (dk_at dksX2_tightens_1 3 rfl rfl)
abbrev cX2_mend : ByteArray := prog_16_method_144_code
def yX2_mend : MethodName := ⟨RX2, "mend", "()I"⟩
def dkwX2_mend_3 : List UInt8 := [42, 29, 6, 184, 0, 162, 42, 29, 6, 182, 0, 214, 28, 96, 182, 1, 182, 54, 4, 28, 172]
abbrev dktX2_mend_3 : List UInt8 := dkwX2_mend_3 ++ []
def dkwX2_mend_2 : List UInt8 := [4, 160, 0, 23, 42, 29, 5, 184, 0, 162, 42, 29, 5, 182, 0, 214, 28, 100, 182, 1, 182, 167, 0, 20]
abbrev dktX2_mend_2 : List UInt8 := dkwX2_mend_2 ++ dktX2_mend_3
def dkwX2_mend_1 : List UInt8 := [167, 0, 4, 3, 182, 1, 35, 154, 0, 5, 3, 172, 42, 180, 1, 89, 61, 27, 5, 108, 62, 27, 5, 112]
abbrev dktX2_mend_1 : List UInt8 := dkwX2_mend_1 ++ dktX2_mend_2
def dkwX2_mend_0 : List UInt8 := [42, 180, 0, 207, 153, 0, 10, 42, 182, 1, 98, 167, 0, 4, 2, 60, 42, 27, 2, 159, 0, 7, 4]
abbrev dktX2_mend_0 : List UInt8 := dkwX2_mend_0 ++ dktX2_mend_1
theorem dksX2_mend_0 : cX2_mend.data.toList.drop 0 = dktX2_mend_0 := by decide +kernel
theorem dksX2_mend_1 : cX2_mend.data.toList.drop 23 = dktX2_mend_1 := dk_seg dksX2_mend_0 23 rfl rfl
theorem dksX2_mend_2 : cX2_mend.data.toList.drop 47 = dktX2_mend_2 := dk_seg dksX2_mend_1 24 rfl rfl
theorem dksX2_mend_3 : cX2_mend.data.toList.drop 71 = dktX2_mend_3 := dk_seg dksX2_mend_2 24 rfl rfl
theorem dX2_mend_0 : decode cX2_mend 0 = .ok (.aload_n 0, 1) := dk_42 (dk_at dksX2_mend_0 0 rfl rfl)
theorem dX2_mend_1 : decode cX2_mend 1 = .ok (.getfield 207, 3) := dk_180 0 207 (dk_at dksX2_mend_0 1 rfl rfl)
theorem dX2_mend_4 : decode cX2_mend 4 = .ok (.ifCond .eq 10, 3) := dk_153 0 10 (dk_at dksX2_mend_0 4 rfl rfl)
theorem dX2_mend_7 : decode cX2_mend 7 = .ok (.aload_n 0, 1) := dk_42 (dk_at dksX2_mend_0 7 rfl rfl)
theorem dX2_mend_8 : decode cX2_mend 8 = .ok (.invokevirtual 354, 3) := dk_182 1 98 (dk_at dksX2_mend_0 8 rfl rfl)
theorem dX2_mend_11 : decode cX2_mend 11 = .ok (.goto 4, 3) := dk_167 0 4 (dk_at dksX2_mend_0 11 rfl rfl)
theorem dX2_mend_14 : decode cX2_mend 14 = .ok (.iconst (-1), 1) := dk_2 (dk_at dksX2_mend_0 14 rfl rfl)
theorem dX2_mend_15 : decode cX2_mend 15 = .ok (.istore_n 1, 1) := dk_60 (dk_at dksX2_mend_0 15 rfl rfl)
theorem dX2_mend_16 : decode cX2_mend 16 = .ok (.aload_n 0, 1) := dk_42 (dk_at dksX2_mend_0 16 rfl rfl)
theorem dX2_mend_17 : decode cX2_mend 17 = .ok (.iload_n 1, 1) := dk_27 (dk_at dksX2_mend_0 17 rfl rfl)
theorem dX2_mend_18 : decode cX2_mend 18 = .ok (.iconst (-1), 1) := dk_2 (dk_at dksX2_mend_0 18 rfl rfl)
theorem dX2_mend_19 : decode cX2_mend 19 = .ok (.if_icmp .eq 7, 3) := dk_159 0 7 (dk_at dksX2_mend_0 19 rfl rfl)
theorem dX2_mend_22 : decode cX2_mend 22 = .ok (.iconst 1, 1) := dk_4 (dk_at dksX2_mend_0 22 rfl rfl)
theorem dX2_mend_23 : decode cX2_mend 23 = .ok (.goto 4, 3) := dk_167 0 4 (dk_at dksX2_mend_1 0 rfl rfl)
theorem dX2_mend_26 : decode cX2_mend 26 = .ok (.iconst 0, 1) := dk_3 (dk_at dksX2_mend_1 3 rfl rfl)
theorem dX2_mend_27 : decode cX2_mend 27 = .ok (.invokevirtual 291, 3) := dk_182 1 35 (dk_at dksX2_mend_1 4 rfl rfl)
theorem dX2_mend_30 : decode cX2_mend 30 = .ok (.ifCond .ne 5, 3) := dk_154 0 5 (dk_at dksX2_mend_1 7 rfl rfl)
theorem dX2_mend_33 : decode cX2_mend 33 = .ok (.iconst 0, 1) := dk_3 (dk_at dksX2_mend_1 10 rfl rfl)
theorem dX2_mend_34 : decode cX2_mend 34 = .ok (.ireturn, 1) := dk_172 (dk_at dksX2_mend_1 11 rfl rfl)
theorem dX2_mend_35 : decode cX2_mend 35 = .ok (.aload_n 0, 1) := dk_42 (dk_at dksX2_mend_1 12 rfl rfl)
theorem dX2_mend_36 : decode cX2_mend 36 = .ok (.getfield 345, 3) := dk_180 1 89 (dk_at dksX2_mend_1 13 rfl rfl)
theorem dX2_mend_39 : decode cX2_mend 39 = .ok (.istore_n 2, 1) := dk_61 (dk_at dksX2_mend_1 16 rfl rfl)
theorem dX2_mend_40 : decode cX2_mend 40 = .ok (.iload_n 1, 1) := dk_27 (dk_at dksX2_mend_1 17 rfl rfl)
theorem dX2_mend_41 : decode cX2_mend 41 = .ok (.iconst 2, 1) := dk_5 (dk_at dksX2_mend_1 18 rfl rfl)
theorem dX2_mend_42 : decode cX2_mend 42 = .ok (.idiv, 1) := dk_108 (dk_at dksX2_mend_1 19 rfl rfl)
theorem dX2_mend_43 : decode cX2_mend 43 = .ok (.istore_n 3, 1) := dk_62 (dk_at dksX2_mend_1 20 rfl rfl)
theorem dX2_mend_44 : decode cX2_mend 44 = .ok (.iload_n 1, 1) := dk_27 (dk_at dksX2_mend_1 21 rfl rfl)
theorem dX2_mend_45 : decode cX2_mend 45 = .ok (.iconst 2, 1) := dk_5 (dk_at dksX2_mend_1 22 rfl rfl)
theorem dX2_mend_46 : decode cX2_mend 46 = .ok (.irem, 1) := dk_112 (dk_at dksX2_mend_1 23 rfl rfl)
theorem dX2_mend_47 : decode cX2_mend 47 = .ok (.iconst 1, 1) := dk_4 (dk_at dksX2_mend_2 0 rfl rfl)
theorem dX2_mend_48 : decode cX2_mend 48 = .ok (.if_icmp .ne 23, 3) := dk_160 0 23 (dk_at dksX2_mend_2 1 rfl rfl)
theorem dX2_mend_51 : decode cX2_mend 51 = .ok (.aload_n 0, 1) := dk_42 (dk_at dksX2_mend_2 4 rfl rfl)
theorem dX2_mend_52 : decode cX2_mend 52 = .ok (.iload_n 3, 1) := dk_29 (dk_at dksX2_mend_2 5 rfl rfl)
theorem dX2_mend_53 : decode cX2_mend 53 = .ok (.iconst 2, 1) := dk_5 (dk_at dksX2_mend_2 6 rfl rfl)
theorem dX2_mend_54 : decode cX2_mend 54 = .ok (.invokestatic 162, 3) := dk_184 0 162 (dk_at dksX2_mend_2 7 rfl rfl)
theorem dX2_mend_57 : decode cX2_mend 57 = .ok (.aload_n 0, 1) := dk_42 (dk_at dksX2_mend_2 10 rfl rfl)
theorem dX2_mend_58 : decode cX2_mend 58 = .ok (.iload_n 3, 1) := dk_29 (dk_at dksX2_mend_2 11 rfl rfl)
theorem dX2_mend_59 : decode cX2_mend 59 = .ok (.iconst 2, 1) := dk_5 (dk_at dksX2_mend_2 12 rfl rfl)
theorem dX2_mend_60 : decode cX2_mend 60 = .ok (.invokevirtual 214, 3) := dk_182 0 214 (dk_at dksX2_mend_2 13 rfl rfl)
theorem dX2_mend_63 : decode cX2_mend 63 = .ok (.iload_n 2, 1) := dk_28 (dk_at dksX2_mend_2 16 rfl rfl)
theorem dX2_mend_64 : decode cX2_mend 64 = .ok (.isub, 1) := dk_100 (dk_at dksX2_mend_2 17 rfl rfl)
theorem dX2_mend_65 : decode cX2_mend 65 = .ok (.invokevirtual 438, 3) := dk_182 1 182 (dk_at dksX2_mend_2 18 rfl rfl)
theorem dX2_mend_68 : decode cX2_mend 68 = .ok (.goto 20, 3) := dk_167 0 20 (dk_at dksX2_mend_2 21 rfl rfl)
theorem dX2_mend_71 : decode cX2_mend 71 = .ok (.aload_n 0, 1) := dk_42 (dk_at dksX2_mend_3 0 rfl rfl)
theorem dX2_mend_72 : decode cX2_mend 72 = .ok (.iload_n 3, 1) := dk_29 (dk_at dksX2_mend_3 1 rfl rfl)
theorem dX2_mend_73 : decode cX2_mend 73 = .ok (.iconst 3, 1) := dk_6 (dk_at dksX2_mend_3 2 rfl rfl)
theorem dX2_mend_74 : decode cX2_mend 74 = .ok (.invokestatic 162, 3) := dk_184 0 162 (dk_at dksX2_mend_3 3 rfl rfl)
theorem dX2_mend_77 : decode cX2_mend 77 = .ok (.aload_n 0, 1) := dk_42 (dk_at dksX2_mend_3 6 rfl rfl)
theorem dX2_mend_78 : decode cX2_mend 78 = .ok (.iload_n 3, 1) := dk_29 (dk_at dksX2_mend_3 7 rfl rfl)
theorem dX2_mend_79 : decode cX2_mend 79 = .ok (.iconst 3, 1) := dk_6 (dk_at dksX2_mend_3 8 rfl rfl)
theorem dX2_mend_80 : decode cX2_mend 80 = .ok (.invokevirtual 214, 3) := dk_182 0 214 (dk_at dksX2_mend_3 9 rfl rfl)
theorem dX2_mend_83 : decode cX2_mend 83 = .ok (.iload_n 2, 1) := dk_28 (dk_at dksX2_mend_3 12 rfl rfl)
theorem dX2_mend_84 : decode cX2_mend 84 = .ok (.iadd, 1) := dk_96 (dk_at dksX2_mend_3 13 rfl rfl)
theorem dX2_mend_85 : decode cX2_mend 85 = .ok (.invokevirtual 438, 3) := dk_182 1 182 (dk_at dksX2_mend_3 14 rfl rfl)
theorem dX2_mend_88 : decode cX2_mend 88 = .ok (.istore 4, 2) := dk_54 4 (dk_at dksX2_mend_3 17 rfl rfl)
theorem dX2_mend_90 : decode cX2_mend 90 = .ok (.iload_n 2, 1) := dk_28 (dk_at dksX2_mend_3 19 rfl rfl)
theorem dX2_mend_91 : decode cX2_mend 91 = .ok (.ireturn, 1) := dk_172 (dk_at dksX2_mend_3 20 rfl rfl)
abbrev cX2_dropLeast : ByteArray := prog_16_method_145_code
def yX2_dropLeast : MethodName := ⟨RX2, "dropLeast", "()I"⟩
def dkwX2_dropLeast_3 : List UInt8 := [132, 2, 1, 167, 255, 226, 27, 184, 1, 104, 172]
abbrev dktX2_dropLeast_3 : List UInt8 := dkwX2_dropLeast_3 ++ []
def dkwX2_dropLeast_2 : List UInt8 := [162, 0, 28, 27, 28, 184, 0, 135, 153, 0, 14, 42, 180, 0, 23, 28, 8, 184, 0, 162, 4, 79]
abbrev dktX2_dropLeast_2 : List UInt8 := dkwX2_dropLeast_2 ++ dktX2_dropLeast_3
def dkwX2_dropLeast_1 : List UInt8 := [167, 0, 4, 3, 182, 1, 35, 154, 0, 5, 3, 172, 42, 182, 1, 176, 3, 61, 28, 42, 182, 0, 220]
abbrev dktX2_dropLeast_1 : List UInt8 := dkwX2_dropLeast_1 ++ dktX2_dropLeast_2
def dkwX2_dropLeast_0 : List UInt8 := [42, 180, 0, 207, 153, 0, 10, 42, 182, 1, 115, 167, 0, 4, 2, 60, 42, 27, 2, 159, 0, 7, 4]
abbrev dktX2_dropLeast_0 : List UInt8 := dkwX2_dropLeast_0 ++ dktX2_dropLeast_1
theorem dksX2_dropLeast_0 : cX2_dropLeast.data.toList.drop 0 = dktX2_dropLeast_0 := by decide +kernel
theorem dksX2_dropLeast_1 : cX2_dropLeast.data.toList.drop 23 = dktX2_dropLeast_1 := dk_seg dksX2_dropLeast_0 23 rfl rfl
theorem dksX2_dropLeast_2 : cX2_dropLeast.data.toList.drop 46 = dktX2_dropLeast_2 := dk_seg dksX2_dropLeast_1 23 rfl rfl
theorem dksX2_dropLeast_3 : cX2_dropLeast.data.toList.drop 68 = dktX2_dropLeast_3 := dk_seg dksX2_dropLeast_2 22 rfl rfl
theorem dX2_dropLeast_0 : decode cX2_dropLeast 0 = .ok (.aload_n 0, 1) := dk_42 (dk_at dksX2_dropLeast_0 0 rfl rfl)
theorem dX2_dropLeast_1 : decode cX2_dropLeast 1 = .ok (.getfield 207, 3) := dk_180 0 207 (dk_at dksX2_dropLeast_0 1 rfl rfl)
theorem dX2_dropLeast_4 : decode cX2_dropLeast 4 = .ok (.ifCond .eq 10, 3) := dk_153 0 10 (dk_at dksX2_dropLeast_0 4 rfl rfl)
theorem dX2_dropLeast_7 : decode cX2_dropLeast 7 = .ok (.aload_n 0, 1) := dk_42 (dk_at dksX2_dropLeast_0 7 rfl rfl)
theorem dX2_dropLeast_8 : decode cX2_dropLeast 8 = .ok (.invokevirtual 371, 3) := dk_182 1 115 (dk_at dksX2_dropLeast_0 8 rfl rfl)
theorem dX2_dropLeast_11 : decode cX2_dropLeast 11 = .ok (.goto 4, 3) := dk_167 0 4 (dk_at dksX2_dropLeast_0 11 rfl rfl)
theorem dX2_dropLeast_14 : decode cX2_dropLeast 14 = .ok (.iconst (-1), 1) := dk_2 (dk_at dksX2_dropLeast_0 14 rfl rfl)
theorem dX2_dropLeast_15 : decode cX2_dropLeast 15 = .ok (.istore_n 1, 1) := dk_60 (dk_at dksX2_dropLeast_0 15 rfl rfl)
theorem dX2_dropLeast_16 : decode cX2_dropLeast 16 = .ok (.aload_n 0, 1) := dk_42 (dk_at dksX2_dropLeast_0 16 rfl rfl)
theorem dX2_dropLeast_17 : decode cX2_dropLeast 17 = .ok (.iload_n 1, 1) := dk_27 (dk_at dksX2_dropLeast_0 17 rfl rfl)
theorem dX2_dropLeast_18 : decode cX2_dropLeast 18 = .ok (.iconst (-1), 1) := dk_2 (dk_at dksX2_dropLeast_0 18 rfl rfl)
theorem dX2_dropLeast_19 : decode cX2_dropLeast 19 = .ok (.if_icmp .eq 7, 3) := dk_159 0 7 (dk_at dksX2_dropLeast_0 19 rfl rfl)
theorem dX2_dropLeast_22 : decode cX2_dropLeast 22 = .ok (.iconst 1, 1) := dk_4 (dk_at dksX2_dropLeast_0 22 rfl rfl)
theorem dX2_dropLeast_23 : decode cX2_dropLeast 23 = .ok (.goto 4, 3) := dk_167 0 4 (dk_at dksX2_dropLeast_1 0 rfl rfl)
theorem dX2_dropLeast_26 : decode cX2_dropLeast 26 = .ok (.iconst 0, 1) := dk_3 (dk_at dksX2_dropLeast_1 3 rfl rfl)
theorem dX2_dropLeast_27 : decode cX2_dropLeast 27 = .ok (.invokevirtual 291, 3) := dk_182 1 35 (dk_at dksX2_dropLeast_1 4 rfl rfl)
theorem dX2_dropLeast_30 : decode cX2_dropLeast 30 = .ok (.ifCond .ne 5, 3) := dk_154 0 5 (dk_at dksX2_dropLeast_1 7 rfl rfl)
theorem dX2_dropLeast_33 : decode cX2_dropLeast 33 = .ok (.iconst 0, 1) := dk_3 (dk_at dksX2_dropLeast_1 10 rfl rfl)
theorem dX2_dropLeast_34 : decode cX2_dropLeast 34 = .ok (.ireturn, 1) := dk_172 (dk_at dksX2_dropLeast_1 11 rfl rfl)
theorem dX2_dropLeast_35 : decode cX2_dropLeast 35 = .ok (.aload_n 0, 1) := dk_42 (dk_at dksX2_dropLeast_1 12 rfl rfl)
theorem dX2_dropLeast_36 : decode cX2_dropLeast 36 = .ok (.invokevirtual 432, 3) := dk_182 1 176 (dk_at dksX2_dropLeast_1 13 rfl rfl)
theorem dX2_dropLeast_39 : decode cX2_dropLeast 39 = .ok (.iconst 0, 1) := dk_3 (dk_at dksX2_dropLeast_1 16 rfl rfl)
theorem dX2_dropLeast_40 : decode cX2_dropLeast 40 = .ok (.istore_n 2, 1) := dk_61 (dk_at dksX2_dropLeast_1 17 rfl rfl)
theorem dX2_dropLeast_41 : decode cX2_dropLeast 41 = .ok (.iload_n 2, 1) := dk_28 (dk_at dksX2_dropLeast_1 18 rfl rfl)
theorem dX2_dropLeast_42 : decode cX2_dropLeast 42 = .ok (.aload_n 0, 1) := dk_42 (dk_at dksX2_dropLeast_1 19 rfl rfl)
theorem dX2_dropLeast_43 : decode cX2_dropLeast 43 = .ok (.invokevirtual 220, 3) := dk_182 0 220 (dk_at dksX2_dropLeast_1 20 rfl rfl)
theorem dX2_dropLeast_46 : decode cX2_dropLeast 46 = .ok (.if_icmp .ge 28, 3) := dk_162 0 28 (dk_at dksX2_dropLeast_2 0 rfl rfl)
theorem dX2_dropLeast_49 : decode cX2_dropLeast 49 = .ok (.iload_n 1, 1) := dk_27 (dk_at dksX2_dropLeast_2 3 rfl rfl)
theorem dX2_dropLeast_50 : decode cX2_dropLeast 50 = .ok (.iload_n 2, 1) := dk_28 (dk_at dksX2_dropLeast_2 4 rfl rfl)
theorem dX2_dropLeast_51 : decode cX2_dropLeast 51 = .ok (.invokestatic 135, 3) := dk_184 0 135 (dk_at dksX2_dropLeast_2 5 rfl rfl)
theorem dX2_dropLeast_54 : decode cX2_dropLeast 54 = .ok (.ifCond .eq 14, 3) := dk_153 0 14 (dk_at dksX2_dropLeast_2 8 rfl rfl)
theorem dX2_dropLeast_57 : decode cX2_dropLeast 57 = .ok (.aload_n 0, 1) := dk_42 (dk_at dksX2_dropLeast_2 11 rfl rfl)
theorem dX2_dropLeast_58 : decode cX2_dropLeast 58 = .ok (.getfield 23, 3) := dk_180 0 23 (dk_at dksX2_dropLeast_2 12 rfl rfl)
theorem dX2_dropLeast_61 : decode cX2_dropLeast 61 = .ok (.iload_n 2, 1) := dk_28 (dk_at dksX2_dropLeast_2 15 rfl rfl)
theorem dX2_dropLeast_62 : decode cX2_dropLeast 62 = .ok (.iconst 5, 1) := dk_8 (dk_at dksX2_dropLeast_2 16 rfl rfl)
theorem dX2_dropLeast_63 : decode cX2_dropLeast 63 = .ok (.invokestatic 162, 3) := dk_184 0 162 (dk_at dksX2_dropLeast_2 17 rfl rfl)
theorem dX2_dropLeast_66 : decode cX2_dropLeast 66 = .ok (.iconst 1, 1) := dk_4 (dk_at dksX2_dropLeast_2 20 rfl rfl)
theorem dX2_dropLeast_67 : decode cX2_dropLeast 67 = .ok (.iastore, 1) := dk_79 (dk_at dksX2_dropLeast_2 21 rfl rfl)
theorem dX2_dropLeast_68 : decode cX2_dropLeast 68 = .ok (.iinc 2 1, 3) := dk_132 2 1 (dk_at dksX2_dropLeast_3 0 rfl rfl)
theorem dX2_dropLeast_71 : decode cX2_dropLeast 71 = .ok (.goto (-30), 3) := dk_167 255 226 (dk_at dksX2_dropLeast_3 3 rfl rfl)
theorem dX2_dropLeast_74 : decode cX2_dropLeast 74 = .ok (.iload_n 1, 1) := dk_27 (dk_at dksX2_dropLeast_3 6 rfl rfl)
theorem dX2_dropLeast_75 : decode cX2_dropLeast 75 = .ok (.invokestatic 360, 3) := dk_184 1 104 (dk_at dksX2_dropLeast_3 7 rfl rfl)
theorem dX2_dropLeast_78 : decode cX2_dropLeast 78 = .ok (.ireturn, 1) := dk_172 (dk_at dksX2_dropLeast_3 10 rfl rfl)
abbrev cX2_undo : ByteArray := prog_16_method_146_code
def yX2_undo : MethodName := ⟨RX2, "undo", "()I"⟩
def dkwX2_undo_2 : List UInt8 := [180, 0, 23, 3, 184, 0, 200, 42, 180, 0, 211, 172]
abbrev dktX2_undo_2 : List UInt8 := dkwX2_undo_2 ++ []
def dkwX2_undo_1 : List UInt8 := [172, 42, 89, 180, 0, 211, 4, 100, 181, 0, 211, 42, 180, 0, 30, 42, 180, 0, 211, 17, 0, 176, 104, 42]
abbrev dktX2_undo_1 : List UInt8 := dkwX2_undo_1 ++ dktX2_undo_2
def dkwX2_undo_0 : List UInt8 := [42, 42, 180, 0, 211, 158, 0, 7, 3, 167, 0, 4, 4, 181, 0, 73, 42, 180, 0, 73, 158, 0, 5, 3]
abbrev dktX2_undo_0 : List UInt8 := dkwX2_undo_0 ++ dktX2_undo_1
theorem dksX2_undo_0 : cX2_undo.data.toList.drop 0 = dktX2_undo_0 := by decide +kernel
theorem dksX2_undo_1 : cX2_undo.data.toList.drop 24 = dktX2_undo_1 := dk_seg dksX2_undo_0 24 rfl rfl
theorem dksX2_undo_2 : cX2_undo.data.toList.drop 48 = dktX2_undo_2 := dk_seg dksX2_undo_1 24 rfl rfl
theorem dX2_undo_0 : decode cX2_undo 0 = .ok (.aload_n 0, 1) := dk_42 (dk_at dksX2_undo_0 0 rfl rfl)
theorem dX2_undo_1 : decode cX2_undo 1 = .ok (.aload_n 0, 1) := dk_42 (dk_at dksX2_undo_0 1 rfl rfl)
theorem dX2_undo_2 : decode cX2_undo 2 = .ok (.getfield 211, 3) := dk_180 0 211 (dk_at dksX2_undo_0 2 rfl rfl)
theorem dX2_undo_5 : decode cX2_undo 5 = .ok (.ifCond .le 7, 3) := dk_158 0 7 (dk_at dksX2_undo_0 5 rfl rfl)
theorem dX2_undo_8 : decode cX2_undo 8 = .ok (.iconst 0, 1) := dk_3 (dk_at dksX2_undo_0 8 rfl rfl)
theorem dX2_undo_9 : decode cX2_undo 9 = .ok (.goto 4, 3) := dk_167 0 4 (dk_at dksX2_undo_0 9 rfl rfl)
theorem dX2_undo_12 : decode cX2_undo 12 = .ok (.iconst 1, 1) := dk_4 (dk_at dksX2_undo_0 12 rfl rfl)
theorem dX2_undo_13 : decode cX2_undo 13 = .ok (.putfield 73, 3) := dk_181 0 73 (dk_at dksX2_undo_0 13 rfl rfl)
theorem dX2_undo_16 : decode cX2_undo 16 = .ok (.aload_n 0, 1) := dk_42 (dk_at dksX2_undo_0 16 rfl rfl)
theorem dX2_undo_17 : decode cX2_undo 17 = .ok (.getfield 73, 3) := dk_180 0 73 (dk_at dksX2_undo_0 17 rfl rfl)
theorem dX2_undo_20 : decode cX2_undo 20 = .ok (.ifCond .le 5, 3) := dk_158 0 5 (dk_at dksX2_undo_0 20 rfl rfl)
theorem dX2_undo_23 : decode cX2_undo 23 = .ok (.iconst 0, 1) := dk_3 (dk_at dksX2_undo_0 23 rfl rfl)
theorem dX2_undo_24 : decode cX2_undo 24 = .ok (.ireturn, 1) := dk_172 (dk_at dksX2_undo_1 0 rfl rfl)
theorem dX2_undo_25 : decode cX2_undo 25 = .ok (.aload_n 0, 1) := dk_42 (dk_at dksX2_undo_1 1 rfl rfl)
theorem dX2_undo_26 : decode cX2_undo 26 = .ok (.dup, 1) := dk_89 (dk_at dksX2_undo_1 2 rfl rfl)
theorem dX2_undo_27 : decode cX2_undo 27 = .ok (.getfield 211, 3) := dk_180 0 211 (dk_at dksX2_undo_1 3 rfl rfl)
theorem dX2_undo_30 : decode cX2_undo 30 = .ok (.iconst 1, 1) := dk_4 (dk_at dksX2_undo_1 6 rfl rfl)
theorem dX2_undo_31 : decode cX2_undo 31 = .ok (.isub, 1) := dk_100 (dk_at dksX2_undo_1 7 rfl rfl)
theorem dX2_undo_32 : decode cX2_undo 32 = .ok (.putfield 211, 3) := dk_181 0 211 (dk_at dksX2_undo_1 8 rfl rfl)
theorem dX2_undo_35 : decode cX2_undo 35 = .ok (.aload_n 0, 1) := dk_42 (dk_at dksX2_undo_1 11 rfl rfl)
theorem dX2_undo_36 : decode cX2_undo 36 = .ok (.getfield 30, 3) := dk_180 0 30 (dk_at dksX2_undo_1 12 rfl rfl)
theorem dX2_undo_39 : decode cX2_undo 39 = .ok (.aload_n 0, 1) := dk_42 (dk_at dksX2_undo_1 15 rfl rfl)
theorem dX2_undo_40 : decode cX2_undo 40 = .ok (.getfield 211, 3) := dk_180 0 211 (dk_at dksX2_undo_1 16 rfl rfl)
theorem dX2_undo_43 : decode cX2_undo 43 = .ok (.sipush 176, 3) := dk_17 0 176 (dk_at dksX2_undo_1 19 rfl rfl)
theorem dX2_undo_46 : decode cX2_undo 46 = .ok (.imul, 1) := dk_104 (dk_at dksX2_undo_1 22 rfl rfl)
theorem dX2_undo_47 : decode cX2_undo 47 = .ok (.aload_n 0, 1) := dk_42 (dk_at dksX2_undo_1 23 rfl rfl)
theorem dX2_undo_48 : decode cX2_undo 48 = .ok (.getfield 23, 3) := dk_180 0 23 (dk_at dksX2_undo_2 0 rfl rfl)
theorem dX2_undo_51 : decode cX2_undo 51 = .ok (.iconst 0, 1) := dk_3 (dk_at dksX2_undo_2 3 rfl rfl)
theorem dX2_undo_52 : decode cX2_undo 52 = .ok (.invokestatic 200, 3) := dk_184 0 200 (dk_at dksX2_undo_2 4 rfl rfl)
theorem dX2_undo_55 : decode cX2_undo 55 = .ok (.aload_n 0, 1) := dk_42 (dk_at dksX2_undo_2 7 rfl rfl)
theorem dX2_undo_56 : decode cX2_undo 56 = .ok (.getfield 211, 3) := dk_180 0 211 (dk_at dksX2_undo_2 8 rfl rfl)
theorem dX2_undo_59 : decode cX2_undo 59 = .ok (.ireturn, 1) := dk_172 (dk_at dksX2_undo_2 11 rfl rfl)
abbrev cX2_undoable : ByteArray := prog_16_method_147_code
def yX2_undoable : MethodName := ⟨RX2, "undoable", "()I"⟩
def dkwX2_undoable_0 : List UInt8 := [42, 3, 181, 0, 73, 42, 180, 0, 211, 172]
abbrev dktX2_undoable_0 : List UInt8 := dkwX2_undoable_0 ++ []
theorem dksX2_undoable_0 : cX2_undoable.data.toList.drop 0 = dktX2_undoable_0 := by decide +kernel
theorem dX2_undoable_0 : decode cX2_undoable 0 = .ok (.aload_n 0, 1) := dk_42 (dk_at dksX2_undoable_0 0 rfl rfl)
theorem dX2_undoable_1 : decode cX2_undoable 1 = .ok (.iconst 0, 1) := dk_3 (dk_at dksX2_undoable_0 1 rfl rfl)
theorem dX2_undoable_2 : decode cX2_undoable 2 = .ok (.putfield 73, 3) := dk_181 0 73 (dk_at dksX2_undoable_0 2 rfl rfl)
theorem dX2_undoable_5 : decode cX2_undoable 5 = .ok (.aload_n 0, 1) := dk_42 (dk_at dksX2_undoable_0 5 rfl rfl)
theorem dX2_undoable_6 : decode cX2_undoable 6 = .ok (.getfield 211, 3) := dk_180 0 211 (dk_at dksX2_undoable_0 6 rfl rfl)
theorem dX2_undoable_9 : decode cX2_undoable 9 = .ok (.ireturn, 1) := dk_172 (dk_at dksX2_undoable_0 9 rfl rfl)
abbrev cX2_save : ByteArray := prog_16_method_148_code
def yX2_save : MethodName := ⟨RX2, "save", "(I)I"⟩
def dkwX2_save_1 : List UInt8 := [27, 17, 0, 176, 104, 184, 0, 200, 42, 180, 0, 36, 27, 4, 84, 42, 182, 0, 220, 172]
abbrev dktX2_save_1 : List UInt8 := dkwX2_save_1 ++ []
def dkwX2_save_0 : List UInt8 := [42, 27, 3, 4, 184, 0, 102, 182, 1, 35, 154, 0, 5, 3, 172, 42, 180, 0, 23, 3, 42, 180, 0, 33]
abbrev dktX2_save_0 : List UInt8 := dkwX2_save_0 ++ dktX2_save_1
theorem dksX2_save_0 : cX2_save.data.toList.drop 0 = dktX2_save_0 := by decide +kernel
theorem dksX2_save_1 : cX2_save.data.toList.drop 24 = dktX2_save_1 := dk_seg dksX2_save_0 24 rfl rfl
theorem dX2_save_0 : decode cX2_save 0 = .ok (.aload_n 0, 1) := dk_42 (dk_at dksX2_save_0 0 rfl rfl)
theorem dX2_save_1 : decode cX2_save 1 = .ok (.iload_n 1, 1) := dk_27 (dk_at dksX2_save_0 1 rfl rfl)
theorem dX2_save_2 : decode cX2_save 2 = .ok (.iconst 0, 1) := dk_3 (dk_at dksX2_save_0 2 rfl rfl)
theorem dX2_save_3 : decode cX2_save 3 = .ok (.iconst 1, 1) := dk_4 (dk_at dksX2_save_0 3 rfl rfl)
theorem dX2_save_4 : decode cX2_save 4 = .ok (.invokestatic 102, 3) := dk_184 0 102 (dk_at dksX2_save_0 4 rfl rfl)
theorem dX2_save_7 : decode cX2_save 7 = .ok (.invokevirtual 291, 3) := dk_182 1 35 (dk_at dksX2_save_0 7 rfl rfl)
theorem dX2_save_10 : decode cX2_save 10 = .ok (.ifCond .ne 5, 3) := dk_154 0 5 (dk_at dksX2_save_0 10 rfl rfl)
theorem dX2_save_13 : decode cX2_save 13 = .ok (.iconst 0, 1) := dk_3 (dk_at dksX2_save_0 13 rfl rfl)
theorem dX2_save_14 : decode cX2_save 14 = .ok (.ireturn, 1) := dk_172 (dk_at dksX2_save_0 14 rfl rfl)
theorem dX2_save_15 : decode cX2_save 15 = .ok (.aload_n 0, 1) := dk_42 (dk_at dksX2_save_0 15 rfl rfl)
theorem dX2_save_16 : decode cX2_save 16 = .ok (.getfield 23, 3) := dk_180 0 23 (dk_at dksX2_save_0 16 rfl rfl)
theorem dX2_save_19 : decode cX2_save 19 = .ok (.iconst 0, 1) := dk_3 (dk_at dksX2_save_0 19 rfl rfl)
theorem dX2_save_20 : decode cX2_save 20 = .ok (.aload_n 0, 1) := dk_42 (dk_at dksX2_save_0 20 rfl rfl)
theorem dX2_save_21 : decode cX2_save 21 = .ok (.getfield 33, 3) := dk_180 0 33 (dk_at dksX2_save_0 21 rfl rfl)
theorem dX2_save_24 : decode cX2_save 24 = .ok (.iload_n 1, 1) := dk_27 (dk_at dksX2_save_1 0 rfl rfl)
theorem dX2_save_25 : decode cX2_save 25 = .ok (.sipush 176, 3) := dk_17 0 176 (dk_at dksX2_save_1 1 rfl rfl)
theorem dX2_save_28 : decode cX2_save 28 = .ok (.imul, 1) := dk_104 (dk_at dksX2_save_1 4 rfl rfl)
theorem dX2_save_29 : decode cX2_save 29 = .ok (.invokestatic 200, 3) := dk_184 0 200 (dk_at dksX2_save_1 5 rfl rfl)
theorem dX2_save_32 : decode cX2_save 32 = .ok (.aload_n 0, 1) := dk_42 (dk_at dksX2_save_1 8 rfl rfl)
theorem dX2_save_33 : decode cX2_save 33 = .ok (.getfield 36, 3) := dk_180 0 36 (dk_at dksX2_save_1 9 rfl rfl)
theorem dX2_save_36 : decode cX2_save 36 = .ok (.iload_n 1, 1) := dk_27 (dk_at dksX2_save_1 12 rfl rfl)
theorem dX2_save_37 : decode cX2_save 37 = .ok (.iconst 1, 1) := dk_4 (dk_at dksX2_save_1 13 rfl rfl)
theorem dX2_save_38 : decode cX2_save 38 = .ok (.bastore, 1) := dk_84 (dk_at dksX2_save_1 14 rfl rfl)
theorem dX2_save_39 : decode cX2_save 39 = .ok (.aload_n 0, 1) := dk_42 (dk_at dksX2_save_1 15 rfl rfl)
theorem dX2_save_40 : decode cX2_save 40 = .ok (.invokevirtual 220, 3) := dk_182 0 220 (dk_at dksX2_save_1 16 rfl rfl)
theorem dX2_save_43 : decode cX2_save 43 = .ok (.ireturn, 1) := dk_172 (dk_at dksX2_save_1 19 rfl rfl)
abbrev cX2_restore : ByteArray := prog_16_method_149_code
def yX2_restore : MethodName := ⟨RX2, "restore", "(I)I"⟩
def dkwX2_restore_2 : List UInt8 := [104, 42, 180, 0, 23, 3, 184, 0, 200, 42, 3, 181, 0, 211, 42, 182, 0, 220, 172]
abbrev dktX2_restore_2 : List UInt8 := dkwX2_restore_2 ++ []
def dkwX2_restore_1 : List UInt8 := [167, 0, 4, 5, 181, 0, 73, 42, 180, 0, 73, 158, 0, 5, 3, 172, 42, 180, 0, 33, 27, 17, 0, 176]
abbrev dktX2_restore_1 : List UInt8 := dkwX2_restore_1 ++ dktX2_restore_2
def dkwX2_restore_0 : List UInt8 := [42, 27, 3, 4, 184, 0, 102, 154, 0, 7, 4, 167, 0, 17, 42, 180, 0, 36, 27, 51, 153, 0, 7, 3]
abbrev dktX2_restore_0 : List UInt8 := dkwX2_restore_0 ++ dktX2_restore_1
theorem dksX2_restore_0 : cX2_restore.data.toList.drop 0 = dktX2_restore_0 := by decide +kernel
theorem dksX2_restore_1 : cX2_restore.data.toList.drop 24 = dktX2_restore_1 := dk_seg dksX2_restore_0 24 rfl rfl
theorem dksX2_restore_2 : cX2_restore.data.toList.drop 48 = dktX2_restore_2 := dk_seg dksX2_restore_1 24 rfl rfl
theorem dX2_restore_0 : decode cX2_restore 0 = .ok (.aload_n 0, 1) := dk_42 (dk_at dksX2_restore_0 0 rfl rfl)
theorem dX2_restore_1 : decode cX2_restore 1 = .ok (.iload_n 1, 1) := dk_27 (dk_at dksX2_restore_0 1 rfl rfl)
theorem dX2_restore_2 : decode cX2_restore 2 = .ok (.iconst 0, 1) := dk_3 (dk_at dksX2_restore_0 2 rfl rfl)
theorem dX2_restore_3 : decode cX2_restore 3 = .ok (.iconst 1, 1) := dk_4 (dk_at dksX2_restore_0 3 rfl rfl)
theorem dX2_restore_4 : decode cX2_restore 4 = .ok (.invokestatic 102, 3) := dk_184 0 102 (dk_at dksX2_restore_0 4 rfl rfl)
theorem dX2_restore_7 : decode cX2_restore 7 = .ok (.ifCond .ne 7, 3) := dk_154 0 7 (dk_at dksX2_restore_0 7 rfl rfl)
theorem dX2_restore_10 : decode cX2_restore 10 = .ok (.iconst 1, 1) := dk_4 (dk_at dksX2_restore_0 10 rfl rfl)
theorem dX2_restore_11 : decode cX2_restore 11 = .ok (.goto 17, 3) := dk_167 0 17 (dk_at dksX2_restore_0 11 rfl rfl)
theorem dX2_restore_14 : decode cX2_restore 14 = .ok (.aload_n 0, 1) := dk_42 (dk_at dksX2_restore_0 14 rfl rfl)
theorem dX2_restore_15 : decode cX2_restore 15 = .ok (.getfield 36, 3) := dk_180 0 36 (dk_at dksX2_restore_0 15 rfl rfl)
theorem dX2_restore_18 : decode cX2_restore 18 = .ok (.iload_n 1, 1) := dk_27 (dk_at dksX2_restore_0 18 rfl rfl)
theorem dX2_restore_19 : decode cX2_restore 19 = .ok (.baload, 1) := dk_51 (dk_at dksX2_restore_0 19 rfl rfl)
theorem dX2_restore_20 : decode cX2_restore 20 = .ok (.ifCond .eq 7, 3) := dk_153 0 7 (dk_at dksX2_restore_0 20 rfl rfl)
theorem dX2_restore_23 : decode cX2_restore 23 = .ok (.iconst 0, 1) := dk_3 (dk_at dksX2_restore_0 23 rfl rfl)
theorem dX2_restore_24 : decode cX2_restore 24 = .ok (.goto 4, 3) := dk_167 0 4 (dk_at dksX2_restore_1 0 rfl rfl)
theorem dX2_restore_27 : decode cX2_restore 27 = .ok (.iconst 2, 1) := dk_5 (dk_at dksX2_restore_1 3 rfl rfl)
theorem dX2_restore_28 : decode cX2_restore 28 = .ok (.putfield 73, 3) := dk_181 0 73 (dk_at dksX2_restore_1 4 rfl rfl)
theorem dX2_restore_31 : decode cX2_restore 31 = .ok (.aload_n 0, 1) := dk_42 (dk_at dksX2_restore_1 7 rfl rfl)
theorem dX2_restore_32 : decode cX2_restore 32 = .ok (.getfield 73, 3) := dk_180 0 73 (dk_at dksX2_restore_1 8 rfl rfl)
theorem dX2_restore_35 : decode cX2_restore 35 = .ok (.ifCond .le 5, 3) := dk_158 0 5 (dk_at dksX2_restore_1 11 rfl rfl)
theorem dX2_restore_38 : decode cX2_restore 38 = .ok (.iconst 0, 1) := dk_3 (dk_at dksX2_restore_1 14 rfl rfl)
theorem dX2_restore_39 : decode cX2_restore 39 = .ok (.ireturn, 1) := dk_172 (dk_at dksX2_restore_1 15 rfl rfl)
theorem dX2_restore_40 : decode cX2_restore 40 = .ok (.aload_n 0, 1) := dk_42 (dk_at dksX2_restore_1 16 rfl rfl)
theorem dX2_restore_41 : decode cX2_restore 41 = .ok (.getfield 33, 3) := dk_180 0 33 (dk_at dksX2_restore_1 17 rfl rfl)
theorem dX2_restore_44 : decode cX2_restore 44 = .ok (.iload_n 1, 1) := dk_27 (dk_at dksX2_restore_1 20 rfl rfl)
theorem dX2_restore_45 : decode cX2_restore 45 = .ok (.sipush 176, 3) := dk_17 0 176 (dk_at dksX2_restore_1 21 rfl rfl)
theorem dX2_restore_48 : decode cX2_restore 48 = .ok (.imul, 1) := dk_104 (dk_at dksX2_restore_2 0 rfl rfl)
theorem dX2_restore_49 : decode cX2_restore 49 = .ok (.aload_n 0, 1) := dk_42 (dk_at dksX2_restore_2 1 rfl rfl)
theorem dX2_restore_50 : decode cX2_restore 50 = .ok (.getfield 23, 3) := dk_180 0 23 (dk_at dksX2_restore_2 2 rfl rfl)
theorem dX2_restore_53 : decode cX2_restore 53 = .ok (.iconst 0, 1) := dk_3 (dk_at dksX2_restore_2 5 rfl rfl)
theorem dX2_restore_54 : decode cX2_restore 54 = .ok (.invokestatic 200, 3) := dk_184 0 200 (dk_at dksX2_restore_2 6 rfl rfl)
theorem dX2_restore_57 : decode cX2_restore 57 = .ok (.aload_n 0, 1) := dk_42 (dk_at dksX2_restore_2 9 rfl rfl)
theorem dX2_restore_58 : decode cX2_restore 58 = .ok (.iconst 0, 1) := dk_3 (dk_at dksX2_restore_2 10 rfl rfl)
theorem dX2_restore_59 : decode cX2_restore 59 = .ok (.putfield 211, 3) := dk_181 0 211 (dk_at dksX2_restore_2 11 rfl rfl)
theorem dX2_restore_62 : decode cX2_restore 62 = .ok (.aload_n 0, 1) := dk_42 (dk_at dksX2_restore_2 14 rfl rfl)
theorem dX2_restore_63 : decode cX2_restore 63 = .ok (.invokevirtual 220, 3) := dk_182 0 220 (dk_at dksX2_restore_2 15 rfl rfl)
theorem dX2_restore_66 : decode cX2_restore 66 = .ok (.ireturn, 1) := dk_172 (dk_at dksX2_restore_2 18 rfl rfl)
