/-! code of J0 J1 J2 J3 J4 J6 J7 J11 J12 J13 J14 J15 J16 J17 J18 J19 J21 J22 J23 J25 J26 J28 J29 J31 -/
set_option maxRecDepth 100000
abbrev cJ0_init : ByteArray := prog_45_method_1_code
def yJ0_init : MethodName := ⟨RJ0, "<init>", "()V"⟩
theorem dJ0_init_0 : decode cJ0_init 0 = .ok (.aload_n 0, 1) := by decide +kernel
theorem dJ0_init_1 : decode cJ0_init 1 = .ok (.invokespecial 1, 3) := by decide +kernel
theorem dJ0_init_4 : decode cJ0_init 4 = .ok (.return_, 1) := by decide +kernel
abbrev cJ1_init : ByteArray := prog_49_method_3_code
def yJ1_init : MethodName := ⟨RJ1, "<init>", "()V"⟩
def dkwJ1_init_0 : List UInt8 := [42, 183, 0, 42, 42, 16, 17, 189, 0, 47, 181, 0, 3, 177]
abbrev dktJ1_init_0 : List UInt8 := dkwJ1_init_0 ++ []
theorem dksJ1_init_0 : cJ1_init.data.toList.drop 0 = dktJ1_init_0 := by decide +kernel
theorem dJ1_init_0 : decode cJ1_init 0 = .ok (.aload_n 0, 1) := dk_42 (dk_at dksJ1_init_0 0 rfl rfl)
theorem dJ1_init_1 : decode cJ1_init 1 = .ok (.invokespecial 42, 3) := dk_183 0 42 (dk_at dksJ1_init_0 1 rfl rfl)
theorem dJ1_init_4 : decode cJ1_init 4 = .ok (.aload_n 0, 1) := dk_42 (dk_at dksJ1_init_0 4 rfl rfl)
theorem dJ1_init_5 : decode cJ1_init 5 = .ok (.bipush 17, 2) := dk_16 17 (dk_at dksJ1_init_0 5 rfl rfl)
theorem dJ1_init_7 : decode cJ1_init 7 = .ok (.anewarray 47, 3) := dk_189 0 47 (dk_at dksJ1_init_0 7 rfl rfl)
theorem dJ1_init_10 : decode cJ1_init 10 = .ok (.putfield 3, 3) := dk_181 0 3 (dk_at dksJ1_init_0 10 rfl rfl)
theorem dJ1_init_13 : decode cJ1_init 13 = .ok (.return_, 1) := dk_177 (dk_at dksJ1_init_0 13 rfl rfl)
abbrev cJ1_size : ByteArray := prog_49_method_37_code
def yJ1_size : MethodName := ⟨RJ1, "size", "()I"⟩
def dkwJ1_size_0 : List UInt8 := [42, 180, 0, 20, 42, 180, 0, 24, 42, 180, 0, 3, 190, 184, 0, 127, 172]
abbrev dktJ1_size_0 : List UInt8 := dkwJ1_size_0 ++ []
theorem dksJ1_size_0 : cJ1_size.data.toList.drop 0 = dktJ1_size_0 := by decide +kernel
theorem dJ1_size_0 : decode cJ1_size 0 = .ok (.aload_n 0, 1) := dk_42 (dk_at dksJ1_size_0 0 rfl rfl)
theorem dJ1_size_1 : decode cJ1_size 1 = .ok (.getfield 20, 3) := dk_180 0 20 (dk_at dksJ1_size_0 1 rfl rfl)
theorem dJ1_size_4 : decode cJ1_size 4 = .ok (.aload_n 0, 1) := dk_42 (dk_at dksJ1_size_0 4 rfl rfl)
theorem dJ1_size_5 : decode cJ1_size 5 = .ok (.getfield 24, 3) := dk_180 0 24 (dk_at dksJ1_size_0 5 rfl rfl)
theorem dJ1_size_8 : decode cJ1_size 8 = .ok (.aload_n 0, 1) := dk_42 (dk_at dksJ1_size_0 8 rfl rfl)
theorem dJ1_size_9 : decode cJ1_size 9 = .ok (.getfield 3, 3) := dk_180 0 3 (dk_at dksJ1_size_0 9 rfl rfl)
theorem dJ1_size_12 : decode cJ1_size 12 = .ok (.arraylength, 1) := dk_190 (dk_at dksJ1_size_0 12 rfl rfl)
theorem dJ1_size_13 : decode cJ1_size 13 = .ok (.invokestatic 127, 3) := dk_184 0 127 (dk_at dksJ1_size_0 13 rfl rfl)
theorem dJ1_size_16 : decode cJ1_size 16 = .ok (.ireturn, 1) := dk_172 (dk_at dksJ1_size_0 16 rfl rfl)
abbrev cJ1_sub : ByteArray := prog_49_method_9_code
def yJ1_sub : MethodName := ⟨RJ1, "sub", "(III)I"⟩
def dkwJ1_sub_0 : List UInt8 := [26, 27, 100, 89, 59, 156, 0, 7, 26, 28, 96, 59, 26, 172]
abbrev dktJ1_sub_0 : List UInt8 := dkwJ1_sub_0 ++ []
theorem dksJ1_sub_0 : cJ1_sub.data.toList.drop 0 = dktJ1_sub_0 := by decide +kernel
theorem dJ1_sub_0 : decode cJ1_sub 0 = .ok (.iload_n 0, 1) := dk_26 (dk_at dksJ1_sub_0 0 rfl rfl)
theorem dJ1_sub_1 : decode cJ1_sub 1 = .ok (.iload_n 1, 1) := dk_27 (dk_at dksJ1_sub_0 1 rfl rfl)
theorem dJ1_sub_2 : decode cJ1_sub 2 = .ok (.isub, 1) := dk_100 (dk_at dksJ1_sub_0 2 rfl rfl)
theorem dJ1_sub_3 : decode cJ1_sub 3 = .ok (.dup, 1) := dk_89 (dk_at dksJ1_sub_0 3 rfl rfl)
theorem dJ1_sub_4 : decode cJ1_sub 4 = .ok (.istore_n 0, 1) := dk_59 (dk_at dksJ1_sub_0 4 rfl rfl)
theorem dJ1_sub_5 : decode cJ1_sub 5 = .ok (.ifCond .ge 7, 3) := dk_156 0 7 (dk_at dksJ1_sub_0 5 rfl rfl)
theorem dJ1_sub_8 : decode cJ1_sub 8 = .ok (.iload_n 0, 1) := dk_26 (dk_at dksJ1_sub_0 8 rfl rfl)
theorem dJ1_sub_9 : decode cJ1_sub 9 = .ok (.iload_n 2, 1) := dk_28 (dk_at dksJ1_sub_0 9 rfl rfl)
theorem dJ1_sub_10 : decode cJ1_sub 10 = .ok (.iadd, 1) := dk_96 (dk_at dksJ1_sub_0 10 rfl rfl)
theorem dJ1_sub_11 : decode cJ1_sub 11 = .ok (.istore_n 0, 1) := dk_59 (dk_at dksJ1_sub_0 11 rfl rfl)
theorem dJ1_sub_12 : decode cJ1_sub 12 = .ok (.iload_n 0, 1) := dk_26 (dk_at dksJ1_sub_0 12 rfl rfl)
theorem dJ1_sub_13 : decode cJ1_sub 13 = .ok (.ireturn, 1) := dk_172 (dk_at dksJ1_sub_0 13 rfl rfl)
abbrev cJ1_toArray : ByteArray := prog_49_method_55_code
def yJ1_toArray : MethodName := ⟨RJ1, "toArray", "()[Ljava/lang/Object;"⟩
def dkwJ1_toArray_0 : List UInt8 := [42, 18, 188, 182, 0, 189, 176]
abbrev dktJ1_toArray_0 : List UInt8 := dkwJ1_toArray_0 ++ []
theorem dksJ1_toArray_0 : cJ1_toArray.data.toList.drop 0 = dktJ1_toArray_0 := by decide +kernel
theorem dJ1_toArray_0 : decode cJ1_toArray 0 = .ok (.aload_n 0, 1) := dk_42 (dk_at dksJ1_toArray_0 0 rfl rfl)
theorem dJ1_toArray_1 : decode cJ1_toArray 1 = .ok (.ldc 188, 2) := dk_18 188 (dk_at dksJ1_toArray_0 1 rfl rfl)
theorem dJ1_toArray_3 : decode cJ1_toArray 3 = .ok (.invokevirtual 189, 3) := dk_182 0 189 (dk_at dksJ1_toArray_0 3 rfl rfl)
theorem dJ1_toArray_6 : decode cJ1_toArray 6 = .ok (.areturn, 1) := dk_176 (dk_at dksJ1_toArray_0 6 rfl rfl)
abbrev cJ1_toArray_2 : ByteArray := prog_49_method_56_code
def yJ1_toArray_2 : MethodName := ⟨RJ1, "toArray", "(Ljava/lang/Class;)[Ljava/lang/Object;"⟩
def dkwJ1_toArray_2_4 : List UInt8 := [21, 5, 184, 0, 27, 45, 176]
abbrev dktJ1_toArray_2_4 : List UInt8 := dkwJ1_toArray_2_4 ++ []
def dkwJ1_toArray_2_3 : List UInt8 := [44, 190, 21, 4, 100, 184, 0, 27, 21, 6, 21, 5, 159, 0, 16, 44, 3, 45, 44, 190, 21, 4, 100]
abbrev dktJ1_toArray_2_3 : List UInt8 := dkwJ1_toArray_2_3 ++ dktJ1_toArray_2_4
def dkwJ1_toArray_2_2 : List UInt8 := [184, 0, 193, 78, 167, 0, 28, 44, 3, 21, 6, 21, 4, 100, 43, 184, 0, 193, 78, 44, 21, 4, 45, 3]
abbrev dktJ1_toArray_2_2 : List UInt8 := dkwJ1_toArray_2_2 ++ dktJ1_toArray_2_3
def dkwJ1_toArray_2_1 : List UInt8 := [163, 0, 7, 3, 167, 0, 5, 44, 190, 96, 89, 54, 6, 155, 0, 16, 44, 21, 4, 21, 6, 43]
abbrev dktJ1_toArray_2_1 : List UInt8 := dkwJ1_toArray_2_1 ++ dktJ1_toArray_2_2
def dkwJ1_toArray_2_0 : List UInt8 := [42, 180, 0, 3, 77, 42, 180, 0, 24, 54, 4, 42, 180, 0, 20, 54, 5, 21, 5, 21, 4, 21, 5]
abbrev dktJ1_toArray_2_0 : List UInt8 := dkwJ1_toArray_2_0 ++ dktJ1_toArray_2_1
theorem dksJ1_toArray_2_0 : cJ1_toArray_2.data.toList.drop 0 = dktJ1_toArray_2_0 := by decide +kernel
theorem dksJ1_toArray_2_1 : cJ1_toArray_2.data.toList.drop 23 = dktJ1_toArray_2_1 := dk_seg dksJ1_toArray_2_0 23 rfl rfl
theorem dksJ1_toArray_2_2 : cJ1_toArray_2.data.toList.drop 45 = dktJ1_toArray_2_2 := dk_seg dksJ1_toArray_2_1 22 rfl rfl
theorem dksJ1_toArray_2_3 : cJ1_toArray_2.data.toList.drop 69 = dktJ1_toArray_2_3 := dk_seg dksJ1_toArray_2_2 24 rfl rfl
theorem dksJ1_toArray_2_4 : cJ1_toArray_2.data.toList.drop 92 = dktJ1_toArray_2_4 := dk_seg dksJ1_toArray_2_3 23 rfl rfl
theorem dJ1_toArray_2_0 : decode cJ1_toArray_2 0 = .ok (.aload_n 0, 1) := dk_42 (dk_at dksJ1_toArray_2_0 0 rfl rfl)
theorem dJ1_toArray_2_1 : decode cJ1_toArray_2 1 = .ok (.getfield 3, 3) := dk_180 0 3 (dk_at dksJ1_toArray_2_0 1 rfl rfl)
theorem dJ1_toArray_2_4 : decode cJ1_toArray_2 4 = .ok (.astore_n 2, 1) := dk_77 (dk_at dksJ1_toArray_2_0 4 rfl rfl)
theorem dJ1_toArray_2_5 : decode cJ1_toArray_2 5 = .ok (.aload_n 0, 1) := dk_42 (dk_at dksJ1_toArray_2_0 5 rfl rfl)
theorem dJ1_toArray_2_6 : decode cJ1_toArray_2 6 = .ok (.getfield 24, 3) := dk_180 0 24 (dk_at dksJ1_toArray_2_0 6 rfl rfl)
theorem dJ1_toArray_2_9 : decode cJ1_toArray_2 9 = .ok (.istore 4, 2) := dk_54 4 (dk_at dksJ1_toArray_2_0 9 rfl rfl)
theorem dJ1_toArray_2_11 : decode cJ1_toArray_2 11 = .ok (.aload_n 0, 1) := dk_42 (dk_at dksJ1_toArray_2_0 11 rfl rfl)
theorem dJ1_toArray_2_12 : decode cJ1_toArray_2 12 = .ok (.getfield 20, 3) := dk_180 0 20 (dk_at dksJ1_toArray_2_0 12 rfl rfl)
theorem dJ1_toArray_2_15 : decode cJ1_toArray_2 15 = .ok (.istore 5, 2) := dk_54 5 (dk_at dksJ1_toArray_2_0 15 rfl rfl)
theorem dJ1_toArray_2_17 : decode cJ1_toArray_2 17 = .ok (.iload 5, 2) := dk_21 5 (dk_at dksJ1_toArray_2_0 17 rfl rfl)
theorem dJ1_toArray_2_19 : decode cJ1_toArray_2 19 = .ok (.iload 4, 2) := dk_21 4 (dk_at dksJ1_toArray_2_0 19 rfl rfl)
theorem dJ1_toArray_2_21 : decode cJ1_toArray_2 21 = .ok (.iload 5, 2) := dk_21 5 (dk_at dksJ1_toArray_2_0 21 rfl rfl)
theorem dJ1_toArray_2_23 : decode cJ1_toArray_2 23 = .ok (.if_icmp .gt 7, 3) := dk_163 0 7 (dk_at dksJ1_toArray_2_1 0 rfl rfl)
theorem dJ1_toArray_2_26 : decode cJ1_toArray_2 26 = .ok (.iconst 0, 1) := dk_3 (dk_at dksJ1_toArray_2_1 3 rfl rfl)
theorem dJ1_toArray_2_27 : decode cJ1_toArray_2 27 = .ok (.goto 5, 3) := dk_167 0 5 (dk_at dksJ1_toArray_2_1 4 rfl rfl)
theorem dJ1_toArray_2_30 : decode cJ1_toArray_2 30 = .ok (.aload_n 2, 1) := dk_44 (dk_at dksJ1_toArray_2_1 7 rfl rfl)
theorem dJ1_toArray_2_31 : decode cJ1_toArray_2 31 = .ok (.arraylength, 1) := dk_190 (dk_at dksJ1_toArray_2_1 8 rfl rfl)
theorem dJ1_toArray_2_32 : decode cJ1_toArray_2 32 = .ok (.iadd, 1) := dk_96 (dk_at dksJ1_toArray_2_1 9 rfl rfl)
theorem dJ1_toArray_2_33 : decode cJ1_toArray_2 33 = .ok (.dup, 1) := dk_89 (dk_at dksJ1_toArray_2_1 10 rfl rfl)
theorem dJ1_toArray_2_34 : decode cJ1_toArray_2 34 = .ok (.istore 6, 2) := dk_54 6 (dk_at dksJ1_toArray_2_1 11 rfl rfl)
theorem dJ1_toArray_2_36 : decode cJ1_toArray_2 36 = .ok (.ifCond .lt 16, 3) := dk_155 0 16 (dk_at dksJ1_toArray_2_1 13 rfl rfl)
theorem dJ1_toArray_2_39 : decode cJ1_toArray_2 39 = .ok (.aload_n 2, 1) := dk_44 (dk_at dksJ1_toArray_2_1 16 rfl rfl)
theorem dJ1_toArray_2_40 : decode cJ1_toArray_2 40 = .ok (.iload 4, 2) := dk_21 4 (dk_at dksJ1_toArray_2_1 17 rfl rfl)
theorem dJ1_toArray_2_42 : decode cJ1_toArray_2 42 = .ok (.iload 6, 2) := dk_21 6 (dk_at dksJ1_toArray_2_1 19 rfl rfl)
theorem dJ1_toArray_2_44 : decode cJ1_toArray_2 44 = .ok (.aload_n 1, 1) := dk_43 (dk_at dksJ1_toArray_2_1 21 rfl rfl)
theorem dJ1_toArray_2_45 : decode cJ1_toArray_2 45 = .ok (.invokestatic 193, 3) := dk_184 0 193 (dk_at dksJ1_toArray_2_2 0 rfl rfl)
theorem dJ1_toArray_2_48 : decode cJ1_toArray_2 48 = .ok (.astore_n 3, 1) := dk_78 (dk_at dksJ1_toArray_2_2 3 rfl rfl)
theorem dJ1_toArray_2_49 : decode cJ1_toArray_2 49 = .ok (.goto 28, 3) := dk_167 0 28 (dk_at dksJ1_toArray_2_2 4 rfl rfl)
theorem dJ1_toArray_2_52 : decode cJ1_toArray_2 52 = .ok (.aload_n 2, 1) := dk_44 (dk_at dksJ1_toArray_2_2 7 rfl rfl)
theorem dJ1_toArray_2_53 : decode cJ1_toArray_2 53 = .ok (.iconst 0, 1) := dk_3 (dk_at dksJ1_toArray_2_2 8 rfl rfl)
theorem dJ1_toArray_2_54 : decode cJ1_toArray_2 54 = .ok (.iload 6, 2) := dk_21 6 (dk_at dksJ1_toArray_2_2 9 rfl rfl)
theorem dJ1_toArray_2_56 : decode cJ1_toArray_2 56 = .ok (.iload 4, 2) := dk_21 4 (dk_at dksJ1_toArray_2_2 11 rfl rfl)
theorem dJ1_toArray_2_58 : decode cJ1_toArray_2 58 = .ok (.isub, 1) := dk_100 (dk_at dksJ1_toArray_2_2 13 rfl rfl)
theorem dJ1_toArray_2_59 : decode cJ1_toArray_2 59 = .ok (.aload_n 1, 1) := dk_43 (dk_at dksJ1_toArray_2_2 14 rfl rfl)
theorem dJ1_toArray_2_60 : decode cJ1_toArray_2 60 = .ok (.invokestatic 193, 3) := dk_184 0 193 (dk_at dksJ1_toArray_2_2 15 rfl rfl)
theorem dJ1_toArray_2_63 : decode cJ1_toArray_2 63 = .ok (.astore_n 3, 1) := dk_78 (dk_at dksJ1_toArray_2_2 18 rfl rfl)
theorem dJ1_toArray_2_64 : decode cJ1_toArray_2 64 = .ok (.aload_n 2, 1) := dk_44 (dk_at dksJ1_toArray_2_2 19 rfl rfl)
theorem dJ1_toArray_2_65 : decode cJ1_toArray_2 65 = .ok (.iload 4, 2) := dk_21 4 (dk_at dksJ1_toArray_2_2 20 rfl rfl)
theorem dJ1_toArray_2_67 : decode cJ1_toArray_2 67 = .ok (.aload_n 3, 1) := dk_45 (dk_at dksJ1_toArray_2_2 22 rfl rfl)
theorem dJ1_toArray_2_68 : decode cJ1_toArray_2 68 = .ok (.iconst 0, 1) := dk_3 (dk_at dksJ1_toArray_2_2 23 rfl rfl)
theorem dJ1_toArray_2_69 : decode cJ1_toArray_2 69 = .ok (.aload_n 2, 1) := dk_44 (dk_at dksJ1_toArray_2_3 0 rfl rfl)
theorem dJ1_toArray_2_70 : decode cJ1_toArray_2 70 = .ok (.arraylength, 1) := dk_190 (dk_at dksJ1_toArray_2_3 1 rfl rfl)
theorem dJ1_toArray_2_71 : decode cJ1_toArray_2 71 = .ok (.iload 4, 2) := dk_21 4 (dk_at dksJ1_toArray_2_3 2 rfl rfl)
theorem dJ1_toArray_2_73 : decode cJ1_toArray_2 73 = .ok (.isub, 1) := dk_100 (dk_at dksJ1_toArray_2_3 4 rfl rfl)
theorem dJ1_toArray_2_74 : decode cJ1_toArray_2 74 = .ok (.invokestatic 27, 3) := dk_184 0 27 (dk_at dksJ1_toArray_2_3 5 rfl rfl)
theorem dJ1_toArray_2_77 : decode cJ1_toArray_2 77 = .ok (.iload 6, 2) := dk_21 6 (dk_at dksJ1_toArray_2_3 8 rfl rfl)
theorem dJ1_toArray_2_79 : decode cJ1_toArray_2 79 = .ok (.iload 5, 2) := dk_21 5 (dk_at dksJ1_toArray_2_3 10 rfl rfl)
theorem dJ1_toArray_2_81 : decode cJ1_toArray_2 81 = .ok (.if_icmp .eq 16, 3) := dk_159 0 16 (dk_at dksJ1_toArray_2_3 12 rfl rfl)
theorem dJ1_toArray_2_84 : decode cJ1_toArray_2 84 = .ok (.aload_n 2, 1) := dk_44 (dk_at dksJ1_toArray_2_3 15 rfl rfl)
theorem dJ1_toArray_2_85 : decode cJ1_toArray_2 85 = .ok (.iconst 0, 1) := dk_3 (dk_at dksJ1_toArray_2_3 16 rfl rfl)
theorem dJ1_toArray_2_86 : decode cJ1_toArray_2 86 = .ok (.aload_n 3, 1) := dk_45 (dk_at dksJ1_toArray_2_3 17 rfl rfl)
theorem dJ1_toArray_2_87 : decode cJ1_toArray_2 87 = .ok (.aload_n 2, 1) := dk_44 (dk_at dksJ1_toArray_2_3 18 rfl rfl)
theorem dJ1_toArray_2_88 : decode cJ1_toArray_2 88 = .ok (.arraylength, 1) := dk_190 (dk_at dksJ1_toArray_2_3 19 rfl rfl)
theorem dJ1_toArray_2_89 : decode cJ1_toArray_2 89 = .ok (.iload 4, 2) := dk_21 4 (dk_at dksJ1_toArray_2_3 20 rfl rfl)
theorem dJ1_toArray_2_91 : decode cJ1_toArray_2 91 = .ok (.isub, 1) := dk_100 (dk_at dksJ1_toArray_2_3 22 rfl rfl)
theorem dJ1_toArray_2_92 : decode cJ1_toArray_2 92 = .ok (.iload 5, 2) := dk_21 5 (dk_at dksJ1_toArray_2_4 0 rfl rfl)
theorem dJ1_toArray_2_94 : decode cJ1_toArray_2 94 = .ok (.invokestatic 27, 3) := dk_184 0 27 (dk_at dksJ1_toArray_2_4 2 rfl rfl)
theorem dJ1_toArray_2_97 : decode cJ1_toArray_2 97 = .ok (.aload_n 3, 1) := dk_45 (dk_at dksJ1_toArray_2_4 5 rfl rfl)
theorem dJ1_toArray_2_98 : decode cJ1_toArray_2 98 = .ok (.areturn, 1) := dk_176 (dk_at dksJ1_toArray_2_4 6 rfl rfl)
abbrev cJ1_clear : ByteArray := prog_49_method_53_code
def yJ1_clear : MethodName := ⟨RJ1, "clear", "()V"⟩
def dkwJ1_clear_1 : List UInt8 := [181, 0, 24, 177]
abbrev dktJ1_clear_1 : List UInt8 := dkwJ1_clear_1 ++ []
def dkwJ1_clear_0 : List UInt8 := [42, 180, 0, 3, 42, 180, 0, 24, 42, 180, 0, 20, 184, 0, 181, 42, 42, 3, 90, 181, 0, 20]
abbrev dktJ1_clear_0 : List UInt8 := dkwJ1_clear_0 ++ dktJ1_clear_1
theorem dksJ1_clear_0 : cJ1_clear.data.toList.drop 0 = dktJ1_clear_0 := by decide +kernel
theorem dksJ1_clear_1 : cJ1_clear.data.toList.drop 22 = dktJ1_clear_1 := dk_seg dksJ1_clear_0 22 rfl rfl
theorem dJ1_clear_0 : decode cJ1_clear 0 = .ok (.aload_n 0, 1) := dk_42 (dk_at dksJ1_clear_0 0 rfl rfl)
theorem dJ1_clear_1 : decode cJ1_clear 1 = .ok (.getfield 3, 3) := dk_180 0 3 (dk_at dksJ1_clear_0 1 rfl rfl)
theorem dJ1_clear_4 : decode cJ1_clear 4 = .ok (.aload_n 0, 1) := dk_42 (dk_at dksJ1_clear_0 4 rfl rfl)
theorem dJ1_clear_5 : decode cJ1_clear 5 = .ok (.getfield 24, 3) := dk_180 0 24 (dk_at dksJ1_clear_0 5 rfl rfl)
theorem dJ1_clear_8 : decode cJ1_clear 8 = .ok (.aload_n 0, 1) := dk_42 (dk_at dksJ1_clear_0 8 rfl rfl)
theorem dJ1_clear_9 : decode cJ1_clear 9 = .ok (.getfield 20, 3) := dk_180 0 20 (dk_at dksJ1_clear_0 9 rfl rfl)
theorem dJ1_clear_12 : decode cJ1_clear 12 = .ok (.invokestatic 181, 3) := dk_184 0 181 (dk_at dksJ1_clear_0 12 rfl rfl)
theorem dJ1_clear_15 : decode cJ1_clear 15 = .ok (.aload_n 0, 1) := dk_42 (dk_at dksJ1_clear_0 15 rfl rfl)
theorem dJ1_clear_16 : decode cJ1_clear 16 = .ok (.aload_n 0, 1) := dk_42 (dk_at dksJ1_clear_0 16 rfl rfl)
theorem dJ1_clear_17 : decode cJ1_clear 17 = .ok (.iconst 0, 1) := dk_3 (dk_at dksJ1_clear_0 17 rfl rfl)
theorem dJ1_clear_18 : decode cJ1_clear 18 = .ok (.dup_x1, 1) := dk_90 (dk_at dksJ1_clear_0 18 rfl rfl)
theorem dJ1_clear_19 : decode cJ1_clear 19 = .ok (.putfield 20, 3) := dk_181 0 20 (dk_at dksJ1_clear_0 19 rfl rfl)
theorem dJ1_clear_22 : decode cJ1_clear 22 = .ok (.putfield 24, 3) := dk_181 0 24 (dk_at dksJ1_clear_1 0 rfl rfl)
theorem dJ1_clear_25 : decode cJ1_clear 25 = .ok (.return_, 1) := dk_177 (dk_at dksJ1_clear_1 3 rfl rfl)
abbrev cJ1_circularClear : ByteArray := prog_49_method_54_code
def yJ1_circularClear : MethodName := ⟨RJ1, "circularClear", "([Ljava/lang/Object;II)V"⟩
def dkwJ1_circularClear_1 : List UInt8 := [167, 255, 244, 29, 28, 160, 0, 6, 167, 0, 10, 3, 60, 28, 62, 167, 255, 229, 177]
abbrev dktJ1_circularClear_1 : List UInt8 := dkwJ1_circularClear_1 ++ []
def dkwJ1_circularClear_0 : List UInt8 := [27, 28, 163, 0, 7, 28, 167, 0, 5, 42, 190, 62, 27, 29, 162, 0, 13, 42, 27, 1, 83, 132, 1, 1]
abbrev dktJ1_circularClear_0 : List UInt8 := dkwJ1_circularClear_0 ++ dktJ1_circularClear_1
theorem dksJ1_circularClear_0 : cJ1_circularClear.data.toList.drop 0 = dktJ1_circularClear_0 := by decide +kernel
theorem dksJ1_circularClear_1 : cJ1_circularClear.data.toList.drop 24 = dktJ1_circularClear_1 := dk_seg dksJ1_circularClear_0 24 rfl rfl
theorem dJ1_circularClear_0 : decode cJ1_circularClear 0 = .ok (.iload_n 1, 1) := dk_27 (dk_at dksJ1_circularClear_0 0 rfl rfl)
theorem dJ1_circularClear_1 : decode cJ1_circularClear 1 = .ok (.iload_n 2, 1) := dk_28 (dk_at dksJ1_circularClear_0 1 rfl rfl)
theorem dJ1_circularClear_2 : decode cJ1_circularClear 2 = .ok (.if_icmp .gt 7, 3) := dk_163 0 7 (dk_at dksJ1_circularClear_0 2 rfl rfl)
theorem dJ1_circularClear_5 : decode cJ1_circularClear 5 = .ok (.iload_n 2, 1) := dk_28 (dk_at dksJ1_circularClear_0 5 rfl rfl)
theorem dJ1_circularClear_6 : decode cJ1_circularClear 6 = .ok (.goto 5, 3) := dk_167 0 5 (dk_at dksJ1_circularClear_0 6 rfl rfl)
theorem dJ1_circularClear_9 : decode cJ1_circularClear 9 = .ok (.aload_n 0, 1) := dk_42 (dk_at dksJ1_circularClear_0 9 rfl rfl)
theorem dJ1_circularClear_10 : decode cJ1_circularClear 10 = .ok (.arraylength, 1) := dk_190 (dk_at dksJ1_circularClear_0 10 rfl rfl)
theorem dJ1_circularClear_11 : decode cJ1_circularClear 11 = .ok (.istore_n 3, 1) := dk_62 (dk_at dksJ1_circularClear_0 11 rfl rfl)
theorem dJ1_circularClear_12 : decode cJ1_circularClear 12 = .ok (.iload_n 1, 1) := dk_27 (dk_at dksJ1_circularClear_0 12 rfl rfl)
theorem dJ1_circularClear_13 : decode cJ1_circularClear 13 = .ok (.iload_n 3, 1) := dk_29 (dk_at dksJ1_circularClear_0 13 rfl rfl)
theorem dJ1_circularClear_14 : decode cJ1_circularClear 14 = .ok (.if_icmp .ge 13, 3) := dk_162 0 13 (dk_at dksJ1_circularClear_0 14 rfl rfl)
theorem dJ1_circularClear_17 : decode cJ1_circularClear 17 = .ok (.aload_n 0, 1) := dk_42 (dk_at dksJ1_circularClear_0 17 rfl rfl)
theorem dJ1_circularClear_18 : decode cJ1_circularClear 18 = .ok (.iload_n 1, 1) := dk_27 (dk_at dksJ1_circularClear_0 18 rfl rfl)
theorem dJ1_circularClear_19 : decode cJ1_circularClear 19 = .ok (.aconst_null, 1) := dk_1 (dk_at dksJ1_circularClear_0 19 rfl rfl)
theorem dJ1_circularClear_20 : decode cJ1_circularClear 20 = .ok (.aastore, 1) := dk_83 (dk_at dksJ1_circularClear_0 20 rfl rfl)
theorem dJ1_circularClear_21 : decode cJ1_circularClear 21 = .ok (.iinc 1 1, 3) := dk_132 1 1 (dk_at dksJ1_circularClear_0 21 rfl rfl)
theorem dJ1_circularClear_24 : decode cJ1_circularClear 24 = .ok (.goto (-12), 3) := dk_167 255 244 (dk_at dksJ1_circularClear_1 0 rfl rfl)
theorem dJ1_circularClear_27 : decode cJ1_circularClear 27 = .ok (.iload_n 3, 1) := dk_29 (dk_at dksJ1_circularClear_1 3 rfl rfl)
theorem dJ1_circularClear_28 : decode cJ1_circularClear 28 = .ok (.iload_n 2, 1) := dk_28 (dk_at dksJ1_circularClear_1 4 rfl rfl)
theorem dJ1_circularClear_29 : decode cJ1_circularClear 29 = .ok (.if_icmp .ne 6, 3) := dk_160 0 6 (dk_at dksJ1_circularClear_1 5 rfl rfl)
theorem dJ1_circularClear_32 : decode cJ1_circularClear 32 = .ok (.goto 10, 3) := dk_167 0 10 (dk_at dksJ1_circularClear_1 8 rfl rfl)
theorem dJ1_circularClear_35 : decode cJ1_circularClear 35 = .ok (.iconst 0, 1) := dk_3 (dk_at dksJ1_circularClear_1 11 rfl rfl)
theorem dJ1_circularClear_36 : decode cJ1_circularClear 36 = .ok (.istore_n 1, 1) := dk_60 (dk_at dksJ1_circularClear_1 12 rfl rfl)
theorem dJ1_circularClear_37 : decode cJ1_circularClear 37 = .ok (.iload_n 2, 1) := dk_28 (dk_at dksJ1_circularClear_1 13 rfl rfl)
theorem dJ1_circularClear_38 : decode cJ1_circularClear 38 = .ok (.istore_n 3, 1) := dk_62 (dk_at dksJ1_circularClear_1 14 rfl rfl)
theorem dJ1_circularClear_39 : decode cJ1_circularClear 39 = .ok (.goto (-27), 3) := dk_167 255 229 (dk_at dksJ1_circularClear_1 15 rfl rfl)
theorem dJ1_circularClear_42 : decode cJ1_circularClear 42 = .ok (.return_, 1) := dk_177 (dk_at dksJ1_circularClear_1 18 rfl rfl)
abbrev cJ1_removeFirst : ByteArray := prog_49_method_18_code
def yJ1_removeFirst : MethodName := ⟨RJ1, "removeFirst", "()Ljava/lang/Object;"⟩
def dkwJ1_removeFirst_0 : List UInt8 := [42, 182, 0, 93, 76, 43, 199, 0, 11, 187, 0, 97, 89, 183, 0, 99, 191, 43, 176]
abbrev dktJ1_removeFirst_0 : List UInt8 := dkwJ1_removeFirst_0 ++ []
theorem dksJ1_removeFirst_0 : cJ1_removeFirst.data.toList.drop 0 = dktJ1_removeFirst_0 := by decide +kernel
theorem dJ1_removeFirst_0 : decode cJ1_removeFirst 0 = .ok (.aload_n 0, 1) := dk_42 (dk_at dksJ1_removeFirst_0 0 rfl rfl)
theorem dJ1_removeFirst_1 : decode cJ1_removeFirst 1 = .ok (.invokevirtual 93, 3) := dk_182 0 93 (dk_at dksJ1_removeFirst_0 1 rfl rfl)
theorem dJ1_removeFirst_4 : decode cJ1_removeFirst 4 = .ok (.astore_n 1, 1) := dk_76 (dk_at dksJ1_removeFirst_0 4 rfl rfl)
theorem dJ1_removeFirst_5 : decode cJ1_removeFirst 5 = .ok (.aload_n 1, 1) := dk_43 (dk_at dksJ1_removeFirst_0 5 rfl rfl)
theorem dJ1_removeFirst_6 : decode cJ1_removeFirst 6 = .ok (.ifnonnull 11, 3) := dk_199 0 11 (dk_at dksJ1_removeFirst_0 6 rfl rfl)
theorem dJ1_removeFirst_9 : decode cJ1_removeFirst 9 = .ok (.new 97, 3) := dk_187 0 97 (dk_at dksJ1_removeFirst_0 9 rfl rfl)
theorem dJ1_removeFirst_12 : decode cJ1_removeFirst 12 = .ok (.dup, 1) := dk_89 (dk_at dksJ1_removeFirst_0 12 rfl rfl)
theorem dJ1_removeFirst_13 : decode cJ1_removeFirst 13 = .ok (.invokespecial 99, 3) := dk_183 0 99 (dk_at dksJ1_removeFirst_0 13 rfl rfl)
theorem dJ1_removeFirst_16 : decode cJ1_removeFirst 16 = .ok (.athrow, 1) := dk_191 (dk_at dksJ1_removeFirst_0 16 rfl rfl)
theorem dJ1_removeFirst_17 : decode cJ1_removeFirst 17 = .ok (.aload_n 1, 1) := dk_43 (dk_at dksJ1_removeFirst_0 17 rfl rfl)
theorem dJ1_removeFirst_18 : decode cJ1_removeFirst 18 = .ok (.areturn, 1) := dk_176 (dk_at dksJ1_removeFirst_0 18 rfl rfl)
abbrev cJ1_pollFirst : ByteArray := prog_49_method_20_code
def yJ1_pollFirst : MethodName := ⟨RJ1, "pollFirst", "()Ljava/lang/Object;"⟩
def dkwJ1_pollFirst_1 : List UInt8 := [42, 28, 43, 190, 184, 0, 74, 181, 0, 24, 45, 176]
abbrev dktJ1_pollFirst_1 : List UInt8 := dkwJ1_pollFirst_1 ++ []
def dkwJ1_pollFirst_0 : List UInt8 := [42, 180, 0, 3, 89, 76, 42, 180, 0, 24, 89, 61, 184, 0, 103, 78, 45, 198, 0, 17, 43, 28, 1, 83]
abbrev dktJ1_pollFirst_0 : List UInt8 := dkwJ1_pollFirst_0 ++ dktJ1_pollFirst_1
theorem dksJ1_pollFirst_0 : cJ1_pollFirst.data.toList.drop 0 = dktJ1_pollFirst_0 := by decide +kernel
theorem dksJ1_pollFirst_1 : cJ1_pollFirst.data.toList.drop 24 = dktJ1_pollFirst_1 := dk_seg dksJ1_pollFirst_0 24 rfl rfl
theorem dJ1_pollFirst_0 : decode cJ1_pollFirst 0 = .ok (.aload_n 0, 1) := dk_42 (dk_at dksJ1_pollFirst_0 0 rfl rfl)
theorem dJ1_pollFirst_1 : decode cJ1_pollFirst 1 = .ok (.getfield 3, 3) := dk_180 0 3 (dk_at dksJ1_pollFirst_0 1 rfl rfl)
theorem dJ1_pollFirst_4 : decode cJ1_pollFirst 4 = .ok (.dup, 1) := dk_89 (dk_at dksJ1_pollFirst_0 4 rfl rfl)
theorem dJ1_pollFirst_5 : decode cJ1_pollFirst 5 = .ok (.astore_n 1, 1) := dk_76 (dk_at dksJ1_pollFirst_0 5 rfl rfl)
theorem dJ1_pollFirst_6 : decode cJ1_pollFirst 6 = .ok (.aload_n 0, 1) := dk_42 (dk_at dksJ1_pollFirst_0 6 rfl rfl)
theorem dJ1_pollFirst_7 : decode cJ1_pollFirst 7 = .ok (.getfield 24, 3) := dk_180 0 24 (dk_at dksJ1_pollFirst_0 7 rfl rfl)
theorem dJ1_pollFirst_10 : decode cJ1_pollFirst 10 = .ok (.dup, 1) := dk_89 (dk_at dksJ1_pollFirst_0 10 rfl rfl)
theorem dJ1_pollFirst_11 : decode cJ1_pollFirst 11 = .ok (.istore_n 2, 1) := dk_61 (dk_at dksJ1_pollFirst_0 11 rfl rfl)
theorem dJ1_pollFirst_12 : decode cJ1_pollFirst 12 = .ok (.invokestatic 103, 3) := dk_184 0 103 (dk_at dksJ1_pollFirst_0 12 rfl rfl)
theorem dJ1_pollFirst_15 : decode cJ1_pollFirst 15 = .ok (.astore_n 3, 1) := dk_78 (dk_at dksJ1_pollFirst_0 15 rfl rfl)
theorem dJ1_pollFirst_16 : decode cJ1_pollFirst 16 = .ok (.aload_n 3, 1) := dk_45 (dk_at dksJ1_pollFirst_0 16 rfl rfl)
theorem dJ1_pollFirst_17 : decode cJ1_pollFirst 17 = .ok (.ifnull 17, 3) := dk_198 0 17 (dk_at dksJ1_pollFirst_0 17 rfl rfl)
theorem dJ1_pollFirst_20 : decode cJ1_pollFirst 20 = .ok (.aload_n 1, 1) := dk_43 (dk_at dksJ1_pollFirst_0 20 rfl rfl)
theorem dJ1_pollFirst_21 : decode cJ1_pollFirst 21 = .ok (.iload_n 2, 1) := dk_28 (dk_at dksJ1_pollFirst_0 21 rfl rfl)
theorem dJ1_pollFirst_22 : decode cJ1_pollFirst 22 = .ok (.aconst_null, 1) := dk_1 (dk_at dksJ1_pollFirst_0 22 rfl rfl)
theorem dJ1_pollFirst_23 : decode cJ1_pollFirst 23 = .ok (.aastore, 1) := dk_83 (dk_at dksJ1_pollFirst_0 23 rfl rfl)
theorem dJ1_pollFirst_24 : decode cJ1_pollFirst 24 = .ok (.aload_n 0, 1) := dk_42 (dk_at dksJ1_pollFirst_1 0 rfl rfl)
theorem dJ1_pollFirst_25 : decode cJ1_pollFirst 25 = .ok (.iload_n 2, 1) := dk_28 (dk_at dksJ1_pollFirst_1 1 rfl rfl)
theorem dJ1_pollFirst_26 : decode cJ1_pollFirst 26 = .ok (.aload_n 1, 1) := dk_43 (dk_at dksJ1_pollFirst_1 2 rfl rfl)
theorem dJ1_pollFirst_27 : decode cJ1_pollFirst 27 = .ok (.arraylength, 1) := dk_190 (dk_at dksJ1_pollFirst_1 3 rfl rfl)
theorem dJ1_pollFirst_28 : decode cJ1_pollFirst 28 = .ok (.invokestatic 74, 3) := dk_184 0 74 (dk_at dksJ1_pollFirst_1 4 rfl rfl)
theorem dJ1_pollFirst_31 : decode cJ1_pollFirst 31 = .ok (.putfield 24, 3) := dk_181 0 24 (dk_at dksJ1_pollFirst_1 7 rfl rfl)
theorem dJ1_pollFirst_34 : decode cJ1_pollFirst 34 = .ok (.aload_n 3, 1) := dk_45 (dk_at dksJ1_pollFirst_1 10 rfl rfl)
theorem dJ1_pollFirst_35 : decode cJ1_pollFirst 35 = .ok (.areturn, 1) := dk_176 (dk_at dksJ1_pollFirst_1 11 rfl rfl)
abbrev cJ1_elementAt : ByteArray := prog_49_method_10_code
def yJ1_elementAt : MethodName := ⟨RJ1, "elementAt", "([Ljava/lang/Object;I)Ljava/lang/Object;"⟩
def dkwJ1_elementAt_0 : List UInt8 := [42, 27, 50, 176]
abbrev dktJ1_elementAt_0 : List UInt8 := dkwJ1_elementAt_0 ++ []
theorem dksJ1_elementAt_0 : cJ1_elementAt.data.toList.drop 0 = dktJ1_elementAt_0 := by decide +kernel
theorem dJ1_elementAt_0 : decode cJ1_elementAt 0 = .ok (.aload_n 0, 1) := dk_42 (dk_at dksJ1_elementAt_0 0 rfl rfl)
theorem dJ1_elementAt_1 : decode cJ1_elementAt 1 = .ok (.iload_n 1, 1) := dk_27 (dk_at dksJ1_elementAt_0 1 rfl rfl)
theorem dJ1_elementAt_2 : decode cJ1_elementAt 2 = .ok (.aaload, 1) := dk_50 (dk_at dksJ1_elementAt_0 2 rfl rfl)
theorem dJ1_elementAt_3 : decode cJ1_elementAt 3 = .ok (.areturn, 1) := dk_176 (dk_at dksJ1_elementAt_0 3 rfl rfl)
abbrev cJ1_inc : ByteArray := prog_49_method_6_code
def yJ1_inc : MethodName := ⟨RJ1, "inc", "(II)I"⟩
def dkwJ1_inc_0 : List UInt8 := [132, 0, 1, 26, 27, 161, 0, 5, 3, 59, 26, 172]
abbrev dktJ1_inc_0 : List UInt8 := dkwJ1_inc_0 ++ []
theorem dksJ1_inc_0 : cJ1_inc.data.toList.drop 0 = dktJ1_inc_0 := by decide +kernel
theorem dJ1_inc_0 : decode cJ1_inc 0 = .ok (.iinc 0 1, 3) := dk_132 0 1 (dk_at dksJ1_inc_0 0 rfl rfl)
theorem dJ1_inc_3 : decode cJ1_inc 3 = .ok (.iload_n 0, 1) := dk_26 (dk_at dksJ1_inc_0 3 rfl rfl)
theorem dJ1_inc_4 : decode cJ1_inc 4 = .ok (.iload_n 1, 1) := dk_27 (dk_at dksJ1_inc_0 4 rfl rfl)
theorem dJ1_inc_5 : decode cJ1_inc 5 = .ok (.if_icmp .lt 5, 3) := dk_161 0 5 (dk_at dksJ1_inc_0 5 rfl rfl)
theorem dJ1_inc_8 : decode cJ1_inc 8 = .ok (.iconst 0, 1) := dk_3 (dk_at dksJ1_inc_0 8 rfl rfl)
theorem dJ1_inc_9 : decode cJ1_inc 9 = .ok (.istore_n 0, 1) := dk_59 (dk_at dksJ1_inc_0 9 rfl rfl)
theorem dJ1_inc_10 : decode cJ1_inc 10 = .ok (.iload_n 0, 1) := dk_26 (dk_at dksJ1_inc_0 10 rfl rfl)
theorem dJ1_inc_11 : decode cJ1_inc 11 = .ok (.ireturn, 1) := dk_172 (dk_at dksJ1_inc_0 11 rfl rfl)
abbrev cJ1_addLast : ByteArray := prog_49_method_13_code
def yJ1_addLast : MethodName := ⟨RJ1, "addLast", "(Ljava/lang/Object;)V"⟩
def dkwJ1_addLast_2 : List UInt8 := [182, 0, 71, 177]
abbrev dktJ1_addLast_2 : List UInt8 := dkwJ1_addLast_2 ++ []
def dkwJ1_addLast_1 : List UInt8 := [42, 180, 0, 24, 42, 42, 180, 0, 20, 44, 190, 184, 0, 74, 90, 181, 0, 20, 160, 0, 8, 42, 4]
abbrev dktJ1_addLast_1 : List UInt8 := dkwJ1_addLast_1 ++ dktJ1_addLast_2
def dkwJ1_addLast_0 : List UInt8 := [43, 199, 0, 11, 187, 0, 65, 89, 183, 0, 67, 191, 42, 180, 0, 3, 77, 44, 42, 180, 0, 20, 43, 83]
abbrev dktJ1_addLast_0 : List UInt8 := dkwJ1_addLast_0 ++ dktJ1_addLast_1
theorem dksJ1_addLast_0 : cJ1_addLast.data.toList.drop 0 = dktJ1_addLast_0 := by decide +kernel
theorem dksJ1_addLast_1 : cJ1_addLast.data.toList.drop 24 = dktJ1_addLast_1 := dk_seg dksJ1_addLast_0 24 rfl rfl
theorem dksJ1_addLast_2 : cJ1_addLast.data.toList.drop 47 = dktJ1_addLast_2 := dk_seg dksJ1_addLast_1 23 rfl rfl
theorem dJ1_addLast_0 : decode cJ1_addLast 0 = .ok (.aload_n 1, 1) := dk_43 (dk_at dksJ1_addLast_0 0 rfl rfl)
theorem dJ1_addLast_1 : decode cJ1_addLast 1 = .ok (.ifnonnull 11, 3) := dk_199 0 11 (dk_at dksJ1_addLast_0 1 rfl rfl)
theorem dJ1_addLast_4 : decode cJ1_addLast 4 = .ok (.new 65, 3) := dk_187 0 65 (dk_at dksJ1_addLast_0 4 rfl rfl)
theorem dJ1_addLast_7 : decode cJ1_addLast 7 = .ok (.dup, 1) := dk_89 (dk_at dksJ1_addLast_0 7 rfl rfl)
theorem dJ1_addLast_8 : decode cJ1_addLast 8 = .ok (.invokespecial 67, 3) := dk_183 0 67 (dk_at dksJ1_addLast_0 8 rfl rfl)
theorem dJ1_addLast_11 : decode cJ1_addLast 11 = .ok (.athrow, 1) := dk_191 (dk_at dksJ1_addLast_0 11 rfl rfl)
theorem dJ1_addLast_12 : decode cJ1_addLast 12 = .ok (.aload_n 0, 1) := dk_42 (dk_at dksJ1_addLast_0 12 rfl rfl)
theorem dJ1_addLast_13 : decode cJ1_addLast 13 = .ok (.getfield 3, 3) := dk_180 0 3 (dk_at dksJ1_addLast_0 13 rfl rfl)
theorem dJ1_addLast_16 : decode cJ1_addLast 16 = .ok (.astore_n 2, 1) := dk_77 (dk_at dksJ1_addLast_0 16 rfl rfl)
theorem dJ1_addLast_17 : decode cJ1_addLast 17 = .ok (.aload_n 2, 1) := dk_44 (dk_at dksJ1_addLast_0 17 rfl rfl)
theorem dJ1_addLast_18 : decode cJ1_addLast 18 = .ok (.aload_n 0, 1) := dk_42 (dk_at dksJ1_addLast_0 18 rfl rfl)
theorem dJ1_addLast_19 : decode cJ1_addLast 19 = .ok (.getfield 20, 3) := dk_180 0 20 (dk_at dksJ1_addLast_0 19 rfl rfl)
theorem dJ1_addLast_22 : decode cJ1_addLast 22 = .ok (.aload_n 1, 1) := dk_43 (dk_at dksJ1_addLast_0 22 rfl rfl)
theorem dJ1_addLast_23 : decode cJ1_addLast 23 = .ok (.aastore, 1) := dk_83 (dk_at dksJ1_addLast_0 23 rfl rfl)
theorem dJ1_addLast_24 : decode cJ1_addLast 24 = .ok (.aload_n 0, 1) := dk_42 (dk_at dksJ1_addLast_1 0 rfl rfl)
theorem dJ1_addLast_25 : decode cJ1_addLast 25 = .ok (.getfield 24, 3) := dk_180 0 24 (dk_at dksJ1_addLast_1 1 rfl rfl)
theorem dJ1_addLast_28 : decode cJ1_addLast 28 = .ok (.aload_n 0, 1) := dk_42 (dk_at dksJ1_addLast_1 4 rfl rfl)
theorem dJ1_addLast_29 : decode cJ1_addLast 29 = .ok (.aload_n 0, 1) := dk_42 (dk_at dksJ1_addLast_1 5 rfl rfl)
theorem dJ1_addLast_30 : decode cJ1_addLast 30 = .ok (.getfield 20, 3) := dk_180 0 20 (dk_at dksJ1_addLast_1 6 rfl rfl)
theorem dJ1_addLast_33 : decode cJ1_addLast 33 = .ok (.aload_n 2, 1) := dk_44 (dk_at dksJ1_addLast_1 9 rfl rfl)
theorem dJ1_addLast_34 : decode cJ1_addLast 34 = .ok (.arraylength, 1) := dk_190 (dk_at dksJ1_addLast_1 10 rfl rfl)
theorem dJ1_addLast_35 : decode cJ1_addLast 35 = .ok (.invokestatic 74, 3) := dk_184 0 74 (dk_at dksJ1_addLast_1 11 rfl rfl)
theorem dJ1_addLast_38 : decode cJ1_addLast 38 = .ok (.dup_x1, 1) := dk_90 (dk_at dksJ1_addLast_1 14 rfl rfl)
theorem dJ1_addLast_39 : decode cJ1_addLast 39 = .ok (.putfield 20, 3) := dk_181 0 20 (dk_at dksJ1_addLast_1 15 rfl rfl)
theorem dJ1_addLast_42 : decode cJ1_addLast 42 = .ok (.if_icmp .ne 8, 3) := dk_160 0 8 (dk_at dksJ1_addLast_1 18 rfl rfl)
theorem dJ1_addLast_45 : decode cJ1_addLast 45 = .ok (.aload_n 0, 1) := dk_42 (dk_at dksJ1_addLast_1 21 rfl rfl)
theorem dJ1_addLast_46 : decode cJ1_addLast 46 = .ok (.iconst 1, 1) := dk_4 (dk_at dksJ1_addLast_1 22 rfl rfl)
theorem dJ1_addLast_47 : decode cJ1_addLast 47 = .ok (.invokevirtual 71, 3) := dk_182 0 71 (dk_at dksJ1_addLast_2 0 rfl rfl)
theorem dJ1_addLast_50 : decode cJ1_addLast 50 = .ok (.return_, 1) := dk_177 (dk_at dksJ1_addLast_2 3 rfl rfl)
abbrev cJ1_grow : ByteArray := prog_49_method_1_code
def yJ1_grow : MethodName := ⟨RJ1, "grow", "(I)V"⟩
def dkwJ1_grow_7 : List UInt8 := [177]
abbrev dktJ1_grow_7 : List UInt8 := dkwJ1_grow_7 ++ []
def dkwJ1_grow_6 : List UInt8 := [181, 0, 24, 54, 8, 21, 7, 21, 8, 162, 0, 15, 25, 5, 21, 7, 1, 83, 132, 7, 1, 167, 255, 240]
abbrev dktJ1_grow_6 : List UInt8 := dkwJ1_grow_6 ++ dktJ1_grow_7
def dkwJ1_grow_5 : List UInt8 := [42, 180, 0, 24, 100, 184, 0, 27, 42, 180, 0, 24, 54, 7, 42, 89, 180, 0, 24, 21, 6, 96, 90]
abbrev dktJ1_grow_5 : List UInt8 := dkwJ1_grow_5 ++ dktJ1_grow_6
def dkwJ1_grow_4 : List UInt8 := [198, 0, 71, 29, 28, 100, 54, 6, 25, 5, 42, 180, 0, 24, 25, 5, 42, 180, 0, 24, 21, 6, 96, 28]
abbrev dktJ1_grow_4 : List UInt8 := dkwJ1_grow_4 ++ dktJ1_grow_5
def dkwJ1_grow_3 : List UInt8 := [180, 0, 24, 161, 0, 24, 42, 180, 0, 20, 42, 180, 0, 24, 160, 0, 81, 25, 5, 42, 180, 0, 24, 50]
abbrev dktJ1_grow_3 : List UInt8 := dkwJ1_grow_3 ++ dktJ1_grow_4
def dkwJ1_grow_2 : List UInt8 := [182, 0, 10, 62, 42, 42, 180, 0, 3, 29, 184, 0, 14, 90, 181, 0, 3, 58, 5, 42, 180, 0, 20, 42]
abbrev dktJ1_grow_2 : List UInt8 := dkwJ1_grow_2 ++ dktJ1_grow_3
def dkwJ1_grow_1 : List UInt8 := [21, 4, 27, 161, 0, 15, 28, 21, 4, 96, 89, 62, 18, 9, 100, 158, 0, 11, 42, 27, 21, 4]
abbrev dktJ1_grow_1 : List UInt8 := dkwJ1_grow_1 ++ dktJ1_grow_2
def dkwJ1_grow_0 : List UInt8 := [42, 180, 0, 3, 190, 61, 28, 16, 64, 162, 0, 9, 28, 5, 96, 167, 0, 6, 28, 4, 122, 54, 4]
abbrev dktJ1_grow_0 : List UInt8 := dkwJ1_grow_0 ++ dktJ1_grow_1
theorem dksJ1_grow_0 : cJ1_grow.data.toList.drop 0 = dktJ1_grow_0 := by decide +kernel
theorem dksJ1_grow_1 : cJ1_grow.data.toList.drop 23 = dktJ1_grow_1 := dk_seg dksJ1_grow_0 23 rfl rfl
theorem dksJ1_grow_2 : cJ1_grow.data.toList.drop 45 = dktJ1_grow_2 := dk_seg dksJ1_grow_1 22 rfl rfl
theorem dksJ1_grow_3 : cJ1_grow.data.toList.drop 69 = dktJ1_grow_3 := dk_seg dksJ1_grow_2 24 rfl rfl
theorem dksJ1_grow_4 : cJ1_grow.data.toList.drop 93 = dktJ1_grow_4 := dk_seg dksJ1_grow_3 24 rfl rfl
theorem dksJ1_grow_5 : cJ1_grow.data.toList.drop 117 = dktJ1_grow_5 := dk_seg dksJ1_grow_4 24 rfl rfl
theorem dksJ1_grow_6 : cJ1_grow.data.toList.drop 140 = dktJ1_grow_6 := dk_seg dksJ1_grow_5 23 rfl rfl
theorem dksJ1_grow_7 : cJ1_grow.data.toList.drop 164 = dktJ1_grow_7 := dk_seg dksJ1_grow_6 24 rfl rfl
theorem dJ1_grow_0 : decode cJ1_grow 0 = .ok (.aload_n 0, 1) := dk_42 (dk_at dksJ1_grow_0 0 rfl rfl)
theorem dJ1_grow_1 : decode cJ1_grow 1 = .ok (.getfield 3, 3) := dk_180 0 3 (dk_at dksJ1_grow_0 1 rfl rfl)
theorem dJ1_grow_4 : decode cJ1_grow 4 = .ok (.arraylength, 1) := dk_190 (dk_at dksJ1_grow_0 4 rfl rfl)
theorem dJ1_grow_5 : decode cJ1_grow 5 = .ok (.istore_n 2, 1) := dk_61 (dk_at dksJ1_grow_0 5 rfl rfl)
theorem dJ1_grow_6 : decode cJ1_grow 6 = .ok (.iload_n 2, 1) := dk_28 (dk_at dksJ1_grow_0 6 rfl rfl)
theorem dJ1_grow_7 : decode cJ1_grow 7 = .ok (.bipush 64, 2) := dk_16 64 (dk_at dksJ1_grow_0 7 rfl rfl)
theorem dJ1_grow_9 : decode cJ1_grow 9 = .ok (.if_icmp .ge 9, 3) := dk_162 0 9 (dk_at dksJ1_grow_0 9 rfl rfl)
theorem dJ1_grow_12 : decode cJ1_grow 12 = .ok (.iload_n 2, 1) := dk_28 (dk_at dksJ1_grow_0 12 rfl rfl)
theorem dJ1_grow_13 : decode cJ1_grow 13 = .ok (.iconst 2, 1) := dk_5 (dk_at dksJ1_grow_0 13 rfl rfl)
theorem dJ1_grow_14 : decode cJ1_grow 14 = .ok (.iadd, 1) := dk_96 (dk_at dksJ1_grow_0 14 rfl rfl)
theorem dJ1_grow_15 : decode cJ1_grow 15 = .ok (.goto 6, 3) := dk_167 0 6 (dk_at dksJ1_grow_0 15 rfl rfl)
theorem dJ1_grow_18 : decode cJ1_grow 18 = .ok (.iload_n 2, 1) := dk_28 (dk_at dksJ1_grow_0 18 rfl rfl)
theorem dJ1_grow_19 : decode cJ1_grow 19 = .ok (.iconst 1, 1) := dk_4 (dk_at dksJ1_grow_0 19 rfl rfl)
theorem dJ1_grow_20 : decode cJ1_grow 20 = .ok (.ishr, 1) := dk_122 (dk_at dksJ1_grow_0 20 rfl rfl)
theorem dJ1_grow_21 : decode cJ1_grow 21 = .ok (.istore 4, 2) := dk_54 4 (dk_at dksJ1_grow_0 21 rfl rfl)
theorem dJ1_grow_23 : decode cJ1_grow 23 = .ok (.iload 4, 2) := dk_21 4 (dk_at dksJ1_grow_1 0 rfl rfl)
theorem dJ1_grow_25 : decode cJ1_grow 25 = .ok (.iload_n 1, 1) := dk_27 (dk_at dksJ1_grow_1 2 rfl rfl)
theorem dJ1_grow_26 : decode cJ1_grow 26 = .ok (.if_icmp .lt 15, 3) := dk_161 0 15 (dk_at dksJ1_grow_1 3 rfl rfl)
theorem dJ1_grow_29 : decode cJ1_grow 29 = .ok (.iload_n 2, 1) := dk_28 (dk_at dksJ1_grow_1 6 rfl rfl)
theorem dJ1_grow_30 : decode cJ1_grow 30 = .ok (.iload 4, 2) := dk_21 4 (dk_at dksJ1_grow_1 7 rfl rfl)
theorem dJ1_grow_32 : decode cJ1_grow 32 = .ok (.iadd, 1) := dk_96 (dk_at dksJ1_grow_1 9 rfl rfl)
theorem dJ1_grow_33 : decode cJ1_grow 33 = .ok (.dup, 1) := dk_89 (dk_at dksJ1_grow_1 10 rfl rfl)
theorem dJ1_grow_34 : decode cJ1_grow 34 = .ok (.istore_n 3, 1) := dk_62 (dk_at dksJ1_grow_1 11 rfl rfl)
theorem dJ1_grow_35 : decode cJ1_grow 35 = .ok (.ldc 9, 2) := dk_18 9 (dk_at dksJ1_grow_1 12 rfl rfl)
theorem dJ1_grow_37 : decode cJ1_grow 37 = .ok (.isub, 1) := dk_100 (dk_at dksJ1_grow_1 14 rfl rfl)
theorem dJ1_grow_38 : decode cJ1_grow 38 = .ok (.ifCond .le 11, 3) := dk_158 0 11 (dk_at dksJ1_grow_1 15 rfl rfl)
theorem dJ1_grow_41 : decode cJ1_grow 41 = .ok (.aload_n 0, 1) := dk_42 (dk_at dksJ1_grow_1 18 rfl rfl)
theorem dJ1_grow_42 : decode cJ1_grow 42 = .ok (.iload_n 1, 1) := dk_27 (dk_at dksJ1_grow_1 19 rfl rfl)
theorem dJ1_grow_43 : decode cJ1_grow 43 = .ok (.iload 4, 2) := dk_21 4 (dk_at dksJ1_grow_1 20 rfl rfl)
theorem dJ1_grow_45 : decode cJ1_grow 45 = .ok (.invokevirtual 10, 3) := dk_182 0 10 (dk_at dksJ1_grow_2 0 rfl rfl)
theorem dJ1_grow_48 : decode cJ1_grow 48 = .ok (.istore_n 3, 1) := dk_62 (dk_at dksJ1_grow_2 3 rfl rfl)
theorem dJ1_grow_49 : decode cJ1_grow 49 = .ok (.aload_n 0, 1) := dk_42 (dk_at dksJ1_grow_2 4 rfl rfl)
theorem dJ1_grow_50 : decode cJ1_grow 50 = .ok (.aload_n 0, 1) := dk_42 (dk_at dksJ1_grow_2 5 rfl rfl)
theorem dJ1_grow_51 : decode cJ1_grow 51 = .ok (.getfield 3, 3) := dk_180 0 3 (dk_at dksJ1_grow_2 6 rfl rfl)
theorem dJ1_grow_54 : decode cJ1_grow 54 = .ok (.iload_n 3, 1) := dk_29 (dk_at dksJ1_grow_2 9 rfl rfl)
theorem dJ1_grow_55 : decode cJ1_grow 55 = .ok (.invokestatic 14, 3) := dk_184 0 14 (dk_at dksJ1_grow_2 10 rfl rfl)
theorem dJ1_grow_58 : decode cJ1_grow 58 = .ok (.dup_x1, 1) := dk_90 (dk_at dksJ1_grow_2 13 rfl rfl)
theorem dJ1_grow_59 : decode cJ1_grow 59 = .ok (.putfield 3, 3) := dk_181 0 3 (dk_at dksJ1_grow_2 14 rfl rfl)
theorem dJ1_grow_62 : decode cJ1_grow 62 = .ok (.astore 5, 2) := dk_58 5 (dk_at dksJ1_grow_2 17 rfl rfl)
theorem dJ1_grow_64 : decode cJ1_grow 64 = .ok (.aload_n 0, 1) := dk_42 (dk_at dksJ1_grow_2 19 rfl rfl)
theorem dJ1_grow_65 : decode cJ1_grow 65 = .ok (.getfield 20, 3) := dk_180 0 20 (dk_at dksJ1_grow_2 20 rfl rfl)
theorem dJ1_grow_68 : decode cJ1_grow 68 = .ok (.aload_n 0, 1) := dk_42 (dk_at dksJ1_grow_2 23 rfl rfl)
theorem dJ1_grow_69 : decode cJ1_grow 69 = .ok (.getfield 24, 3) := dk_180 0 24 (dk_at dksJ1_grow_3 0 rfl rfl)
theorem dJ1_grow_72 : decode cJ1_grow 72 = .ok (.if_icmp .lt 24, 3) := dk_161 0 24 (dk_at dksJ1_grow_3 3 rfl rfl)
theorem dJ1_grow_75 : decode cJ1_grow 75 = .ok (.aload_n 0, 1) := dk_42 (dk_at dksJ1_grow_3 6 rfl rfl)
theorem dJ1_grow_76 : decode cJ1_grow 76 = .ok (.getfield 20, 3) := dk_180 0 20 (dk_at dksJ1_grow_3 7 rfl rfl)
theorem dJ1_grow_79 : decode cJ1_grow 79 = .ok (.aload_n 0, 1) := dk_42 (dk_at dksJ1_grow_3 10 rfl rfl)
theorem dJ1_grow_80 : decode cJ1_grow 80 = .ok (.getfield 24, 3) := dk_180 0 24 (dk_at dksJ1_grow_3 11 rfl rfl)
theorem dJ1_grow_83 : decode cJ1_grow 83 = .ok (.if_icmp .ne 81, 3) := dk_160 0 81 (dk_at dksJ1_grow_3 14 rfl rfl)
theorem dJ1_grow_86 : decode cJ1_grow 86 = .ok (.aload 5, 2) := dk_25 5 (dk_at dksJ1_grow_3 17 rfl rfl)
theorem dJ1_grow_88 : decode cJ1_grow 88 = .ok (.aload_n 0, 1) := dk_42 (dk_at dksJ1_grow_3 19 rfl rfl)
theorem dJ1_grow_89 : decode cJ1_grow 89 = .ok (.getfield 24, 3) := dk_180 0 24 (dk_at dksJ1_grow_3 20 rfl rfl)
theorem dJ1_grow_92 : decode cJ1_grow 92 = .ok (.aaload, 1) := dk_50 (dk_at dksJ1_grow_3 23 rfl rfl)
theorem dJ1_grow_93 : decode cJ1_grow 93 = .ok (.ifnull 71, 3) := dk_198 0 71 (dk_at dksJ1_grow_4 0 rfl rfl)
theorem dJ1_grow_96 : decode cJ1_grow 96 = .ok (.iload_n 3, 1) := dk_29 (dk_at dksJ1_grow_4 3 rfl rfl)
theorem dJ1_grow_97 : decode cJ1_grow 97 = .ok (.iload_n 2, 1) := dk_28 (dk_at dksJ1_grow_4 4 rfl rfl)
theorem dJ1_grow_98 : decode cJ1_grow 98 = .ok (.isub, 1) := dk_100 (dk_at dksJ1_grow_4 5 rfl rfl)
theorem dJ1_grow_99 : decode cJ1_grow 99 = .ok (.istore 6, 2) := dk_54 6 (dk_at dksJ1_grow_4 6 rfl rfl)
theorem dJ1_grow_101 : decode cJ1_grow 101 = .ok (.aload 5, 2) := dk_25 5 (dk_at dksJ1_grow_4 8 rfl rfl)
theorem dJ1_grow_103 : decode cJ1_grow 103 = .ok (.aload_n 0, 1) := dk_42 (dk_at dksJ1_grow_4 10 rfl rfl)
theorem dJ1_grow_104 : decode cJ1_grow 104 = .ok (.getfield 24, 3) := dk_180 0 24 (dk_at dksJ1_grow_4 11 rfl rfl)
theorem dJ1_grow_107 : decode cJ1_grow 107 = .ok (.aload 5, 2) := dk_25 5 (dk_at dksJ1_grow_4 14 rfl rfl)
theorem dJ1_grow_109 : decode cJ1_grow 109 = .ok (.aload_n 0, 1) := dk_42 (dk_at dksJ1_grow_4 16 rfl rfl)
theorem dJ1_grow_110 : decode cJ1_grow 110 = .ok (.getfield 24, 3) := dk_180 0 24 (dk_at dksJ1_grow_4 17 rfl rfl)
theorem dJ1_grow_113 : decode cJ1_grow 113 = .ok (.iload 6, 2) := dk_21 6 (dk_at dksJ1_grow_4 20 rfl rfl)
theorem dJ1_grow_115 : decode cJ1_grow 115 = .ok (.iadd, 1) := dk_96 (dk_at dksJ1_grow_4 22 rfl rfl)
theorem dJ1_grow_116 : decode cJ1_grow 116 = .ok (.iload_n 2, 1) := dk_28 (dk_at dksJ1_grow_4 23 rfl rfl)
theorem dJ1_grow_117 : decode cJ1_grow 117 = .ok (.aload_n 0, 1) := dk_42 (dk_at dksJ1_grow_5 0 rfl rfl)
theorem dJ1_grow_118 : decode cJ1_grow 118 = .ok (.getfield 24, 3) := dk_180 0 24 (dk_at dksJ1_grow_5 1 rfl rfl)
theorem dJ1_grow_121 : decode cJ1_grow 121 = .ok (.isub, 1) := dk_100 (dk_at dksJ1_grow_5 4 rfl rfl)
theorem dJ1_grow_122 : decode cJ1_grow 122 = .ok (.invokestatic 27, 3) := dk_184 0 27 (dk_at dksJ1_grow_5 5 rfl rfl)
theorem dJ1_grow_125 : decode cJ1_grow 125 = .ok (.aload_n 0, 1) := dk_42 (dk_at dksJ1_grow_5 8 rfl rfl)
theorem dJ1_grow_126 : decode cJ1_grow 126 = .ok (.getfield 24, 3) := dk_180 0 24 (dk_at dksJ1_grow_5 9 rfl rfl)
theorem dJ1_grow_129 : decode cJ1_grow 129 = .ok (.istore 7, 2) := dk_54 7 (dk_at dksJ1_grow_5 12 rfl rfl)
theorem dJ1_grow_131 : decode cJ1_grow 131 = .ok (.aload_n 0, 1) := dk_42 (dk_at dksJ1_grow_5 14 rfl rfl)
theorem dJ1_grow_132 : decode cJ1_grow 132 = .ok (.dup, 1) := dk_89 (dk_at dksJ1_grow_5 15 rfl rfl)
theorem dJ1_grow_133 : decode cJ1_grow 133 = .ok (.getfield 24, 3) := dk_180 0 24 (dk_at dksJ1_grow_5 16 rfl rfl)
theorem dJ1_grow_136 : decode cJ1_grow 136 = .ok (.iload 6, 2) := dk_21 6 (dk_at dksJ1_grow_5 19 rfl rfl)
theorem dJ1_grow_138 : decode cJ1_grow 138 = .ok (.iadd, 1) := dk_96 (dk_at dksJ1_grow_5 21 rfl rfl)
theorem dJ1_grow_139 : decode cJ1_grow 139 = .ok (.dup_x1, 1) := dk_90 (dk_at dksJ1_grow_5 22 rfl rfl)
theorem dJ1_grow_140 : decode cJ1_grow 140 = .ok (.putfield 24, 3) := dk_181 0 24 (dk_at dksJ1_grow_6 0 rfl rfl)
theorem dJ1_grow_143 : decode cJ1_grow 143 = .ok (.istore 8, 2) := dk_54 8 (dk_at dksJ1_grow_6 3 rfl rfl)
theorem dJ1_grow_145 : decode cJ1_grow 145 = .ok (.iload 7, 2) := dk_21 7 (dk_at dksJ1_grow_6 5 rfl rfl)
theorem dJ1_grow_147 : decode cJ1_grow 147 = .ok (.iload 8, 2) := dk_21 8 (dk_at dksJ1_grow_6 7 rfl rfl)
theorem dJ1_grow_149 : decode cJ1_grow 149 = .ok (.if_icmp .ge 15, 3) := dk_162 0 15 (dk_at dksJ1_grow_6 9 rfl rfl)
theorem dJ1_grow_152 : decode cJ1_grow 152 = .ok (.aload 5, 2) := dk_25 5 (dk_at dksJ1_grow_6 12 rfl rfl)
theorem dJ1_grow_154 : decode cJ1_grow 154 = .ok (.iload 7, 2) := dk_21 7 (dk_at dksJ1_grow_6 14 rfl rfl)
theorem dJ1_grow_156 : decode cJ1_grow 156 = .ok (.aconst_null, 1) := dk_1 (dk_at dksJ1_grow_6 16 rfl rfl)
theorem dJ1_grow_157 : decode cJ1_grow 157 = .ok (.aastore, 1) := dk_83 (dk_at dksJ1_grow_6 17 rfl rfl)
theorem dJ1_grow_158 : decode cJ1_grow 158 = .ok (.iinc 7 1, 3) := dk_132 7 1 (dk_at dksJ1_grow_6 18 rfl rfl)
theorem dJ1_grow_161 : decode cJ1_grow 161 = .ok (.goto (-16), 3) := dk_167 255 240 (dk_at dksJ1_grow_6 21 rfl rfl)
theorem dJ1_grow_164 : decode cJ1_grow 164 = .ok (.return_, 1) := dk_177 (dk_at dksJ1_grow_7 0 rfl rfl)
abbrev cJ1_newCapacity : ByteArray := prog_49_method_2_code
def yJ1_newCapacity : MethodName := ⟨RJ1, "newCapacity", "(II)I"⟩
def dkwJ1_newCapacity_2 : List UInt8 := [18, 9, 100, 156, 0, 9, 29, 28, 96, 167, 0, 5, 18, 9, 172]
abbrev dktJ1_newCapacity_2 : List UInt8 := dkwJ1_newCapacity_2 ++ []
def dkwJ1_newCapacity_1 : List UInt8 := [187, 0, 33, 89, 18, 35, 183, 0, 37, 191, 18, 41, 172, 27, 28, 164, 0, 6, 21, 4, 172, 29, 28, 96]
abbrev dktJ1_newCapacity_1 : List UInt8 := dkwJ1_newCapacity_1 ++ dktJ1_newCapacity_2
def dkwJ1_newCapacity_0 : List UInt8 := [42, 180, 0, 3, 190, 62, 29, 27, 96, 89, 54, 4, 18, 9, 100, 158, 0, 21, 21, 4, 156, 0, 13]
abbrev dktJ1_newCapacity_0 : List UInt8 := dkwJ1_newCapacity_0 ++ dktJ1_newCapacity_1
theorem dksJ1_newCapacity_0 : cJ1_newCapacity.data.toList.drop 0 = dktJ1_newCapacity_0 := by decide +kernel
theorem dksJ1_newCapacity_1 : cJ1_newCapacity.data.toList.drop 23 = dktJ1_newCapacity_1 := dk_seg dksJ1_newCapacity_0 23 rfl rfl
theorem dksJ1_newCapacity_2 : cJ1_newCapacity.data.toList.drop 47 = dktJ1_newCapacity_2 := dk_seg dksJ1_newCapacity_1 24 rfl rfl
theorem dJ1_newCapacity_0 : decode cJ1_newCapacity 0 = .ok (.aload_n 0, 1) := dk_42 (dk_at dksJ1_newCapacity_0 0 rfl rfl)
theorem dJ1_newCapacity_1 : decode cJ1_newCapacity 1 = .ok (.getfield 3, 3) := dk_180 0 3 (dk_at dksJ1_newCapacity_0 1 rfl rfl)
theorem dJ1_newCapacity_4 : decode cJ1_newCapacity 4 = .ok (.arraylength, 1) := dk_190 (dk_at dksJ1_newCapacity_0 4 rfl rfl)
theorem dJ1_newCapacity_5 : decode cJ1_newCapacity 5 = .ok (.istore_n 3, 1) := dk_62 (dk_at dksJ1_newCapacity_0 5 rfl rfl)
theorem dJ1_newCapacity_6 : decode cJ1_newCapacity 6 = .ok (.iload_n 3, 1) := dk_29 (dk_at dksJ1_newCapacity_0 6 rfl rfl)
theorem dJ1_newCapacity_7 : decode cJ1_newCapacity 7 = .ok (.iload_n 1, 1) := dk_27 (dk_at dksJ1_newCapacity_0 7 rfl rfl)
theorem dJ1_newCapacity_8 : decode cJ1_newCapacity 8 = .ok (.iadd, 1) := dk_96 (dk_at dksJ1_newCapacity_0 8 rfl rfl)
theorem dJ1_newCapacity_9 : decode cJ1_newCapacity 9 = .ok (.dup, 1) := dk_89 (dk_at dksJ1_newCapacity_0 9 rfl rfl)
theorem dJ1_newCapacity_10 : decode cJ1_newCapacity 10 = .ok (.istore 4, 2) := dk_54 4 (dk_at dksJ1_newCapacity_0 10 rfl rfl)
theorem dJ1_newCapacity_12 : decode cJ1_newCapacity 12 = .ok (.ldc 9, 2) := dk_18 9 (dk_at dksJ1_newCapacity_0 12 rfl rfl)
theorem dJ1_newCapacity_14 : decode cJ1_newCapacity 14 = .ok (.isub, 1) := dk_100 (dk_at dksJ1_newCapacity_0 14 rfl rfl)
theorem dJ1_newCapacity_15 : decode cJ1_newCapacity 15 = .ok (.ifCond .le 21, 3) := dk_158 0 21 (dk_at dksJ1_newCapacity_0 15 rfl rfl)
theorem dJ1_newCapacity_18 : decode cJ1_newCapacity 18 = .ok (.iload 4, 2) := dk_21 4 (dk_at dksJ1_newCapacity_0 18 rfl rfl)
theorem dJ1_newCapacity_20 : decode cJ1_newCapacity 20 = .ok (.ifCond .ge 13, 3) := dk_156 0 13 (dk_at dksJ1_newCapacity_0 20 rfl rfl)
theorem dJ1_newCapacity_23 : decode cJ1_newCapacity 23 = .ok (.new 33, 3) := dk_187 0 33 (dk_at dksJ1_newCapacity_1 0 rfl rfl)
theorem dJ1_newCapacity_26 : decode cJ1_newCapacity 26 = .ok (.dup, 1) := dk_89 (dk_at dksJ1_newCapacity_1 3 rfl rfl)
theorem dJ1_newCapacity_27 : decode cJ1_newCapacity 27 = .ok (.ldc 35, 2) := dk_18 35 (dk_at dksJ1_newCapacity_1 4 rfl rfl)
theorem dJ1_newCapacity_29 : decode cJ1_newCapacity 29 = .ok (.invokespecial 37, 3) := dk_183 0 37 (dk_at dksJ1_newCapacity_1 6 rfl rfl)
theorem dJ1_newCapacity_32 : decode cJ1_newCapacity 32 = .ok (.athrow, 1) := dk_191 (dk_at dksJ1_newCapacity_1 9 rfl rfl)
theorem dJ1_newCapacity_33 : decode cJ1_newCapacity 33 = .ok (.ldc 41, 2) := dk_18 41 (dk_at dksJ1_newCapacity_1 10 rfl rfl)
theorem dJ1_newCapacity_35 : decode cJ1_newCapacity 35 = .ok (.ireturn, 1) := dk_172 (dk_at dksJ1_newCapacity_1 12 rfl rfl)
theorem dJ1_newCapacity_36 : decode cJ1_newCapacity 36 = .ok (.iload_n 1, 1) := dk_27 (dk_at dksJ1_newCapacity_1 13 rfl rfl)
theorem dJ1_newCapacity_37 : decode cJ1_newCapacity 37 = .ok (.iload_n 2, 1) := dk_28 (dk_at dksJ1_newCapacity_1 14 rfl rfl)
theorem dJ1_newCapacity_38 : decode cJ1_newCapacity 38 = .ok (.if_icmp .le 6, 3) := dk_164 0 6 (dk_at dksJ1_newCapacity_1 15 rfl rfl)
theorem dJ1_newCapacity_41 : decode cJ1_newCapacity 41 = .ok (.iload 4, 2) := dk_21 4 (dk_at dksJ1_newCapacity_1 18 rfl rfl)
theorem dJ1_newCapacity_43 : decode cJ1_newCapacity 43 = .ok (.ireturn, 1) := dk_172 (dk_at dksJ1_newCapacity_1 20 rfl rfl)
theorem dJ1_newCapacity_44 : decode cJ1_newCapacity 44 = .ok (.iload_n 3, 1) := dk_29 (dk_at dksJ1_newCapacity_1 21 rfl rfl)
theorem dJ1_newCapacity_45 : decode cJ1_newCapacity 45 = .ok (.iload_n 2, 1) := dk_28 (dk_at dksJ1_newCapacity_1 22 rfl rfl)
theorem dJ1_newCapacity_46 : decode cJ1_newCapacity 46 = .ok (.iadd, 1) := dk_96 (dk_at dksJ1_newCapacity_1 23 rfl rfl)
theorem dJ1_newCapacity_47 : decode cJ1_newCapacity 47 = .ok (.ldc 9, 2) := dk_18 9 (dk_at dksJ1_newCapacity_2 0 rfl rfl)
theorem dJ1_newCapacity_49 : decode cJ1_newCapacity 49 = .ok (.isub, 1) := dk_100 (dk_at dksJ1_newCapacity_2 2 rfl rfl)
theorem dJ1_newCapacity_50 : decode cJ1_newCapacity 50 = .ok (.ifCond .ge 9, 3) := dk_156 0 9 (dk_at dksJ1_newCapacity_2 3 rfl rfl)
theorem dJ1_newCapacity_53 : decode cJ1_newCapacity 53 = .ok (.iload_n 3, 1) := dk_29 (dk_at dksJ1_newCapacity_2 6 rfl rfl)
theorem dJ1_newCapacity_54 : decode cJ1_newCapacity 54 = .ok (.iload_n 2, 1) := dk_28 (dk_at dksJ1_newCapacity_2 7 rfl rfl)
theorem dJ1_newCapacity_55 : decode cJ1_newCapacity 55 = .ok (.iadd, 1) := dk_96 (dk_at dksJ1_newCapacity_2 8 rfl rfl)
theorem dJ1_newCapacity_56 : decode cJ1_newCapacity 56 = .ok (.goto 5, 3) := dk_167 0 5 (dk_at dksJ1_newCapacity_2 9 rfl rfl)
theorem dJ1_newCapacity_59 : decode cJ1_newCapacity 59 = .ok (.ldc 9, 2) := dk_18 9 (dk_at dksJ1_newCapacity_2 12 rfl rfl)
theorem dJ1_newCapacity_61 : decode cJ1_newCapacity 61 = .ok (.ireturn, 1) := dk_172 (dk_at dksJ1_newCapacity_2 14 rfl rfl)
abbrev cJ1_isEmpty : ByteArray := prog_49_method_38_code
def yJ1_isEmpty : MethodName := ⟨RJ1, "isEmpty", "()Z"⟩
def dkwJ1_isEmpty_0 : List UInt8 := [42, 180, 0, 24, 42, 180, 0, 20, 160, 0, 7, 4, 167, 0, 4, 3, 172]
abbrev dktJ1_isEmpty_0 : List UInt8 := dkwJ1_isEmpty_0 ++ []
theorem dksJ1_isEmpty_0 : cJ1_isEmpty.data.toList.drop 0 = dktJ1_isEmpty_0 := by decide +kernel
theorem dJ1_isEmpty_0 : decode cJ1_isEmpty 0 = .ok (.aload_n 0, 1) := dk_42 (dk_at dksJ1_isEmpty_0 0 rfl rfl)
theorem dJ1_isEmpty_1 : decode cJ1_isEmpty 1 = .ok (.getfield 24, 3) := dk_180 0 24 (dk_at dksJ1_isEmpty_0 1 rfl rfl)
theorem dJ1_isEmpty_4 : decode cJ1_isEmpty 4 = .ok (.aload_n 0, 1) := dk_42 (dk_at dksJ1_isEmpty_0 4 rfl rfl)
theorem dJ1_isEmpty_5 : decode cJ1_isEmpty 5 = .ok (.getfield 20, 3) := dk_180 0 20 (dk_at dksJ1_isEmpty_0 5 rfl rfl)
theorem dJ1_isEmpty_8 : decode cJ1_isEmpty 8 = .ok (.if_icmp .ne 7, 3) := dk_160 0 7 (dk_at dksJ1_isEmpty_0 8 rfl rfl)
theorem dJ1_isEmpty_11 : decode cJ1_isEmpty 11 = .ok (.iconst 1, 1) := dk_4 (dk_at dksJ1_isEmpty_0 11 rfl rfl)
theorem dJ1_isEmpty_12 : decode cJ1_isEmpty 12 = .ok (.goto 4, 3) := dk_167 0 4 (dk_at dksJ1_isEmpty_0 12 rfl rfl)
theorem dJ1_isEmpty_15 : decode cJ1_isEmpty 15 = .ok (.iconst 0, 1) := dk_3 (dk_at dksJ1_isEmpty_0 15 rfl rfl)
theorem dJ1_isEmpty_16 : decode cJ1_isEmpty 16 = .ok (.ireturn, 1) := dk_172 (dk_at dksJ1_isEmpty_0 16 rfl rfl)
abbrev cJ1_removeLast : ByteArray := prog_49_method_19_code
def yJ1_removeLast : MethodName := ⟨RJ1, "removeLast", "()Ljava/lang/Object;"⟩
def dkwJ1_removeLast_0 : List UInt8 := [42, 182, 0, 100, 76, 43, 199, 0, 11, 187, 0, 97, 89, 183, 0, 99, 191, 43, 176]
abbrev dktJ1_removeLast_0 : List UInt8 := dkwJ1_removeLast_0 ++ []
theorem dksJ1_removeLast_0 : cJ1_removeLast.data.toList.drop 0 = dktJ1_removeLast_0 := by decide +kernel
theorem dJ1_removeLast_0 : decode cJ1_removeLast 0 = .ok (.aload_n 0, 1) := dk_42 (dk_at dksJ1_removeLast_0 0 rfl rfl)
theorem dJ1_removeLast_1 : decode cJ1_removeLast 1 = .ok (.invokevirtual 100, 3) := dk_182 0 100 (dk_at dksJ1_removeLast_0 1 rfl rfl)
theorem dJ1_removeLast_4 : decode cJ1_removeLast 4 = .ok (.astore_n 1, 1) := dk_76 (dk_at dksJ1_removeLast_0 4 rfl rfl)
theorem dJ1_removeLast_5 : decode cJ1_removeLast 5 = .ok (.aload_n 1, 1) := dk_43 (dk_at dksJ1_removeLast_0 5 rfl rfl)
theorem dJ1_removeLast_6 : decode cJ1_removeLast 6 = .ok (.ifnonnull 11, 3) := dk_199 0 11 (dk_at dksJ1_removeLast_0 6 rfl rfl)
theorem dJ1_removeLast_9 : decode cJ1_removeLast 9 = .ok (.new 97, 3) := dk_187 0 97 (dk_at dksJ1_removeLast_0 9 rfl rfl)
theorem dJ1_removeLast_12 : decode cJ1_removeLast 12 = .ok (.dup, 1) := dk_89 (dk_at dksJ1_removeLast_0 12 rfl rfl)
theorem dJ1_removeLast_13 : decode cJ1_removeLast 13 = .ok (.invokespecial 99, 3) := dk_183 0 99 (dk_at dksJ1_removeLast_0 13 rfl rfl)
theorem dJ1_removeLast_16 : decode cJ1_removeLast 16 = .ok (.athrow, 1) := dk_191 (dk_at dksJ1_removeLast_0 16 rfl rfl)
theorem dJ1_removeLast_17 : decode cJ1_removeLast 17 = .ok (.aload_n 1, 1) := dk_43 (dk_at dksJ1_removeLast_0 17 rfl rfl)
theorem dJ1_removeLast_18 : decode cJ1_removeLast 18 = .ok (.areturn, 1) := dk_176 (dk_at dksJ1_removeLast_0 18 rfl rfl)
abbrev cJ1_pollLast : ByteArray := prog_49_method_21_code
def yJ1_pollLast : MethodName := ⟨RJ1, "pollLast", "()Ljava/lang/Object;"⟩
def dkwJ1_pollLast_1 : List UInt8 := [198, 0, 12, 43, 42, 28, 90, 181, 0, 20, 1, 83, 45, 176]
abbrev dktJ1_pollLast_1 : List UInt8 := dkwJ1_pollLast_1 ++ []
def dkwJ1_pollLast_0 : List UInt8 := [42, 180, 0, 3, 89, 76, 42, 180, 0, 20, 43, 190, 184, 0, 68, 89, 61, 184, 0, 103, 78, 45]
abbrev dktJ1_pollLast_0 : List UInt8 := dkwJ1_pollLast_0 ++ dktJ1_pollLast_1
theorem dksJ1_pollLast_0 : cJ1_pollLast.data.toList.drop 0 = dktJ1_pollLast_0 := by decide +kernel
theorem dksJ1_pollLast_1 : cJ1_pollLast.data.toList.drop 22 = dktJ1_pollLast_1 := dk_seg dksJ1_pollLast_0 22 rfl rfl
theorem dJ1_pollLast_0 : decode cJ1_pollLast 0 = .ok (.aload_n 0, 1) := dk_42 (dk_at dksJ1_pollLast_0 0 rfl rfl)
theorem dJ1_pollLast_1 : decode cJ1_pollLast 1 = .ok (.getfield 3, 3) := dk_180 0 3 (dk_at dksJ1_pollLast_0 1 rfl rfl)
theorem dJ1_pollLast_4 : decode cJ1_pollLast 4 = .ok (.dup, 1) := dk_89 (dk_at dksJ1_pollLast_0 4 rfl rfl)
theorem dJ1_pollLast_5 : decode cJ1_pollLast 5 = .ok (.astore_n 1, 1) := dk_76 (dk_at dksJ1_pollLast_0 5 rfl rfl)
theorem dJ1_pollLast_6 : decode cJ1_pollLast 6 = .ok (.aload_n 0, 1) := dk_42 (dk_at dksJ1_pollLast_0 6 rfl rfl)
theorem dJ1_pollLast_7 : decode cJ1_pollLast 7 = .ok (.getfield 20, 3) := dk_180 0 20 (dk_at dksJ1_pollLast_0 7 rfl rfl)
theorem dJ1_pollLast_10 : decode cJ1_pollLast 10 = .ok (.aload_n 1, 1) := dk_43 (dk_at dksJ1_pollLast_0 10 rfl rfl)
theorem dJ1_pollLast_11 : decode cJ1_pollLast 11 = .ok (.arraylength, 1) := dk_190 (dk_at dksJ1_pollLast_0 11 rfl rfl)
theorem dJ1_pollLast_12 : decode cJ1_pollLast 12 = .ok (.invokestatic 68, 3) := dk_184 0 68 (dk_at dksJ1_pollLast_0 12 rfl rfl)
theorem dJ1_pollLast_15 : decode cJ1_pollLast 15 = .ok (.dup, 1) := dk_89 (dk_at dksJ1_pollLast_0 15 rfl rfl)
theorem dJ1_pollLast_16 : decode cJ1_pollLast 16 = .ok (.istore_n 2, 1) := dk_61 (dk_at dksJ1_pollLast_0 16 rfl rfl)
theorem dJ1_pollLast_17 : decode cJ1_pollLast 17 = .ok (.invokestatic 103, 3) := dk_184 0 103 (dk_at dksJ1_pollLast_0 17 rfl rfl)
theorem dJ1_pollLast_20 : decode cJ1_pollLast 20 = .ok (.astore_n 3, 1) := dk_78 (dk_at dksJ1_pollLast_0 20 rfl rfl)
theorem dJ1_pollLast_21 : decode cJ1_pollLast 21 = .ok (.aload_n 3, 1) := dk_45 (dk_at dksJ1_pollLast_0 21 rfl rfl)
theorem dJ1_pollLast_22 : decode cJ1_pollLast 22 = .ok (.ifnull 12, 3) := dk_198 0 12 (dk_at dksJ1_pollLast_1 0 rfl rfl)
theorem dJ1_pollLast_25 : decode cJ1_pollLast 25 = .ok (.aload_n 1, 1) := dk_43 (dk_at dksJ1_pollLast_1 3 rfl rfl)
theorem dJ1_pollLast_26 : decode cJ1_pollLast 26 = .ok (.aload_n 0, 1) := dk_42 (dk_at dksJ1_pollLast_1 4 rfl rfl)
theorem dJ1_pollLast_27 : decode cJ1_pollLast 27 = .ok (.iload_n 2, 1) := dk_28 (dk_at dksJ1_pollLast_1 5 rfl rfl)
theorem dJ1_pollLast_28 : decode cJ1_pollLast 28 = .ok (.dup_x1, 1) := dk_90 (dk_at dksJ1_pollLast_1 6 rfl rfl)
theorem dJ1_pollLast_29 : decode cJ1_pollLast 29 = .ok (.putfield 20, 3) := dk_181 0 20 (dk_at dksJ1_pollLast_1 7 rfl rfl)
theorem dJ1_pollLast_32 : decode cJ1_pollLast 32 = .ok (.aconst_null, 1) := dk_1 (dk_at dksJ1_pollLast_1 10 rfl rfl)
theorem dJ1_pollLast_33 : decode cJ1_pollLast 33 = .ok (.aastore, 1) := dk_83 (dk_at dksJ1_pollLast_1 11 rfl rfl)
theorem dJ1_pollLast_34 : decode cJ1_pollLast 34 = .ok (.aload_n 3, 1) := dk_45 (dk_at dksJ1_pollLast_1 12 rfl rfl)
theorem dJ1_pollLast_35 : decode cJ1_pollLast 35 = .ok (.areturn, 1) := dk_176 (dk_at dksJ1_pollLast_1 13 rfl rfl)
abbrev cJ1_dec : ByteArray := prog_49_method_7_code
def yJ1_dec : MethodName := ⟨RJ1, "dec", "(II)I"⟩
def dkwJ1_dec_0 : List UInt8 := [132, 0, 255, 26, 156, 0, 7, 27, 4, 100, 59, 26, 172]
abbrev dktJ1_dec_0 : List UInt8 := dkwJ1_dec_0 ++ []
theorem dksJ1_dec_0 : cJ1_dec.data.toList.drop 0 = dktJ1_dec_0 := by decide +kernel
theorem dJ1_dec_0 : decode cJ1_dec 0 = .ok (.iinc 0 (-1), 3) := dk_132 0 255 (dk_at dksJ1_dec_0 0 rfl rfl)
theorem dJ1_dec_3 : decode cJ1_dec 3 = .ok (.iload_n 0, 1) := dk_26 (dk_at dksJ1_dec_0 3 rfl rfl)
theorem dJ1_dec_4 : decode cJ1_dec 4 = .ok (.ifCond .ge 7, 3) := dk_156 0 7 (dk_at dksJ1_dec_0 4 rfl rfl)
theorem dJ1_dec_7 : decode cJ1_dec 7 = .ok (.iload_n 1, 1) := dk_27 (dk_at dksJ1_dec_0 7 rfl rfl)
theorem dJ1_dec_8 : decode cJ1_dec 8 = .ok (.iconst 1, 1) := dk_4 (dk_at dksJ1_dec_0 8 rfl rfl)
theorem dJ1_dec_9 : decode cJ1_dec 9 = .ok (.isub, 1) := dk_100 (dk_at dksJ1_dec_0 9 rfl rfl)
theorem dJ1_dec_10 : decode cJ1_dec 10 = .ok (.istore_n 0, 1) := dk_59 (dk_at dksJ1_dec_0 10 rfl rfl)
theorem dJ1_dec_11 : decode cJ1_dec 11 = .ok (.iload_n 0, 1) := dk_26 (dk_at dksJ1_dec_0 11 rfl rfl)
theorem dJ1_dec_12 : decode cJ1_dec 12 = .ok (.ireturn, 1) := dk_172 (dk_at dksJ1_dec_0 12 rfl rfl)
abbrev cJ2_init : ByteArray := prog_18_method_2_code
def yJ2_init : MethodName := ⟨RJ2, "<init>", "(I)V"⟩
def dkwJ2_init_1 : List UInt8 := [167, 0, 16, 42, 27, 184, 0, 26, 181, 0, 15, 42, 4, 181, 0, 22, 177]
abbrev dktJ2_init_1 : List UInt8 := dkwJ2_init_1 ++ []
def dkwJ2_init_0 : List UInt8 := [42, 183, 0, 3, 178, 0, 18, 153, 0, 18, 42, 27, 188, 8, 181, 0, 15, 42, 3, 181, 0, 22]
abbrev dktJ2_init_0 : List UInt8 := dkwJ2_init_0 ++ dktJ2_init_1
theorem dksJ2_init_0 : cJ2_init.data.toList.drop 0 = dktJ2_init_0 := by decide +kernel
theorem dksJ2_init_1 : cJ2_init.data.toList.drop 22 = dktJ2_init_1 := dk_seg dksJ2_init_0 22 rfl rfl
theorem dJ2_init_0 : decode cJ2_init 0 = .ok (.aload_n 0, 1) := dk_42 (dk_at dksJ2_init_0 0 rfl rfl)
theorem dJ2_init_1 : decode cJ2_init 1 = .ok (.invokespecial 3, 3) := dk_183 0 3 (dk_at dksJ2_init_0 1 rfl rfl)
theorem dJ2_init_4 : decode cJ2_init 4 = .ok (.getstatic 18, 3) := dk_178 0 18 (dk_at dksJ2_init_0 4 rfl rfl)
theorem dJ2_init_7 : decode cJ2_init 7 = .ok (.ifCond .eq 18, 3) := dk_153 0 18 (dk_at dksJ2_init_0 7 rfl rfl)
theorem dJ2_init_10 : decode cJ2_init 10 = .ok (.aload_n 0, 1) := dk_42 (dk_at dksJ2_init_0 10 rfl rfl)
theorem dJ2_init_11 : decode cJ2_init 11 = .ok (.iload_n 1, 1) := dk_27 (dk_at dksJ2_init_0 11 rfl rfl)
theorem dJ2_init_12 : decode cJ2_init 12 = .ok (.newarray .byte, 2) := dk_188_8 (dk_at dksJ2_init_0 12 rfl rfl)
theorem dJ2_init_14 : decode cJ2_init 14 = .ok (.putfield 15, 3) := dk_181 0 15 (dk_at dksJ2_init_0 14 rfl rfl)
theorem dJ2_init_17 : decode cJ2_init 17 = .ok (.aload_n 0, 1) := dk_42 (dk_at dksJ2_init_0 17 rfl rfl)
theorem dJ2_init_18 : decode cJ2_init 18 = .ok (.iconst 0, 1) := dk_3 (dk_at dksJ2_init_0 18 rfl rfl)
theorem dJ2_init_19 : decode cJ2_init 19 = .ok (.putfield 22, 3) := dk_181 0 22 (dk_at dksJ2_init_0 19 rfl rfl)
theorem dJ2_init_22 : decode cJ2_init 22 = .ok (.goto 16, 3) := dk_167 0 16 (dk_at dksJ2_init_1 0 rfl rfl)
theorem dJ2_init_25 : decode cJ2_init 25 = .ok (.aload_n 0, 1) := dk_42 (dk_at dksJ2_init_1 3 rfl rfl)
theorem dJ2_init_26 : decode cJ2_init 26 = .ok (.iload_n 1, 1) := dk_27 (dk_at dksJ2_init_1 4 rfl rfl)
theorem dJ2_init_27 : decode cJ2_init 27 = .ok (.invokestatic 26, 3) := dk_184 0 26 (dk_at dksJ2_init_1 5 rfl rfl)
theorem dJ2_init_30 : decode cJ2_init 30 = .ok (.putfield 15, 3) := dk_181 0 15 (dk_at dksJ2_init_1 8 rfl rfl)
theorem dJ2_init_33 : decode cJ2_init 33 = .ok (.aload_n 0, 1) := dk_42 (dk_at dksJ2_init_1 11 rfl rfl)
theorem dJ2_init_34 : decode cJ2_init 34 = .ok (.iconst 1, 1) := dk_4 (dk_at dksJ2_init_1 12 rfl rfl)
theorem dJ2_init_35 : decode cJ2_init 35 = .ok (.putfield 22, 3) := dk_181 0 22 (dk_at dksJ2_init_1 13 rfl rfl)
theorem dJ2_init_38 : decode cJ2_init 38 = .ok (.return_, 1) := dk_177 (dk_at dksJ2_init_1 16 rfl rfl)
abbrev cJ2_append : ByteArray := prog_18_method_31_code
def yJ2_append : MethodName := ⟨RJ2, "append", "(C)Ljava/lang/AbstractStringBuilder;"⟩
def dkwJ2_append_3 : List UInt8 := [181, 0, 79, 27, 184, 0, 197, 42, 176]
abbrev dktJ2_append_3 : List UInt8 := dkwJ2_append_3 ++ []
def dkwJ2_append_2 : List UInt8 := [182, 0, 83, 153, 0, 7, 42, 182, 0, 195, 42, 180, 0, 15, 42, 89, 180, 0, 79, 90, 4, 96]
abbrev dktJ2_append_2 : List UInt8 := dkwJ2_append_2 ++ dktJ2_append_3
def dkwJ2_append_1 : List UInt8 := [42, 180, 0, 15, 42, 89, 180, 0, 79, 90, 4, 96, 181, 0, 79, 27, 145, 84, 167, 0, 33, 42]
abbrev dktJ2_append_1 : List UInt8 := dkwJ2_append_1 ++ dktJ2_append_2
def dkwJ2_append_0 : List UInt8 := [42, 42, 180, 0, 79, 4, 96, 182, 0, 100, 42, 182, 0, 83, 153, 0, 31, 27, 184, 0, 191, 153, 0, 24]
abbrev dktJ2_append_0 : List UInt8 := dkwJ2_append_0 ++ dktJ2_append_1
theorem dksJ2_append_0 : cJ2_append.data.toList.drop 0 = dktJ2_append_0 := by decide +kernel
theorem dksJ2_append_1 : cJ2_append.data.toList.drop 24 = dktJ2_append_1 := dk_seg dksJ2_append_0 24 rfl rfl
theorem dksJ2_append_2 : cJ2_append.data.toList.drop 46 = dktJ2_append_2 := dk_seg dksJ2_append_1 22 rfl rfl
theorem dksJ2_append_3 : cJ2_append.data.toList.drop 68 = dktJ2_append_3 := dk_seg dksJ2_append_2 22 rfl rfl
theorem dJ2_append_0 : decode cJ2_append 0 = .ok (.aload_n 0, 1) := dk_42 (dk_at dksJ2_append_0 0 rfl rfl)
theorem dJ2_append_1 : decode cJ2_append 1 = .ok (.aload_n 0, 1) := dk_42 (dk_at dksJ2_append_0 1 rfl rfl)
theorem dJ2_append_2 : decode cJ2_append 2 = .ok (.getfield 79, 3) := dk_180 0 79 (dk_at dksJ2_append_0 2 rfl rfl)
theorem dJ2_append_5 : decode cJ2_append 5 = .ok (.iconst 1, 1) := dk_4 (dk_at dksJ2_append_0 5 rfl rfl)
theorem dJ2_append_6 : decode cJ2_append 6 = .ok (.iadd, 1) := dk_96 (dk_at dksJ2_append_0 6 rfl rfl)
theorem dJ2_append_7 : decode cJ2_append 7 = .ok (.invokevirtual 100, 3) := dk_182 0 100 (dk_at dksJ2_append_0 7 rfl rfl)
theorem dJ2_append_10 : decode cJ2_append 10 = .ok (.aload_n 0, 1) := dk_42 (dk_at dksJ2_append_0 10 rfl rfl)
theorem dJ2_append_11 : decode cJ2_append 11 = .ok (.invokevirtual 83, 3) := dk_182 0 83 (dk_at dksJ2_append_0 11 rfl rfl)
theorem dJ2_append_14 : decode cJ2_append 14 = .ok (.ifCond .eq 31, 3) := dk_153 0 31 (dk_at dksJ2_append_0 14 rfl rfl)
theorem dJ2_append_17 : decode cJ2_append 17 = .ok (.iload_n 1, 1) := dk_27 (dk_at dksJ2_append_0 17 rfl rfl)
theorem dJ2_append_18 : decode cJ2_append 18 = .ok (.invokestatic 191, 3) := dk_184 0 191 (dk_at dksJ2_append_0 18 rfl rfl)
theorem dJ2_append_21 : decode cJ2_append 21 = .ok (.ifCond .eq 24, 3) := dk_153 0 24 (dk_at dksJ2_append_0 21 rfl rfl)
theorem dJ2_append_24 : decode cJ2_append 24 = .ok (.aload_n 0, 1) := dk_42 (dk_at dksJ2_append_1 0 rfl rfl)
theorem dJ2_append_25 : decode cJ2_append 25 = .ok (.getfield 15, 3) := dk_180 0 15 (dk_at dksJ2_append_1 1 rfl rfl)
theorem dJ2_append_28 : decode cJ2_append 28 = .ok (.aload_n 0, 1) := dk_42 (dk_at dksJ2_append_1 4 rfl rfl)
theorem dJ2_append_29 : decode cJ2_append 29 = .ok (.dup, 1) := dk_89 (dk_at dksJ2_append_1 5 rfl rfl)
theorem dJ2_append_30 : decode cJ2_append 30 = .ok (.getfield 79, 3) := dk_180 0 79 (dk_at dksJ2_append_1 6 rfl rfl)
theorem dJ2_append_33 : decode cJ2_append 33 = .ok (.dup_x1, 1) := dk_90 (dk_at dksJ2_append_1 9 rfl rfl)
theorem dJ2_append_34 : decode cJ2_append 34 = .ok (.iconst 1, 1) := dk_4 (dk_at dksJ2_append_1 10 rfl rfl)
theorem dJ2_append_35 : decode cJ2_append 35 = .ok (.iadd, 1) := dk_96 (dk_at dksJ2_append_1 11 rfl rfl)
theorem dJ2_append_36 : decode cJ2_append 36 = .ok (.putfield 79, 3) := dk_181 0 79 (dk_at dksJ2_append_1 12 rfl rfl)
theorem dJ2_append_39 : decode cJ2_append 39 = .ok (.iload_n 1, 1) := dk_27 (dk_at dksJ2_append_1 15 rfl rfl)
theorem dJ2_append_40 : decode cJ2_append 40 = .ok (.i2b, 1) := dk_145 (dk_at dksJ2_append_1 16 rfl rfl)
theorem dJ2_append_41 : decode cJ2_append 41 = .ok (.bastore, 1) := dk_84 (dk_at dksJ2_append_1 17 rfl rfl)
theorem dJ2_append_42 : decode cJ2_append 42 = .ok (.goto 33, 3) := dk_167 0 33 (dk_at dksJ2_append_1 18 rfl rfl)
theorem dJ2_append_45 : decode cJ2_append 45 = .ok (.aload_n 0, 1) := dk_42 (dk_at dksJ2_append_1 21 rfl rfl)
theorem dJ2_append_46 : decode cJ2_append 46 = .ok (.invokevirtual 83, 3) := dk_182 0 83 (dk_at dksJ2_append_2 0 rfl rfl)
theorem dJ2_append_49 : decode cJ2_append 49 = .ok (.ifCond .eq 7, 3) := dk_153 0 7 (dk_at dksJ2_append_2 3 rfl rfl)
theorem dJ2_append_52 : decode cJ2_append 52 = .ok (.aload_n 0, 1) := dk_42 (dk_at dksJ2_append_2 6 rfl rfl)
theorem dJ2_append_53 : decode cJ2_append 53 = .ok (.invokevirtual 195, 3) := dk_182 0 195 (dk_at dksJ2_append_2 7 rfl rfl)
theorem dJ2_append_56 : decode cJ2_append 56 = .ok (.aload_n 0, 1) := dk_42 (dk_at dksJ2_append_2 10 rfl rfl)
theorem dJ2_append_57 : decode cJ2_append 57 = .ok (.getfield 15, 3) := dk_180 0 15 (dk_at dksJ2_append_2 11 rfl rfl)
theorem dJ2_append_60 : decode cJ2_append 60 = .ok (.aload_n 0, 1) := dk_42 (dk_at dksJ2_append_2 14 rfl rfl)
theorem dJ2_append_61 : decode cJ2_append 61 = .ok (.dup, 1) := dk_89 (dk_at dksJ2_append_2 15 rfl rfl)
theorem dJ2_append_62 : decode cJ2_append 62 = .ok (.getfield 79, 3) := dk_180 0 79 (dk_at dksJ2_append_2 16 rfl rfl)
theorem dJ2_append_65 : decode cJ2_append 65 = .ok (.dup_x1, 1) := dk_90 (dk_at dksJ2_append_2 19 rfl rfl)
theorem dJ2_append_66 : decode cJ2_append 66 = .ok (.iconst 1, 1) := dk_4 (dk_at dksJ2_append_2 20 rfl rfl)
theorem dJ2_append_67 : decode cJ2_append 67 = .ok (.iadd, 1) := dk_96 (dk_at dksJ2_append_2 21 rfl rfl)
theorem dJ2_append_68 : decode cJ2_append 68 = .ok (.putfield 79, 3) := dk_181 0 79 (dk_at dksJ2_append_3 0 rfl rfl)
theorem dJ2_append_71 : decode cJ2_append 71 = .ok (.iload_n 1, 1) := dk_27 (dk_at dksJ2_append_3 3 rfl rfl)
theorem dJ2_append_72 : decode cJ2_append 72 = .ok (.invokestatic 197, 3) := dk_184 0 197 (dk_at dksJ2_append_3 4 rfl rfl)
theorem dJ2_append_75 : decode cJ2_append 75 = .ok (.aload_n 0, 1) := dk_42 (dk_at dksJ2_append_3 7 rfl rfl)
theorem dJ2_append_76 : decode cJ2_append 76 = .ok (.areturn, 1) := dk_176 (dk_at dksJ2_append_3 8 rfl rfl)
abbrev cJ2_ensureCapacityInternal : ByteArray := prog_18_method_9_code
def yJ2_ensureCapacityInternal : MethodName := ⟨RJ2, "ensureCapacityInternal", "(I)V"⟩
def dkwJ2_ensureCapacityInternal_1 : List UInt8 := [182, 0, 104, 42, 180, 0, 22, 120, 184, 0, 108, 181, 0, 15, 177]
abbrev dktJ2_ensureCapacityInternal_1 : List UInt8 := dkwJ2_ensureCapacityInternal_1 ++ []
def dkwJ2_ensureCapacityInternal_0 : List UInt8 := [42, 180, 0, 15, 190, 42, 180, 0, 22, 122, 61, 27, 28, 100, 158, 0, 24, 42, 42, 180, 0, 15, 42, 27]
abbrev dktJ2_ensureCapacityInternal_0 : List UInt8 := dkwJ2_ensureCapacityInternal_0 ++ dktJ2_ensureCapacityInternal_1
theorem dksJ2_ensureCapacityInternal_0 : cJ2_ensureCapacityInternal.data.toList.drop 0 = dktJ2_ensureCapacityInternal_0 := by decide +kernel
theorem dksJ2_ensureCapacityInternal_1 : cJ2_ensureCapacityInternal.data.toList.drop 24 = dktJ2_ensureCapacityInternal_1 := dk_seg dksJ2_ensureCapacityInternal_0 24 rfl rfl
theorem dJ2_ensureCapacityInternal_0 : decode cJ2_ensureCapacityInternal 0 = .ok (.aload_n 0, 1) := dk_42 (dk_at dksJ2_ensureCapacityInternal_0 0 rfl rfl)
theorem dJ2_ensureCapacityInternal_1 : decode cJ2_ensureCapacityInternal 1 = .ok (.getfield 15, 3) := dk_180 0 15 (dk_at dksJ2_ensureCapacityInternal_0 1 rfl rfl)
theorem dJ2_ensureCapacityInternal_4 : decode cJ2_ensureCapacityInternal 4 = .ok (.arraylength, 1) := dk_190 (dk_at dksJ2_ensureCapacityInternal_0 4 rfl rfl)
theorem dJ2_ensureCapacityInternal_5 : decode cJ2_ensureCapacityInternal 5 = .ok (.aload_n 0, 1) := dk_42 (dk_at dksJ2_ensureCapacityInternal_0 5 rfl rfl)
theorem dJ2_ensureCapacityInternal_6 : decode cJ2_ensureCapacityInternal 6 = .ok (.getfield 22, 3) := dk_180 0 22 (dk_at dksJ2_ensureCapacityInternal_0 6 rfl rfl)
theorem dJ2_ensureCapacityInternal_9 : decode cJ2_ensureCapacityInternal 9 = .ok (.ishr, 1) := dk_122 (dk_at dksJ2_ensureCapacityInternal_0 9 rfl rfl)
theorem dJ2_ensureCapacityInternal_10 : decode cJ2_ensureCapacityInternal 10 = .ok (.istore_n 2, 1) := dk_61 (dk_at dksJ2_ensureCapacityInternal_0 10 rfl rfl)
theorem dJ2_ensureCapacityInternal_11 : decode cJ2_ensureCapacityInternal 11 = .ok (.iload_n 1, 1) := dk_27 (dk_at dksJ2_ensureCapacityInternal_0 11 rfl rfl)
theorem dJ2_ensureCapacityInternal_12 : decode cJ2_ensureCapacityInternal 12 = .ok (.iload_n 2, 1) := dk_28 (dk_at dksJ2_ensureCapacityInternal_0 12 rfl rfl)
theorem dJ2_ensureCapacityInternal_13 : decode cJ2_ensureCapacityInternal 13 = .ok (.isub, 1) := dk_100 (dk_at dksJ2_ensureCapacityInternal_0 13 rfl rfl)
theorem dJ2_ensureCapacityInternal_14 : decode cJ2_ensureCapacityInternal 14 = .ok (.ifCond .le 24, 3) := dk_158 0 24 (dk_at dksJ2_ensureCapacityInternal_0 14 rfl rfl)
theorem dJ2_ensureCapacityInternal_17 : decode cJ2_ensureCapacityInternal 17 = .ok (.aload_n 0, 1) := dk_42 (dk_at dksJ2_ensureCapacityInternal_0 17 rfl rfl)
theorem dJ2_ensureCapacityInternal_18 : decode cJ2_ensureCapacityInternal 18 = .ok (.aload_n 0, 1) := dk_42 (dk_at dksJ2_ensureCapacityInternal_0 18 rfl rfl)
theorem dJ2_ensureCapacityInternal_19 : decode cJ2_ensureCapacityInternal 19 = .ok (.getfield 15, 3) := dk_180 0 15 (dk_at dksJ2_ensureCapacityInternal_0 19 rfl rfl)
theorem dJ2_ensureCapacityInternal_22 : decode cJ2_ensureCapacityInternal 22 = .ok (.aload_n 0, 1) := dk_42 (dk_at dksJ2_ensureCapacityInternal_0 22 rfl rfl)
theorem dJ2_ensureCapacityInternal_23 : decode cJ2_ensureCapacityInternal 23 = .ok (.iload_n 1, 1) := dk_27 (dk_at dksJ2_ensureCapacityInternal_0 23 rfl rfl)
theorem dJ2_ensureCapacityInternal_24 : decode cJ2_ensureCapacityInternal 24 = .ok (.invokevirtual 104, 3) := dk_182 0 104 (dk_at dksJ2_ensureCapacityInternal_1 0 rfl rfl)
theorem dJ2_ensureCapacityInternal_27 : decode cJ2_ensureCapacityInternal 27 = .ok (.aload_n 0, 1) := dk_42 (dk_at dksJ2_ensureCapacityInternal_1 3 rfl rfl)
theorem dJ2_ensureCapacityInternal_28 : decode cJ2_ensureCapacityInternal 28 = .ok (.getfield 22, 3) := dk_180 0 22 (dk_at dksJ2_ensureCapacityInternal_1 4 rfl rfl)
theorem dJ2_ensureCapacityInternal_31 : decode cJ2_ensureCapacityInternal 31 = .ok (.ishl, 1) := dk_120 (dk_at dksJ2_ensureCapacityInternal_1 7 rfl rfl)
theorem dJ2_ensureCapacityInternal_32 : decode cJ2_ensureCapacityInternal 32 = .ok (.invokestatic 108, 3) := dk_184 0 108 (dk_at dksJ2_ensureCapacityInternal_1 8 rfl rfl)
theorem dJ2_ensureCapacityInternal_35 : decode cJ2_ensureCapacityInternal 35 = .ok (.putfield 15, 3) := dk_181 0 15 (dk_at dksJ2_ensureCapacityInternal_1 11 rfl rfl)
theorem dJ2_ensureCapacityInternal_38 : decode cJ2_ensureCapacityInternal 38 = .ok (.return_, 1) := dk_177 (dk_at dksJ2_ensureCapacityInternal_1 14 rfl rfl)
abbrev cJ2_newCapacity : ByteArray := prog_18_method_10_code
def yJ2_newCapacity : MethodName := ⟨RJ2, "newCapacity", "(I)I"⟩
def dkwJ2_newCapacity_2 : List UInt8 := [183, 0, 124, 191, 21, 5, 42, 180, 0, 22, 122, 172]
abbrev dktJ2_newCapacity_2 : List UInt8 := dkwJ2_newCapacity_2 ++ []
def dkwJ2_newCapacity_1 : List UInt8 := [180, 0, 22, 120, 96, 184, 0, 114, 54, 5, 21, 5, 18, 39, 160, 0, 13, 187, 0, 120, 89, 18, 122]
abbrev dktJ2_newCapacity_1 : List UInt8 := dkwJ2_newCapacity_1 ++ dktJ2_newCapacity_2
def dkwJ2_newCapacity_0 : List UInt8 := [42, 180, 0, 15, 190, 61, 27, 42, 180, 0, 22, 120, 62, 29, 28, 100, 54, 4, 28, 21, 4, 28, 5, 42]
abbrev dktJ2_newCapacity_0 : List UInt8 := dkwJ2_newCapacity_0 ++ dktJ2_newCapacity_1
theorem dksJ2_newCapacity_0 : cJ2_newCapacity.data.toList.drop 0 = dktJ2_newCapacity_0 := by decide +kernel
theorem dksJ2_newCapacity_1 : cJ2_newCapacity.data.toList.drop 24 = dktJ2_newCapacity_1 := dk_seg dksJ2_newCapacity_0 24 rfl rfl
theorem dksJ2_newCapacity_2 : cJ2_newCapacity.data.toList.drop 47 = dktJ2_newCapacity_2 := dk_seg dksJ2_newCapacity_1 23 rfl rfl
theorem dJ2_newCapacity_0 : decode cJ2_newCapacity 0 = .ok (.aload_n 0, 1) := dk_42 (dk_at dksJ2_newCapacity_0 0 rfl rfl)
theorem dJ2_newCapacity_1 : decode cJ2_newCapacity 1 = .ok (.getfield 15, 3) := dk_180 0 15 (dk_at dksJ2_newCapacity_0 1 rfl rfl)
theorem dJ2_newCapacity_4 : decode cJ2_newCapacity 4 = .ok (.arraylength, 1) := dk_190 (dk_at dksJ2_newCapacity_0 4 rfl rfl)
theorem dJ2_newCapacity_5 : decode cJ2_newCapacity 5 = .ok (.istore_n 2, 1) := dk_61 (dk_at dksJ2_newCapacity_0 5 rfl rfl)
theorem dJ2_newCapacity_6 : decode cJ2_newCapacity 6 = .ok (.iload_n 1, 1) := dk_27 (dk_at dksJ2_newCapacity_0 6 rfl rfl)
theorem dJ2_newCapacity_7 : decode cJ2_newCapacity 7 = .ok (.aload_n 0, 1) := dk_42 (dk_at dksJ2_newCapacity_0 7 rfl rfl)
theorem dJ2_newCapacity_8 : decode cJ2_newCapacity 8 = .ok (.getfield 22, 3) := dk_180 0 22 (dk_at dksJ2_newCapacity_0 8 rfl rfl)
theorem dJ2_newCapacity_11 : decode cJ2_newCapacity 11 = .ok (.ishl, 1) := dk_120 (dk_at dksJ2_newCapacity_0 11 rfl rfl)
theorem dJ2_newCapacity_12 : decode cJ2_newCapacity 12 = .ok (.istore_n 3, 1) := dk_62 (dk_at dksJ2_newCapacity_0 12 rfl rfl)
theorem dJ2_newCapacity_13 : decode cJ2_newCapacity 13 = .ok (.iload_n 3, 1) := dk_29 (dk_at dksJ2_newCapacity_0 13 rfl rfl)
theorem dJ2_newCapacity_14 : decode cJ2_newCapacity 14 = .ok (.iload_n 2, 1) := dk_28 (dk_at dksJ2_newCapacity_0 14 rfl rfl)
theorem dJ2_newCapacity_15 : decode cJ2_newCapacity 15 = .ok (.isub, 1) := dk_100 (dk_at dksJ2_newCapacity_0 15 rfl rfl)
theorem dJ2_newCapacity_16 : decode cJ2_newCapacity 16 = .ok (.istore 4, 2) := dk_54 4 (dk_at dksJ2_newCapacity_0 16 rfl rfl)
theorem dJ2_newCapacity_18 : decode cJ2_newCapacity 18 = .ok (.iload_n 2, 1) := dk_28 (dk_at dksJ2_newCapacity_0 18 rfl rfl)
theorem dJ2_newCapacity_19 : decode cJ2_newCapacity 19 = .ok (.iload 4, 2) := dk_21 4 (dk_at dksJ2_newCapacity_0 19 rfl rfl)
theorem dJ2_newCapacity_21 : decode cJ2_newCapacity 21 = .ok (.iload_n 2, 1) := dk_28 (dk_at dksJ2_newCapacity_0 21 rfl rfl)
theorem dJ2_newCapacity_22 : decode cJ2_newCapacity 22 = .ok (.iconst 2, 1) := dk_5 (dk_at dksJ2_newCapacity_0 22 rfl rfl)
theorem dJ2_newCapacity_23 : decode cJ2_newCapacity 23 = .ok (.aload_n 0, 1) := dk_42 (dk_at dksJ2_newCapacity_0 23 rfl rfl)
theorem dJ2_newCapacity_24 : decode cJ2_newCapacity 24 = .ok (.getfield 22, 3) := dk_180 0 22 (dk_at dksJ2_newCapacity_1 0 rfl rfl)
theorem dJ2_newCapacity_27 : decode cJ2_newCapacity 27 = .ok (.ishl, 1) := dk_120 (dk_at dksJ2_newCapacity_1 3 rfl rfl)
theorem dJ2_newCapacity_28 : decode cJ2_newCapacity 28 = .ok (.iadd, 1) := dk_96 (dk_at dksJ2_newCapacity_1 4 rfl rfl)
theorem dJ2_newCapacity_29 : decode cJ2_newCapacity 29 = .ok (.invokestatic 114, 3) := dk_184 0 114 (dk_at dksJ2_newCapacity_1 5 rfl rfl)
theorem dJ2_newCapacity_32 : decode cJ2_newCapacity 32 = .ok (.istore 5, 2) := dk_54 5 (dk_at dksJ2_newCapacity_1 8 rfl rfl)
theorem dJ2_newCapacity_34 : decode cJ2_newCapacity 34 = .ok (.iload 5, 2) := dk_21 5 (dk_at dksJ2_newCapacity_1 10 rfl rfl)
theorem dJ2_newCapacity_36 : decode cJ2_newCapacity 36 = .ok (.ldc 39, 2) := dk_18 39 (dk_at dksJ2_newCapacity_1 12 rfl rfl)
theorem dJ2_newCapacity_38 : decode cJ2_newCapacity 38 = .ok (.if_icmp .ne 13, 3) := dk_160 0 13 (dk_at dksJ2_newCapacity_1 14 rfl rfl)
theorem dJ2_newCapacity_41 : decode cJ2_newCapacity 41 = .ok (.new 120, 3) := dk_187 0 120 (dk_at dksJ2_newCapacity_1 17 rfl rfl)
theorem dJ2_newCapacity_44 : decode cJ2_newCapacity 44 = .ok (.dup, 1) := dk_89 (dk_at dksJ2_newCapacity_1 20 rfl rfl)
theorem dJ2_newCapacity_45 : decode cJ2_newCapacity 45 = .ok (.ldc 122, 2) := dk_18 122 (dk_at dksJ2_newCapacity_1 21 rfl rfl)
theorem dJ2_newCapacity_47 : decode cJ2_newCapacity 47 = .ok (.invokespecial 124, 3) := dk_183 0 124 (dk_at dksJ2_newCapacity_2 0 rfl rfl)
theorem dJ2_newCapacity_50 : decode cJ2_newCapacity 50 = .ok (.athrow, 1) := dk_191 (dk_at dksJ2_newCapacity_2 3 rfl rfl)
theorem dJ2_newCapacity_51 : decode cJ2_newCapacity 51 = .ok (.iload 5, 2) := dk_21 5 (dk_at dksJ2_newCapacity_2 4 rfl rfl)
theorem dJ2_newCapacity_53 : decode cJ2_newCapacity 53 = .ok (.aload_n 0, 1) := dk_42 (dk_at dksJ2_newCapacity_2 6 rfl rfl)
theorem dJ2_newCapacity_54 : decode cJ2_newCapacity 54 = .ok (.getfield 22, 3) := dk_180 0 22 (dk_at dksJ2_newCapacity_2 7 rfl rfl)
theorem dJ2_newCapacity_57 : decode cJ2_newCapacity 57 = .ok (.ishr, 1) := dk_122 (dk_at dksJ2_newCapacity_2 10 rfl rfl)
theorem dJ2_newCapacity_58 : decode cJ2_newCapacity 58 = .ok (.ireturn, 1) := dk_172 (dk_at dksJ2_newCapacity_2 11 rfl rfl)
abbrev cJ2_isLatin1 : ByteArray := prog_18_method_68_code
def yJ2_isLatin1 : MethodName := ⟨RJ2, "isLatin1", "()Z"⟩
def dkwJ2_isLatin1_0 : List UInt8 := [178, 0, 18, 153, 0, 14, 42, 180, 0, 22, 154, 0, 7, 4, 167, 0, 4, 3, 172]
abbrev dktJ2_isLatin1_0 : List UInt8 := dkwJ2_isLatin1_0 ++ []
theorem dksJ2_isLatin1_0 : cJ2_isLatin1.data.toList.drop 0 = dktJ2_isLatin1_0 := by decide +kernel
theorem dJ2_isLatin1_0 : decode cJ2_isLatin1 0 = .ok (.getstatic 18, 3) := dk_178 0 18 (dk_at dksJ2_isLatin1_0 0 rfl rfl)
theorem dJ2_isLatin1_3 : decode cJ2_isLatin1 3 = .ok (.ifCond .eq 14, 3) := dk_153 0 14 (dk_at dksJ2_isLatin1_0 3 rfl rfl)
theorem dJ2_isLatin1_6 : decode cJ2_isLatin1 6 = .ok (.aload_n 0, 1) := dk_42 (dk_at dksJ2_isLatin1_0 6 rfl rfl)
theorem dJ2_isLatin1_7 : decode cJ2_isLatin1 7 = .ok (.getfield 22, 3) := dk_180 0 22 (dk_at dksJ2_isLatin1_0 7 rfl rfl)
theorem dJ2_isLatin1_10 : decode cJ2_isLatin1 10 = .ok (.ifCond .ne 7, 3) := dk_154 0 7 (dk_at dksJ2_isLatin1_0 10 rfl rfl)
theorem dJ2_isLatin1_13 : decode cJ2_isLatin1 13 = .ok (.iconst 1, 1) := dk_4 (dk_at dksJ2_isLatin1_0 13 rfl rfl)
theorem dJ2_isLatin1_14 : decode cJ2_isLatin1 14 = .ok (.goto 4, 3) := dk_167 0 4 (dk_at dksJ2_isLatin1_0 14 rfl rfl)
theorem dJ2_isLatin1_17 : decode cJ2_isLatin1 17 = .ok (.iconst 0, 1) := dk_3 (dk_at dksJ2_isLatin1_0 17 rfl rfl)
theorem dJ2_isLatin1_18 : decode cJ2_isLatin1 18 = .ok (.ireturn, 1) := dk_172 (dk_at dksJ2_isLatin1_0 18 rfl rfl)
abbrev cJ2_inflate : ByteArray := prog_18_method_11_code
def yJ2_inflate : MethodName := ⟨RJ2, "inflate", "()V"⟩
def dkwJ2_inflate_1 : List UInt8 := [42, 180, 0, 79, 184, 0, 125, 42, 43, 181, 0, 15, 42, 4, 181, 0, 22, 177]
abbrev dktJ2_inflate_1 : List UInt8 := dkwJ2_inflate_1 ++ []
def dkwJ2_inflate_0 : List UInt8 := [42, 182, 0, 83, 154, 0, 4, 177, 42, 180, 0, 15, 190, 184, 0, 26, 76, 42, 180, 0, 15, 3, 43, 3]
abbrev dktJ2_inflate_0 : List UInt8 := dkwJ2_inflate_0 ++ dktJ2_inflate_1
theorem dksJ2_inflate_0 : cJ2_inflate.data.toList.drop 0 = dktJ2_inflate_0 := by decide +kernel
theorem dksJ2_inflate_1 : cJ2_inflate.data.toList.drop 24 = dktJ2_inflate_1 := dk_seg dksJ2_inflate_0 24 rfl rfl
theorem dJ2_inflate_0 : decode cJ2_inflate 0 = .ok (.aload_n 0, 1) := dk_42 (dk_at dksJ2_inflate_0 0 rfl rfl)
theorem dJ2_inflate_1 : decode cJ2_inflate 1 = .ok (.invokevirtual 83, 3) := dk_182 0 83 (dk_at dksJ2_inflate_0 1 rfl rfl)
theorem dJ2_inflate_4 : decode cJ2_inflate 4 = .ok (.ifCond .ne 4, 3) := dk_154 0 4 (dk_at dksJ2_inflate_0 4 rfl rfl)
theorem dJ2_inflate_7 : decode cJ2_inflate 7 = .ok (.return_, 1) := dk_177 (dk_at dksJ2_inflate_0 7 rfl rfl)
theorem dJ2_inflate_8 : decode cJ2_inflate 8 = .ok (.aload_n 0, 1) := dk_42 (dk_at dksJ2_inflate_0 8 rfl rfl)
theorem dJ2_inflate_9 : decode cJ2_inflate 9 = .ok (.getfield 15, 3) := dk_180 0 15 (dk_at dksJ2_inflate_0 9 rfl rfl)
theorem dJ2_inflate_12 : decode cJ2_inflate 12 = .ok (.arraylength, 1) := dk_190 (dk_at dksJ2_inflate_0 12 rfl rfl)
theorem dJ2_inflate_13 : decode cJ2_inflate 13 = .ok (.invokestatic 26, 3) := dk_184 0 26 (dk_at dksJ2_inflate_0 13 rfl rfl)
theorem dJ2_inflate_16 : decode cJ2_inflate 16 = .ok (.astore_n 1, 1) := dk_76 (dk_at dksJ2_inflate_0 16 rfl rfl)
theorem dJ2_inflate_17 : decode cJ2_inflate 17 = .ok (.aload_n 0, 1) := dk_42 (dk_at dksJ2_inflate_0 17 rfl rfl)
theorem dJ2_inflate_18 : decode cJ2_inflate 18 = .ok (.getfield 15, 3) := dk_180 0 15 (dk_at dksJ2_inflate_0 18 rfl rfl)
theorem dJ2_inflate_21 : decode cJ2_inflate 21 = .ok (.iconst 0, 1) := dk_3 (dk_at dksJ2_inflate_0 21 rfl rfl)
theorem dJ2_inflate_22 : decode cJ2_inflate 22 = .ok (.aload_n 1, 1) := dk_43 (dk_at dksJ2_inflate_0 22 rfl rfl)
theorem dJ2_inflate_23 : decode cJ2_inflate 23 = .ok (.iconst 0, 1) := dk_3 (dk_at dksJ2_inflate_0 23 rfl rfl)
theorem dJ2_inflate_24 : decode cJ2_inflate 24 = .ok (.aload_n 0, 1) := dk_42 (dk_at dksJ2_inflate_1 0 rfl rfl)
theorem dJ2_inflate_25 : decode cJ2_inflate 25 = .ok (.getfield 79, 3) := dk_180 0 79 (dk_at dksJ2_inflate_1 1 rfl rfl)
theorem dJ2_inflate_28 : decode cJ2_inflate 28 = .ok (.invokestatic 125, 3) := dk_184 0 125 (dk_at dksJ2_inflate_1 4 rfl rfl)
theorem dJ2_inflate_31 : decode cJ2_inflate 31 = .ok (.aload_n 0, 1) := dk_42 (dk_at dksJ2_inflate_1 7 rfl rfl)
theorem dJ2_inflate_32 : decode cJ2_inflate 32 = .ok (.aload_n 1, 1) := dk_43 (dk_at dksJ2_inflate_1 8 rfl rfl)
theorem dJ2_inflate_33 : decode cJ2_inflate 33 = .ok (.putfield 15, 3) := dk_181 0 15 (dk_at dksJ2_inflate_1 9 rfl rfl)
theorem dJ2_inflate_36 : decode cJ2_inflate 36 = .ok (.aload_n 0, 1) := dk_42 (dk_at dksJ2_inflate_1 12 rfl rfl)
theorem dJ2_inflate_37 : decode cJ2_inflate 37 = .ok (.iconst 1, 1) := dk_4 (dk_at dksJ2_inflate_1 13 rfl rfl)
theorem dJ2_inflate_38 : decode cJ2_inflate 38 = .ok (.putfield 22, 3) := dk_181 0 22 (dk_at dksJ2_inflate_1 14 rfl rfl)
theorem dJ2_inflate_41 : decode cJ2_inflate 41 = .ok (.return_, 1) := dk_177 (dk_at dksJ2_inflate_1 17 rfl rfl)
abbrev cJ2_getValue : ByteArray := prog_18_method_64_code
def yJ2_getValue : MethodName := ⟨RJ2, "getValue", "()[B"⟩
theorem dJ2_getValue_0 : decode cJ2_getValue 0 = .ok (.aload_n 0, 1) := by decide +kernel
theorem dJ2_getValue_1 : decode cJ2_getValue 1 = .ok (.getfield 15, 3) := by decide +kernel
theorem dJ2_getValue_4 : decode cJ2_getValue 4 = .ok (.areturn, 1) := by decide +kernel
abbrev cJ2_length : ByteArray := prog_18_method_6_code
def yJ2_length : MethodName := ⟨RJ2, "length", "()I"⟩
theorem dJ2_length_0 : decode cJ2_length 0 = .ok (.aload_n 0, 1) := by decide +kernel
theorem dJ2_length_1 : decode cJ2_length 1 = .ok (.getfield 79, 3) := by decide +kernel
theorem dJ2_length_4 : decode cJ2_length 4 = .ok (.ireturn, 1) := by decide +kernel
abbrev cJ2_append_2 : ByteArray := prog_18_method_32_code
def yJ2_append_2 : MethodName := ⟨RJ2, "append", "(I)Ljava/lang/AbstractStringBuilder;"⟩
def dkwJ2_append_2_2 : List UInt8 := [42, 29, 181, 0, 79, 42, 176]
abbrev dktJ2_append_2_2 : List UInt8 := dkwJ2_append_2_2 ++ []
def dkwJ2_append_2_1 : List UInt8 := [27, 29, 42, 180, 0, 15, 184, 0, 248, 87, 167, 0, 14, 27, 28, 29, 42, 180, 0, 15, 184, 0, 251, 87]
abbrev dktJ2_append_2_1 : List UInt8 := dkwJ2_append_2_1 ++ dktJ2_append_2_2
def dkwJ2_append_2_0 : List UInt8 := [42, 180, 0, 79, 61, 28, 27, 184, 0, 245, 96, 62, 42, 29, 182, 0, 100, 42, 182, 0, 83, 153, 0, 16]
abbrev dktJ2_append_2_0 : List UInt8 := dkwJ2_append_2_0 ++ dktJ2_append_2_1
theorem dksJ2_append_2_0 : cJ2_append_2.data.toList.drop 0 = dktJ2_append_2_0 := by decide +kernel
theorem dksJ2_append_2_1 : cJ2_append_2.data.toList.drop 24 = dktJ2_append_2_1 := dk_seg dksJ2_append_2_0 24 rfl rfl
theorem dksJ2_append_2_2 : cJ2_append_2.data.toList.drop 48 = dktJ2_append_2_2 := dk_seg dksJ2_append_2_1 24 rfl rfl
theorem dJ2_append_2_0 : decode cJ2_append_2 0 = .ok (.aload_n 0, 1) := dk_42 (dk_at dksJ2_append_2_0 0 rfl rfl)
theorem dJ2_append_2_1 : decode cJ2_append_2 1 = .ok (.getfield 79, 3) := dk_180 0 79 (dk_at dksJ2_append_2_0 1 rfl rfl)
theorem dJ2_append_2_4 : decode cJ2_append_2 4 = .ok (.istore_n 2, 1) := dk_61 (dk_at dksJ2_append_2_0 4 rfl rfl)
theorem dJ2_append_2_5 : decode cJ2_append_2 5 = .ok (.iload_n 2, 1) := dk_28 (dk_at dksJ2_append_2_0 5 rfl rfl)
theorem dJ2_append_2_6 : decode cJ2_append_2 6 = .ok (.iload_n 1, 1) := dk_27 (dk_at dksJ2_append_2_0 6 rfl rfl)
theorem dJ2_append_2_7 : decode cJ2_append_2 7 = .ok (.invokestatic 245, 3) := dk_184 0 245 (dk_at dksJ2_append_2_0 7 rfl rfl)
theorem dJ2_append_2_10 : decode cJ2_append_2 10 = .ok (.iadd, 1) := dk_96 (dk_at dksJ2_append_2_0 10 rfl rfl)
theorem dJ2_append_2_11 : decode cJ2_append_2 11 = .ok (.istore_n 3, 1) := dk_62 (dk_at dksJ2_append_2_0 11 rfl rfl)
theorem dJ2_append_2_12 : decode cJ2_append_2 12 = .ok (.aload_n 0, 1) := dk_42 (dk_at dksJ2_append_2_0 12 rfl rfl)
theorem dJ2_append_2_13 : decode cJ2_append_2 13 = .ok (.iload_n 3, 1) := dk_29 (dk_at dksJ2_append_2_0 13 rfl rfl)
theorem dJ2_append_2_14 : decode cJ2_append_2 14 = .ok (.invokevirtual 100, 3) := dk_182 0 100 (dk_at dksJ2_append_2_0 14 rfl rfl)
theorem dJ2_append_2_17 : decode cJ2_append_2 17 = .ok (.aload_n 0, 1) := dk_42 (dk_at dksJ2_append_2_0 17 rfl rfl)
theorem dJ2_append_2_18 : decode cJ2_append_2 18 = .ok (.invokevirtual 83, 3) := dk_182 0 83 (dk_at dksJ2_append_2_0 18 rfl rfl)
theorem dJ2_append_2_21 : decode cJ2_append_2 21 = .ok (.ifCond .eq 16, 3) := dk_153 0 16 (dk_at dksJ2_append_2_0 21 rfl rfl)
theorem dJ2_append_2_24 : decode cJ2_append_2 24 = .ok (.iload_n 1, 1) := dk_27 (dk_at dksJ2_append_2_1 0 rfl rfl)
theorem dJ2_append_2_25 : decode cJ2_append_2 25 = .ok (.iload_n 3, 1) := dk_29 (dk_at dksJ2_append_2_1 1 rfl rfl)
theorem dJ2_append_2_26 : decode cJ2_append_2 26 = .ok (.aload_n 0, 1) := dk_42 (dk_at dksJ2_append_2_1 2 rfl rfl)
theorem dJ2_append_2_27 : decode cJ2_append_2 27 = .ok (.getfield 15, 3) := dk_180 0 15 (dk_at dksJ2_append_2_1 3 rfl rfl)
theorem dJ2_append_2_30 : decode cJ2_append_2 30 = .ok (.invokestatic 248, 3) := dk_184 0 248 (dk_at dksJ2_append_2_1 6 rfl rfl)
theorem dJ2_append_2_33 : decode cJ2_append_2 33 = .ok (.pop, 1) := dk_87 (dk_at dksJ2_append_2_1 9 rfl rfl)
theorem dJ2_append_2_34 : decode cJ2_append_2 34 = .ok (.goto 14, 3) := dk_167 0 14 (dk_at dksJ2_append_2_1 10 rfl rfl)
theorem dJ2_append_2_37 : decode cJ2_append_2 37 = .ok (.iload_n 1, 1) := dk_27 (dk_at dksJ2_append_2_1 13 rfl rfl)
theorem dJ2_append_2_38 : decode cJ2_append_2 38 = .ok (.iload_n 2, 1) := dk_28 (dk_at dksJ2_append_2_1 14 rfl rfl)
theorem dJ2_append_2_39 : decode cJ2_append_2 39 = .ok (.iload_n 3, 1) := dk_29 (dk_at dksJ2_append_2_1 15 rfl rfl)
theorem dJ2_append_2_40 : decode cJ2_append_2 40 = .ok (.aload_n 0, 1) := dk_42 (dk_at dksJ2_append_2_1 16 rfl rfl)
theorem dJ2_append_2_41 : decode cJ2_append_2 41 = .ok (.getfield 15, 3) := dk_180 0 15 (dk_at dksJ2_append_2_1 17 rfl rfl)
theorem dJ2_append_2_44 : decode cJ2_append_2 44 = .ok (.invokestatic 251, 3) := dk_184 0 251 (dk_at dksJ2_append_2_1 20 rfl rfl)
theorem dJ2_append_2_47 : decode cJ2_append_2 47 = .ok (.pop, 1) := dk_87 (dk_at dksJ2_append_2_1 23 rfl rfl)
theorem dJ2_append_2_48 : decode cJ2_append_2 48 = .ok (.aload_n 0, 1) := dk_42 (dk_at dksJ2_append_2_2 0 rfl rfl)
theorem dJ2_append_2_49 : decode cJ2_append_2 49 = .ok (.iload_n 3, 1) := dk_29 (dk_at dksJ2_append_2_2 1 rfl rfl)
theorem dJ2_append_2_50 : decode cJ2_append_2 50 = .ok (.putfield 79, 3) := dk_181 0 79 (dk_at dksJ2_append_2_2 2 rfl rfl)
theorem dJ2_append_2_53 : decode cJ2_append_2 53 = .ok (.aload_n 0, 1) := dk_42 (dk_at dksJ2_append_2_2 5 rfl rfl)
theorem dJ2_append_2_54 : decode cJ2_append_2 54 = .ok (.areturn, 1) := dk_176 (dk_at dksJ2_append_2_2 6 rfl rfl)
abbrev cJ2_append_3 : ByteArray := prog_18_method_22_code
def yJ2_append_3 : MethodName := ⟨RJ2, "append", "(Ljava/lang/String;)Ljava/lang/AbstractStringBuilder;"⟩
def dkwJ2_append_3_1 : List UInt8 := [42, 42, 180, 0, 79, 43, 182, 0, 208, 42, 89, 180, 0, 79, 28, 96, 181, 0, 79, 42, 176]
abbrev dktJ2_append_3_1 : List UInt8 := dkwJ2_append_3_1 ++ []
def dkwJ2_append_3_0 : List UInt8 := [43, 199, 0, 8, 42, 182, 0, 204, 176, 43, 182, 0, 32, 61, 42, 42, 180, 0, 79, 28, 96, 182, 0, 100]
abbrev dktJ2_append_3_0 : List UInt8 := dkwJ2_append_3_0 ++ dktJ2_append_3_1
theorem dksJ2_append_3_0 : cJ2_append_3.data.toList.drop 0 = dktJ2_append_3_0 := by decide +kernel
theorem dksJ2_append_3_1 : cJ2_append_3.data.toList.drop 24 = dktJ2_append_3_1 := dk_seg dksJ2_append_3_0 24 rfl rfl
theorem dJ2_append_3_0 : decode cJ2_append_3 0 = .ok (.aload_n 1, 1) := dk_43 (dk_at dksJ2_append_3_0 0 rfl rfl)
theorem dJ2_append_3_1 : decode cJ2_append_3 1 = .ok (.ifnonnull 8, 3) := dk_199 0 8 (dk_at dksJ2_append_3_0 1 rfl rfl)
theorem dJ2_append_3_4 : decode cJ2_append_3 4 = .ok (.aload_n 0, 1) := dk_42 (dk_at dksJ2_append_3_0 4 rfl rfl)
theorem dJ2_append_3_5 : decode cJ2_append_3 5 = .ok (.invokevirtual 204, 3) := dk_182 0 204 (dk_at dksJ2_append_3_0 5 rfl rfl)
theorem dJ2_append_3_8 : decode cJ2_append_3 8 = .ok (.areturn, 1) := dk_176 (dk_at dksJ2_append_3_0 8 rfl rfl)
theorem dJ2_append_3_9 : decode cJ2_append_3 9 = .ok (.aload_n 1, 1) := dk_43 (dk_at dksJ2_append_3_0 9 rfl rfl)
theorem dJ2_append_3_10 : decode cJ2_append_3 10 = .ok (.invokevirtual 32, 3) := dk_182 0 32 (dk_at dksJ2_append_3_0 10 rfl rfl)
theorem dJ2_append_3_13 : decode cJ2_append_3 13 = .ok (.istore_n 2, 1) := dk_61 (dk_at dksJ2_append_3_0 13 rfl rfl)
theorem dJ2_append_3_14 : decode cJ2_append_3 14 = .ok (.aload_n 0, 1) := dk_42 (dk_at dksJ2_append_3_0 14 rfl rfl)
theorem dJ2_append_3_15 : decode cJ2_append_3 15 = .ok (.aload_n 0, 1) := dk_42 (dk_at dksJ2_append_3_0 15 rfl rfl)
theorem dJ2_append_3_16 : decode cJ2_append_3 16 = .ok (.getfield 79, 3) := dk_180 0 79 (dk_at dksJ2_append_3_0 16 rfl rfl)
theorem dJ2_append_3_19 : decode cJ2_append_3 19 = .ok (.iload_n 2, 1) := dk_28 (dk_at dksJ2_append_3_0 19 rfl rfl)
theorem dJ2_append_3_20 : decode cJ2_append_3 20 = .ok (.iadd, 1) := dk_96 (dk_at dksJ2_append_3_0 20 rfl rfl)
theorem dJ2_append_3_21 : decode cJ2_append_3 21 = .ok (.invokevirtual 100, 3) := dk_182 0 100 (dk_at dksJ2_append_3_0 21 rfl rfl)
theorem dJ2_append_3_24 : decode cJ2_append_3 24 = .ok (.aload_n 0, 1) := dk_42 (dk_at dksJ2_append_3_1 0 rfl rfl)
theorem dJ2_append_3_25 : decode cJ2_append_3 25 = .ok (.aload_n 0, 1) := dk_42 (dk_at dksJ2_append_3_1 1 rfl rfl)
theorem dJ2_append_3_26 : decode cJ2_append_3 26 = .ok (.getfield 79, 3) := dk_180 0 79 (dk_at dksJ2_append_3_1 2 rfl rfl)
theorem dJ2_append_3_29 : decode cJ2_append_3 29 = .ok (.aload_n 1, 1) := dk_43 (dk_at dksJ2_append_3_1 5 rfl rfl)
theorem dJ2_append_3_30 : decode cJ2_append_3 30 = .ok (.invokevirtual 208, 3) := dk_182 0 208 (dk_at dksJ2_append_3_1 6 rfl rfl)
theorem dJ2_append_3_33 : decode cJ2_append_3 33 = .ok (.aload_n 0, 1) := dk_42 (dk_at dksJ2_append_3_1 9 rfl rfl)
theorem dJ2_append_3_34 : decode cJ2_append_3 34 = .ok (.dup, 1) := dk_89 (dk_at dksJ2_append_3_1 10 rfl rfl)
theorem dJ2_append_3_35 : decode cJ2_append_3 35 = .ok (.getfield 79, 3) := dk_180 0 79 (dk_at dksJ2_append_3_1 11 rfl rfl)
theorem dJ2_append_3_38 : decode cJ2_append_3 38 = .ok (.iload_n 2, 1) := dk_28 (dk_at dksJ2_append_3_1 14 rfl rfl)
theorem dJ2_append_3_39 : decode cJ2_append_3 39 = .ok (.iadd, 1) := dk_96 (dk_at dksJ2_append_3_1 15 rfl rfl)
theorem dJ2_append_3_40 : decode cJ2_append_3 40 = .ok (.putfield 79, 3) := dk_181 0 79 (dk_at dksJ2_append_3_1 16 rfl rfl)
theorem dJ2_append_3_43 : decode cJ2_append_3 43 = .ok (.aload_n 0, 1) := dk_42 (dk_at dksJ2_append_3_1 19 rfl rfl)
theorem dJ2_append_3_44 : decode cJ2_append_3 44 = .ok (.areturn, 1) := dk_176 (dk_at dksJ2_append_3_1 20 rfl rfl)
abbrev cJ2_appendNull : ByteArray := prog_18_method_26_code
def yJ2_appendNull : MethodName := ⟨RJ2, "appendNull", "()Ljava/lang/AbstractStringBuilder;"⟩
def dkwJ2_appendNull_3 : List UInt8 := [184, 0, 226, 60, 42, 27, 181, 0, 79, 42, 176]
abbrev dktJ2_appendNull_3 : List UInt8 := dkwJ2_appendNull_3 ++ []
def dkwJ2_appendNull_2 : List UInt8 := [16, 108, 84, 44, 27, 132, 1, 1, 16, 108, 84, 167, 0, 17, 44, 27, 16, 110, 16, 117, 16, 108, 16, 108]
abbrev dktJ2_appendNull_2 : List UInt8 := dkwJ2_appendNull_2 ++ dktJ2_appendNull_3
def dkwJ2_appendNull_1 : List UInt8 := [153, 0, 38, 44, 27, 132, 1, 1, 16, 110, 84, 44, 27, 132, 1, 1, 16, 117, 84, 44, 27, 132, 1, 1]
abbrev dktJ2_appendNull_1 : List UInt8 := dkwJ2_appendNull_1 ++ dktJ2_appendNull_2
def dkwJ2_appendNull_0 : List UInt8 := [42, 42, 180, 0, 79, 7, 96, 182, 0, 100, 42, 180, 0, 79, 60, 42, 180, 0, 15, 77, 42, 182, 0, 83]
abbrev dktJ2_appendNull_0 : List UInt8 := dkwJ2_appendNull_0 ++ dktJ2_appendNull_1
theorem dksJ2_appendNull_0 : cJ2_appendNull.data.toList.drop 0 = dktJ2_appendNull_0 := by decide +kernel
theorem dksJ2_appendNull_1 : cJ2_appendNull.data.toList.drop 24 = dktJ2_appendNull_1 := dk_seg dksJ2_appendNull_0 24 rfl rfl
theorem dksJ2_appendNull_2 : cJ2_appendNull.data.toList.drop 48 = dktJ2_appendNull_2 := dk_seg dksJ2_appendNull_1 24 rfl rfl
theorem dksJ2_appendNull_3 : cJ2_appendNull.data.toList.drop 72 = dktJ2_appendNull_3 := dk_seg dksJ2_appendNull_2 24 rfl rfl
theorem dJ2_appendNull_0 : decode cJ2_appendNull 0 = .ok (.aload_n 0, 1) := dk_42 (dk_at dksJ2_appendNull_0 0 rfl rfl)
theorem dJ2_appendNull_1 : decode cJ2_appendNull 1 = .ok (.aload_n 0, 1) := dk_42 (dk_at dksJ2_appendNull_0 1 rfl rfl)
theorem dJ2_appendNull_2 : decode cJ2_appendNull 2 = .ok (.getfield 79, 3) := dk_180 0 79 (dk_at dksJ2_appendNull_0 2 rfl rfl)
theorem dJ2_appendNull_5 : decode cJ2_appendNull 5 = .ok (.iconst 4, 1) := dk_7 (dk_at dksJ2_appendNull_0 5 rfl rfl)
theorem dJ2_appendNull_6 : decode cJ2_appendNull 6 = .ok (.iadd, 1) := dk_96 (dk_at dksJ2_appendNull_0 6 rfl rfl)
theorem dJ2_appendNull_7 : decode cJ2_appendNull 7 = .ok (.invokevirtual 100, 3) := dk_182 0 100 (dk_at dksJ2_appendNull_0 7 rfl rfl)
theorem dJ2_appendNull_10 : decode cJ2_appendNull 10 = .ok (.aload_n 0, 1) := dk_42 (dk_at dksJ2_appendNull_0 10 rfl rfl)
theorem dJ2_appendNull_11 : decode cJ2_appendNull 11 = .ok (.getfield 79, 3) := dk_180 0 79 (dk_at dksJ2_appendNull_0 11 rfl rfl)
theorem dJ2_appendNull_14 : decode cJ2_appendNull 14 = .ok (.istore_n 1, 1) := dk_60 (dk_at dksJ2_appendNull_0 14 rfl rfl)
theorem dJ2_appendNull_15 : decode cJ2_appendNull 15 = .ok (.aload_n 0, 1) := dk_42 (dk_at dksJ2_appendNull_0 15 rfl rfl)
theorem dJ2_appendNull_16 : decode cJ2_appendNull 16 = .ok (.getfield 15, 3) := dk_180 0 15 (dk_at dksJ2_appendNull_0 16 rfl rfl)
theorem dJ2_appendNull_19 : decode cJ2_appendNull 19 = .ok (.astore_n 2, 1) := dk_77 (dk_at dksJ2_appendNull_0 19 rfl rfl)
theorem dJ2_appendNull_20 : decode cJ2_appendNull 20 = .ok (.aload_n 0, 1) := dk_42 (dk_at dksJ2_appendNull_0 20 rfl rfl)
theorem dJ2_appendNull_21 : decode cJ2_appendNull 21 = .ok (.invokevirtual 83, 3) := dk_182 0 83 (dk_at dksJ2_appendNull_0 21 rfl rfl)
theorem dJ2_appendNull_24 : decode cJ2_appendNull 24 = .ok (.ifCond .eq 38, 3) := dk_153 0 38 (dk_at dksJ2_appendNull_1 0 rfl rfl)
theorem dJ2_appendNull_27 : decode cJ2_appendNull 27 = .ok (.aload_n 2, 1) := dk_44 (dk_at dksJ2_appendNull_1 3 rfl rfl)
theorem dJ2_appendNull_28 : decode cJ2_appendNull 28 = .ok (.iload_n 1, 1) := dk_27 (dk_at dksJ2_appendNull_1 4 rfl rfl)
theorem dJ2_appendNull_29 : decode cJ2_appendNull 29 = .ok (.iinc 1 1, 3) := dk_132 1 1 (dk_at dksJ2_appendNull_1 5 rfl rfl)
theorem dJ2_appendNull_32 : decode cJ2_appendNull 32 = .ok (.bipush 110, 2) := dk_16 110 (dk_at dksJ2_appendNull_1 8 rfl rfl)
theorem dJ2_appendNull_34 : decode cJ2_appendNull 34 = .ok (.bastore, 1) := dk_84 (dk_at dksJ2_appendNull_1 10 rfl rfl)
theorem dJ2_appendNull_35 : decode cJ2_appendNull 35 = .ok (.aload_n 2, 1) := dk_44 (dk_at dksJ2_appendNull_1 11 rfl rfl)
theorem dJ2_appendNull_36 : decode cJ2_appendNull 36 = .ok (.iload_n 1, 1) := dk_27 (dk_at dksJ2_appendNull_1 12 rfl rfl)
theorem dJ2_appendNull_37 : decode cJ2_appendNull 37 = .ok (.iinc 1 1, 3) := dk_132 1 1 (dk_at dksJ2_appendNull_1 13 rfl rfl)
theorem dJ2_appendNull_40 : decode cJ2_appendNull 40 = .ok (.bipush 117, 2) := dk_16 117 (dk_at dksJ2_appendNull_1 16 rfl rfl)
theorem dJ2_appendNull_42 : decode cJ2_appendNull 42 = .ok (.bastore, 1) := dk_84 (dk_at dksJ2_appendNull_1 18 rfl rfl)
theorem dJ2_appendNull_43 : decode cJ2_appendNull 43 = .ok (.aload_n 2, 1) := dk_44 (dk_at dksJ2_appendNull_1 19 rfl rfl)
theorem dJ2_appendNull_44 : decode cJ2_appendNull 44 = .ok (.iload_n 1, 1) := dk_27 (dk_at dksJ2_appendNull_1 20 rfl rfl)
theorem dJ2_appendNull_45 : decode cJ2_appendNull 45 = .ok (.iinc 1 1, 3) := dk_132 1 1 (dk_at dksJ2_appendNull_1 21 rfl rfl)
theorem dJ2_appendNull_48 : decode cJ2_appendNull 48 = .ok (.bipush 108, 2) := dk_16 108 (dk_at dksJ2_appendNull_2 0 rfl rfl)
theorem dJ2_appendNull_50 : decode cJ2_appendNull 50 = .ok (.bastore, 1) := dk_84 (dk_at dksJ2_appendNull_2 2 rfl rfl)
theorem dJ2_appendNull_51 : decode cJ2_appendNull 51 = .ok (.aload_n 2, 1) := dk_44 (dk_at dksJ2_appendNull_2 3 rfl rfl)
theorem dJ2_appendNull_52 : decode cJ2_appendNull 52 = .ok (.iload_n 1, 1) := dk_27 (dk_at dksJ2_appendNull_2 4 rfl rfl)
theorem dJ2_appendNull_53 : decode cJ2_appendNull 53 = .ok (.iinc 1 1, 3) := dk_132 1 1 (dk_at dksJ2_appendNull_2 5 rfl rfl)
theorem dJ2_appendNull_56 : decode cJ2_appendNull 56 = .ok (.bipush 108, 2) := dk_16 108 (dk_at dksJ2_appendNull_2 8 rfl rfl)
theorem dJ2_appendNull_58 : decode cJ2_appendNull 58 = .ok (.bastore, 1) := dk_84 (dk_at dksJ2_appendNull_2 10 rfl rfl)
theorem dJ2_appendNull_59 : decode cJ2_appendNull 59 = .ok (.goto 17, 3) := dk_167 0 17 (dk_at dksJ2_appendNull_2 11 rfl rfl)
theorem dJ2_appendNull_62 : decode cJ2_appendNull 62 = .ok (.aload_n 2, 1) := dk_44 (dk_at dksJ2_appendNull_2 14 rfl rfl)
theorem dJ2_appendNull_63 : decode cJ2_appendNull 63 = .ok (.iload_n 1, 1) := dk_27 (dk_at dksJ2_appendNull_2 15 rfl rfl)
theorem dJ2_appendNull_64 : decode cJ2_appendNull 64 = .ok (.bipush 110, 2) := dk_16 110 (dk_at dksJ2_appendNull_2 16 rfl rfl)
theorem dJ2_appendNull_66 : decode cJ2_appendNull 66 = .ok (.bipush 117, 2) := dk_16 117 (dk_at dksJ2_appendNull_2 18 rfl rfl)
theorem dJ2_appendNull_68 : decode cJ2_appendNull 68 = .ok (.bipush 108, 2) := dk_16 108 (dk_at dksJ2_appendNull_2 20 rfl rfl)
theorem dJ2_appendNull_70 : decode cJ2_appendNull 70 = .ok (.bipush 108, 2) := dk_16 108 (dk_at dksJ2_appendNull_2 22 rfl rfl)
theorem dJ2_appendNull_72 : decode cJ2_appendNull 72 = .ok (.invokestatic 226, 3) := dk_184 0 226 (dk_at dksJ2_appendNull_3 0 rfl rfl)
theorem dJ2_appendNull_75 : decode cJ2_appendNull 75 = .ok (.istore_n 1, 1) := dk_60 (dk_at dksJ2_appendNull_3 3 rfl rfl)
theorem dJ2_appendNull_76 : decode cJ2_appendNull 76 = .ok (.aload_n 0, 1) := dk_42 (dk_at dksJ2_appendNull_3 4 rfl rfl)
theorem dJ2_appendNull_77 : decode cJ2_appendNull 77 = .ok (.iload_n 1, 1) := dk_27 (dk_at dksJ2_appendNull_3 5 rfl rfl)
theorem dJ2_appendNull_78 : decode cJ2_appendNull 78 = .ok (.putfield 79, 3) := dk_181 0 79 (dk_at dksJ2_appendNull_3 6 rfl rfl)
theorem dJ2_appendNull_81 : decode cJ2_appendNull 81 = .ok (.aload_n 0, 1) := dk_42 (dk_at dksJ2_appendNull_3 9 rfl rfl)
theorem dJ2_appendNull_82 : decode cJ2_appendNull 82 = .ok (.areturn, 1) := dk_176 (dk_at dksJ2_appendNull_3 10 rfl rfl)
abbrev cJ2_putStringAt : ByteArray := prog_18_method_73_code
def yJ2_putStringAt : MethodName := ⟨RJ2, "putStringAt", "(ILjava/lang/String;)V"⟩
def dkwJ2_putStringAt_0 : List UInt8 := [42, 44, 182, 1, 141, 44, 42, 180, 0, 15, 27, 42, 180, 0, 22, 182, 1, 143, 177]
abbrev dktJ2_putStringAt_0 : List UInt8 := dkwJ2_putStringAt_0 ++ []
theorem dksJ2_putStringAt_0 : cJ2_putStringAt.data.toList.drop 0 = dktJ2_putStringAt_0 := by decide +kernel
theorem dJ2_putStringAt_0 : decode cJ2_putStringAt 0 = .ok (.aload_n 0, 1) := dk_42 (dk_at dksJ2_putStringAt_0 0 rfl rfl)
theorem dJ2_putStringAt_1 : decode cJ2_putStringAt 1 = .ok (.aload_n 2, 1) := dk_44 (dk_at dksJ2_putStringAt_0 1 rfl rfl)
theorem dJ2_putStringAt_2 : decode cJ2_putStringAt 2 = .ok (.invokevirtual 397, 3) := dk_182 1 141 (dk_at dksJ2_putStringAt_0 2 rfl rfl)
theorem dJ2_putStringAt_5 : decode cJ2_putStringAt 5 = .ok (.aload_n 2, 1) := dk_44 (dk_at dksJ2_putStringAt_0 5 rfl rfl)
theorem dJ2_putStringAt_6 : decode cJ2_putStringAt 6 = .ok (.aload_n 0, 1) := dk_42 (dk_at dksJ2_putStringAt_0 6 rfl rfl)
theorem dJ2_putStringAt_7 : decode cJ2_putStringAt 7 = .ok (.getfield 15, 3) := dk_180 0 15 (dk_at dksJ2_putStringAt_0 7 rfl rfl)
theorem dJ2_putStringAt_10 : decode cJ2_putStringAt 10 = .ok (.iload_n 1, 1) := dk_27 (dk_at dksJ2_putStringAt_0 10 rfl rfl)
theorem dJ2_putStringAt_11 : decode cJ2_putStringAt 11 = .ok (.aload_n 0, 1) := dk_42 (dk_at dksJ2_putStringAt_0 11 rfl rfl)
theorem dJ2_putStringAt_12 : decode cJ2_putStringAt 12 = .ok (.getfield 22, 3) := dk_180 0 22 (dk_at dksJ2_putStringAt_0 12 rfl rfl)
theorem dJ2_putStringAt_15 : decode cJ2_putStringAt 15 = .ok (.invokevirtual 399, 3) := dk_182 1 143 (dk_at dksJ2_putStringAt_0 15 rfl rfl)
theorem dJ2_putStringAt_18 : decode cJ2_putStringAt 18 = .ok (.return_, 1) := dk_177 (dk_at dksJ2_putStringAt_0 18 rfl rfl)
abbrev cJ2_inflateIfNeededFor : ByteArray := prog_18_method_71_code
def yJ2_inflateIfNeededFor : MethodName := ⟨RJ2, "inflateIfNeededFor", "(Ljava/lang/String;)V"⟩
def dkwJ2_inflateIfNeededFor_0 : List UInt8 := [178, 0, 18, 153, 0, 18, 42, 180, 0, 22, 43, 182, 0, 40, 159, 0, 7, 42, 182, 0, 195, 177]
abbrev dktJ2_inflateIfNeededFor_0 : List UInt8 := dkwJ2_inflateIfNeededFor_0 ++ []
theorem dksJ2_inflateIfNeededFor_0 : cJ2_inflateIfNeededFor.data.toList.drop 0 = dktJ2_inflateIfNeededFor_0 := by decide +kernel
theorem dJ2_inflateIfNeededFor_0 : decode cJ2_inflateIfNeededFor 0 = .ok (.getstatic 18, 3) := dk_178 0 18 (dk_at dksJ2_inflateIfNeededFor_0 0 rfl rfl)
theorem dJ2_inflateIfNeededFor_3 : decode cJ2_inflateIfNeededFor 3 = .ok (.ifCond .eq 18, 3) := dk_153 0 18 (dk_at dksJ2_inflateIfNeededFor_0 3 rfl rfl)
theorem dJ2_inflateIfNeededFor_6 : decode cJ2_inflateIfNeededFor 6 = .ok (.aload_n 0, 1) := dk_42 (dk_at dksJ2_inflateIfNeededFor_0 6 rfl rfl)
theorem dJ2_inflateIfNeededFor_7 : decode cJ2_inflateIfNeededFor 7 = .ok (.getfield 22, 3) := dk_180 0 22 (dk_at dksJ2_inflateIfNeededFor_0 7 rfl rfl)
theorem dJ2_inflateIfNeededFor_10 : decode cJ2_inflateIfNeededFor 10 = .ok (.aload_n 1, 1) := dk_43 (dk_at dksJ2_inflateIfNeededFor_0 10 rfl rfl)
theorem dJ2_inflateIfNeededFor_11 : decode cJ2_inflateIfNeededFor 11 = .ok (.invokevirtual 40, 3) := dk_182 0 40 (dk_at dksJ2_inflateIfNeededFor_0 11 rfl rfl)
theorem dJ2_inflateIfNeededFor_14 : decode cJ2_inflateIfNeededFor 14 = .ok (.if_icmp .eq 7, 3) := dk_159 0 7 (dk_at dksJ2_inflateIfNeededFor_0 14 rfl rfl)
theorem dJ2_inflateIfNeededFor_17 : decode cJ2_inflateIfNeededFor 17 = .ok (.aload_n 0, 1) := dk_42 (dk_at dksJ2_inflateIfNeededFor_0 17 rfl rfl)
theorem dJ2_inflateIfNeededFor_18 : decode cJ2_inflateIfNeededFor 18 = .ok (.invokevirtual 195, 3) := dk_182 0 195 (dk_at dksJ2_inflateIfNeededFor_0 18 rfl rfl)
theorem dJ2_inflateIfNeededFor_21 : decode cJ2_inflateIfNeededFor 21 = .ok (.return_, 1) := dk_177 (dk_at dksJ2_inflateIfNeededFor_0 21 rfl rfl)
abbrev cJ2_compareTo : ByteArray := prog_18_method_5_code
def yJ2_compareTo : MethodName := ⟨RJ2, "compareTo", "(Ljava/lang/AbstractStringBuilder;)I"⟩
def dkwJ2_compareTo_4 : List UInt8 := [184, 0, 97, 172]
abbrev dktJ2_compareTo_4 : List UInt8 := dkwJ2_compareTo_4 ++ []
def dkwJ2_compareTo_3 : List UInt8 := [182, 0, 83, 153, 0, 15, 44, 45, 21, 4, 21, 5, 184, 0, 94, 167, 0, 12, 44, 45, 21, 4, 21, 5]
abbrev dktJ2_compareTo_3 : List UInt8 := dkwJ2_compareTo_3 ++ dktJ2_compareTo_4
def dkwJ2_compareTo_2 : List UInt8 := [45, 21, 4, 21, 5, 184, 0, 87, 167, 0, 12, 44, 45, 21, 4, 21, 5, 184, 0, 93, 172, 42]
abbrev dktJ2_compareTo_2 : List UInt8 := dkwJ2_compareTo_2 ++ dktJ2_compareTo_3
def dkwJ2_compareTo_1 : List UInt8 := [180, 0, 79, 54, 5, 42, 180, 0, 22, 43, 180, 0, 22, 160, 0, 32, 42, 182, 0, 83, 153, 0, 15, 44]
abbrev dktJ2_compareTo_1 : List UInt8 := dkwJ2_compareTo_1 ++ dktJ2_compareTo_2
def dkwJ2_compareTo_0 : List UInt8 := [42, 43, 166, 0, 5, 3, 172, 42, 180, 0, 15, 77, 43, 180, 0, 15, 78, 42, 180, 0, 79, 54, 4, 43]
abbrev dktJ2_compareTo_0 : List UInt8 := dkwJ2_compareTo_0 ++ dktJ2_compareTo_1
theorem dksJ2_compareTo_0 : cJ2_compareTo.data.toList.drop 0 = dktJ2_compareTo_0 := by decide +kernel
theorem dksJ2_compareTo_1 : cJ2_compareTo.data.toList.drop 24 = dktJ2_compareTo_1 := dk_seg dksJ2_compareTo_0 24 rfl rfl
theorem dksJ2_compareTo_2 : cJ2_compareTo.data.toList.drop 48 = dktJ2_compareTo_2 := dk_seg dksJ2_compareTo_1 24 rfl rfl
theorem dksJ2_compareTo_3 : cJ2_compareTo.data.toList.drop 70 = dktJ2_compareTo_3 := dk_seg dksJ2_compareTo_2 22 rfl rfl
theorem dksJ2_compareTo_4 : cJ2_compareTo.data.toList.drop 94 = dktJ2_compareTo_4 := dk_seg dksJ2_compareTo_3 24 rfl rfl
theorem dJ2_compareTo_0 : decode cJ2_compareTo 0 = .ok (.aload_n 0, 1) := dk_42 (dk_at dksJ2_compareTo_0 0 rfl rfl)
theorem dJ2_compareTo_1 : decode cJ2_compareTo 1 = .ok (.aload_n 1, 1) := dk_43 (dk_at dksJ2_compareTo_0 1 rfl rfl)
theorem dJ2_compareTo_2 : decode cJ2_compareTo 2 = .ok (.if_acmp .ne 5, 3) := dk_166 0 5 (dk_at dksJ2_compareTo_0 2 rfl rfl)
theorem dJ2_compareTo_5 : decode cJ2_compareTo 5 = .ok (.iconst 0, 1) := dk_3 (dk_at dksJ2_compareTo_0 5 rfl rfl)
theorem dJ2_compareTo_6 : decode cJ2_compareTo 6 = .ok (.ireturn, 1) := dk_172 (dk_at dksJ2_compareTo_0 6 rfl rfl)
theorem dJ2_compareTo_7 : decode cJ2_compareTo 7 = .ok (.aload_n 0, 1) := dk_42 (dk_at dksJ2_compareTo_0 7 rfl rfl)
theorem dJ2_compareTo_8 : decode cJ2_compareTo 8 = .ok (.getfield 15, 3) := dk_180 0 15 (dk_at dksJ2_compareTo_0 8 rfl rfl)
theorem dJ2_compareTo_11 : decode cJ2_compareTo 11 = .ok (.astore_n 2, 1) := dk_77 (dk_at dksJ2_compareTo_0 11 rfl rfl)
theorem dJ2_compareTo_12 : decode cJ2_compareTo 12 = .ok (.aload_n 1, 1) := dk_43 (dk_at dksJ2_compareTo_0 12 rfl rfl)
theorem dJ2_compareTo_13 : decode cJ2_compareTo 13 = .ok (.getfield 15, 3) := dk_180 0 15 (dk_at dksJ2_compareTo_0 13 rfl rfl)
theorem dJ2_compareTo_16 : decode cJ2_compareTo 16 = .ok (.astore_n 3, 1) := dk_78 (dk_at dksJ2_compareTo_0 16 rfl rfl)
theorem dJ2_compareTo_17 : decode cJ2_compareTo 17 = .ok (.aload_n 0, 1) := dk_42 (dk_at dksJ2_compareTo_0 17 rfl rfl)
theorem dJ2_compareTo_18 : decode cJ2_compareTo 18 = .ok (.getfield 79, 3) := dk_180 0 79 (dk_at dksJ2_compareTo_0 18 rfl rfl)
theorem dJ2_compareTo_21 : decode cJ2_compareTo 21 = .ok (.istore 4, 2) := dk_54 4 (dk_at dksJ2_compareTo_0 21 rfl rfl)
theorem dJ2_compareTo_23 : decode cJ2_compareTo 23 = .ok (.aload_n 1, 1) := dk_43 (dk_at dksJ2_compareTo_0 23 rfl rfl)
theorem dJ2_compareTo_24 : decode cJ2_compareTo 24 = .ok (.getfield 79, 3) := dk_180 0 79 (dk_at dksJ2_compareTo_1 0 rfl rfl)
theorem dJ2_compareTo_27 : decode cJ2_compareTo 27 = .ok (.istore 5, 2) := dk_54 5 (dk_at dksJ2_compareTo_1 3 rfl rfl)
theorem dJ2_compareTo_29 : decode cJ2_compareTo 29 = .ok (.aload_n 0, 1) := dk_42 (dk_at dksJ2_compareTo_1 5 rfl rfl)
theorem dJ2_compareTo_30 : decode cJ2_compareTo 30 = .ok (.getfield 22, 3) := dk_180 0 22 (dk_at dksJ2_compareTo_1 6 rfl rfl)
theorem dJ2_compareTo_33 : decode cJ2_compareTo 33 = .ok (.aload_n 1, 1) := dk_43 (dk_at dksJ2_compareTo_1 9 rfl rfl)
theorem dJ2_compareTo_34 : decode cJ2_compareTo 34 = .ok (.getfield 22, 3) := dk_180 0 22 (dk_at dksJ2_compareTo_1 10 rfl rfl)
theorem dJ2_compareTo_37 : decode cJ2_compareTo 37 = .ok (.if_icmp .ne 32, 3) := dk_160 0 32 (dk_at dksJ2_compareTo_1 13 rfl rfl)
theorem dJ2_compareTo_40 : decode cJ2_compareTo 40 = .ok (.aload_n 0, 1) := dk_42 (dk_at dksJ2_compareTo_1 16 rfl rfl)
theorem dJ2_compareTo_41 : decode cJ2_compareTo 41 = .ok (.invokevirtual 83, 3) := dk_182 0 83 (dk_at dksJ2_compareTo_1 17 rfl rfl)
theorem dJ2_compareTo_44 : decode cJ2_compareTo 44 = .ok (.ifCond .eq 15, 3) := dk_153 0 15 (dk_at dksJ2_compareTo_1 20 rfl rfl)
theorem dJ2_compareTo_47 : decode cJ2_compareTo 47 = .ok (.aload_n 2, 1) := dk_44 (dk_at dksJ2_compareTo_1 23 rfl rfl)
theorem dJ2_compareTo_48 : decode cJ2_compareTo 48 = .ok (.aload_n 3, 1) := dk_45 (dk_at dksJ2_compareTo_2 0 rfl rfl)
theorem dJ2_compareTo_49 : decode cJ2_compareTo 49 = .ok (.iload 4, 2) := dk_21 4 (dk_at dksJ2_compareTo_2 1 rfl rfl)
theorem dJ2_compareTo_51 : decode cJ2_compareTo 51 = .ok (.iload 5, 2) := dk_21 5 (dk_at dksJ2_compareTo_2 3 rfl rfl)
theorem dJ2_compareTo_53 : decode cJ2_compareTo 53 = .ok (.invokestatic 87, 3) := dk_184 0 87 (dk_at dksJ2_compareTo_2 5 rfl rfl)
theorem dJ2_compareTo_56 : decode cJ2_compareTo 56 = .ok (.goto 12, 3) := dk_167 0 12 (dk_at dksJ2_compareTo_2 8 rfl rfl)
theorem dJ2_compareTo_59 : decode cJ2_compareTo 59 = .ok (.aload_n 2, 1) := dk_44 (dk_at dksJ2_compareTo_2 11 rfl rfl)
theorem dJ2_compareTo_60 : decode cJ2_compareTo 60 = .ok (.aload_n 3, 1) := dk_45 (dk_at dksJ2_compareTo_2 12 rfl rfl)
theorem dJ2_compareTo_61 : decode cJ2_compareTo 61 = .ok (.iload 4, 2) := dk_21 4 (dk_at dksJ2_compareTo_2 13 rfl rfl)
theorem dJ2_compareTo_63 : decode cJ2_compareTo 63 = .ok (.iload 5, 2) := dk_21 5 (dk_at dksJ2_compareTo_2 15 rfl rfl)
theorem dJ2_compareTo_65 : decode cJ2_compareTo 65 = .ok (.invokestatic 93, 3) := dk_184 0 93 (dk_at dksJ2_compareTo_2 17 rfl rfl)
theorem dJ2_compareTo_68 : decode cJ2_compareTo 68 = .ok (.ireturn, 1) := dk_172 (dk_at dksJ2_compareTo_2 20 rfl rfl)
theorem dJ2_compareTo_69 : decode cJ2_compareTo 69 = .ok (.aload_n 0, 1) := dk_42 (dk_at dksJ2_compareTo_2 21 rfl rfl)
theorem dJ2_compareTo_70 : decode cJ2_compareTo 70 = .ok (.invokevirtual 83, 3) := dk_182 0 83 (dk_at dksJ2_compareTo_3 0 rfl rfl)
theorem dJ2_compareTo_73 : decode cJ2_compareTo 73 = .ok (.ifCond .eq 15, 3) := dk_153 0 15 (dk_at dksJ2_compareTo_3 3 rfl rfl)
theorem dJ2_compareTo_76 : decode cJ2_compareTo 76 = .ok (.aload_n 2, 1) := dk_44 (dk_at dksJ2_compareTo_3 6 rfl rfl)
theorem dJ2_compareTo_77 : decode cJ2_compareTo 77 = .ok (.aload_n 3, 1) := dk_45 (dk_at dksJ2_compareTo_3 7 rfl rfl)
theorem dJ2_compareTo_78 : decode cJ2_compareTo 78 = .ok (.iload 4, 2) := dk_21 4 (dk_at dksJ2_compareTo_3 8 rfl rfl)
theorem dJ2_compareTo_80 : decode cJ2_compareTo 80 = .ok (.iload 5, 2) := dk_21 5 (dk_at dksJ2_compareTo_3 10 rfl rfl)
theorem dJ2_compareTo_82 : decode cJ2_compareTo 82 = .ok (.invokestatic 94, 3) := dk_184 0 94 (dk_at dksJ2_compareTo_3 12 rfl rfl)
theorem dJ2_compareTo_85 : decode cJ2_compareTo 85 = .ok (.goto 12, 3) := dk_167 0 12 (dk_at dksJ2_compareTo_3 15 rfl rfl)
theorem dJ2_compareTo_88 : decode cJ2_compareTo 88 = .ok (.aload_n 2, 1) := dk_44 (dk_at dksJ2_compareTo_3 18 rfl rfl)
theorem dJ2_compareTo_89 : decode cJ2_compareTo 89 = .ok (.aload_n 3, 1) := dk_45 (dk_at dksJ2_compareTo_3 19 rfl rfl)
theorem dJ2_compareTo_90 : decode cJ2_compareTo 90 = .ok (.iload 4, 2) := dk_21 4 (dk_at dksJ2_compareTo_3 20 rfl rfl)
theorem dJ2_compareTo_92 : decode cJ2_compareTo 92 = .ok (.iload 5, 2) := dk_21 5 (dk_at dksJ2_compareTo_3 22 rfl rfl)
theorem dJ2_compareTo_94 : decode cJ2_compareTo 94 = .ok (.invokestatic 97, 3) := dk_184 0 97 (dk_at dksJ2_compareTo_4 0 rfl rfl)
theorem dJ2_compareTo_97 : decode cJ2_compareTo 97 = .ok (.ireturn, 1) := dk_172 (dk_at dksJ2_compareTo_4 3 rfl rfl)
abbrev cJ2_setLength : ByteArray := prog_18_method_13_code
def yJ2_setLength : MethodName := ⟨RJ2, "setLength", "(I)V"⟩
def dkwJ2_setLength_3 : List UInt8 := [164, 0, 8, 42, 4, 181, 0, 73, 42, 27, 181, 0, 79, 177]
abbrev dktJ2_setLength_3 : List UInt8 := dkwJ2_setLength_3 ++ []
def dkwJ2_setLength_2 : List UInt8 := [167, 0, 31, 42, 180, 0, 15, 42, 180, 0, 79, 27, 184, 0, 137, 167, 0, 16, 42, 180, 0, 79, 27]
abbrev dktJ2_setLength_2 : List UInt8 := dkwJ2_setLength_2 ++ dktJ2_setLength_3
def dkwJ2_setLength_1 : List UInt8 := [162, 0, 40, 42, 182, 0, 83, 153, 0, 18, 42, 180, 0, 15, 42, 180, 0, 79, 27, 184, 0, 133]
abbrev dktJ2_setLength_1 : List UInt8 := dkwJ2_setLength_1 ++ dktJ2_setLength_2
def dkwJ2_setLength_0 : List UInt8 := [27, 156, 0, 12, 187, 0, 129, 89, 27, 183, 0, 131, 191, 42, 27, 182, 0, 100, 42, 180, 0, 79, 27]
abbrev dktJ2_setLength_0 : List UInt8 := dkwJ2_setLength_0 ++ dktJ2_setLength_1
theorem dksJ2_setLength_0 : cJ2_setLength.data.toList.drop 0 = dktJ2_setLength_0 := by decide +kernel
theorem dksJ2_setLength_1 : cJ2_setLength.data.toList.drop 23 = dktJ2_setLength_1 := dk_seg dksJ2_setLength_0 23 rfl rfl
theorem dksJ2_setLength_2 : cJ2_setLength.data.toList.drop 45 = dktJ2_setLength_2 := dk_seg dksJ2_setLength_1 22 rfl rfl
theorem dksJ2_setLength_3 : cJ2_setLength.data.toList.drop 68 = dktJ2_setLength_3 := dk_seg dksJ2_setLength_2 23 rfl rfl
theorem dJ2_setLength_0 : decode cJ2_setLength 0 = .ok (.iload_n 1, 1) := dk_27 (dk_at dksJ2_setLength_0 0 rfl rfl)
theorem dJ2_setLength_1 : decode cJ2_setLength 1 = .ok (.ifCond .ge 12, 3) := dk_156 0 12 (dk_at dksJ2_setLength_0 1 rfl rfl)
theorem dJ2_setLength_4 : decode cJ2_setLength 4 = .ok (.new 129, 3) := dk_187 0 129 (dk_at dksJ2_setLength_0 4 rfl rfl)
theorem dJ2_setLength_7 : decode cJ2_setLength 7 = .ok (.dup, 1) := dk_89 (dk_at dksJ2_setLength_0 7 rfl rfl)
theorem dJ2_setLength_8 : decode cJ2_setLength 8 = .ok (.iload_n 1, 1) := dk_27 (dk_at dksJ2_setLength_0 8 rfl rfl)
theorem dJ2_setLength_9 : decode cJ2_setLength 9 = .ok (.invokespecial 131, 3) := dk_183 0 131 (dk_at dksJ2_setLength_0 9 rfl rfl)
theorem dJ2_setLength_12 : decode cJ2_setLength 12 = .ok (.athrow, 1) := dk_191 (dk_at dksJ2_setLength_0 12 rfl rfl)
theorem dJ2_setLength_13 : decode cJ2_setLength 13 = .ok (.aload_n 0, 1) := dk_42 (dk_at dksJ2_setLength_0 13 rfl rfl)
theorem dJ2_setLength_14 : decode cJ2_setLength 14 = .ok (.iload_n 1, 1) := dk_27 (dk_at dksJ2_setLength_0 14 rfl rfl)
theorem dJ2_setLength_15 : decode cJ2_setLength 15 = .ok (.invokevirtual 100, 3) := dk_182 0 100 (dk_at dksJ2_setLength_0 15 rfl rfl)
theorem dJ2_setLength_18 : decode cJ2_setLength 18 = .ok (.aload_n 0, 1) := dk_42 (dk_at dksJ2_setLength_0 18 rfl rfl)
theorem dJ2_setLength_19 : decode cJ2_setLength 19 = .ok (.getfield 79, 3) := dk_180 0 79 (dk_at dksJ2_setLength_0 19 rfl rfl)
theorem dJ2_setLength_22 : decode cJ2_setLength 22 = .ok (.iload_n 1, 1) := dk_27 (dk_at dksJ2_setLength_0 22 rfl rfl)
theorem dJ2_setLength_23 : decode cJ2_setLength 23 = .ok (.if_icmp .ge 40, 3) := dk_162 0 40 (dk_at dksJ2_setLength_1 0 rfl rfl)
theorem dJ2_setLength_26 : decode cJ2_setLength 26 = .ok (.aload_n 0, 1) := dk_42 (dk_at dksJ2_setLength_1 3 rfl rfl)
theorem dJ2_setLength_27 : decode cJ2_setLength 27 = .ok (.invokevirtual 83, 3) := dk_182 0 83 (dk_at dksJ2_setLength_1 4 rfl rfl)
theorem dJ2_setLength_30 : decode cJ2_setLength 30 = .ok (.ifCond .eq 18, 3) := dk_153 0 18 (dk_at dksJ2_setLength_1 7 rfl rfl)
theorem dJ2_setLength_33 : decode cJ2_setLength 33 = .ok (.aload_n 0, 1) := dk_42 (dk_at dksJ2_setLength_1 10 rfl rfl)
theorem dJ2_setLength_34 : decode cJ2_setLength 34 = .ok (.getfield 15, 3) := dk_180 0 15 (dk_at dksJ2_setLength_1 11 rfl rfl)
theorem dJ2_setLength_37 : decode cJ2_setLength 37 = .ok (.aload_n 0, 1) := dk_42 (dk_at dksJ2_setLength_1 14 rfl rfl)
theorem dJ2_setLength_38 : decode cJ2_setLength 38 = .ok (.getfield 79, 3) := dk_180 0 79 (dk_at dksJ2_setLength_1 15 rfl rfl)
theorem dJ2_setLength_41 : decode cJ2_setLength 41 = .ok (.iload_n 1, 1) := dk_27 (dk_at dksJ2_setLength_1 18 rfl rfl)
theorem dJ2_setLength_42 : decode cJ2_setLength 42 = .ok (.invokestatic 133, 3) := dk_184 0 133 (dk_at dksJ2_setLength_1 19 rfl rfl)
theorem dJ2_setLength_45 : decode cJ2_setLength 45 = .ok (.goto 31, 3) := dk_167 0 31 (dk_at dksJ2_setLength_2 0 rfl rfl)
theorem dJ2_setLength_48 : decode cJ2_setLength 48 = .ok (.aload_n 0, 1) := dk_42 (dk_at dksJ2_setLength_2 3 rfl rfl)
theorem dJ2_setLength_49 : decode cJ2_setLength 49 = .ok (.getfield 15, 3) := dk_180 0 15 (dk_at dksJ2_setLength_2 4 rfl rfl)
theorem dJ2_setLength_52 : decode cJ2_setLength 52 = .ok (.aload_n 0, 1) := dk_42 (dk_at dksJ2_setLength_2 7 rfl rfl)
theorem dJ2_setLength_53 : decode cJ2_setLength 53 = .ok (.getfield 79, 3) := dk_180 0 79 (dk_at dksJ2_setLength_2 8 rfl rfl)
theorem dJ2_setLength_56 : decode cJ2_setLength 56 = .ok (.iload_n 1, 1) := dk_27 (dk_at dksJ2_setLength_2 11 rfl rfl)
theorem dJ2_setLength_57 : decode cJ2_setLength 57 = .ok (.invokestatic 137, 3) := dk_184 0 137 (dk_at dksJ2_setLength_2 12 rfl rfl)
theorem dJ2_setLength_60 : decode cJ2_setLength 60 = .ok (.goto 16, 3) := dk_167 0 16 (dk_at dksJ2_setLength_2 15 rfl rfl)
theorem dJ2_setLength_63 : decode cJ2_setLength 63 = .ok (.aload_n 0, 1) := dk_42 (dk_at dksJ2_setLength_2 18 rfl rfl)
theorem dJ2_setLength_64 : decode cJ2_setLength 64 = .ok (.getfield 79, 3) := dk_180 0 79 (dk_at dksJ2_setLength_2 19 rfl rfl)
theorem dJ2_setLength_67 : decode cJ2_setLength 67 = .ok (.iload_n 1, 1) := dk_27 (dk_at dksJ2_setLength_2 22 rfl rfl)
theorem dJ2_setLength_68 : decode cJ2_setLength 68 = .ok (.if_icmp .le 8, 3) := dk_164 0 8 (dk_at dksJ2_setLength_3 0 rfl rfl)
theorem dJ2_setLength_71 : decode cJ2_setLength 71 = .ok (.aload_n 0, 1) := dk_42 (dk_at dksJ2_setLength_3 3 rfl rfl)
theorem dJ2_setLength_72 : decode cJ2_setLength 72 = .ok (.iconst 1, 1) := dk_4 (dk_at dksJ2_setLength_3 4 rfl rfl)
theorem dJ2_setLength_73 : decode cJ2_setLength 73 = .ok (.putfield 73, 3) := dk_181 0 73 (dk_at dksJ2_setLength_3 5 rfl rfl)
theorem dJ2_setLength_76 : decode cJ2_setLength 76 = .ok (.aload_n 0, 1) := dk_42 (dk_at dksJ2_setLength_3 8 rfl rfl)
theorem dJ2_setLength_77 : decode cJ2_setLength 77 = .ok (.iload_n 1, 1) := dk_27 (dk_at dksJ2_setLength_3 9 rfl rfl)
theorem dJ2_setLength_78 : decode cJ2_setLength 78 = .ok (.putfield 79, 3) := dk_181 0 79 (dk_at dksJ2_setLength_3 10 rfl rfl)
theorem dJ2_setLength_81 : decode cJ2_setLength 81 = .ok (.return_, 1) := dk_177 (dk_at dksJ2_setLength_3 13 rfl rfl)
abbrev cJ2_charAt : ByteArray := prog_18_method_14_code
def yJ2_charAt : MethodName := ⟨RJ2, "charAt", "(I)C"⟩
def dkwJ2_charAt_1 : List UInt8 := [21, 4, 184, 0, 144, 28, 154, 0, 12, 45, 27, 51, 17, 0, 255, 126, 146, 172, 45, 27, 184, 0, 148, 172]
abbrev dktJ2_charAt_1 : List UInt8 := dkwJ2_charAt_1 ++ []
def dkwJ2_charAt_0 : List UInt8 := [42, 180, 0, 22, 61, 42, 180, 0, 15, 78, 42, 180, 0, 79, 45, 190, 28, 122, 184, 0, 138, 54, 4, 27]
abbrev dktJ2_charAt_0 : List UInt8 := dkwJ2_charAt_0 ++ dktJ2_charAt_1
theorem dksJ2_charAt_0 : cJ2_charAt.data.toList.drop 0 = dktJ2_charAt_0 := by decide +kernel
theorem dksJ2_charAt_1 : cJ2_charAt.data.toList.drop 24 = dktJ2_charAt_1 := dk_seg dksJ2_charAt_0 24 rfl rfl
theorem dJ2_charAt_0 : decode cJ2_charAt 0 = .ok (.aload_n 0, 1) := dk_42 (dk_at dksJ2_charAt_0 0 rfl rfl)
theorem dJ2_charAt_1 : decode cJ2_charAt 1 = .ok (.getfield 22, 3) := dk_180 0 22 (dk_at dksJ2_charAt_0 1 rfl rfl)
theorem dJ2_charAt_4 : decode cJ2_charAt 4 = .ok (.istore_n 2, 1) := dk_61 (dk_at dksJ2_charAt_0 4 rfl rfl)
theorem dJ2_charAt_5 : decode cJ2_charAt 5 = .ok (.aload_n 0, 1) := dk_42 (dk_at dksJ2_charAt_0 5 rfl rfl)
theorem dJ2_charAt_6 : decode cJ2_charAt 6 = .ok (.getfield 15, 3) := dk_180 0 15 (dk_at dksJ2_charAt_0 6 rfl rfl)
theorem dJ2_charAt_9 : decode cJ2_charAt 9 = .ok (.astore_n 3, 1) := dk_78 (dk_at dksJ2_charAt_0 9 rfl rfl)
theorem dJ2_charAt_10 : decode cJ2_charAt 10 = .ok (.aload_n 0, 1) := dk_42 (dk_at dksJ2_charAt_0 10 rfl rfl)
theorem dJ2_charAt_11 : decode cJ2_charAt 11 = .ok (.getfield 79, 3) := dk_180 0 79 (dk_at dksJ2_charAt_0 11 rfl rfl)
theorem dJ2_charAt_14 : decode cJ2_charAt 14 = .ok (.aload_n 3, 1) := dk_45 (dk_at dksJ2_charAt_0 14 rfl rfl)
theorem dJ2_charAt_15 : decode cJ2_charAt 15 = .ok (.arraylength, 1) := dk_190 (dk_at dksJ2_charAt_0 15 rfl rfl)
theorem dJ2_charAt_16 : decode cJ2_charAt 16 = .ok (.iload_n 2, 1) := dk_28 (dk_at dksJ2_charAt_0 16 rfl rfl)
theorem dJ2_charAt_17 : decode cJ2_charAt 17 = .ok (.ishr, 1) := dk_122 (dk_at dksJ2_charAt_0 17 rfl rfl)
theorem dJ2_charAt_18 : decode cJ2_charAt 18 = .ok (.invokestatic 138, 3) := dk_184 0 138 (dk_at dksJ2_charAt_0 18 rfl rfl)
theorem dJ2_charAt_21 : decode cJ2_charAt 21 = .ok (.istore 4, 2) := dk_54 4 (dk_at dksJ2_charAt_0 21 rfl rfl)
theorem dJ2_charAt_23 : decode cJ2_charAt 23 = .ok (.iload_n 1, 1) := dk_27 (dk_at dksJ2_charAt_0 23 rfl rfl)
theorem dJ2_charAt_24 : decode cJ2_charAt 24 = .ok (.iload 4, 2) := dk_21 4 (dk_at dksJ2_charAt_1 0 rfl rfl)
theorem dJ2_charAt_26 : decode cJ2_charAt 26 = .ok (.invokestatic 144, 3) := dk_184 0 144 (dk_at dksJ2_charAt_1 2 rfl rfl)
theorem dJ2_charAt_29 : decode cJ2_charAt 29 = .ok (.iload_n 2, 1) := dk_28 (dk_at dksJ2_charAt_1 5 rfl rfl)
theorem dJ2_charAt_30 : decode cJ2_charAt 30 = .ok (.ifCond .ne 12, 3) := dk_154 0 12 (dk_at dksJ2_charAt_1 6 rfl rfl)
theorem dJ2_charAt_33 : decode cJ2_charAt 33 = .ok (.aload_n 3, 1) := dk_45 (dk_at dksJ2_charAt_1 9 rfl rfl)
theorem dJ2_charAt_34 : decode cJ2_charAt 34 = .ok (.iload_n 1, 1) := dk_27 (dk_at dksJ2_charAt_1 10 rfl rfl)
theorem dJ2_charAt_35 : decode cJ2_charAt 35 = .ok (.baload, 1) := dk_51 (dk_at dksJ2_charAt_1 11 rfl rfl)
theorem dJ2_charAt_36 : decode cJ2_charAt 36 = .ok (.sipush 255, 3) := dk_17 0 255 (dk_at dksJ2_charAt_1 12 rfl rfl)
theorem dJ2_charAt_39 : decode cJ2_charAt 39 = .ok (.iand, 1) := dk_126 (dk_at dksJ2_charAt_1 15 rfl rfl)
theorem dJ2_charAt_40 : decode cJ2_charAt 40 = .ok (.i2c, 1) := dk_146 (dk_at dksJ2_charAt_1 16 rfl rfl)
theorem dJ2_charAt_41 : decode cJ2_charAt 41 = .ok (.ireturn, 1) := dk_172 (dk_at dksJ2_charAt_1 17 rfl rfl)
theorem dJ2_charAt_42 : decode cJ2_charAt 42 = .ok (.aload_n 3, 1) := dk_45 (dk_at dksJ2_charAt_1 18 rfl rfl)
theorem dJ2_charAt_43 : decode cJ2_charAt 43 = .ok (.iload_n 1, 1) := dk_27 (dk_at dksJ2_charAt_1 19 rfl rfl)
theorem dJ2_charAt_44 : decode cJ2_charAt 44 = .ok (.invokestatic 148, 3) := dk_184 0 148 (dk_at dksJ2_charAt_1 20 rfl rfl)
theorem dJ2_charAt_47 : decode cJ2_charAt 47 = .ok (.ireturn, 1) := dk_172 (dk_at dksJ2_charAt_1 23 rfl rfl)
abbrev cJ3_init : ByteArray := prog_36_method_1_code
def yJ3_init : MethodName := ⟨RJ3, "<init>", "()V"⟩
def dkwJ3_init_0 : List UInt8 := [42, 16, 16, 183, 0, 1, 177]
abbrev dktJ3_init_0 : List UInt8 := dkwJ3_init_0 ++ []
theorem dksJ3_init_0 : cJ3_init.data.toList.drop 0 = dktJ3_init_0 := by decide +kernel
theorem dJ3_init_0 : decode cJ3_init 0 = .ok (.aload_n 0, 1) := dk_42 (dk_at dksJ3_init_0 0 rfl rfl)
theorem dJ3_init_1 : decode cJ3_init 1 = .ok (.bipush 16, 2) := dk_16 16 (dk_at dksJ3_init_0 1 rfl rfl)
theorem dJ3_init_3 : decode cJ3_init 3 = .ok (.invokespecial 1, 3) := dk_183 0 1 (dk_at dksJ3_init_0 3 rfl rfl)
theorem dJ3_init_6 : decode cJ3_init 6 = .ok (.return_, 1) := dk_177 (dk_at dksJ3_init_0 6 rfl rfl)
abbrev cJ3_append : ByteArray := prog_36_method_14_code
def yJ3_append : MethodName := ⟨RJ3, "append", "(C)Ljava/lang/StringBuilder;"⟩
def dkwJ3_append_0 : List UInt8 := [42, 27, 183, 0, 50, 87, 42, 176]
abbrev dktJ3_append_0 : List UInt8 := dkwJ3_append_0 ++ []
theorem dksJ3_append_0 : cJ3_append.data.toList.drop 0 = dktJ3_append_0 := by decide +kernel
theorem dJ3_append_0 : decode cJ3_append 0 = .ok (.aload_n 0, 1) := dk_42 (dk_at dksJ3_append_0 0 rfl rfl)
theorem dJ3_append_1 : decode cJ3_append 1 = .ok (.iload_n 1, 1) := dk_27 (dk_at dksJ3_append_0 1 rfl rfl)
theorem dJ3_append_2 : decode cJ3_append 2 = .ok (.invokespecial 50, 3) := dk_183 0 50 (dk_at dksJ3_append_0 2 rfl rfl)
theorem dJ3_append_5 : decode cJ3_append 5 = .ok (.pop, 1) := dk_87 (dk_at dksJ3_append_0 5 rfl rfl)
theorem dJ3_append_6 : decode cJ3_append 6 = .ok (.aload_n 0, 1) := dk_42 (dk_at dksJ3_append_0 6 rfl rfl)
theorem dJ3_append_7 : decode cJ3_append 7 = .ok (.areturn, 1) := dk_176 (dk_at dksJ3_append_0 7 rfl rfl)
abbrev cJ3_toString : ByteArray := prog_36_method_42_code
def yJ3_toString : MethodName := ⟨RJ3, "toString", "()Ljava/lang/String;"⟩
def dkwJ3_toString_0 : List UInt8 := [187, 0, 18, 89, 42, 183, 0, 137, 176]
abbrev dktJ3_toString_0 : List UInt8 := dkwJ3_toString_0 ++ []
theorem dksJ3_toString_0 : cJ3_toString.data.toList.drop 0 = dktJ3_toString_0 := by decide +kernel
theorem dJ3_toString_0 : decode cJ3_toString 0 = .ok (.new 18, 3) := dk_187 0 18 (dk_at dksJ3_toString_0 0 rfl rfl)
theorem dJ3_toString_3 : decode cJ3_toString 3 = .ok (.dup, 1) := dk_89 (dk_at dksJ3_toString_0 3 rfl rfl)
theorem dJ3_toString_4 : decode cJ3_toString 4 = .ok (.aload_n 0, 1) := dk_42 (dk_at dksJ3_toString_0 4 rfl rfl)
theorem dJ3_toString_5 : decode cJ3_toString 5 = .ok (.invokespecial 137, 3) := dk_183 0 137 (dk_at dksJ3_toString_0 5 rfl rfl)
theorem dJ3_toString_8 : decode cJ3_toString 8 = .ok (.areturn, 1) := dk_176 (dk_at dksJ3_toString_0 8 rfl rfl)
abbrev cJ3_length : ByteArray := prog_36_method_93_code
def yJ3_length : MethodName := ⟨RJ3, "length", "()I"⟩
theorem dJ3_length_0 : decode cJ3_length 0 = .ok (.aload_n 0, 1) := by decide +kernel
theorem dJ3_length_1 : decode cJ3_length 1 = .ok (.invokespecial 343, 3) := by decide +kernel
theorem dJ3_length_4 : decode cJ3_length 4 = .ok (.ireturn, 1) := by decide +kernel
abbrev cJ3_append_2 : ByteArray := prog_36_method_15_code
def yJ3_append_2 : MethodName := ⟨RJ3, "append", "(I)Ljava/lang/StringBuilder;"⟩
def dkwJ3_append_2_0 : List UInt8 := [42, 27, 183, 0, 53, 87, 42, 176]
abbrev dktJ3_append_2_0 : List UInt8 := dkwJ3_append_2_0 ++ []
theorem dksJ3_append_2_0 : cJ3_append_2.data.toList.drop 0 = dktJ3_append_2_0 := by decide +kernel
theorem dJ3_append_2_0 : decode cJ3_append_2 0 = .ok (.aload_n 0, 1) := dk_42 (dk_at dksJ3_append_2_0 0 rfl rfl)
theorem dJ3_append_2_1 : decode cJ3_append_2 1 = .ok (.iload_n 1, 1) := dk_27 (dk_at dksJ3_append_2_0 1 rfl rfl)
theorem dJ3_append_2_2 : decode cJ3_append_2 2 = .ok (.invokespecial 53, 3) := dk_183 0 53 (dk_at dksJ3_append_2_0 2 rfl rfl)
theorem dJ3_append_2_5 : decode cJ3_append_2 5 = .ok (.pop, 1) := dk_87 (dk_at dksJ3_append_2_0 5 rfl rfl)
theorem dJ3_append_2_6 : decode cJ3_append_2 6 = .ok (.aload_n 0, 1) := dk_42 (dk_at dksJ3_append_2_0 6 rfl rfl)
theorem dJ3_append_2_7 : decode cJ3_append_2 7 = .ok (.areturn, 1) := dk_176 (dk_at dksJ3_append_2_0 7 rfl rfl)
abbrev cJ3_append_3 : ByteArray := prog_36_method_7_code
def yJ3_append_3 : MethodName := ⟨RJ3, "append", "(Ljava/lang/String;)Ljava/lang/StringBuilder;"⟩
def dkwJ3_append_3_0 : List UInt8 := [42, 43, 183, 0, 29, 87, 42, 176]
abbrev dktJ3_append_3_0 : List UInt8 := dkwJ3_append_3_0 ++ []
theorem dksJ3_append_3_0 : cJ3_append_3.data.toList.drop 0 = dktJ3_append_3_0 := by decide +kernel
theorem dJ3_append_3_0 : decode cJ3_append_3 0 = .ok (.aload_n 0, 1) := dk_42 (dk_at dksJ3_append_3_0 0 rfl rfl)
theorem dJ3_append_3_1 : decode cJ3_append_3 1 = .ok (.aload_n 1, 1) := dk_43 (dk_at dksJ3_append_3_0 1 rfl rfl)
theorem dJ3_append_3_2 : decode cJ3_append_3 2 = .ok (.invokespecial 29, 3) := dk_183 0 29 (dk_at dksJ3_append_3_0 2 rfl rfl)
theorem dJ3_append_3_5 : decode cJ3_append_3 5 = .ok (.pop, 1) := dk_87 (dk_at dksJ3_append_3_0 5 rfl rfl)
theorem dJ3_append_3_6 : decode cJ3_append_3 6 = .ok (.aload_n 0, 1) := dk_42 (dk_at dksJ3_append_3_0 6 rfl rfl)
theorem dJ3_append_3_7 : decode cJ3_append_3 7 = .ok (.areturn, 1) := dk_176 (dk_at dksJ3_append_3_0 7 rfl rfl)
abbrev cJ3_compareTo : ByteArray := prog_36_method_97_code
def yJ3_compareTo : MethodName := ⟨RJ3, "compareTo", "(Ljava/lang/Object;)I"⟩
def dkwJ3_compareTo_0 : List UInt8 := [42, 43, 192, 0, 24, 182, 1, 90, 172]
abbrev dktJ3_compareTo_0 : List UInt8 := dkwJ3_compareTo_0 ++ []
theorem dksJ3_compareTo_0 : cJ3_compareTo.data.toList.drop 0 = dktJ3_compareTo_0 := by decide +kernel
theorem dJ3_compareTo_0 : decode cJ3_compareTo 0 = .ok (.aload_n 0, 1) := dk_42 (dk_at dksJ3_compareTo_0 0 rfl rfl)
theorem dJ3_compareTo_1 : decode cJ3_compareTo 1 = .ok (.aload_n 1, 1) := dk_43 (dk_at dksJ3_compareTo_0 1 rfl rfl)
theorem dJ3_compareTo_2 : decode cJ3_compareTo 2 = .ok (.checkcast 24, 3) := dk_192 0 24 (dk_at dksJ3_compareTo_0 2 rfl rfl)
theorem dJ3_compareTo_5 : decode cJ3_compareTo 5 = .ok (.invokevirtual 346, 3) := dk_182 1 90 (dk_at dksJ3_compareTo_0 5 rfl rfl)
theorem dJ3_compareTo_8 : decode cJ3_compareTo 8 = .ok (.ireturn, 1) := dk_172 (dk_at dksJ3_compareTo_0 8 rfl rfl)
abbrev cJ3_compareTo_2 : ByteArray := prog_36_method_5_code
def yJ3_compareTo_2 : MethodName := ⟨RJ3, "compareTo", "(Ljava/lang/StringBuilder;)I"⟩
def dkwJ3_compareTo_2_0 : List UInt8 := [42, 43, 183, 0, 13, 172]
abbrev dktJ3_compareTo_2_0 : List UInt8 := dkwJ3_compareTo_2_0 ++ []
theorem dksJ3_compareTo_2_0 : cJ3_compareTo_2.data.toList.drop 0 = dktJ3_compareTo_2_0 := by decide +kernel
theorem dJ3_compareTo_2_0 : decode cJ3_compareTo_2 0 = .ok (.aload_n 0, 1) := dk_42 (dk_at dksJ3_compareTo_2_0 0 rfl rfl)
theorem dJ3_compareTo_2_1 : decode cJ3_compareTo_2 1 = .ok (.aload_n 1, 1) := dk_43 (dk_at dksJ3_compareTo_2_0 1 rfl rfl)
theorem dJ3_compareTo_2_2 : decode cJ3_compareTo_2 2 = .ok (.invokespecial 13, 3) := dk_183 0 13 (dk_at dksJ3_compareTo_2_0 2 rfl rfl)
theorem dJ3_compareTo_2_5 : decode cJ3_compareTo_2 5 = .ok (.ireturn, 1) := dk_172 (dk_at dksJ3_compareTo_2_0 5 rfl rfl)
abbrev cJ3_setLength : ByteArray := prog_36_method_89_code
def yJ3_setLength : MethodName := ⟨RJ3, "setLength", "(I)V"⟩
def dkwJ3_setLength_0 : List UInt8 := [42, 27, 183, 1, 77, 177]
abbrev dktJ3_setLength_0 : List UInt8 := dkwJ3_setLength_0 ++ []
theorem dksJ3_setLength_0 : cJ3_setLength.data.toList.drop 0 = dktJ3_setLength_0 := by decide +kernel
theorem dJ3_setLength_0 : decode cJ3_setLength 0 = .ok (.aload_n 0, 1) := dk_42 (dk_at dksJ3_setLength_0 0 rfl rfl)
theorem dJ3_setLength_1 : decode cJ3_setLength 1 = .ok (.iload_n 1, 1) := dk_27 (dk_at dksJ3_setLength_0 1 rfl rfl)
theorem dJ3_setLength_2 : decode cJ3_setLength 2 = .ok (.invokespecial 333, 3) := dk_183 1 77 (dk_at dksJ3_setLength_0 2 rfl rfl)
theorem dJ3_setLength_5 : decode cJ3_setLength 5 = .ok (.return_, 1) := dk_177 (dk_at dksJ3_setLength_0 5 rfl rfl)
abbrev cJ3_charAt : ByteArray := prog_36_method_88_code
def yJ3_charAt : MethodName := ⟨RJ3, "charAt", "(I)C"⟩
def dkwJ3_charAt_0 : List UInt8 := [42, 27, 183, 1, 73, 172]
abbrev dktJ3_charAt_0 : List UInt8 := dkwJ3_charAt_0 ++ []
theorem dksJ3_charAt_0 : cJ3_charAt.data.toList.drop 0 = dktJ3_charAt_0 := by decide +kernel
theorem dJ3_charAt_0 : decode cJ3_charAt 0 = .ok (.aload_n 0, 1) := dk_42 (dk_at dksJ3_charAt_0 0 rfl rfl)
theorem dJ3_charAt_1 : decode cJ3_charAt 1 = .ok (.iload_n 1, 1) := dk_27 (dk_at dksJ3_charAt_0 1 rfl rfl)
theorem dJ3_charAt_2 : decode cJ3_charAt 2 = .ok (.invokespecial 329, 3) := dk_183 1 73 (dk_at dksJ3_charAt_0 2 rfl rfl)
theorem dJ3_charAt_5 : decode cJ3_charAt 5 = .ok (.ireturn, 1) := dk_172 (dk_at dksJ3_charAt_0 5 rfl rfl)
abbrev cJ4_checkBoundsOffCount : ByteArray := prog_35_method_157_code
def yJ4_checkBoundsOffCount : MethodName := ⟨RJ4, "checkBoundsOffCount", "(III)I"⟩
def dkwJ4_checkBoundsOffCount_0 : List UInt8 := [26, 27, 28, 178, 4, 29, 184, 4, 41, 172]
abbrev dktJ4_checkBoundsOffCount_0 : List UInt8 := dkwJ4_checkBoundsOffCount_0 ++ []
theorem dksJ4_checkBoundsOffCount_0 : cJ4_checkBoundsOffCount.data.toList.drop 0 = dktJ4_checkBoundsOffCount_0 := by decide +kernel
theorem dJ4_checkBoundsOffCount_0 : decode cJ4_checkBoundsOffCount 0 = .ok (.iload_n 0, 1) := dk_26 (dk_at dksJ4_checkBoundsOffCount_0 0 rfl rfl)
theorem dJ4_checkBoundsOffCount_1 : decode cJ4_checkBoundsOffCount 1 = .ok (.iload_n 1, 1) := dk_27 (dk_at dksJ4_checkBoundsOffCount_0 1 rfl rfl)
theorem dJ4_checkBoundsOffCount_2 : decode cJ4_checkBoundsOffCount 2 = .ok (.iload_n 2, 1) := dk_28 (dk_at dksJ4_checkBoundsOffCount_0 2 rfl rfl)
theorem dJ4_checkBoundsOffCount_3 : decode cJ4_checkBoundsOffCount 3 = .ok (.getstatic 1053, 3) := dk_178 4 29 (dk_at dksJ4_checkBoundsOffCount_0 3 rfl rfl)
theorem dJ4_checkBoundsOffCount_6 : decode cJ4_checkBoundsOffCount 6 = .ok (.invokestatic 1065, 3) := dk_184 4 41 (dk_at dksJ4_checkBoundsOffCount_0 6 rfl rfl)
theorem dJ4_checkBoundsOffCount_9 : decode cJ4_checkBoundsOffCount 9 = .ok (.ireturn, 1) := dk_172 (dk_at dksJ4_checkBoundsOffCount_0 9 rfl rfl)
abbrev cJ4_checkIndex : ByteArray := prog_35_method_155_code
def yJ4_checkIndex : MethodName := ⟨RJ4, "checkIndex", "(II)V"⟩
def dkwJ4_checkIndex_0 : List UInt8 := [26, 27, 178, 4, 29, 184, 4, 35, 87, 177]
abbrev dktJ4_checkIndex_0 : List UInt8 := dkwJ4_checkIndex_0 ++ []
theorem dksJ4_checkIndex_0 : cJ4_checkIndex.data.toList.drop 0 = dktJ4_checkIndex_0 := by decide +kernel
theorem dJ4_checkIndex_0 : decode cJ4_checkIndex 0 = .ok (.iload_n 0, 1) := dk_26 (dk_at dksJ4_checkIndex_0 0 rfl rfl)
theorem dJ4_checkIndex_1 : decode cJ4_checkIndex 1 = .ok (.iload_n 1, 1) := dk_27 (dk_at dksJ4_checkIndex_0 1 rfl rfl)
theorem dJ4_checkIndex_2 : decode cJ4_checkIndex 2 = .ok (.getstatic 1053, 3) := dk_178 4 29 (dk_at dksJ4_checkIndex_0 2 rfl rfl)
theorem dJ4_checkIndex_5 : decode cJ4_checkIndex 5 = .ok (.invokestatic 1059, 3) := dk_184 4 35 (dk_at dksJ4_checkIndex_0 5 rfl rfl)
theorem dJ4_checkIndex_8 : decode cJ4_checkIndex 8 = .ok (.pop, 1) := dk_87 (dk_at dksJ4_checkIndex_0 8 rfl rfl)
theorem dJ4_checkIndex_9 : decode cJ4_checkIndex 9 = .ok (.return_, 1) := dk_177 (dk_at dksJ4_checkIndex_0 9 rfl rfl)
abbrev cJ4_init : ByteArray := prog_35_method_53_code
def yJ4_init : MethodName := ⟨RJ4, "<init>", "(Ljava/lang/StringBuilder;)V"⟩
def dkwJ4_init_0 : List UInt8 := [42, 43, 1, 183, 1, 233, 177]
abbrev dktJ4_init_0 : List UInt8 := dkwJ4_init_0 ++ []
theorem dksJ4_init_0 : cJ4_init.data.toList.drop 0 = dktJ4_init_0 := by decide +kernel
theorem dJ4_init_0 : decode cJ4_init 0 = .ok (.aload_n 0, 1) := dk_42 (dk_at dksJ4_init_0 0 rfl rfl)
theorem dJ4_init_1 : decode cJ4_init 1 = .ok (.aload_n 1, 1) := dk_43 (dk_at dksJ4_init_0 1 rfl rfl)
theorem dJ4_init_2 : decode cJ4_init 2 = .ok (.aconst_null, 1) := dk_1 (dk_at dksJ4_init_0 2 rfl rfl)
theorem dJ4_init_3 : decode cJ4_init 3 = .ok (.invokespecial 489, 3) := dk_183 1 233 (dk_at dksJ4_init_0 3 rfl rfl)
theorem dJ4_init_6 : decode cJ4_init 6 = .ok (.return_, 1) := dk_177 (dk_at dksJ4_init_0 6 rfl rfl)
abbrev cJ4_init_2 : ByteArray := prog_35_method_150_code
def yJ4_init_2 : MethodName := ⟨RJ4, "<init>", "(Ljava/lang/AbstractStringBuilder;Ljava/lang/Void;)V"⟩
def dkwJ4_init_2_4 : List UInt8 := [181, 0, 9, 177]
abbrev dktJ4_init_2_4 : List UInt8 := dkwJ4_init_2_4 ++ []
def dkwJ4_init_2_3 : List UInt8 := [184, 0, 47, 181, 0, 15, 177, 42, 4, 181, 0, 15, 42, 45, 3, 21, 4, 4, 120, 184, 0, 54]
abbrev dktJ4_init_2_3 : List UInt8 := dkwJ4_init_2_3 ++ dktJ4_init_2_4
def dkwJ4_init_2_2 : List UInt8 := [180, 4, 24, 153, 0, 28, 42, 45, 3, 21, 4, 184, 4, 27, 181, 0, 9, 42, 42, 180, 0, 9, 21, 4]
abbrev dktJ4_init_2_2 : List UInt8 := dkwJ4_init_2_2 ++ dktJ4_init_2_3
def dkwJ4_init_2_1 : List UInt8 := [181, 0, 15, 42, 45, 3, 21, 4, 184, 0, 54, 181, 0, 9, 167, 0, 59, 178, 0, 38, 153, 0, 35, 43]
abbrev dktJ4_init_2_1 : List UInt8 := dkwJ4_init_2_1 ++ dktJ4_init_2_2
def dkwJ4_init_2_0 : List UInt8 := [42, 183, 0, 1, 43, 182, 2, 40, 78, 43, 182, 2, 37, 54, 4, 43, 182, 4, 23, 153, 0, 22, 42, 3]
abbrev dktJ4_init_2_0 : List UInt8 := dkwJ4_init_2_0 ++ dktJ4_init_2_1
theorem dksJ4_init_2_0 : cJ4_init_2.data.toList.drop 0 = dktJ4_init_2_0 := by decide +kernel
theorem dksJ4_init_2_1 : cJ4_init_2.data.toList.drop 24 = dktJ4_init_2_1 := dk_seg dksJ4_init_2_0 24 rfl rfl
theorem dksJ4_init_2_2 : cJ4_init_2.data.toList.drop 48 = dktJ4_init_2_2 := dk_seg dksJ4_init_2_1 24 rfl rfl
theorem dksJ4_init_2_3 : cJ4_init_2.data.toList.drop 72 = dktJ4_init_2_3 := dk_seg dksJ4_init_2_2 24 rfl rfl
theorem dksJ4_init_2_4 : cJ4_init_2.data.toList.drop 94 = dktJ4_init_2_4 := dk_seg dksJ4_init_2_3 22 rfl rfl
theorem dJ4_init_2_0 : decode cJ4_init_2 0 = .ok (.aload_n 0, 1) := dk_42 (dk_at dksJ4_init_2_0 0 rfl rfl)
theorem dJ4_init_2_1 : decode cJ4_init_2 1 = .ok (.invokespecial 1, 3) := dk_183 0 1 (dk_at dksJ4_init_2_0 1 rfl rfl)
theorem dJ4_init_2_4 : decode cJ4_init_2 4 = .ok (.aload_n 1, 1) := dk_43 (dk_at dksJ4_init_2_0 4 rfl rfl)
theorem dJ4_init_2_5 : decode cJ4_init_2 5 = .ok (.invokevirtual 552, 3) := dk_182 2 40 (dk_at dksJ4_init_2_0 5 rfl rfl)
theorem dJ4_init_2_8 : decode cJ4_init_2 8 = .ok (.astore_n 3, 1) := dk_78 (dk_at dksJ4_init_2_0 8 rfl rfl)
theorem dJ4_init_2_9 : decode cJ4_init_2 9 = .ok (.aload_n 1, 1) := dk_43 (dk_at dksJ4_init_2_0 9 rfl rfl)
theorem dJ4_init_2_10 : decode cJ4_init_2 10 = .ok (.invokevirtual 549, 3) := dk_182 2 37 (dk_at dksJ4_init_2_0 10 rfl rfl)
theorem dJ4_init_2_13 : decode cJ4_init_2 13 = .ok (.istore 4, 2) := dk_54 4 (dk_at dksJ4_init_2_0 13 rfl rfl)
theorem dJ4_init_2_15 : decode cJ4_init_2 15 = .ok (.aload_n 1, 1) := dk_43 (dk_at dksJ4_init_2_0 15 rfl rfl)
theorem dJ4_init_2_16 : decode cJ4_init_2 16 = .ok (.invokevirtual 1047, 3) := dk_182 4 23 (dk_at dksJ4_init_2_0 16 rfl rfl)
theorem dJ4_init_2_19 : decode cJ4_init_2 19 = .ok (.ifCond .eq 22, 3) := dk_153 0 22 (dk_at dksJ4_init_2_0 19 rfl rfl)
theorem dJ4_init_2_22 : decode cJ4_init_2 22 = .ok (.aload_n 0, 1) := dk_42 (dk_at dksJ4_init_2_0 22 rfl rfl)
theorem dJ4_init_2_23 : decode cJ4_init_2 23 = .ok (.iconst 0, 1) := dk_3 (dk_at dksJ4_init_2_0 23 rfl rfl)
theorem dJ4_init_2_24 : decode cJ4_init_2 24 = .ok (.putfield 15, 3) := dk_181 0 15 (dk_at dksJ4_init_2_1 0 rfl rfl)
theorem dJ4_init_2_27 : decode cJ4_init_2 27 = .ok (.aload_n 0, 1) := dk_42 (dk_at dksJ4_init_2_1 3 rfl rfl)
theorem dJ4_init_2_28 : decode cJ4_init_2 28 = .ok (.aload_n 3, 1) := dk_45 (dk_at dksJ4_init_2_1 4 rfl rfl)
theorem dJ4_init_2_29 : decode cJ4_init_2 29 = .ok (.iconst 0, 1) := dk_3 (dk_at dksJ4_init_2_1 5 rfl rfl)
theorem dJ4_init_2_30 : decode cJ4_init_2 30 = .ok (.iload 4, 2) := dk_21 4 (dk_at dksJ4_init_2_1 6 rfl rfl)
theorem dJ4_init_2_32 : decode cJ4_init_2 32 = .ok (.invokestatic 54, 3) := dk_184 0 54 (dk_at dksJ4_init_2_1 8 rfl rfl)
theorem dJ4_init_2_35 : decode cJ4_init_2 35 = .ok (.putfield 9, 3) := dk_181 0 9 (dk_at dksJ4_init_2_1 11 rfl rfl)
theorem dJ4_init_2_38 : decode cJ4_init_2 38 = .ok (.goto 59, 3) := dk_167 0 59 (dk_at dksJ4_init_2_1 14 rfl rfl)
theorem dJ4_init_2_41 : decode cJ4_init_2 41 = .ok (.getstatic 38, 3) := dk_178 0 38 (dk_at dksJ4_init_2_1 17 rfl rfl)
theorem dJ4_init_2_44 : decode cJ4_init_2 44 = .ok (.ifCond .eq 35, 3) := dk_153 0 35 (dk_at dksJ4_init_2_1 20 rfl rfl)
theorem dJ4_init_2_47 : decode cJ4_init_2 47 = .ok (.aload_n 1, 1) := dk_43 (dk_at dksJ4_init_2_1 23 rfl rfl)
theorem dJ4_init_2_48 : decode cJ4_init_2 48 = .ok (.getfield 1048, 3) := dk_180 4 24 (dk_at dksJ4_init_2_2 0 rfl rfl)
theorem dJ4_init_2_51 : decode cJ4_init_2 51 = .ok (.ifCond .eq 28, 3) := dk_153 0 28 (dk_at dksJ4_init_2_2 3 rfl rfl)
theorem dJ4_init_2_54 : decode cJ4_init_2 54 = .ok (.aload_n 0, 1) := dk_42 (dk_at dksJ4_init_2_2 6 rfl rfl)
theorem dJ4_init_2_55 : decode cJ4_init_2 55 = .ok (.aload_n 3, 1) := dk_45 (dk_at dksJ4_init_2_2 7 rfl rfl)
theorem dJ4_init_2_56 : decode cJ4_init_2 56 = .ok (.iconst 0, 1) := dk_3 (dk_at dksJ4_init_2_2 8 rfl rfl)
theorem dJ4_init_2_57 : decode cJ4_init_2 57 = .ok (.iload 4, 2) := dk_21 4 (dk_at dksJ4_init_2_2 9 rfl rfl)
theorem dJ4_init_2_59 : decode cJ4_init_2 59 = .ok (.invokestatic 1051, 3) := dk_184 4 27 (dk_at dksJ4_init_2_2 11 rfl rfl)
theorem dJ4_init_2_62 : decode cJ4_init_2 62 = .ok (.putfield 9, 3) := dk_181 0 9 (dk_at dksJ4_init_2_2 14 rfl rfl)
theorem dJ4_init_2_65 : decode cJ4_init_2 65 = .ok (.aload_n 0, 1) := dk_42 (dk_at dksJ4_init_2_2 17 rfl rfl)
theorem dJ4_init_2_66 : decode cJ4_init_2 66 = .ok (.aload_n 0, 1) := dk_42 (dk_at dksJ4_init_2_2 18 rfl rfl)
theorem dJ4_init_2_67 : decode cJ4_init_2 67 = .ok (.getfield 9, 3) := dk_180 0 9 (dk_at dksJ4_init_2_2 19 rfl rfl)
theorem dJ4_init_2_70 : decode cJ4_init_2 70 = .ok (.iload 4, 2) := dk_21 4 (dk_at dksJ4_init_2_2 22 rfl rfl)
theorem dJ4_init_2_72 : decode cJ4_init_2 72 = .ok (.invokestatic 47, 3) := dk_184 0 47 (dk_at dksJ4_init_2_3 0 rfl rfl)
theorem dJ4_init_2_75 : decode cJ4_init_2 75 = .ok (.putfield 15, 3) := dk_181 0 15 (dk_at dksJ4_init_2_3 3 rfl rfl)
theorem dJ4_init_2_78 : decode cJ4_init_2 78 = .ok (.return_, 1) := dk_177 (dk_at dksJ4_init_2_3 6 rfl rfl)
theorem dJ4_init_2_79 : decode cJ4_init_2 79 = .ok (.aload_n 0, 1) := dk_42 (dk_at dksJ4_init_2_3 7 rfl rfl)
theorem dJ4_init_2_80 : decode cJ4_init_2 80 = .ok (.iconst 1, 1) := dk_4 (dk_at dksJ4_init_2_3 8 rfl rfl)
theorem dJ4_init_2_81 : decode cJ4_init_2 81 = .ok (.putfield 15, 3) := dk_181 0 15 (dk_at dksJ4_init_2_3 9 rfl rfl)
theorem dJ4_init_2_84 : decode cJ4_init_2 84 = .ok (.aload_n 0, 1) := dk_42 (dk_at dksJ4_init_2_3 12 rfl rfl)
theorem dJ4_init_2_85 : decode cJ4_init_2 85 = .ok (.aload_n 3, 1) := dk_45 (dk_at dksJ4_init_2_3 13 rfl rfl)
theorem dJ4_init_2_86 : decode cJ4_init_2 86 = .ok (.iconst 0, 1) := dk_3 (dk_at dksJ4_init_2_3 14 rfl rfl)
theorem dJ4_init_2_87 : decode cJ4_init_2 87 = .ok (.iload 4, 2) := dk_21 4 (dk_at dksJ4_init_2_3 15 rfl rfl)
theorem dJ4_init_2_89 : decode cJ4_init_2 89 = .ok (.iconst 1, 1) := dk_4 (dk_at dksJ4_init_2_3 17 rfl rfl)
theorem dJ4_init_2_90 : decode cJ4_init_2 90 = .ok (.ishl, 1) := dk_120 (dk_at dksJ4_init_2_3 18 rfl rfl)
theorem dJ4_init_2_91 : decode cJ4_init_2 91 = .ok (.invokestatic 54, 3) := dk_184 0 54 (dk_at dksJ4_init_2_3 19 rfl rfl)
theorem dJ4_init_2_94 : decode cJ4_init_2 94 = .ok (.putfield 9, 3) := dk_181 0 9 (dk_at dksJ4_init_2_4 0 rfl rfl)
theorem dJ4_init_2_97 : decode cJ4_init_2 97 = .ok (.return_, 1) := dk_177 (dk_at dksJ4_init_2_4 3 rfl rfl)
abbrev cJ4_checkBoundsBeginEnd : ByteArray := prog_35_method_158_code
def yJ4_checkBoundsBeginEnd : MethodName := ⟨RJ4, "checkBoundsBeginEnd", "(III)V"⟩
def dkwJ4_checkBoundsBeginEnd_0 : List UInt8 := [26, 27, 28, 178, 4, 29, 184, 4, 38, 87, 177]
abbrev dktJ4_checkBoundsBeginEnd_0 : List UInt8 := dkwJ4_checkBoundsBeginEnd_0 ++ []
theorem dksJ4_checkBoundsBeginEnd_0 : cJ4_checkBoundsBeginEnd.data.toList.drop 0 = dktJ4_checkBoundsBeginEnd_0 := by decide +kernel
theorem dJ4_checkBoundsBeginEnd_0 : decode cJ4_checkBoundsBeginEnd 0 = .ok (.iload_n 0, 1) := dk_26 (dk_at dksJ4_checkBoundsBeginEnd_0 0 rfl rfl)
theorem dJ4_checkBoundsBeginEnd_1 : decode cJ4_checkBoundsBeginEnd 1 = .ok (.iload_n 1, 1) := dk_27 (dk_at dksJ4_checkBoundsBeginEnd_0 1 rfl rfl)
theorem dJ4_checkBoundsBeginEnd_2 : decode cJ4_checkBoundsBeginEnd 2 = .ok (.iload_n 2, 1) := dk_28 (dk_at dksJ4_checkBoundsBeginEnd_0 2 rfl rfl)
theorem dJ4_checkBoundsBeginEnd_3 : decode cJ4_checkBoundsBeginEnd 3 = .ok (.getstatic 1053, 3) := dk_178 4 29 (dk_at dksJ4_checkBoundsBeginEnd_0 3 rfl rfl)
theorem dJ4_checkBoundsBeginEnd_6 : decode cJ4_checkBoundsBeginEnd 6 = .ok (.invokestatic 1062, 3) := dk_184 4 38 (dk_at dksJ4_checkBoundsBeginEnd_0 6 rfl rfl)
theorem dJ4_checkBoundsBeginEnd_9 : decode cJ4_checkBoundsBeginEnd 9 = .ok (.pop, 1) := dk_87 (dk_at dksJ4_checkBoundsBeginEnd_0 9 rfl rfl)
theorem dJ4_checkBoundsBeginEnd_10 : decode cJ4_checkBoundsBeginEnd 10 = .ok (.return_, 1) := dk_177 (dk_at dksJ4_checkBoundsBeginEnd_0 10 rfl rfl)
abbrev cJ4_length : ByteArray := prog_35_method_54_code
def yJ4_length : MethodName := ⟨RJ4, "length", "()I"⟩
def dkwJ4_length_0 : List UInt8 := [42, 180, 0, 9, 190, 42, 182, 1, 79, 122, 172]
abbrev dktJ4_length_0 : List UInt8 := dkwJ4_length_0 ++ []
theorem dksJ4_length_0 : cJ4_length.data.toList.drop 0 = dktJ4_length_0 := by decide +kernel
theorem dJ4_length_0 : decode cJ4_length 0 = .ok (.aload_n 0, 1) := dk_42 (dk_at dksJ4_length_0 0 rfl rfl)
theorem dJ4_length_1 : decode cJ4_length 1 = .ok (.getfield 9, 3) := dk_180 0 9 (dk_at dksJ4_length_0 1 rfl rfl)
theorem dJ4_length_4 : decode cJ4_length 4 = .ok (.arraylength, 1) := dk_190 (dk_at dksJ4_length_0 4 rfl rfl)
theorem dJ4_length_5 : decode cJ4_length 5 = .ok (.aload_n 0, 1) := dk_42 (dk_at dksJ4_length_0 5 rfl rfl)
theorem dJ4_length_6 : decode cJ4_length 6 = .ok (.invokevirtual 335, 3) := dk_182 1 79 (dk_at dksJ4_length_0 6 rfl rfl)
theorem dJ4_length_9 : decode cJ4_length 9 = .ok (.ishr, 1) := dk_122 (dk_at dksJ4_length_0 9 rfl rfl)
theorem dJ4_length_10 : decode cJ4_length 10 = .ok (.ireturn, 1) := dk_172 (dk_at dksJ4_length_0 10 rfl rfl)
abbrev cJ4_coder : ByteArray := prog_35_method_152_code
def yJ4_coder : MethodName := ⟨RJ4, "coder", "()B"⟩
def dkwJ4_coder_0 : List UInt8 := [178, 0, 38, 153, 0, 10, 42, 180, 0, 15, 167, 0, 4, 4, 172]
abbrev dktJ4_coder_0 : List UInt8 := dkwJ4_coder_0 ++ []
theorem dksJ4_coder_0 : cJ4_coder.data.toList.drop 0 = dktJ4_coder_0 := by decide +kernel
theorem dJ4_coder_0 : decode cJ4_coder 0 = .ok (.getstatic 38, 3) := dk_178 0 38 (dk_at dksJ4_coder_0 0 rfl rfl)
theorem dJ4_coder_3 : decode cJ4_coder 3 = .ok (.ifCond .eq 10, 3) := dk_153 0 10 (dk_at dksJ4_coder_0 3 rfl rfl)
theorem dJ4_coder_6 : decode cJ4_coder 6 = .ok (.aload_n 0, 1) := dk_42 (dk_at dksJ4_coder_0 6 rfl rfl)
theorem dJ4_coder_7 : decode cJ4_coder 7 = .ok (.getfield 15, 3) := dk_180 0 15 (dk_at dksJ4_coder_0 7 rfl rfl)
theorem dJ4_coder_10 : decode cJ4_coder 10 = .ok (.goto 4, 3) := dk_167 0 4 (dk_at dksJ4_coder_0 10 rfl rfl)
theorem dJ4_coder_13 : decode cJ4_coder 13 = .ok (.iconst 1, 1) := dk_4 (dk_at dksJ4_coder_0 13 rfl rfl)
theorem dJ4_coder_14 : decode cJ4_coder 14 = .ok (.ireturn, 1) := dk_172 (dk_at dksJ4_coder_0 14 rfl rfl)
abbrev cJ4_getBytes : ByteArray := prog_35_method_147_code
def yJ4_getBytes : MethodName := ⟨RJ4, "getBytes", "([BIB)V"⟩
def dkwJ4_getBytes_1 : List UInt8 := [184, 0, 212, 167, 0, 18, 42, 180, 0, 9, 3, 43, 28, 42, 180, 0, 9, 190, 184, 0, 106, 177]
abbrev dktJ4_getBytes_1 : List UInt8 := dkwJ4_getBytes_1 ++ []
def dkwJ4_getBytes_0 : List UInt8 := [42, 182, 1, 79, 29, 160, 0, 23, 42, 180, 0, 9, 3, 43, 28, 29, 120, 42, 180, 0, 9, 190]
abbrev dktJ4_getBytes_0 : List UInt8 := dkwJ4_getBytes_0 ++ dktJ4_getBytes_1
theorem dksJ4_getBytes_0 : cJ4_getBytes.data.toList.drop 0 = dktJ4_getBytes_0 := by decide +kernel
theorem dksJ4_getBytes_1 : cJ4_getBytes.data.toList.drop 22 = dktJ4_getBytes_1 := dk_seg dksJ4_getBytes_0 22 rfl rfl
theorem dJ4_getBytes_0 : decode cJ4_getBytes 0 = .ok (.aload_n 0, 1) := dk_42 (dk_at dksJ4_getBytes_0 0 rfl rfl)
theorem dJ4_getBytes_1 : decode cJ4_getBytes 1 = .ok (.invokevirtual 335, 3) := dk_182 1 79 (dk_at dksJ4_getBytes_0 1 rfl rfl)
theorem dJ4_getBytes_4 : decode cJ4_getBytes 4 = .ok (.iload_n 3, 1) := dk_29 (dk_at dksJ4_getBytes_0 4 rfl rfl)
theorem dJ4_getBytes_5 : decode cJ4_getBytes 5 = .ok (.if_icmp .ne 23, 3) := dk_160 0 23 (dk_at dksJ4_getBytes_0 5 rfl rfl)
theorem dJ4_getBytes_8 : decode cJ4_getBytes 8 = .ok (.aload_n 0, 1) := dk_42 (dk_at dksJ4_getBytes_0 8 rfl rfl)
theorem dJ4_getBytes_9 : decode cJ4_getBytes 9 = .ok (.getfield 9, 3) := dk_180 0 9 (dk_at dksJ4_getBytes_0 9 rfl rfl)
theorem dJ4_getBytes_12 : decode cJ4_getBytes 12 = .ok (.iconst 0, 1) := dk_3 (dk_at dksJ4_getBytes_0 12 rfl rfl)
theorem dJ4_getBytes_13 : decode cJ4_getBytes 13 = .ok (.aload_n 1, 1) := dk_43 (dk_at dksJ4_getBytes_0 13 rfl rfl)
theorem dJ4_getBytes_14 : decode cJ4_getBytes 14 = .ok (.iload_n 2, 1) := dk_28 (dk_at dksJ4_getBytes_0 14 rfl rfl)
theorem dJ4_getBytes_15 : decode cJ4_getBytes 15 = .ok (.iload_n 3, 1) := dk_29 (dk_at dksJ4_getBytes_0 15 rfl rfl)
theorem dJ4_getBytes_16 : decode cJ4_getBytes 16 = .ok (.ishl, 1) := dk_120 (dk_at dksJ4_getBytes_0 16 rfl rfl)
theorem dJ4_getBytes_17 : decode cJ4_getBytes 17 = .ok (.aload_n 0, 1) := dk_42 (dk_at dksJ4_getBytes_0 17 rfl rfl)
theorem dJ4_getBytes_18 : decode cJ4_getBytes 18 = .ok (.getfield 9, 3) := dk_180 0 9 (dk_at dksJ4_getBytes_0 18 rfl rfl)
theorem dJ4_getBytes_21 : decode cJ4_getBytes 21 = .ok (.arraylength, 1) := dk_190 (dk_at dksJ4_getBytes_0 21 rfl rfl)
theorem dJ4_getBytes_22 : decode cJ4_getBytes 22 = .ok (.invokestatic 212, 3) := dk_184 0 212 (dk_at dksJ4_getBytes_1 0 rfl rfl)
theorem dJ4_getBytes_25 : decode cJ4_getBytes 25 = .ok (.goto 18, 3) := dk_167 0 18 (dk_at dksJ4_getBytes_1 3 rfl rfl)
theorem dJ4_getBytes_28 : decode cJ4_getBytes 28 = .ok (.aload_n 0, 1) := dk_42 (dk_at dksJ4_getBytes_1 6 rfl rfl)
theorem dJ4_getBytes_29 : decode cJ4_getBytes 29 = .ok (.getfield 9, 3) := dk_180 0 9 (dk_at dksJ4_getBytes_1 7 rfl rfl)
theorem dJ4_getBytes_32 : decode cJ4_getBytes 32 = .ok (.iconst 0, 1) := dk_3 (dk_at dksJ4_getBytes_1 10 rfl rfl)
theorem dJ4_getBytes_33 : decode cJ4_getBytes 33 = .ok (.aload_n 1, 1) := dk_43 (dk_at dksJ4_getBytes_1 11 rfl rfl)
theorem dJ4_getBytes_34 : decode cJ4_getBytes 34 = .ok (.iload_n 2, 1) := dk_28 (dk_at dksJ4_getBytes_1 12 rfl rfl)
theorem dJ4_getBytes_35 : decode cJ4_getBytes 35 = .ok (.aload_n 0, 1) := dk_42 (dk_at dksJ4_getBytes_1 13 rfl rfl)
theorem dJ4_getBytes_36 : decode cJ4_getBytes 36 = .ok (.getfield 9, 3) := dk_180 0 9 (dk_at dksJ4_getBytes_1 14 rfl rfl)
theorem dJ4_getBytes_39 : decode cJ4_getBytes 39 = .ok (.arraylength, 1) := dk_190 (dk_at dksJ4_getBytes_1 17 rfl rfl)
theorem dJ4_getBytes_40 : decode cJ4_getBytes 40 = .ok (.invokestatic 106, 3) := dk_184 0 106 (dk_at dksJ4_getBytes_1 18 rfl rfl)
theorem dJ4_getBytes_43 : decode cJ4_getBytes 43 = .ok (.return_, 1) := dk_177 (dk_at dksJ4_getBytes_1 21 rfl rfl)
abbrev cJ4_equals : ByteArray := prog_35_method_66_code
def yJ4_equals : MethodName := ⟨RJ4, "equals", "(Ljava/lang/Object;)Z"⟩
def dkwJ4_equals_2 : List UInt8 := [184, 2, 29, 153, 0, 7, 4, 167, 0, 4, 3, 172]
abbrev dktJ4_equals_2 : List UInt8 := dkwJ4_equals_2 ++ []
def dkwJ4_equals_1 : List UInt8 := [153, 0, 14, 42, 180, 0, 15, 44, 180, 0, 15, 160, 0, 21, 42, 180, 0, 9, 44, 180, 0, 9]
abbrev dktJ4_equals_1 : List UInt8 := dkwJ4_equals_1 ++ dktJ4_equals_2
def dkwJ4_equals_0 : List UInt8 := [42, 43, 166, 0, 5, 4, 172, 43, 193, 0, 10, 153, 0, 43, 43, 192, 0, 10, 77, 178, 0, 38]
abbrev dktJ4_equals_0 : List UInt8 := dkwJ4_equals_0 ++ dktJ4_equals_1
theorem dksJ4_equals_0 : cJ4_equals.data.toList.drop 0 = dktJ4_equals_0 := by decide +kernel
theorem dksJ4_equals_1 : cJ4_equals.data.toList.drop 22 = dktJ4_equals_1 := dk_seg dksJ4_equals_0 22 rfl rfl
theorem dksJ4_equals_2 : cJ4_equals.data.toList.drop 44 = dktJ4_equals_2 := dk_seg dksJ4_equals_1 22 rfl rfl
theorem dJ4_equals_0 : decode cJ4_equals 0 = .ok (.aload_n 0, 1) := dk_42 (dk_at dksJ4_equals_0 0 rfl rfl)
theorem dJ4_equals_1 : decode cJ4_equals 1 = .ok (.aload_n 1, 1) := dk_43 (dk_at dksJ4_equals_0 1 rfl rfl)
theorem dJ4_equals_2 : decode cJ4_equals 2 = .ok (.if_acmp .ne 5, 3) := dk_166 0 5 (dk_at dksJ4_equals_0 2 rfl rfl)
theorem dJ4_equals_5 : decode cJ4_equals 5 = .ok (.iconst 1, 1) := dk_4 (dk_at dksJ4_equals_0 5 rfl rfl)
theorem dJ4_equals_6 : decode cJ4_equals 6 = .ok (.ireturn, 1) := dk_172 (dk_at dksJ4_equals_0 6 rfl rfl)
theorem dJ4_equals_7 : decode cJ4_equals 7 = .ok (.aload_n 1, 1) := dk_43 (dk_at dksJ4_equals_0 7 rfl rfl)
theorem dJ4_equals_8 : decode cJ4_equals 8 = .ok (.instanceof 10, 3) := dk_193 0 10 (dk_at dksJ4_equals_0 8 rfl rfl)
theorem dJ4_equals_11 : decode cJ4_equals 11 = .ok (.ifCond .eq 43, 3) := dk_153 0 43 (dk_at dksJ4_equals_0 11 rfl rfl)
theorem dJ4_equals_14 : decode cJ4_equals 14 = .ok (.aload_n 1, 1) := dk_43 (dk_at dksJ4_equals_0 14 rfl rfl)
theorem dJ4_equals_15 : decode cJ4_equals 15 = .ok (.checkcast 10, 3) := dk_192 0 10 (dk_at dksJ4_equals_0 15 rfl rfl)
theorem dJ4_equals_18 : decode cJ4_equals 18 = .ok (.astore_n 2, 1) := dk_77 (dk_at dksJ4_equals_0 18 rfl rfl)
theorem dJ4_equals_19 : decode cJ4_equals 19 = .ok (.getstatic 38, 3) := dk_178 0 38 (dk_at dksJ4_equals_0 19 rfl rfl)
theorem dJ4_equals_22 : decode cJ4_equals 22 = .ok (.ifCond .eq 14, 3) := dk_153 0 14 (dk_at dksJ4_equals_1 0 rfl rfl)
theorem dJ4_equals_25 : decode cJ4_equals 25 = .ok (.aload_n 0, 1) := dk_42 (dk_at dksJ4_equals_1 3 rfl rfl)
theorem dJ4_equals_26 : decode cJ4_equals 26 = .ok (.getfield 15, 3) := dk_180 0 15 (dk_at dksJ4_equals_1 4 rfl rfl)
theorem dJ4_equals_29 : decode cJ4_equals 29 = .ok (.aload_n 2, 1) := dk_44 (dk_at dksJ4_equals_1 7 rfl rfl)
theorem dJ4_equals_30 : decode cJ4_equals 30 = .ok (.getfield 15, 3) := dk_180 0 15 (dk_at dksJ4_equals_1 8 rfl rfl)
theorem dJ4_equals_33 : decode cJ4_equals 33 = .ok (.if_icmp .ne 21, 3) := dk_160 0 21 (dk_at dksJ4_equals_1 11 rfl rfl)
theorem dJ4_equals_36 : decode cJ4_equals 36 = .ok (.aload_n 0, 1) := dk_42 (dk_at dksJ4_equals_1 14 rfl rfl)
theorem dJ4_equals_37 : decode cJ4_equals 37 = .ok (.getfield 9, 3) := dk_180 0 9 (dk_at dksJ4_equals_1 15 rfl rfl)
theorem dJ4_equals_40 : decode cJ4_equals 40 = .ok (.aload_n 2, 1) := dk_44 (dk_at dksJ4_equals_1 18 rfl rfl)
theorem dJ4_equals_41 : decode cJ4_equals 41 = .ok (.getfield 9, 3) := dk_180 0 9 (dk_at dksJ4_equals_1 19 rfl rfl)
theorem dJ4_equals_44 : decode cJ4_equals 44 = .ok (.invokestatic 541, 3) := dk_184 2 29 (dk_at dksJ4_equals_2 0 rfl rfl)
theorem dJ4_equals_47 : decode cJ4_equals 47 = .ok (.ifCond .eq 7, 3) := dk_153 0 7 (dk_at dksJ4_equals_2 3 rfl rfl)
theorem dJ4_equals_50 : decode cJ4_equals 50 = .ok (.iconst 1, 1) := dk_4 (dk_at dksJ4_equals_2 6 rfl rfl)
theorem dJ4_equals_51 : decode cJ4_equals 51 = .ok (.goto 4, 3) := dk_167 0 4 (dk_at dksJ4_equals_2 7 rfl rfl)
theorem dJ4_equals_54 : decode cJ4_equals 54 = .ok (.iconst 0, 1) := dk_3 (dk_at dksJ4_equals_2 10 rfl rfl)
theorem dJ4_equals_55 : decode cJ4_equals 55 = .ok (.ireturn, 1) := dk_172 (dk_at dksJ4_equals_2 11 rfl rfl)
abbrev cJ4_isEmpty : ByteArray := prog_35_method_55_code
def yJ4_isEmpty : MethodName := ⟨RJ4, "isEmpty", "()Z"⟩
def dkwJ4_isEmpty_0 : List UInt8 := [42, 180, 0, 9, 190, 154, 0, 7, 4, 167, 0, 4, 3, 172]
abbrev dktJ4_isEmpty_0 : List UInt8 := dkwJ4_isEmpty_0 ++ []
theorem dksJ4_isEmpty_0 : cJ4_isEmpty.data.toList.drop 0 = dktJ4_isEmpty_0 := by decide +kernel
theorem dJ4_isEmpty_0 : decode cJ4_isEmpty 0 = .ok (.aload_n 0, 1) := dk_42 (dk_at dksJ4_isEmpty_0 0 rfl rfl)
theorem dJ4_isEmpty_1 : decode cJ4_isEmpty 1 = .ok (.getfield 9, 3) := dk_180 0 9 (dk_at dksJ4_isEmpty_0 1 rfl rfl)
theorem dJ4_isEmpty_4 : decode cJ4_isEmpty 4 = .ok (.arraylength, 1) := dk_190 (dk_at dksJ4_isEmpty_0 4 rfl rfl)
theorem dJ4_isEmpty_5 : decode cJ4_isEmpty 5 = .ok (.ifCond .ne 7, 3) := dk_154 0 7 (dk_at dksJ4_isEmpty_0 5 rfl rfl)
theorem dJ4_isEmpty_8 : decode cJ4_isEmpty 8 = .ok (.iconst 1, 1) := dk_4 (dk_at dksJ4_isEmpty_0 8 rfl rfl)
theorem dJ4_isEmpty_9 : decode cJ4_isEmpty 9 = .ok (.goto 4, 3) := dk_167 0 4 (dk_at dksJ4_isEmpty_0 9 rfl rfl)
theorem dJ4_isEmpty_12 : decode cJ4_isEmpty 12 = .ok (.iconst 0, 1) := dk_3 (dk_at dksJ4_isEmpty_0 12 rfl rfl)
theorem dJ4_isEmpty_13 : decode cJ4_isEmpty 13 = .ok (.ireturn, 1) := dk_172 (dk_at dksJ4_isEmpty_0 13 rfl rfl)
abbrev cJ4_charAt : ByteArray := prog_35_method_56_code
def yJ4_charAt : MethodName := ⟨RJ4, "charAt", "(I)C"⟩
def dkwJ4_charAt_1 : List UInt8 := [172]
abbrev dktJ4_charAt_1 : List UInt8 := dkwJ4_charAt_1 ++ []
def dkwJ4_charAt_0 : List UInt8 := [42, 182, 1, 236, 153, 0, 12, 42, 180, 0, 9, 27, 184, 1, 239, 172, 42, 180, 0, 9, 27, 184, 1, 242]
abbrev dktJ4_charAt_0 : List UInt8 := dkwJ4_charAt_0 ++ dktJ4_charAt_1
theorem dksJ4_charAt_0 : cJ4_charAt.data.toList.drop 0 = dktJ4_charAt_0 := by decide +kernel
theorem dksJ4_charAt_1 : cJ4_charAt.data.toList.drop 24 = dktJ4_charAt_1 := dk_seg dksJ4_charAt_0 24 rfl rfl
theorem dJ4_charAt_0 : decode cJ4_charAt 0 = .ok (.aload_n 0, 1) := dk_42 (dk_at dksJ4_charAt_0 0 rfl rfl)
theorem dJ4_charAt_1 : decode cJ4_charAt 1 = .ok (.invokevirtual 492, 3) := dk_182 1 236 (dk_at dksJ4_charAt_0 1 rfl rfl)
theorem dJ4_charAt_4 : decode cJ4_charAt 4 = .ok (.ifCond .eq 12, 3) := dk_153 0 12 (dk_at dksJ4_charAt_0 4 rfl rfl)
theorem dJ4_charAt_7 : decode cJ4_charAt 7 = .ok (.aload_n 0, 1) := dk_42 (dk_at dksJ4_charAt_0 7 rfl rfl)
theorem dJ4_charAt_8 : decode cJ4_charAt 8 = .ok (.getfield 9, 3) := dk_180 0 9 (dk_at dksJ4_charAt_0 8 rfl rfl)
theorem dJ4_charAt_11 : decode cJ4_charAt 11 = .ok (.iload_n 1, 1) := dk_27 (dk_at dksJ4_charAt_0 11 rfl rfl)
theorem dJ4_charAt_12 : decode cJ4_charAt 12 = .ok (.invokestatic 495, 3) := dk_184 1 239 (dk_at dksJ4_charAt_0 12 rfl rfl)
theorem dJ4_charAt_15 : decode cJ4_charAt 15 = .ok (.ireturn, 1) := dk_172 (dk_at dksJ4_charAt_0 15 rfl rfl)
theorem dJ4_charAt_16 : decode cJ4_charAt 16 = .ok (.aload_n 0, 1) := dk_42 (dk_at dksJ4_charAt_0 16 rfl rfl)
theorem dJ4_charAt_17 : decode cJ4_charAt 17 = .ok (.getfield 9, 3) := dk_180 0 9 (dk_at dksJ4_charAt_0 17 rfl rfl)
theorem dJ4_charAt_20 : decode cJ4_charAt 20 = .ok (.iload_n 1, 1) := dk_27 (dk_at dksJ4_charAt_0 20 rfl rfl)
theorem dJ4_charAt_21 : decode cJ4_charAt 21 = .ok (.invokestatic 498, 3) := dk_184 1 242 (dk_at dksJ4_charAt_0 21 rfl rfl)
theorem dJ4_charAt_24 : decode cJ4_charAt 24 = .ok (.ireturn, 1) := dk_172 (dk_at dksJ4_charAt_1 0 rfl rfl)
abbrev cJ4_isLatin1 : ByteArray := prog_35_method_154_code
def yJ4_isLatin1 : MethodName := ⟨RJ4, "isLatin1", "()Z"⟩
def dkwJ4_isLatin1_0 : List UInt8 := [178, 0, 38, 153, 0, 14, 42, 180, 0, 15, 154, 0, 7, 4, 167, 0, 4, 3, 172]
abbrev dktJ4_isLatin1_0 : List UInt8 := dkwJ4_isLatin1_0 ++ []
theorem dksJ4_isLatin1_0 : cJ4_isLatin1.data.toList.drop 0 = dktJ4_isLatin1_0 := by decide +kernel
theorem dJ4_isLatin1_0 : decode cJ4_isLatin1 0 = .ok (.getstatic 38, 3) := dk_178 0 38 (dk_at dksJ4_isLatin1_0 0 rfl rfl)
theorem dJ4_isLatin1_3 : decode cJ4_isLatin1 3 = .ok (.ifCond .eq 14, 3) := dk_153 0 14 (dk_at dksJ4_isLatin1_0 3 rfl rfl)
theorem dJ4_isLatin1_6 : decode cJ4_isLatin1 6 = .ok (.aload_n 0, 1) := dk_42 (dk_at dksJ4_isLatin1_0 6 rfl rfl)
theorem dJ4_isLatin1_7 : decode cJ4_isLatin1 7 = .ok (.getfield 15, 3) := dk_180 0 15 (dk_at dksJ4_isLatin1_0 7 rfl rfl)
theorem dJ4_isLatin1_10 : decode cJ4_isLatin1 10 = .ok (.ifCond .ne 7, 3) := dk_154 0 7 (dk_at dksJ4_isLatin1_0 10 rfl rfl)
theorem dJ4_isLatin1_13 : decode cJ4_isLatin1 13 = .ok (.iconst 1, 1) := dk_4 (dk_at dksJ4_isLatin1_0 13 rfl rfl)
theorem dJ4_isLatin1_14 : decode cJ4_isLatin1 14 = .ok (.goto 4, 3) := dk_167 0 4 (dk_at dksJ4_isLatin1_0 14 rfl rfl)
theorem dJ4_isLatin1_17 : decode cJ4_isLatin1 17 = .ok (.iconst 0, 1) := dk_3 (dk_at dksJ4_isLatin1_0 17 rfl rfl)
theorem dJ4_isLatin1_18 : decode cJ4_isLatin1 18 = .ok (.ireturn, 1) := dk_172 (dk_at dksJ4_isLatin1_0 18 rfl rfl)
abbrev cJ4_compareTo : ByteArray := prog_35_method_162_code
def yJ4_compareTo : MethodName := ⟨RJ4, "compareTo", "(Ljava/lang/Object;)I"⟩
def dkwJ4_compareTo_0 : List UInt8 := [42, 43, 192, 0, 10, 182, 4, 60, 172]
abbrev dktJ4_compareTo_0 : List UInt8 := dkwJ4_compareTo_0 ++ []
theorem dksJ4_compareTo_0 : cJ4_compareTo.data.toList.drop 0 = dktJ4_compareTo_0 := by decide +kernel
theorem dJ4_compareTo_0 : decode cJ4_compareTo 0 = .ok (.aload_n 0, 1) := dk_42 (dk_at dksJ4_compareTo_0 0 rfl rfl)
theorem dJ4_compareTo_1 : decode cJ4_compareTo 1 = .ok (.aload_n 1, 1) := dk_43 (dk_at dksJ4_compareTo_0 1 rfl rfl)
theorem dJ4_compareTo_2 : decode cJ4_compareTo 2 = .ok (.checkcast 10, 3) := dk_192 0 10 (dk_at dksJ4_compareTo_0 2 rfl rfl)
theorem dJ4_compareTo_5 : decode cJ4_compareTo 5 = .ok (.invokevirtual 1084, 3) := dk_182 4 60 (dk_at dksJ4_compareTo_0 5 rfl rfl)
theorem dJ4_compareTo_8 : decode cJ4_compareTo 8 = .ok (.ireturn, 1) := dk_172 (dk_at dksJ4_compareTo_0 8 rfl rfl)
abbrev cJ4_compareTo_2 : ByteArray := prog_35_method_71_code
def yJ4_compareTo_2 : MethodName := ⟨RJ4, "compareTo", "(Ljava/lang/String;)I"⟩
def dkwJ4_compareTo_2_2 : List UInt8 := [154, 0, 11, 44, 45, 184, 2, 79, 167, 0, 8, 44, 45, 184, 2, 82, 172]
abbrev dktJ4_compareTo_2_2 : List UInt8 := dkwJ4_compareTo_2_2 ++ []
def dkwJ4_compareTo_2_1 : List UInt8 := [160, 0, 22, 21, 4, 154, 0, 11, 44, 45, 184, 2, 74, 167, 0, 8, 44, 45, 184, 2, 78, 172, 21, 4]
abbrev dktJ4_compareTo_2_1 : List UInt8 := dkwJ4_compareTo_2_1 ++ dktJ4_compareTo_2_2
def dkwJ4_compareTo_2_0 : List UInt8 := [42, 180, 0, 9, 77, 43, 180, 0, 9, 78, 42, 182, 1, 79, 54, 4, 21, 4, 43, 182, 1, 79]
abbrev dktJ4_compareTo_2_0 : List UInt8 := dkwJ4_compareTo_2_0 ++ dktJ4_compareTo_2_1
theorem dksJ4_compareTo_2_0 : cJ4_compareTo_2.data.toList.drop 0 = dktJ4_compareTo_2_0 := by decide +kernel
theorem dksJ4_compareTo_2_1 : cJ4_compareTo_2.data.toList.drop 22 = dktJ4_compareTo_2_1 := dk_seg dksJ4_compareTo_2_0 22 rfl rfl
theorem dksJ4_compareTo_2_2 : cJ4_compareTo_2.data.toList.drop 46 = dktJ4_compareTo_2_2 := dk_seg dksJ4_compareTo_2_1 24 rfl rfl
theorem dJ4_compareTo_2_0 : decode cJ4_compareTo_2 0 = .ok (.aload_n 0, 1) := dk_42 (dk_at dksJ4_compareTo_2_0 0 rfl rfl)
theorem dJ4_compareTo_2_1 : decode cJ4_compareTo_2 1 = .ok (.getfield 9, 3) := dk_180 0 9 (dk_at dksJ4_compareTo_2_0 1 rfl rfl)
theorem dJ4_compareTo_2_4 : decode cJ4_compareTo_2 4 = .ok (.astore_n 2, 1) := dk_77 (dk_at dksJ4_compareTo_2_0 4 rfl rfl)
theorem dJ4_compareTo_2_5 : decode cJ4_compareTo_2 5 = .ok (.aload_n 1, 1) := dk_43 (dk_at dksJ4_compareTo_2_0 5 rfl rfl)
theorem dJ4_compareTo_2_6 : decode cJ4_compareTo_2 6 = .ok (.getfield 9, 3) := dk_180 0 9 (dk_at dksJ4_compareTo_2_0 6 rfl rfl)
theorem dJ4_compareTo_2_9 : decode cJ4_compareTo_2 9 = .ok (.astore_n 3, 1) := dk_78 (dk_at dksJ4_compareTo_2_0 9 rfl rfl)
theorem dJ4_compareTo_2_10 : decode cJ4_compareTo_2 10 = .ok (.aload_n 0, 1) := dk_42 (dk_at dksJ4_compareTo_2_0 10 rfl rfl)
theorem dJ4_compareTo_2_11 : decode cJ4_compareTo_2 11 = .ok (.invokevirtual 335, 3) := dk_182 1 79 (dk_at dksJ4_compareTo_2_0 11 rfl rfl)
theorem dJ4_compareTo_2_14 : decode cJ4_compareTo_2 14 = .ok (.istore 4, 2) := dk_54 4 (dk_at dksJ4_compareTo_2_0 14 rfl rfl)
theorem dJ4_compareTo_2_16 : decode cJ4_compareTo_2 16 = .ok (.iload 4, 2) := dk_21 4 (dk_at dksJ4_compareTo_2_0 16 rfl rfl)
theorem dJ4_compareTo_2_18 : decode cJ4_compareTo_2 18 = .ok (.aload_n 1, 1) := dk_43 (dk_at dksJ4_compareTo_2_0 18 rfl rfl)
theorem dJ4_compareTo_2_19 : decode cJ4_compareTo_2 19 = .ok (.invokevirtual 335, 3) := dk_182 1 79 (dk_at dksJ4_compareTo_2_0 19 rfl rfl)
theorem dJ4_compareTo_2_22 : decode cJ4_compareTo_2 22 = .ok (.if_icmp .ne 22, 3) := dk_160 0 22 (dk_at dksJ4_compareTo_2_1 0 rfl rfl)
theorem dJ4_compareTo_2_25 : decode cJ4_compareTo_2 25 = .ok (.iload 4, 2) := dk_21 4 (dk_at dksJ4_compareTo_2_1 3 rfl rfl)
theorem dJ4_compareTo_2_27 : decode cJ4_compareTo_2 27 = .ok (.ifCond .ne 11, 3) := dk_154 0 11 (dk_at dksJ4_compareTo_2_1 5 rfl rfl)
theorem dJ4_compareTo_2_30 : decode cJ4_compareTo_2 30 = .ok (.aload_n 2, 1) := dk_44 (dk_at dksJ4_compareTo_2_1 8 rfl rfl)
theorem dJ4_compareTo_2_31 : decode cJ4_compareTo_2 31 = .ok (.aload_n 3, 1) := dk_45 (dk_at dksJ4_compareTo_2_1 9 rfl rfl)
theorem dJ4_compareTo_2_32 : decode cJ4_compareTo_2 32 = .ok (.invokestatic 586, 3) := dk_184 2 74 (dk_at dksJ4_compareTo_2_1 10 rfl rfl)
theorem dJ4_compareTo_2_35 : decode cJ4_compareTo_2 35 = .ok (.goto 8, 3) := dk_167 0 8 (dk_at dksJ4_compareTo_2_1 13 rfl rfl)
theorem dJ4_compareTo_2_38 : decode cJ4_compareTo_2 38 = .ok (.aload_n 2, 1) := dk_44 (dk_at dksJ4_compareTo_2_1 16 rfl rfl)
theorem dJ4_compareTo_2_39 : decode cJ4_compareTo_2 39 = .ok (.aload_n 3, 1) := dk_45 (dk_at dksJ4_compareTo_2_1 17 rfl rfl)
theorem dJ4_compareTo_2_40 : decode cJ4_compareTo_2 40 = .ok (.invokestatic 590, 3) := dk_184 2 78 (dk_at dksJ4_compareTo_2_1 18 rfl rfl)
theorem dJ4_compareTo_2_43 : decode cJ4_compareTo_2 43 = .ok (.ireturn, 1) := dk_172 (dk_at dksJ4_compareTo_2_1 21 rfl rfl)
theorem dJ4_compareTo_2_44 : decode cJ4_compareTo_2 44 = .ok (.iload 4, 2) := dk_21 4 (dk_at dksJ4_compareTo_2_1 22 rfl rfl)
theorem dJ4_compareTo_2_46 : decode cJ4_compareTo_2 46 = .ok (.ifCond .ne 11, 3) := dk_154 0 11 (dk_at dksJ4_compareTo_2_2 0 rfl rfl)
theorem dJ4_compareTo_2_49 : decode cJ4_compareTo_2 49 = .ok (.aload_n 2, 1) := dk_44 (dk_at dksJ4_compareTo_2_2 3 rfl rfl)
theorem dJ4_compareTo_2_50 : decode cJ4_compareTo_2 50 = .ok (.aload_n 3, 1) := dk_45 (dk_at dksJ4_compareTo_2_2 4 rfl rfl)
theorem dJ4_compareTo_2_51 : decode cJ4_compareTo_2 51 = .ok (.invokestatic 591, 3) := dk_184 2 79 (dk_at dksJ4_compareTo_2_2 5 rfl rfl)
theorem dJ4_compareTo_2_54 : decode cJ4_compareTo_2 54 = .ok (.goto 8, 3) := dk_167 0 8 (dk_at dksJ4_compareTo_2_2 8 rfl rfl)
theorem dJ4_compareTo_2_57 : decode cJ4_compareTo_2 57 = .ok (.aload_n 2, 1) := dk_44 (dk_at dksJ4_compareTo_2_2 11 rfl rfl)
theorem dJ4_compareTo_2_58 : decode cJ4_compareTo_2 58 = .ok (.aload_n 3, 1) := dk_45 (dk_at dksJ4_compareTo_2_2 12 rfl rfl)
theorem dJ4_compareTo_2_59 : decode cJ4_compareTo_2 59 = .ok (.invokestatic 594, 3) := dk_184 2 82 (dk_at dksJ4_compareTo_2_2 13 rfl rfl)
theorem dJ4_compareTo_2_62 : decode cJ4_compareTo_2 62 = .ok (.ireturn, 1) := dk_172 (dk_at dksJ4_compareTo_2_2 16 rfl rfl)
abbrev cJ4_checkOffset : ByteArray := prog_35_method_156_code
def yJ4_checkOffset : MethodName := ⟨RJ4, "checkOffset", "(II)V"⟩
def dkwJ4_checkOffset_0 : List UInt8 := [26, 27, 27, 178, 4, 29, 184, 4, 38, 87, 177]
abbrev dktJ4_checkOffset_0 : List UInt8 := dkwJ4_checkOffset_0 ++ []
theorem dksJ4_checkOffset_0 : cJ4_checkOffset.data.toList.drop 0 = dktJ4_checkOffset_0 := by decide +kernel
theorem dJ4_checkOffset_0 : decode cJ4_checkOffset 0 = .ok (.iload_n 0, 1) := dk_26 (dk_at dksJ4_checkOffset_0 0 rfl rfl)
theorem dJ4_checkOffset_1 : decode cJ4_checkOffset 1 = .ok (.iload_n 1, 1) := dk_27 (dk_at dksJ4_checkOffset_0 1 rfl rfl)
theorem dJ4_checkOffset_2 : decode cJ4_checkOffset 2 = .ok (.iload_n 1, 1) := dk_27 (dk_at dksJ4_checkOffset_0 2 rfl rfl)
theorem dJ4_checkOffset_3 : decode cJ4_checkOffset 3 = .ok (.getstatic 1053, 3) := dk_178 4 29 (dk_at dksJ4_checkOffset_0 3 rfl rfl)
theorem dJ4_checkOffset_6 : decode cJ4_checkOffset 6 = .ok (.invokestatic 1062, 3) := dk_184 4 38 (dk_at dksJ4_checkOffset_0 6 rfl rfl)
theorem dJ4_checkOffset_9 : decode cJ4_checkOffset 9 = .ok (.pop, 1) := dk_87 (dk_at dksJ4_checkOffset_0 9 rfl rfl)
theorem dJ4_checkOffset_10 : decode cJ4_checkOffset 10 = .ok (.return_, 1) := dk_177 (dk_at dksJ4_checkOffset_0 10 rfl rfl)
abbrev cJ4_hashCode : ByteArray := prog_35_method_78_code
def yJ4_hashCode : MethodName := ⟨RJ4, "hashCode", "()I"⟩
def dkwJ4_hashCode_2 : List UInt8 := [181, 0, 23, 167, 0, 8, 42, 27, 181, 0, 19, 27, 172]
abbrev dktJ4_hashCode_2 : List UInt8 := dkwJ4_hashCode_2 ++ []
def dkwJ4_hashCode_1 : List UInt8 := [180, 0, 9, 184, 2, 116, 167, 0, 10, 42, 180, 0, 9, 184, 2, 120, 60, 27, 154, 0, 11, 42, 4]
abbrev dktJ4_hashCode_1 : List UInt8 := dkwJ4_hashCode_1 ++ dktJ4_hashCode_2
def dkwJ4_hashCode_0 : List UInt8 := [42, 180, 0, 19, 60, 27, 154, 0, 52, 42, 180, 0, 23, 154, 0, 45, 42, 182, 1, 236, 153, 0, 13, 42]
abbrev dktJ4_hashCode_0 : List UInt8 := dkwJ4_hashCode_0 ++ dktJ4_hashCode_1
theorem dksJ4_hashCode_0 : cJ4_hashCode.data.toList.drop 0 = dktJ4_hashCode_0 := by decide +kernel
theorem dksJ4_hashCode_1 : cJ4_hashCode.data.toList.drop 24 = dktJ4_hashCode_1 := dk_seg dksJ4_hashCode_0 24 rfl rfl
theorem dksJ4_hashCode_2 : cJ4_hashCode.data.toList.drop 47 = dktJ4_hashCode_2 := dk_seg dksJ4_hashCode_1 23 rfl rfl
theorem dJ4_hashCode_0 : decode cJ4_hashCode 0 = .ok (.aload_n 0, 1) := dk_42 (dk_at dksJ4_hashCode_0 0 rfl rfl)
theorem dJ4_hashCode_1 : decode cJ4_hashCode 1 = .ok (.getfield 19, 3) := dk_180 0 19 (dk_at dksJ4_hashCode_0 1 rfl rfl)
theorem dJ4_hashCode_4 : decode cJ4_hashCode 4 = .ok (.istore_n 1, 1) := dk_60 (dk_at dksJ4_hashCode_0 4 rfl rfl)
theorem dJ4_hashCode_5 : decode cJ4_hashCode 5 = .ok (.iload_n 1, 1) := dk_27 (dk_at dksJ4_hashCode_0 5 rfl rfl)
theorem dJ4_hashCode_6 : decode cJ4_hashCode 6 = .ok (.ifCond .ne 52, 3) := dk_154 0 52 (dk_at dksJ4_hashCode_0 6 rfl rfl)
theorem dJ4_hashCode_9 : decode cJ4_hashCode 9 = .ok (.aload_n 0, 1) := dk_42 (dk_at dksJ4_hashCode_0 9 rfl rfl)
theorem dJ4_hashCode_10 : decode cJ4_hashCode 10 = .ok (.getfield 23, 3) := dk_180 0 23 (dk_at dksJ4_hashCode_0 10 rfl rfl)
theorem dJ4_hashCode_13 : decode cJ4_hashCode 13 = .ok (.ifCond .ne 45, 3) := dk_154 0 45 (dk_at dksJ4_hashCode_0 13 rfl rfl)
theorem dJ4_hashCode_16 : decode cJ4_hashCode 16 = .ok (.aload_n 0, 1) := dk_42 (dk_at dksJ4_hashCode_0 16 rfl rfl)
theorem dJ4_hashCode_17 : decode cJ4_hashCode 17 = .ok (.invokevirtual 492, 3) := dk_182 1 236 (dk_at dksJ4_hashCode_0 17 rfl rfl)
theorem dJ4_hashCode_20 : decode cJ4_hashCode 20 = .ok (.ifCond .eq 13, 3) := dk_153 0 13 (dk_at dksJ4_hashCode_0 20 rfl rfl)
theorem dJ4_hashCode_23 : decode cJ4_hashCode 23 = .ok (.aload_n 0, 1) := dk_42 (dk_at dksJ4_hashCode_0 23 rfl rfl)
theorem dJ4_hashCode_24 : decode cJ4_hashCode 24 = .ok (.getfield 9, 3) := dk_180 0 9 (dk_at dksJ4_hashCode_1 0 rfl rfl)
theorem dJ4_hashCode_27 : decode cJ4_hashCode 27 = .ok (.invokestatic 628, 3) := dk_184 2 116 (dk_at dksJ4_hashCode_1 3 rfl rfl)
theorem dJ4_hashCode_30 : decode cJ4_hashCode 30 = .ok (.goto 10, 3) := dk_167 0 10 (dk_at dksJ4_hashCode_1 6 rfl rfl)
theorem dJ4_hashCode_33 : decode cJ4_hashCode 33 = .ok (.aload_n 0, 1) := dk_42 (dk_at dksJ4_hashCode_1 9 rfl rfl)
theorem dJ4_hashCode_34 : decode cJ4_hashCode 34 = .ok (.getfield 9, 3) := dk_180 0 9 (dk_at dksJ4_hashCode_1 10 rfl rfl)
theorem dJ4_hashCode_37 : decode cJ4_hashCode 37 = .ok (.invokestatic 632, 3) := dk_184 2 120 (dk_at dksJ4_hashCode_1 13 rfl rfl)
theorem dJ4_hashCode_40 : decode cJ4_hashCode 40 = .ok (.istore_n 1, 1) := dk_60 (dk_at dksJ4_hashCode_1 16 rfl rfl)
theorem dJ4_hashCode_41 : decode cJ4_hashCode 41 = .ok (.iload_n 1, 1) := dk_27 (dk_at dksJ4_hashCode_1 17 rfl rfl)
theorem dJ4_hashCode_42 : decode cJ4_hashCode 42 = .ok (.ifCond .ne 11, 3) := dk_154 0 11 (dk_at dksJ4_hashCode_1 18 rfl rfl)
theorem dJ4_hashCode_45 : decode cJ4_hashCode 45 = .ok (.aload_n 0, 1) := dk_42 (dk_at dksJ4_hashCode_1 21 rfl rfl)
theorem dJ4_hashCode_46 : decode cJ4_hashCode 46 = .ok (.iconst 1, 1) := dk_4 (dk_at dksJ4_hashCode_1 22 rfl rfl)
theorem dJ4_hashCode_47 : decode cJ4_hashCode 47 = .ok (.putfield 23, 3) := dk_181 0 23 (dk_at dksJ4_hashCode_2 0 rfl rfl)
theorem dJ4_hashCode_50 : decode cJ4_hashCode 50 = .ok (.goto 8, 3) := dk_167 0 8 (dk_at dksJ4_hashCode_2 3 rfl rfl)
theorem dJ4_hashCode_53 : decode cJ4_hashCode 53 = .ok (.aload_n 0, 1) := dk_42 (dk_at dksJ4_hashCode_2 6 rfl rfl)
theorem dJ4_hashCode_54 : decode cJ4_hashCode 54 = .ok (.iload_n 1, 1) := dk_27 (dk_at dksJ4_hashCode_2 7 rfl rfl)
theorem dJ4_hashCode_55 : decode cJ4_hashCode 55 = .ok (.putfield 19, 3) := dk_181 0 19 (dk_at dksJ4_hashCode_2 8 rfl rfl)
theorem dJ4_hashCode_58 : decode cJ4_hashCode 58 = .ok (.iload_n 1, 1) := dk_27 (dk_at dksJ4_hashCode_2 11 rfl rfl)
theorem dJ4_hashCode_59 : decode cJ4_hashCode 59 = .ok (.ireturn, 1) := dk_172 (dk_at dksJ4_hashCode_2 12 rfl rfl)
abbrev cJ6_init : ByteArray := prog_42_method_2_code
def yJ6_init : MethodName := ⟨RJ6, "<init>", "(Ljava/lang/String;)V"⟩
def dkwJ6_init_1 : List UInt8 := [182, 0, 27, 87, 42, 43, 181, 0, 31, 177]
abbrev dktJ6_init_1 : List UInt8 := dkwJ6_init_1 ++ []
def dkwJ6_init_0 : List UInt8 := [42, 183, 0, 1, 42, 42, 181, 0, 7, 42, 178, 0, 13, 181, 0, 17, 42, 178, 0, 20, 181, 0, 24, 42]
abbrev dktJ6_init_0 : List UInt8 := dkwJ6_init_0 ++ dktJ6_init_1
theorem dksJ6_init_0 : cJ6_init.data.toList.drop 0 = dktJ6_init_0 := by decide +kernel
theorem dksJ6_init_1 : cJ6_init.data.toList.drop 24 = dktJ6_init_1 := dk_seg dksJ6_init_0 24 rfl rfl
theorem dJ6_init_0 : decode cJ6_init 0 = .ok (.aload_n 0, 1) := dk_42 (dk_at dksJ6_init_0 0 rfl rfl)
theorem dJ6_init_1 : decode cJ6_init 1 = .ok (.invokespecial 1, 3) := dk_183 0 1 (dk_at dksJ6_init_0 1 rfl rfl)
theorem dJ6_init_4 : decode cJ6_init 4 = .ok (.aload_n 0, 1) := dk_42 (dk_at dksJ6_init_0 4 rfl rfl)
theorem dJ6_init_5 : decode cJ6_init 5 = .ok (.aload_n 0, 1) := dk_42 (dk_at dksJ6_init_0 5 rfl rfl)
theorem dJ6_init_6 : decode cJ6_init 6 = .ok (.putfield 7, 3) := dk_181 0 7 (dk_at dksJ6_init_0 6 rfl rfl)
theorem dJ6_init_9 : decode cJ6_init 9 = .ok (.aload_n 0, 1) := dk_42 (dk_at dksJ6_init_0 9 rfl rfl)
theorem dJ6_init_10 : decode cJ6_init 10 = .ok (.getstatic 13, 3) := dk_178 0 13 (dk_at dksJ6_init_0 10 rfl rfl)
theorem dJ6_init_13 : decode cJ6_init 13 = .ok (.putfield 17, 3) := dk_181 0 17 (dk_at dksJ6_init_0 13 rfl rfl)
theorem dJ6_init_16 : decode cJ6_init 16 = .ok (.aload_n 0, 1) := dk_42 (dk_at dksJ6_init_0 16 rfl rfl)
theorem dJ6_init_17 : decode cJ6_init 17 = .ok (.getstatic 20, 3) := dk_178 0 20 (dk_at dksJ6_init_0 17 rfl rfl)
theorem dJ6_init_20 : decode cJ6_init 20 = .ok (.putfield 24, 3) := dk_181 0 24 (dk_at dksJ6_init_0 20 rfl rfl)
theorem dJ6_init_23 : decode cJ6_init 23 = .ok (.aload_n 0, 1) := dk_42 (dk_at dksJ6_init_0 23 rfl rfl)
theorem dJ6_init_24 : decode cJ6_init 24 = .ok (.invokevirtual 27, 3) := dk_182 0 27 (dk_at dksJ6_init_1 0 rfl rfl)
theorem dJ6_init_27 : decode cJ6_init 27 = .ok (.pop, 1) := dk_87 (dk_at dksJ6_init_1 3 rfl rfl)
theorem dJ6_init_28 : decode cJ6_init 28 = .ok (.aload_n 0, 1) := dk_42 (dk_at dksJ6_init_1 4 rfl rfl)
theorem dJ6_init_29 : decode cJ6_init 29 = .ok (.aload_n 1, 1) := dk_43 (dk_at dksJ6_init_1 5 rfl rfl)
theorem dJ6_init_30 : decode cJ6_init 30 = .ok (.putfield 31, 3) := dk_181 0 31 (dk_at dksJ6_init_1 6 rfl rfl)
theorem dJ6_init_33 : decode cJ6_init 33 = .ok (.return_, 1) := dk_177 (dk_at dksJ6_init_1 9 rfl rfl)
abbrev cJ6_init_2 : ByteArray := prog_42_method_1_code
def yJ6_init_2 : MethodName := ⟨RJ6, "<init>", "()V"⟩
def dkwJ6_init_2_1 : List UInt8 := [182, 0, 27, 87, 177]
abbrev dktJ6_init_2_1 : List UInt8 := dkwJ6_init_2_1 ++ []
def dkwJ6_init_2_0 : List UInt8 := [42, 183, 0, 1, 42, 42, 181, 0, 7, 42, 178, 0, 13, 181, 0, 17, 42, 178, 0, 20, 181, 0, 24, 42]
abbrev dktJ6_init_2_0 : List UInt8 := dkwJ6_init_2_0 ++ dktJ6_init_2_1
theorem dksJ6_init_2_0 : cJ6_init_2.data.toList.drop 0 = dktJ6_init_2_0 := by decide +kernel
theorem dksJ6_init_2_1 : cJ6_init_2.data.toList.drop 24 = dktJ6_init_2_1 := dk_seg dksJ6_init_2_0 24 rfl rfl
theorem dJ6_init_2_0 : decode cJ6_init_2 0 = .ok (.aload_n 0, 1) := dk_42 (dk_at dksJ6_init_2_0 0 rfl rfl)
theorem dJ6_init_2_1 : decode cJ6_init_2 1 = .ok (.invokespecial 1, 3) := dk_183 0 1 (dk_at dksJ6_init_2_0 1 rfl rfl)
theorem dJ6_init_2_4 : decode cJ6_init_2 4 = .ok (.aload_n 0, 1) := dk_42 (dk_at dksJ6_init_2_0 4 rfl rfl)
theorem dJ6_init_2_5 : decode cJ6_init_2 5 = .ok (.aload_n 0, 1) := dk_42 (dk_at dksJ6_init_2_0 5 rfl rfl)
theorem dJ6_init_2_6 : decode cJ6_init_2 6 = .ok (.putfield 7, 3) := dk_181 0 7 (dk_at dksJ6_init_2_0 6 rfl rfl)
theorem dJ6_init_2_9 : decode cJ6_init_2 9 = .ok (.aload_n 0, 1) := dk_42 (dk_at dksJ6_init_2_0 9 rfl rfl)
theorem dJ6_init_2_10 : decode cJ6_init_2 10 = .ok (.getstatic 13, 3) := dk_178 0 13 (dk_at dksJ6_init_2_0 10 rfl rfl)
theorem dJ6_init_2_13 : decode cJ6_init_2 13 = .ok (.putfield 17, 3) := dk_181 0 17 (dk_at dksJ6_init_2_0 13 rfl rfl)
theorem dJ6_init_2_16 : decode cJ6_init_2 16 = .ok (.aload_n 0, 1) := dk_42 (dk_at dksJ6_init_2_0 16 rfl rfl)
theorem dJ6_init_2_17 : decode cJ6_init_2 17 = .ok (.getstatic 20, 3) := dk_178 0 20 (dk_at dksJ6_init_2_0 17 rfl rfl)
theorem dJ6_init_2_20 : decode cJ6_init_2 20 = .ok (.putfield 24, 3) := dk_181 0 24 (dk_at dksJ6_init_2_0 20 rfl rfl)
theorem dJ6_init_2_23 : decode cJ6_init_2 23 = .ok (.aload_n 0, 1) := dk_42 (dk_at dksJ6_init_2_0 23 rfl rfl)
theorem dJ6_init_2_24 : decode cJ6_init_2 24 = .ok (.invokevirtual 27, 3) := dk_182 0 27 (dk_at dksJ6_init_2_1 0 rfl rfl)
theorem dJ6_init_2_27 : decode cJ6_init_2 27 = .ok (.pop, 1) := dk_87 (dk_at dksJ6_init_2_1 3 rfl rfl)
theorem dJ6_init_2_28 : decode cJ6_init_2 28 = .ok (.return_, 1) := dk_177 (dk_at dksJ6_init_2_1 4 rfl rfl)
abbrev cJ6_init_3 : ByteArray := prog_42_method_5_code
def yJ6_init_3 : MethodName := ⟨RJ6, "<init>", "(Ljava/lang/String;Ljava/lang/Throwable;ZZ)V"⟩
def dkwJ6_init_3_2 : List UInt8 := [44, 181, 0, 7, 29, 154, 0, 8, 42, 1, 181, 0, 24, 177]
abbrev dktJ6_init_3_2 : List UInt8 := dkwJ6_init_3_2 ++ []
def dkwJ6_init_3_1 : List UInt8 := [21, 4, 153, 0, 11, 42, 182, 0, 27, 87, 167, 0, 8, 42, 1, 181, 0, 17, 42, 43, 181, 0, 31, 42]
abbrev dktJ6_init_3_1 : List UInt8 := dkwJ6_init_3_1 ++ dktJ6_init_3_2
def dkwJ6_init_3_0 : List UInt8 := [42, 183, 0, 1, 42, 42, 181, 0, 7, 42, 178, 0, 13, 181, 0, 17, 42, 178, 0, 20, 181, 0, 24]
abbrev dktJ6_init_3_0 : List UInt8 := dkwJ6_init_3_0 ++ dktJ6_init_3_1
theorem dksJ6_init_3_0 : cJ6_init_3.data.toList.drop 0 = dktJ6_init_3_0 := by decide +kernel
theorem dksJ6_init_3_1 : cJ6_init_3.data.toList.drop 23 = dktJ6_init_3_1 := dk_seg dksJ6_init_3_0 23 rfl rfl
theorem dksJ6_init_3_2 : cJ6_init_3.data.toList.drop 47 = dktJ6_init_3_2 := dk_seg dksJ6_init_3_1 24 rfl rfl
theorem dJ6_init_3_0 : decode cJ6_init_3 0 = .ok (.aload_n 0, 1) := dk_42 (dk_at dksJ6_init_3_0 0 rfl rfl)
theorem dJ6_init_3_1 : decode cJ6_init_3 1 = .ok (.invokespecial 1, 3) := dk_183 0 1 (dk_at dksJ6_init_3_0 1 rfl rfl)
theorem dJ6_init_3_4 : decode cJ6_init_3 4 = .ok (.aload_n 0, 1) := dk_42 (dk_at dksJ6_init_3_0 4 rfl rfl)
theorem dJ6_init_3_5 : decode cJ6_init_3 5 = .ok (.aload_n 0, 1) := dk_42 (dk_at dksJ6_init_3_0 5 rfl rfl)
theorem dJ6_init_3_6 : decode cJ6_init_3 6 = .ok (.putfield 7, 3) := dk_181 0 7 (dk_at dksJ6_init_3_0 6 rfl rfl)
theorem dJ6_init_3_9 : decode cJ6_init_3 9 = .ok (.aload_n 0, 1) := dk_42 (dk_at dksJ6_init_3_0 9 rfl rfl)
theorem dJ6_init_3_10 : decode cJ6_init_3 10 = .ok (.getstatic 13, 3) := dk_178 0 13 (dk_at dksJ6_init_3_0 10 rfl rfl)
theorem dJ6_init_3_13 : decode cJ6_init_3 13 = .ok (.putfield 17, 3) := dk_181 0 17 (dk_at dksJ6_init_3_0 13 rfl rfl)
theorem dJ6_init_3_16 : decode cJ6_init_3 16 = .ok (.aload_n 0, 1) := dk_42 (dk_at dksJ6_init_3_0 16 rfl rfl)
theorem dJ6_init_3_17 : decode cJ6_init_3 17 = .ok (.getstatic 20, 3) := dk_178 0 20 (dk_at dksJ6_init_3_0 17 rfl rfl)
theorem dJ6_init_3_20 : decode cJ6_init_3 20 = .ok (.putfield 24, 3) := dk_181 0 24 (dk_at dksJ6_init_3_0 20 rfl rfl)
theorem dJ6_init_3_23 : decode cJ6_init_3 23 = .ok (.iload 4, 2) := dk_21 4 (dk_at dksJ6_init_3_1 0 rfl rfl)
theorem dJ6_init_3_25 : decode cJ6_init_3 25 = .ok (.ifCond .eq 11, 3) := dk_153 0 11 (dk_at dksJ6_init_3_1 2 rfl rfl)
theorem dJ6_init_3_28 : decode cJ6_init_3 28 = .ok (.aload_n 0, 1) := dk_42 (dk_at dksJ6_init_3_1 5 rfl rfl)
theorem dJ6_init_3_29 : decode cJ6_init_3 29 = .ok (.invokevirtual 27, 3) := dk_182 0 27 (dk_at dksJ6_init_3_1 6 rfl rfl)
theorem dJ6_init_3_32 : decode cJ6_init_3 32 = .ok (.pop, 1) := dk_87 (dk_at dksJ6_init_3_1 9 rfl rfl)
theorem dJ6_init_3_33 : decode cJ6_init_3 33 = .ok (.goto 8, 3) := dk_167 0 8 (dk_at dksJ6_init_3_1 10 rfl rfl)
theorem dJ6_init_3_36 : decode cJ6_init_3 36 = .ok (.aload_n 0, 1) := dk_42 (dk_at dksJ6_init_3_1 13 rfl rfl)
theorem dJ6_init_3_37 : decode cJ6_init_3 37 = .ok (.aconst_null, 1) := dk_1 (dk_at dksJ6_init_3_1 14 rfl rfl)
theorem dJ6_init_3_38 : decode cJ6_init_3 38 = .ok (.putfield 17, 3) := dk_181 0 17 (dk_at dksJ6_init_3_1 15 rfl rfl)
theorem dJ6_init_3_41 : decode cJ6_init_3 41 = .ok (.aload_n 0, 1) := dk_42 (dk_at dksJ6_init_3_1 18 rfl rfl)
theorem dJ6_init_3_42 : decode cJ6_init_3 42 = .ok (.aload_n 1, 1) := dk_43 (dk_at dksJ6_init_3_1 19 rfl rfl)
theorem dJ6_init_3_43 : decode cJ6_init_3 43 = .ok (.putfield 31, 3) := dk_181 0 31 (dk_at dksJ6_init_3_1 20 rfl rfl)
theorem dJ6_init_3_46 : decode cJ6_init_3 46 = .ok (.aload_n 0, 1) := dk_42 (dk_at dksJ6_init_3_1 23 rfl rfl)
theorem dJ6_init_3_47 : decode cJ6_init_3 47 = .ok (.aload_n 2, 1) := dk_44 (dk_at dksJ6_init_3_2 0 rfl rfl)
theorem dJ6_init_3_48 : decode cJ6_init_3 48 = .ok (.putfield 7, 3) := dk_181 0 7 (dk_at dksJ6_init_3_2 1 rfl rfl)
theorem dJ6_init_3_51 : decode cJ6_init_3 51 = .ok (.iload_n 3, 1) := dk_29 (dk_at dksJ6_init_3_2 4 rfl rfl)
theorem dJ6_init_3_52 : decode cJ6_init_3 52 = .ok (.ifCond .ne 8, 3) := dk_154 0 8 (dk_at dksJ6_init_3_2 5 rfl rfl)
theorem dJ6_init_3_55 : decode cJ6_init_3 55 = .ok (.aload_n 0, 1) := dk_42 (dk_at dksJ6_init_3_2 8 rfl rfl)
theorem dJ6_init_3_56 : decode cJ6_init_3 56 = .ok (.aconst_null, 1) := dk_1 (dk_at dksJ6_init_3_2 9 rfl rfl)
theorem dJ6_init_3_57 : decode cJ6_init_3 57 = .ok (.putfield 24, 3) := dk_181 0 24 (dk_at dksJ6_init_3_2 10 rfl rfl)
theorem dJ6_init_3_60 : decode cJ6_init_3 60 = .ok (.return_, 1) := dk_177 (dk_at dksJ6_init_3_2 13 rfl rfl)
abbrev cJ7_init : ByteArray := prog_24_method_2_code
def yJ7_init : MethodName := ⟨RJ7, "<init>", "(Ljava/lang/String;)V"⟩
def dkwJ7_init_0 : List UInt8 := [42, 43, 183, 0, 7, 177]
abbrev dktJ7_init_0 : List UInt8 := dkwJ7_init_0 ++ []
theorem dksJ7_init_0 : cJ7_init.data.toList.drop 0 = dktJ7_init_0 := by decide +kernel
theorem dJ7_init_0 : decode cJ7_init 0 = .ok (.aload_n 0, 1) := dk_42 (dk_at dksJ7_init_0 0 rfl rfl)
theorem dJ7_init_1 : decode cJ7_init 1 = .ok (.aload_n 1, 1) := dk_43 (dk_at dksJ7_init_0 1 rfl rfl)
theorem dJ7_init_2 : decode cJ7_init 2 = .ok (.invokespecial 7, 3) := dk_183 0 7 (dk_at dksJ7_init_0 2 rfl rfl)
theorem dJ7_init_5 : decode cJ7_init 5 = .ok (.return_, 1) := dk_177 (dk_at dksJ7_init_0 5 rfl rfl)
abbrev cJ7_init_2 : ByteArray := prog_24_method_1_code
def yJ7_init_2 : MethodName := ⟨RJ7, "<init>", "()V"⟩
theorem dJ7_init_2_0 : decode cJ7_init_2 0 = .ok (.aload_n 0, 1) := by decide +kernel
theorem dJ7_init_2_1 : decode cJ7_init_2 1 = .ok (.invokespecial 1, 3) := by decide +kernel
theorem dJ7_init_2_4 : decode cJ7_init_2 4 = .ok (.return_, 1) := by decide +kernel
abbrev cJ7_init_3 : ByteArray := prog_24_method_5_code
def yJ7_init_3 : MethodName := ⟨RJ7, "<init>", "(Ljava/lang/String;Ljava/lang/Throwable;ZZ)V"⟩
def dkwJ7_init_3_0 : List UInt8 := [42, 43, 44, 29, 21, 4, 183, 0, 16, 177]
abbrev dktJ7_init_3_0 : List UInt8 := dkwJ7_init_3_0 ++ []
theorem dksJ7_init_3_0 : cJ7_init_3.data.toList.drop 0 = dktJ7_init_3_0 := by decide +kernel
theorem dJ7_init_3_0 : decode cJ7_init_3 0 = .ok (.aload_n 0, 1) := dk_42 (dk_at dksJ7_init_3_0 0 rfl rfl)
theorem dJ7_init_3_1 : decode cJ7_init_3 1 = .ok (.aload_n 1, 1) := dk_43 (dk_at dksJ7_init_3_0 1 rfl rfl)
theorem dJ7_init_3_2 : decode cJ7_init_3 2 = .ok (.aload_n 2, 1) := dk_44 (dk_at dksJ7_init_3_0 2 rfl rfl)
theorem dJ7_init_3_3 : decode cJ7_init_3 3 = .ok (.iload_n 3, 1) := dk_29 (dk_at dksJ7_init_3_0 3 rfl rfl)
theorem dJ7_init_3_4 : decode cJ7_init_3 4 = .ok (.iload 4, 2) := dk_21 4 (dk_at dksJ7_init_3_0 4 rfl rfl)
theorem dJ7_init_3_6 : decode cJ7_init_3 6 = .ok (.invokespecial 16, 3) := dk_183 0 16 (dk_at dksJ7_init_3_0 6 rfl rfl)
theorem dJ7_init_3_9 : decode cJ7_init_3 9 = .ok (.return_, 1) := dk_177 (dk_at dksJ7_init_3_0 9 rfl rfl)
abbrev cJ11_init : ByteArray := prog_47_method_1_code
def yJ11_init : MethodName := ⟨RJ11, "<init>", "()V"⟩
theorem dJ11_init_0 : decode cJ11_init 0 = .ok (.aload_n 0, 1) := by decide +kernel
theorem dJ11_init_1 : decode cJ11_init 1 = .ok (.invokespecial 1, 3) := by decide +kernel
theorem dJ11_init_4 : decode cJ11_init 4 = .ok (.return_, 1) := by decide +kernel
abbrev cJ12_init : ByteArray := prog_66_method_1_code
def yJ12_init : MethodName := ⟨RJ12, "<init>", "()V"⟩
def dkwJ12_init_0 : List UInt8 := [42, 183, 0, 1, 42, 3, 181, 0, 7, 42, 3, 181, 0, 13, 42, 1, 181, 0, 16, 177]
abbrev dktJ12_init_0 : List UInt8 := dkwJ12_init_0 ++ []
theorem dksJ12_init_0 : cJ12_init.data.toList.drop 0 = dktJ12_init_0 := by decide +kernel
theorem dJ12_init_0 : decode cJ12_init 0 = .ok (.aload_n 0, 1) := dk_42 (dk_at dksJ12_init_0 0 rfl rfl)
theorem dJ12_init_1 : decode cJ12_init 1 = .ok (.invokespecial 1, 3) := dk_183 0 1 (dk_at dksJ12_init_0 1 rfl rfl)
theorem dJ12_init_4 : decode cJ12_init 4 = .ok (.aload_n 0, 1) := dk_42 (dk_at dksJ12_init_0 4 rfl rfl)
theorem dJ12_init_5 : decode cJ12_init 5 = .ok (.iconst 0, 1) := dk_3 (dk_at dksJ12_init_0 5 rfl rfl)
theorem dJ12_init_6 : decode cJ12_init 6 = .ok (.putfield 7, 3) := dk_181 0 7 (dk_at dksJ12_init_0 6 rfl rfl)
theorem dJ12_init_9 : decode cJ12_init 9 = .ok (.aload_n 0, 1) := dk_42 (dk_at dksJ12_init_0 9 rfl rfl)
theorem dJ12_init_10 : decode cJ12_init 10 = .ok (.iconst 0, 1) := dk_3 (dk_at dksJ12_init_0 10 rfl rfl)
theorem dJ12_init_11 : decode cJ12_init 11 = .ok (.putfield 13, 3) := dk_181 0 13 (dk_at dksJ12_init_0 11 rfl rfl)
theorem dJ12_init_14 : decode cJ12_init 14 = .ok (.aload_n 0, 1) := dk_42 (dk_at dksJ12_init_0 14 rfl rfl)
theorem dJ12_init_15 : decode cJ12_init 15 = .ok (.aconst_null, 1) := dk_1 (dk_at dksJ12_init_0 15 rfl rfl)
theorem dJ12_init_16 : decode cJ12_init 16 = .ok (.putfield 16, 3) := dk_181 0 16 (dk_at dksJ12_init_0 16 rfl rfl)
theorem dJ12_init_19 : decode cJ12_init 19 = .ok (.return_, 1) := dk_177 (dk_at dksJ12_init_0 19 rfl rfl)
abbrev cJ12_containsKey : ByteArray := prog_66_method_6_code
def yJ12_containsKey : MethodName := ⟨RJ12, "containsKey", "(Ljava/lang/Object;)Z"⟩
def dkwJ12_containsKey_0 : List UInt8 := [42, 43, 182, 0, 50, 198, 0, 7, 4, 167, 0, 4, 3, 172]
abbrev dktJ12_containsKey_0 : List UInt8 := dkwJ12_containsKey_0 ++ []
theorem dksJ12_containsKey_0 : cJ12_containsKey.data.toList.drop 0 = dktJ12_containsKey_0 := by decide +kernel
theorem dJ12_containsKey_0 : decode cJ12_containsKey 0 = .ok (.aload_n 0, 1) := dk_42 (dk_at dksJ12_containsKey_0 0 rfl rfl)
theorem dJ12_containsKey_1 : decode cJ12_containsKey 1 = .ok (.aload_n 1, 1) := dk_43 (dk_at dksJ12_containsKey_0 1 rfl rfl)
theorem dJ12_containsKey_2 : decode cJ12_containsKey 2 = .ok (.invokevirtual 50, 3) := dk_182 0 50 (dk_at dksJ12_containsKey_0 2 rfl rfl)
theorem dJ12_containsKey_5 : decode cJ12_containsKey 5 = .ok (.ifnull 7, 3) := dk_198 0 7 (dk_at dksJ12_containsKey_0 5 rfl rfl)
theorem dJ12_containsKey_8 : decode cJ12_containsKey 8 = .ok (.iconst 1, 1) := dk_4 (dk_at dksJ12_containsKey_0 8 rfl rfl)
theorem dJ12_containsKey_9 : decode cJ12_containsKey 9 = .ok (.goto 4, 3) := dk_167 0 4 (dk_at dksJ12_containsKey_0 9 rfl rfl)
theorem dJ12_containsKey_12 : decode cJ12_containsKey 12 = .ok (.iconst 0, 1) := dk_3 (dk_at dksJ12_containsKey_0 12 rfl rfl)
theorem dJ12_containsKey_13 : decode cJ12_containsKey 13 = .ok (.ireturn, 1) := dk_172 (dk_at dksJ12_containsKey_0 13 rfl rfl)
abbrev cJ12_getEntry : ByteArray := prog_66_method_15_code
def yJ12_getEntry : MethodName := ⟨RJ12, "getEntry", "(Ljava/lang/Object;)Ljava/util/TreeMap$Entry;"⟩
def dkwJ12_getEntry_3 : List UInt8 := [45, 176, 167, 255, 212, 1, 176]
abbrev dktJ12_getEntry_3 : List UInt8 := dkwJ12_getEntry_3 ++ []
def dkwJ12_getEntry_2 : List UInt8 := [156, 0, 11, 45, 180, 0, 111, 78, 167, 0, 18, 21, 4, 158, 0, 11, 45, 180, 0, 114, 78, 167, 0, 5]
abbrev dktJ12_getEntry_2 : List UInt8 := dkwJ12_getEntry_2 ++ dktJ12_getEntry_3
def dkwJ12_getEntry_1 : List UInt8 := [180, 0, 101, 78, 45, 198, 0, 46, 44, 45, 180, 0, 105, 185, 0, 107, 2, 0, 54, 4, 21, 4]
abbrev dktJ12_getEntry_1 : List UInt8 := dkwJ12_getEntry_1 ++ dktJ12_getEntry_2
def dkwJ12_getEntry_0 : List UInt8 := [42, 180, 0, 16, 198, 0, 9, 42, 43, 182, 0, 92, 176, 43, 184, 0, 95, 87, 43, 192, 0, 99, 77, 42]
abbrev dktJ12_getEntry_0 : List UInt8 := dkwJ12_getEntry_0 ++ dktJ12_getEntry_1
theorem dksJ12_getEntry_0 : cJ12_getEntry.data.toList.drop 0 = dktJ12_getEntry_0 := by decide +kernel
theorem dksJ12_getEntry_1 : cJ12_getEntry.data.toList.drop 24 = dktJ12_getEntry_1 := dk_seg dksJ12_getEntry_0 24 rfl rfl
theorem dksJ12_getEntry_2 : cJ12_getEntry.data.toList.drop 46 = dktJ12_getEntry_2 := dk_seg dksJ12_getEntry_1 22 rfl rfl
theorem dksJ12_getEntry_3 : cJ12_getEntry.data.toList.drop 70 = dktJ12_getEntry_3 := dk_seg dksJ12_getEntry_2 24 rfl rfl
theorem dJ12_getEntry_0 : decode cJ12_getEntry 0 = .ok (.aload_n 0, 1) := dk_42 (dk_at dksJ12_getEntry_0 0 rfl rfl)
theorem dJ12_getEntry_1 : decode cJ12_getEntry 1 = .ok (.getfield 16, 3) := dk_180 0 16 (dk_at dksJ12_getEntry_0 1 rfl rfl)
theorem dJ12_getEntry_4 : decode cJ12_getEntry 4 = .ok (.ifnull 9, 3) := dk_198 0 9 (dk_at dksJ12_getEntry_0 4 rfl rfl)
theorem dJ12_getEntry_7 : decode cJ12_getEntry 7 = .ok (.aload_n 0, 1) := dk_42 (dk_at dksJ12_getEntry_0 7 rfl rfl)
theorem dJ12_getEntry_8 : decode cJ12_getEntry 8 = .ok (.aload_n 1, 1) := dk_43 (dk_at dksJ12_getEntry_0 8 rfl rfl)
theorem dJ12_getEntry_9 : decode cJ12_getEntry 9 = .ok (.invokevirtual 92, 3) := dk_182 0 92 (dk_at dksJ12_getEntry_0 9 rfl rfl)
theorem dJ12_getEntry_12 : decode cJ12_getEntry 12 = .ok (.areturn, 1) := dk_176 (dk_at dksJ12_getEntry_0 12 rfl rfl)
theorem dJ12_getEntry_13 : decode cJ12_getEntry 13 = .ok (.aload_n 1, 1) := dk_43 (dk_at dksJ12_getEntry_0 13 rfl rfl)
theorem dJ12_getEntry_14 : decode cJ12_getEntry 14 = .ok (.invokestatic 95, 3) := dk_184 0 95 (dk_at dksJ12_getEntry_0 14 rfl rfl)
theorem dJ12_getEntry_17 : decode cJ12_getEntry 17 = .ok (.pop, 1) := dk_87 (dk_at dksJ12_getEntry_0 17 rfl rfl)
theorem dJ12_getEntry_18 : decode cJ12_getEntry 18 = .ok (.aload_n 1, 1) := dk_43 (dk_at dksJ12_getEntry_0 18 rfl rfl)
theorem dJ12_getEntry_19 : decode cJ12_getEntry 19 = .ok (.checkcast 99, 3) := dk_192 0 99 (dk_at dksJ12_getEntry_0 19 rfl rfl)
theorem dJ12_getEntry_22 : decode cJ12_getEntry 22 = .ok (.astore_n 2, 1) := dk_77 (dk_at dksJ12_getEntry_0 22 rfl rfl)
theorem dJ12_getEntry_23 : decode cJ12_getEntry 23 = .ok (.aload_n 0, 1) := dk_42 (dk_at dksJ12_getEntry_0 23 rfl rfl)
theorem dJ12_getEntry_24 : decode cJ12_getEntry 24 = .ok (.getfield 101, 3) := dk_180 0 101 (dk_at dksJ12_getEntry_1 0 rfl rfl)
theorem dJ12_getEntry_27 : decode cJ12_getEntry 27 = .ok (.astore_n 3, 1) := dk_78 (dk_at dksJ12_getEntry_1 3 rfl rfl)
theorem dJ12_getEntry_28 : decode cJ12_getEntry 28 = .ok (.aload_n 3, 1) := dk_45 (dk_at dksJ12_getEntry_1 4 rfl rfl)
theorem dJ12_getEntry_29 : decode cJ12_getEntry 29 = .ok (.ifnull 46, 3) := dk_198 0 46 (dk_at dksJ12_getEntry_1 5 rfl rfl)
theorem dJ12_getEntry_32 : decode cJ12_getEntry 32 = .ok (.aload_n 2, 1) := dk_44 (dk_at dksJ12_getEntry_1 8 rfl rfl)
theorem dJ12_getEntry_33 : decode cJ12_getEntry 33 = .ok (.aload_n 3, 1) := dk_45 (dk_at dksJ12_getEntry_1 9 rfl rfl)
theorem dJ12_getEntry_34 : decode cJ12_getEntry 34 = .ok (.getfield 105, 3) := dk_180 0 105 (dk_at dksJ12_getEntry_1 10 rfl rfl)
theorem dJ12_getEntry_37 : decode cJ12_getEntry 37 = .ok (.invokeinterface 107 2, 5) := by decide +kernel
theorem dJ12_getEntry_42 : decode cJ12_getEntry 42 = .ok (.istore 4, 2) := dk_54 4 (dk_at dksJ12_getEntry_1 18 rfl rfl)
theorem dJ12_getEntry_44 : decode cJ12_getEntry 44 = .ok (.iload 4, 2) := dk_21 4 (dk_at dksJ12_getEntry_1 20 rfl rfl)
theorem dJ12_getEntry_46 : decode cJ12_getEntry 46 = .ok (.ifCond .ge 11, 3) := dk_156 0 11 (dk_at dksJ12_getEntry_2 0 rfl rfl)
theorem dJ12_getEntry_49 : decode cJ12_getEntry 49 = .ok (.aload_n 3, 1) := dk_45 (dk_at dksJ12_getEntry_2 3 rfl rfl)
theorem dJ12_getEntry_50 : decode cJ12_getEntry 50 = .ok (.getfield 111, 3) := dk_180 0 111 (dk_at dksJ12_getEntry_2 4 rfl rfl)
theorem dJ12_getEntry_53 : decode cJ12_getEntry 53 = .ok (.astore_n 3, 1) := dk_78 (dk_at dksJ12_getEntry_2 7 rfl rfl)
theorem dJ12_getEntry_54 : decode cJ12_getEntry 54 = .ok (.goto 18, 3) := dk_167 0 18 (dk_at dksJ12_getEntry_2 8 rfl rfl)
theorem dJ12_getEntry_57 : decode cJ12_getEntry 57 = .ok (.iload 4, 2) := dk_21 4 (dk_at dksJ12_getEntry_2 11 rfl rfl)
theorem dJ12_getEntry_59 : decode cJ12_getEntry 59 = .ok (.ifCond .le 11, 3) := dk_158 0 11 (dk_at dksJ12_getEntry_2 13 rfl rfl)
theorem dJ12_getEntry_62 : decode cJ12_getEntry 62 = .ok (.aload_n 3, 1) := dk_45 (dk_at dksJ12_getEntry_2 16 rfl rfl)
theorem dJ12_getEntry_63 : decode cJ12_getEntry 63 = .ok (.getfield 114, 3) := dk_180 0 114 (dk_at dksJ12_getEntry_2 17 rfl rfl)
theorem dJ12_getEntry_66 : decode cJ12_getEntry 66 = .ok (.astore_n 3, 1) := dk_78 (dk_at dksJ12_getEntry_2 20 rfl rfl)
theorem dJ12_getEntry_67 : decode cJ12_getEntry 67 = .ok (.goto 5, 3) := dk_167 0 5 (dk_at dksJ12_getEntry_2 21 rfl rfl)
theorem dJ12_getEntry_70 : decode cJ12_getEntry 70 = .ok (.aload_n 3, 1) := dk_45 (dk_at dksJ12_getEntry_3 0 rfl rfl)
theorem dJ12_getEntry_71 : decode cJ12_getEntry 71 = .ok (.areturn, 1) := dk_176 (dk_at dksJ12_getEntry_3 1 rfl rfl)
theorem dJ12_getEntry_72 : decode cJ12_getEntry 72 = .ok (.goto (-44), 3) := dk_167 255 212 (dk_at dksJ12_getEntry_3 2 rfl rfl)
theorem dJ12_getEntry_75 : decode cJ12_getEntry 75 = .ok (.aconst_null, 1) := dk_1 (dk_at dksJ12_getEntry_3 5 rfl rfl)
theorem dJ12_getEntry_76 : decode cJ12_getEntry 76 = .ok (.areturn, 1) := dk_176 (dk_at dksJ12_getEntry_3 6 rfl rfl)
abbrev cJ12_getEntryUsingComparator : ByteArray := prog_66_method_16_code
def yJ12_getEntryUsingComparator : MethodName := ⟨RJ12, "getEntryUsingComparator", "(Ljava/lang/Object;)Ljava/util/TreeMap$Entry;"⟩
def dkwJ12_getEntryUsingComparator_3 : List UInt8 := [1, 176]
abbrev dktJ12_getEntryUsingComparator_3 : List UInt8 := dkwJ12_getEntryUsingComparator_3 ++ []
def dkwJ12_getEntryUsingComparator_2 : List UInt8 := [167, 0, 21, 21, 5, 158, 0, 13, 25, 4, 180, 0, 114, 58, 4, 167, 0, 6, 25, 4, 176, 167, 255, 204]
abbrev dktJ12_getEntryUsingComparator_2 : List UInt8 := dkwJ12_getEntryUsingComparator_2 ++ dktJ12_getEntryUsingComparator_3
def dkwJ12_getEntryUsingComparator_1 : List UInt8 := [25, 4, 180, 0, 105, 185, 0, 117, 3, 0, 54, 5, 21, 5, 156, 0, 13, 25, 4, 180, 0, 111, 58, 4]
abbrev dktJ12_getEntryUsingComparator_1 : List UInt8 := dkwJ12_getEntryUsingComparator_1 ++ dktJ12_getEntryUsingComparator_2
def dkwJ12_getEntryUsingComparator_0 : List UInt8 := [43, 77, 42, 180, 0, 16, 78, 45, 198, 0, 64, 42, 180, 0, 101, 58, 4, 25, 4, 198, 0, 53, 45, 44]
abbrev dktJ12_getEntryUsingComparator_0 : List UInt8 := dkwJ12_getEntryUsingComparator_0 ++ dktJ12_getEntryUsingComparator_1
theorem dksJ12_getEntryUsingComparator_0 : cJ12_getEntryUsingComparator.data.toList.drop 0 = dktJ12_getEntryUsingComparator_0 := by decide +kernel
theorem dksJ12_getEntryUsingComparator_1 : cJ12_getEntryUsingComparator.data.toList.drop 24 = dktJ12_getEntryUsingComparator_1 := dk_seg dksJ12_getEntryUsingComparator_0 24 rfl rfl
theorem dksJ12_getEntryUsingComparator_2 : cJ12_getEntryUsingComparator.data.toList.drop 48 = dktJ12_getEntryUsingComparator_2 := dk_seg dksJ12_getEntryUsingComparator_1 24 rfl rfl
theorem dksJ12_getEntryUsingComparator_3 : cJ12_getEntryUsingComparator.data.toList.drop 72 = dktJ12_getEntryUsingComparator_3 := dk_seg dksJ12_getEntryUsingComparator_2 24 rfl rfl
theorem dJ12_getEntryUsingComparator_0 : decode cJ12_getEntryUsingComparator 0 = .ok (.aload_n 1, 1) := dk_43 (dk_at dksJ12_getEntryUsingComparator_0 0 rfl rfl)
theorem dJ12_getEntryUsingComparator_1 : decode cJ12_getEntryUsingComparator 1 = .ok (.astore_n 2, 1) := dk_77 (dk_at dksJ12_getEntryUsingComparator_0 1 rfl rfl)
theorem dJ12_getEntryUsingComparator_2 : decode cJ12_getEntryUsingComparator 2 = .ok (.aload_n 0, 1) := dk_42 (dk_at dksJ12_getEntryUsingComparator_0 2 rfl rfl)
theorem dJ12_getEntryUsingComparator_3 : decode cJ12_getEntryUsingComparator 3 = .ok (.getfield 16, 3) := dk_180 0 16 (dk_at dksJ12_getEntryUsingComparator_0 3 rfl rfl)
theorem dJ12_getEntryUsingComparator_6 : decode cJ12_getEntryUsingComparator 6 = .ok (.astore_n 3, 1) := dk_78 (dk_at dksJ12_getEntryUsingComparator_0 6 rfl rfl)
theorem dJ12_getEntryUsingComparator_7 : decode cJ12_getEntryUsingComparator 7 = .ok (.aload_n 3, 1) := dk_45 (dk_at dksJ12_getEntryUsingComparator_0 7 rfl rfl)
theorem dJ12_getEntryUsingComparator_8 : decode cJ12_getEntryUsingComparator 8 = .ok (.ifnull 64, 3) := dk_198 0 64 (dk_at dksJ12_getEntryUsingComparator_0 8 rfl rfl)
theorem dJ12_getEntryUsingComparator_11 : decode cJ12_getEntryUsingComparator 11 = .ok (.aload_n 0, 1) := dk_42 (dk_at dksJ12_getEntryUsingComparator_0 11 rfl rfl)
theorem dJ12_getEntryUsingComparator_12 : decode cJ12_getEntryUsingComparator 12 = .ok (.getfield 101, 3) := dk_180 0 101 (dk_at dksJ12_getEntryUsingComparator_0 12 rfl rfl)
theorem dJ12_getEntryUsingComparator_15 : decode cJ12_getEntryUsingComparator 15 = .ok (.astore 4, 2) := dk_58 4 (dk_at dksJ12_getEntryUsingComparator_0 15 rfl rfl)
theorem dJ12_getEntryUsingComparator_17 : decode cJ12_getEntryUsingComparator 17 = .ok (.aload 4, 2) := dk_25 4 (dk_at dksJ12_getEntryUsingComparator_0 17 rfl rfl)
theorem dJ12_getEntryUsingComparator_19 : decode cJ12_getEntryUsingComparator 19 = .ok (.ifnull 53, 3) := dk_198 0 53 (dk_at dksJ12_getEntryUsingComparator_0 19 rfl rfl)
theorem dJ12_getEntryUsingComparator_22 : decode cJ12_getEntryUsingComparator 22 = .ok (.aload_n 3, 1) := dk_45 (dk_at dksJ12_getEntryUsingComparator_0 22 rfl rfl)
theorem dJ12_getEntryUsingComparator_23 : decode cJ12_getEntryUsingComparator 23 = .ok (.aload_n 2, 1) := dk_44 (dk_at dksJ12_getEntryUsingComparator_0 23 rfl rfl)
theorem dJ12_getEntryUsingComparator_24 : decode cJ12_getEntryUsingComparator 24 = .ok (.aload 4, 2) := dk_25 4 (dk_at dksJ12_getEntryUsingComparator_1 0 rfl rfl)
theorem dJ12_getEntryUsingComparator_26 : decode cJ12_getEntryUsingComparator 26 = .ok (.getfield 105, 3) := dk_180 0 105 (dk_at dksJ12_getEntryUsingComparator_1 2 rfl rfl)
theorem dJ12_getEntryUsingComparator_29 : decode cJ12_getEntryUsingComparator 29 = .ok (.invokeinterface 117 3, 5) := by decide +kernel
theorem dJ12_getEntryUsingComparator_34 : decode cJ12_getEntryUsingComparator 34 = .ok (.istore 5, 2) := dk_54 5 (dk_at dksJ12_getEntryUsingComparator_1 10 rfl rfl)
theorem dJ12_getEntryUsingComparator_36 : decode cJ12_getEntryUsingComparator 36 = .ok (.iload 5, 2) := dk_21 5 (dk_at dksJ12_getEntryUsingComparator_1 12 rfl rfl)
theorem dJ12_getEntryUsingComparator_38 : decode cJ12_getEntryUsingComparator 38 = .ok (.ifCond .ge 13, 3) := dk_156 0 13 (dk_at dksJ12_getEntryUsingComparator_1 14 rfl rfl)
theorem dJ12_getEntryUsingComparator_41 : decode cJ12_getEntryUsingComparator 41 = .ok (.aload 4, 2) := dk_25 4 (dk_at dksJ12_getEntryUsingComparator_1 17 rfl rfl)
theorem dJ12_getEntryUsingComparator_43 : decode cJ12_getEntryUsingComparator 43 = .ok (.getfield 111, 3) := dk_180 0 111 (dk_at dksJ12_getEntryUsingComparator_1 19 rfl rfl)
theorem dJ12_getEntryUsingComparator_46 : decode cJ12_getEntryUsingComparator 46 = .ok (.astore 4, 2) := dk_58 4 (dk_at dksJ12_getEntryUsingComparator_1 22 rfl rfl)
theorem dJ12_getEntryUsingComparator_48 : decode cJ12_getEntryUsingComparator 48 = .ok (.goto 21, 3) := dk_167 0 21 (dk_at dksJ12_getEntryUsingComparator_2 0 rfl rfl)
theorem dJ12_getEntryUsingComparator_51 : decode cJ12_getEntryUsingComparator 51 = .ok (.iload 5, 2) := dk_21 5 (dk_at dksJ12_getEntryUsingComparator_2 3 rfl rfl)
theorem dJ12_getEntryUsingComparator_53 : decode cJ12_getEntryUsingComparator 53 = .ok (.ifCond .le 13, 3) := dk_158 0 13 (dk_at dksJ12_getEntryUsingComparator_2 5 rfl rfl)
theorem dJ12_getEntryUsingComparator_56 : decode cJ12_getEntryUsingComparator 56 = .ok (.aload 4, 2) := dk_25 4 (dk_at dksJ12_getEntryUsingComparator_2 8 rfl rfl)
theorem dJ12_getEntryUsingComparator_58 : decode cJ12_getEntryUsingComparator 58 = .ok (.getfield 114, 3) := dk_180 0 114 (dk_at dksJ12_getEntryUsingComparator_2 10 rfl rfl)
theorem dJ12_getEntryUsingComparator_61 : decode cJ12_getEntryUsingComparator 61 = .ok (.astore 4, 2) := dk_58 4 (dk_at dksJ12_getEntryUsingComparator_2 13 rfl rfl)
theorem dJ12_getEntryUsingComparator_63 : decode cJ12_getEntryUsingComparator 63 = .ok (.goto 6, 3) := dk_167 0 6 (dk_at dksJ12_getEntryUsingComparator_2 15 rfl rfl)
theorem dJ12_getEntryUsingComparator_66 : decode cJ12_getEntryUsingComparator 66 = .ok (.aload 4, 2) := dk_25 4 (dk_at dksJ12_getEntryUsingComparator_2 18 rfl rfl)
theorem dJ12_getEntryUsingComparator_68 : decode cJ12_getEntryUsingComparator 68 = .ok (.areturn, 1) := dk_176 (dk_at dksJ12_getEntryUsingComparator_2 20 rfl rfl)
theorem dJ12_getEntryUsingComparator_69 : decode cJ12_getEntryUsingComparator 69 = .ok (.goto (-52), 3) := dk_167 255 204 (dk_at dksJ12_getEntryUsingComparator_2 21 rfl rfl)
theorem dJ12_getEntryUsingComparator_72 : decode cJ12_getEntryUsingComparator 72 = .ok (.aconst_null, 1) := dk_1 (dk_at dksJ12_getEntryUsingComparator_3 0 rfl rfl)
theorem dJ12_getEntryUsingComparator_73 : decode cJ12_getEntryUsingComparator 73 = .ok (.areturn, 1) := dk_176 (dk_at dksJ12_getEntryUsingComparator_3 1 rfl rfl)
abbrev cJ12_put : ByteArray := prog_66_method_21_code
def yJ12_put : MethodName := ⟨RJ12, "put", "(Ljava/lang/Object;Ljava/lang/Object;)Ljava/lang/Object;"⟩
def dkwJ12_put_0 : List UInt8 := [42, 43, 44, 4, 182, 0, 127, 176]
abbrev dktJ12_put_0 : List UInt8 := dkwJ12_put_0 ++ []
theorem dksJ12_put_0 : cJ12_put.data.toList.drop 0 = dktJ12_put_0 := by decide +kernel
theorem dJ12_put_0 : decode cJ12_put 0 = .ok (.aload_n 0, 1) := dk_42 (dk_at dksJ12_put_0 0 rfl rfl)
theorem dJ12_put_1 : decode cJ12_put 1 = .ok (.aload_n 1, 1) := dk_43 (dk_at dksJ12_put_0 1 rfl rfl)
theorem dJ12_put_2 : decode cJ12_put 2 = .ok (.aload_n 2, 1) := dk_44 (dk_at dksJ12_put_0 2 rfl rfl)
theorem dJ12_put_3 : decode cJ12_put 3 = .ok (.iconst 1, 1) := dk_4 (dk_at dksJ12_put_0 3 rfl rfl)
theorem dJ12_put_4 : decode cJ12_put 4 = .ok (.invokevirtual 127, 3) := dk_182 0 127 (dk_at dksJ12_put_0 4 rfl rfl)
theorem dJ12_put_7 : decode cJ12_put 7 = .ok (.areturn, 1) := dk_176 (dk_at dksJ12_put_0 7 rfl rfl)
abbrev cJ12_put_2 : ByteArray := prog_66_method_31_code
def yJ12_put_2 : MethodName := ⟨RJ12, "put", "(Ljava/lang/Object;Ljava/lang/Object;Z)Ljava/lang/Object;"⟩
def dkwJ12_put_2_9 : List UInt8 := [4, 167, 0, 4, 3, 182, 0, 139, 1, 176]
abbrev dktJ12_put_2_9 : List UInt8 := dkwJ12_put_2_9 ++ []
def dkwJ12_put_2_8 : List UInt8 := [25, 4, 44, 181, 0, 58, 25, 9, 176, 25, 4, 199, 255, 181, 42, 43, 44, 25, 6, 21, 5, 156, 0, 7]
abbrev dktJ12_put_2_8 : List UInt8 := dkwJ12_put_2_8 ++ dktJ12_put_2_9
def dkwJ12_put_2_7 : List UInt8 := [180, 0, 114, 58, 4, 167, 0, 28, 25, 4, 180, 0, 58, 58, 9, 29, 154, 0, 8, 25, 9, 199, 0, 9]
abbrev dktJ12_put_2_7 : List UInt8 := dkwJ12_put_2_7 ++ dktJ12_put_2_8
def dkwJ12_put_2_6 : List UInt8 := [21, 5, 156, 0, 13, 25, 4, 180, 0, 111, 58, 4, 167, 0, 43, 21, 5, 158, 0, 13, 25, 4]
abbrev dktJ12_put_2_6 : List UInt8 := dkwJ12_put_2_6 ++ dktJ12_put_2_7
def dkwJ12_put_2_5 : List UInt8 := [192, 0, 99, 58, 8, 25, 4, 58, 6, 25, 8, 25, 4, 180, 0, 105, 185, 0, 107, 2, 0, 54, 5]
abbrev dktJ12_put_2_5 : List UInt8 := dkwJ12_put_2_5 ++ dktJ12_put_2_6
def dkwJ12_put_2_4 : List UInt8 := [25, 4, 44, 181, 0, 58, 25, 8, 176, 25, 4, 199, 255, 180, 167, 0, 92, 43, 184, 0, 95, 87, 43]
abbrev dktJ12_put_2_4 : List UInt8 := dkwJ12_put_2_4 ++ dktJ12_put_2_5
def dkwJ12_put_2_3 : List UInt8 := [180, 0, 114, 58, 4, 167, 0, 28, 25, 4, 180, 0, 58, 58, 8, 29, 154, 0, 8, 25, 8, 199, 0, 9]
abbrev dktJ12_put_2_3 : List UInt8 := dkwJ12_put_2_3 ++ dktJ12_put_2_4
def dkwJ12_put_2_2 : List UInt8 := [54, 5, 21, 5, 156, 0, 13, 25, 4, 180, 0, 111, 58, 4, 167, 0, 43, 21, 5, 158, 0, 13, 25, 4]
abbrev dktJ12_put_2_2 : List UInt8 := dkwJ12_put_2_2 ++ dktJ12_put_2_3
def dkwJ12_put_2_1 : List UInt8 := [58, 7, 25, 7, 198, 0, 85, 25, 4, 58, 6, 25, 7, 43, 25, 4, 180, 0, 105, 185, 0, 117, 3, 0]
abbrev dktJ12_put_2_1 : List UInt8 := dkwJ12_put_2_1 ++ dktJ12_put_2_2
def dkwJ12_put_2_0 : List UInt8 := [42, 180, 0, 101, 58, 4, 25, 4, 199, 0, 11, 42, 43, 44, 182, 0, 135, 1, 176, 42, 180, 0, 16]
abbrev dktJ12_put_2_0 : List UInt8 := dkwJ12_put_2_0 ++ dktJ12_put_2_1
theorem dksJ12_put_2_0 : cJ12_put_2.data.toList.drop 0 = dktJ12_put_2_0 := by decide +kernel
theorem dksJ12_put_2_1 : cJ12_put_2.data.toList.drop 23 = dktJ12_put_2_1 := dk_seg dksJ12_put_2_0 23 rfl rfl
theorem dksJ12_put_2_2 : cJ12_put_2.data.toList.drop 47 = dktJ12_put_2_2 := dk_seg dksJ12_put_2_1 24 rfl rfl
theorem dksJ12_put_2_3 : cJ12_put_2.data.toList.drop 71 = dktJ12_put_2_3 := dk_seg dksJ12_put_2_2 24 rfl rfl
theorem dksJ12_put_2_4 : cJ12_put_2.data.toList.drop 95 = dktJ12_put_2_4 := dk_seg dksJ12_put_2_3 24 rfl rfl
theorem dksJ12_put_2_5 : cJ12_put_2.data.toList.drop 118 = dktJ12_put_2_5 := dk_seg dksJ12_put_2_4 23 rfl rfl
theorem dksJ12_put_2_6 : cJ12_put_2.data.toList.drop 141 = dktJ12_put_2_6 := dk_seg dksJ12_put_2_5 23 rfl rfl
theorem dksJ12_put_2_7 : cJ12_put_2.data.toList.drop 163 = dktJ12_put_2_7 := dk_seg dksJ12_put_2_6 22 rfl rfl
theorem dksJ12_put_2_8 : cJ12_put_2.data.toList.drop 187 = dktJ12_put_2_8 := dk_seg dksJ12_put_2_7 24 rfl rfl
theorem dksJ12_put_2_9 : cJ12_put_2.data.toList.drop 211 = dktJ12_put_2_9 := dk_seg dksJ12_put_2_8 24 rfl rfl
theorem dJ12_put_2_0 : decode cJ12_put_2 0 = .ok (.aload_n 0, 1) := dk_42 (dk_at dksJ12_put_2_0 0 rfl rfl)
theorem dJ12_put_2_1 : decode cJ12_put_2 1 = .ok (.getfield 101, 3) := dk_180 0 101 (dk_at dksJ12_put_2_0 1 rfl rfl)
theorem dJ12_put_2_4 : decode cJ12_put_2 4 = .ok (.astore 4, 2) := dk_58 4 (dk_at dksJ12_put_2_0 4 rfl rfl)
theorem dJ12_put_2_6 : decode cJ12_put_2 6 = .ok (.aload 4, 2) := dk_25 4 (dk_at dksJ12_put_2_0 6 rfl rfl)
theorem dJ12_put_2_8 : decode cJ12_put_2 8 = .ok (.ifnonnull 11, 3) := dk_199 0 11 (dk_at dksJ12_put_2_0 8 rfl rfl)
theorem dJ12_put_2_11 : decode cJ12_put_2 11 = .ok (.aload_n 0, 1) := dk_42 (dk_at dksJ12_put_2_0 11 rfl rfl)
theorem dJ12_put_2_12 : decode cJ12_put_2 12 = .ok (.aload_n 1, 1) := dk_43 (dk_at dksJ12_put_2_0 12 rfl rfl)
theorem dJ12_put_2_13 : decode cJ12_put_2 13 = .ok (.aload_n 2, 1) := dk_44 (dk_at dksJ12_put_2_0 13 rfl rfl)
theorem dJ12_put_2_14 : decode cJ12_put_2 14 = .ok (.invokevirtual 135, 3) := dk_182 0 135 (dk_at dksJ12_put_2_0 14 rfl rfl)
theorem dJ12_put_2_17 : decode cJ12_put_2 17 = .ok (.aconst_null, 1) := dk_1 (dk_at dksJ12_put_2_0 17 rfl rfl)
theorem dJ12_put_2_18 : decode cJ12_put_2 18 = .ok (.areturn, 1) := dk_176 (dk_at dksJ12_put_2_0 18 rfl rfl)
theorem dJ12_put_2_19 : decode cJ12_put_2 19 = .ok (.aload_n 0, 1) := dk_42 (dk_at dksJ12_put_2_0 19 rfl rfl)
theorem dJ12_put_2_20 : decode cJ12_put_2 20 = .ok (.getfield 16, 3) := dk_180 0 16 (dk_at dksJ12_put_2_0 20 rfl rfl)
theorem dJ12_put_2_23 : decode cJ12_put_2 23 = .ok (.astore 7, 2) := dk_58 7 (dk_at dksJ12_put_2_1 0 rfl rfl)
theorem dJ12_put_2_25 : decode cJ12_put_2 25 = .ok (.aload 7, 2) := dk_25 7 (dk_at dksJ12_put_2_1 2 rfl rfl)
theorem dJ12_put_2_27 : decode cJ12_put_2 27 = .ok (.ifnull 85, 3) := dk_198 0 85 (dk_at dksJ12_put_2_1 4 rfl rfl)
theorem dJ12_put_2_30 : decode cJ12_put_2 30 = .ok (.aload 4, 2) := dk_25 4 (dk_at dksJ12_put_2_1 7 rfl rfl)
theorem dJ12_put_2_32 : decode cJ12_put_2 32 = .ok (.astore 6, 2) := dk_58 6 (dk_at dksJ12_put_2_1 9 rfl rfl)
theorem dJ12_put_2_34 : decode cJ12_put_2 34 = .ok (.aload 7, 2) := dk_25 7 (dk_at dksJ12_put_2_1 11 rfl rfl)
theorem dJ12_put_2_36 : decode cJ12_put_2 36 = .ok (.aload_n 1, 1) := dk_43 (dk_at dksJ12_put_2_1 13 rfl rfl)
theorem dJ12_put_2_37 : decode cJ12_put_2 37 = .ok (.aload 4, 2) := dk_25 4 (dk_at dksJ12_put_2_1 14 rfl rfl)
theorem dJ12_put_2_39 : decode cJ12_put_2 39 = .ok (.getfield 105, 3) := dk_180 0 105 (dk_at dksJ12_put_2_1 16 rfl rfl)
theorem dJ12_put_2_42 : decode cJ12_put_2 42 = .ok (.invokeinterface 117 3, 5) := by decide +kernel
theorem dJ12_put_2_47 : decode cJ12_put_2 47 = .ok (.istore 5, 2) := dk_54 5 (dk_at dksJ12_put_2_2 0 rfl rfl)
theorem dJ12_put_2_49 : decode cJ12_put_2 49 = .ok (.iload 5, 2) := dk_21 5 (dk_at dksJ12_put_2_2 2 rfl rfl)
theorem dJ12_put_2_51 : decode cJ12_put_2 51 = .ok (.ifCond .ge 13, 3) := dk_156 0 13 (dk_at dksJ12_put_2_2 4 rfl rfl)
theorem dJ12_put_2_54 : decode cJ12_put_2 54 = .ok (.aload 4, 2) := dk_25 4 (dk_at dksJ12_put_2_2 7 rfl rfl)
theorem dJ12_put_2_56 : decode cJ12_put_2 56 = .ok (.getfield 111, 3) := dk_180 0 111 (dk_at dksJ12_put_2_2 9 rfl rfl)
theorem dJ12_put_2_59 : decode cJ12_put_2 59 = .ok (.astore 4, 2) := dk_58 4 (dk_at dksJ12_put_2_2 12 rfl rfl)
theorem dJ12_put_2_61 : decode cJ12_put_2 61 = .ok (.goto 43, 3) := dk_167 0 43 (dk_at dksJ12_put_2_2 14 rfl rfl)
theorem dJ12_put_2_64 : decode cJ12_put_2 64 = .ok (.iload 5, 2) := dk_21 5 (dk_at dksJ12_put_2_2 17 rfl rfl)
theorem dJ12_put_2_66 : decode cJ12_put_2 66 = .ok (.ifCond .le 13, 3) := dk_158 0 13 (dk_at dksJ12_put_2_2 19 rfl rfl)
theorem dJ12_put_2_69 : decode cJ12_put_2 69 = .ok (.aload 4, 2) := dk_25 4 (dk_at dksJ12_put_2_2 22 rfl rfl)
theorem dJ12_put_2_71 : decode cJ12_put_2 71 = .ok (.getfield 114, 3) := dk_180 0 114 (dk_at dksJ12_put_2_3 0 rfl rfl)
theorem dJ12_put_2_74 : decode cJ12_put_2 74 = .ok (.astore 4, 2) := dk_58 4 (dk_at dksJ12_put_2_3 3 rfl rfl)
theorem dJ12_put_2_76 : decode cJ12_put_2 76 = .ok (.goto 28, 3) := dk_167 0 28 (dk_at dksJ12_put_2_3 5 rfl rfl)
theorem dJ12_put_2_79 : decode cJ12_put_2 79 = .ok (.aload 4, 2) := dk_25 4 (dk_at dksJ12_put_2_3 8 rfl rfl)
theorem dJ12_put_2_81 : decode cJ12_put_2 81 = .ok (.getfield 58, 3) := dk_180 0 58 (dk_at dksJ12_put_2_3 10 rfl rfl)
theorem dJ12_put_2_84 : decode cJ12_put_2 84 = .ok (.astore 8, 2) := dk_58 8 (dk_at dksJ12_put_2_3 13 rfl rfl)
theorem dJ12_put_2_86 : decode cJ12_put_2 86 = .ok (.iload_n 3, 1) := dk_29 (dk_at dksJ12_put_2_3 15 rfl rfl)
theorem dJ12_put_2_87 : decode cJ12_put_2 87 = .ok (.ifCond .ne 8, 3) := dk_154 0 8 (dk_at dksJ12_put_2_3 16 rfl rfl)
theorem dJ12_put_2_90 : decode cJ12_put_2 90 = .ok (.aload 8, 2) := dk_25 8 (dk_at dksJ12_put_2_3 19 rfl rfl)
theorem dJ12_put_2_92 : decode cJ12_put_2 92 = .ok (.ifnonnull 9, 3) := dk_199 0 9 (dk_at dksJ12_put_2_3 21 rfl rfl)
theorem dJ12_put_2_95 : decode cJ12_put_2 95 = .ok (.aload 4, 2) := dk_25 4 (dk_at dksJ12_put_2_4 0 rfl rfl)
theorem dJ12_put_2_97 : decode cJ12_put_2 97 = .ok (.aload_n 2, 1) := dk_44 (dk_at dksJ12_put_2_4 2 rfl rfl)
theorem dJ12_put_2_98 : decode cJ12_put_2 98 = .ok (.putfield 58, 3) := dk_181 0 58 (dk_at dksJ12_put_2_4 3 rfl rfl)
theorem dJ12_put_2_101 : decode cJ12_put_2 101 = .ok (.aload 8, 2) := dk_25 8 (dk_at dksJ12_put_2_4 6 rfl rfl)
theorem dJ12_put_2_103 : decode cJ12_put_2 103 = .ok (.areturn, 1) := dk_176 (dk_at dksJ12_put_2_4 8 rfl rfl)
theorem dJ12_put_2_104 : decode cJ12_put_2 104 = .ok (.aload 4, 2) := dk_25 4 (dk_at dksJ12_put_2_4 9 rfl rfl)
theorem dJ12_put_2_106 : decode cJ12_put_2 106 = .ok (.ifnonnull (-76), 3) := dk_199 255 180 (dk_at dksJ12_put_2_4 11 rfl rfl)
theorem dJ12_put_2_109 : decode cJ12_put_2 109 = .ok (.goto 92, 3) := dk_167 0 92 (dk_at dksJ12_put_2_4 14 rfl rfl)
theorem dJ12_put_2_112 : decode cJ12_put_2 112 = .ok (.aload_n 1, 1) := dk_43 (dk_at dksJ12_put_2_4 17 rfl rfl)
theorem dJ12_put_2_113 : decode cJ12_put_2 113 = .ok (.invokestatic 95, 3) := dk_184 0 95 (dk_at dksJ12_put_2_4 18 rfl rfl)
theorem dJ12_put_2_116 : decode cJ12_put_2 116 = .ok (.pop, 1) := dk_87 (dk_at dksJ12_put_2_4 21 rfl rfl)
theorem dJ12_put_2_117 : decode cJ12_put_2 117 = .ok (.aload_n 1, 1) := dk_43 (dk_at dksJ12_put_2_4 22 rfl rfl)
theorem dJ12_put_2_118 : decode cJ12_put_2 118 = .ok (.checkcast 99, 3) := dk_192 0 99 (dk_at dksJ12_put_2_5 0 rfl rfl)
theorem dJ12_put_2_121 : decode cJ12_put_2 121 = .ok (.astore 8, 2) := dk_58 8 (dk_at dksJ12_put_2_5 3 rfl rfl)
theorem dJ12_put_2_123 : decode cJ12_put_2 123 = .ok (.aload 4, 2) := dk_25 4 (dk_at dksJ12_put_2_5 5 rfl rfl)
theorem dJ12_put_2_125 : decode cJ12_put_2 125 = .ok (.astore 6, 2) := dk_58 6 (dk_at dksJ12_put_2_5 7 rfl rfl)
theorem dJ12_put_2_127 : decode cJ12_put_2 127 = .ok (.aload 8, 2) := dk_25 8 (dk_at dksJ12_put_2_5 9 rfl rfl)
theorem dJ12_put_2_129 : decode cJ12_put_2 129 = .ok (.aload 4, 2) := dk_25 4 (dk_at dksJ12_put_2_5 11 rfl rfl)
theorem dJ12_put_2_131 : decode cJ12_put_2 131 = .ok (.getfield 105, 3) := dk_180 0 105 (dk_at dksJ12_put_2_5 13 rfl rfl)
theorem dJ12_put_2_134 : decode cJ12_put_2 134 = .ok (.invokeinterface 107 2, 5) := by decide +kernel
theorem dJ12_put_2_139 : decode cJ12_put_2 139 = .ok (.istore 5, 2) := dk_54 5 (dk_at dksJ12_put_2_5 21 rfl rfl)
theorem dJ12_put_2_141 : decode cJ12_put_2 141 = .ok (.iload 5, 2) := dk_21 5 (dk_at dksJ12_put_2_6 0 rfl rfl)
theorem dJ12_put_2_143 : decode cJ12_put_2 143 = .ok (.ifCond .ge 13, 3) := dk_156 0 13 (dk_at dksJ12_put_2_6 2 rfl rfl)
theorem dJ12_put_2_146 : decode cJ12_put_2 146 = .ok (.aload 4, 2) := dk_25 4 (dk_at dksJ12_put_2_6 5 rfl rfl)
theorem dJ12_put_2_148 : decode cJ12_put_2 148 = .ok (.getfield 111, 3) := dk_180 0 111 (dk_at dksJ12_put_2_6 7 rfl rfl)
theorem dJ12_put_2_151 : decode cJ12_put_2 151 = .ok (.astore 4, 2) := dk_58 4 (dk_at dksJ12_put_2_6 10 rfl rfl)
theorem dJ12_put_2_153 : decode cJ12_put_2 153 = .ok (.goto 43, 3) := dk_167 0 43 (dk_at dksJ12_put_2_6 12 rfl rfl)
theorem dJ12_put_2_156 : decode cJ12_put_2 156 = .ok (.iload 5, 2) := dk_21 5 (dk_at dksJ12_put_2_6 15 rfl rfl)
theorem dJ12_put_2_158 : decode cJ12_put_2 158 = .ok (.ifCond .le 13, 3) := dk_158 0 13 (dk_at dksJ12_put_2_6 17 rfl rfl)
theorem dJ12_put_2_161 : decode cJ12_put_2 161 = .ok (.aload 4, 2) := dk_25 4 (dk_at dksJ12_put_2_6 20 rfl rfl)
theorem dJ12_put_2_163 : decode cJ12_put_2 163 = .ok (.getfield 114, 3) := dk_180 0 114 (dk_at dksJ12_put_2_7 0 rfl rfl)
theorem dJ12_put_2_166 : decode cJ12_put_2 166 = .ok (.astore 4, 2) := dk_58 4 (dk_at dksJ12_put_2_7 3 rfl rfl)
theorem dJ12_put_2_168 : decode cJ12_put_2 168 = .ok (.goto 28, 3) := dk_167 0 28 (dk_at dksJ12_put_2_7 5 rfl rfl)
theorem dJ12_put_2_171 : decode cJ12_put_2 171 = .ok (.aload 4, 2) := dk_25 4 (dk_at dksJ12_put_2_7 8 rfl rfl)
theorem dJ12_put_2_173 : decode cJ12_put_2 173 = .ok (.getfield 58, 3) := dk_180 0 58 (dk_at dksJ12_put_2_7 10 rfl rfl)
theorem dJ12_put_2_176 : decode cJ12_put_2 176 = .ok (.astore 9, 2) := dk_58 9 (dk_at dksJ12_put_2_7 13 rfl rfl)
theorem dJ12_put_2_178 : decode cJ12_put_2 178 = .ok (.iload_n 3, 1) := dk_29 (dk_at dksJ12_put_2_7 15 rfl rfl)
theorem dJ12_put_2_179 : decode cJ12_put_2 179 = .ok (.ifCond .ne 8, 3) := dk_154 0 8 (dk_at dksJ12_put_2_7 16 rfl rfl)
theorem dJ12_put_2_182 : decode cJ12_put_2 182 = .ok (.aload 9, 2) := dk_25 9 (dk_at dksJ12_put_2_7 19 rfl rfl)
theorem dJ12_put_2_184 : decode cJ12_put_2 184 = .ok (.ifnonnull 9, 3) := dk_199 0 9 (dk_at dksJ12_put_2_7 21 rfl rfl)
theorem dJ12_put_2_187 : decode cJ12_put_2 187 = .ok (.aload 4, 2) := dk_25 4 (dk_at dksJ12_put_2_8 0 rfl rfl)
theorem dJ12_put_2_189 : decode cJ12_put_2 189 = .ok (.aload_n 2, 1) := dk_44 (dk_at dksJ12_put_2_8 2 rfl rfl)
theorem dJ12_put_2_190 : decode cJ12_put_2 190 = .ok (.putfield 58, 3) := dk_181 0 58 (dk_at dksJ12_put_2_8 3 rfl rfl)
theorem dJ12_put_2_193 : decode cJ12_put_2 193 = .ok (.aload 9, 2) := dk_25 9 (dk_at dksJ12_put_2_8 6 rfl rfl)
theorem dJ12_put_2_195 : decode cJ12_put_2 195 = .ok (.areturn, 1) := dk_176 (dk_at dksJ12_put_2_8 8 rfl rfl)
theorem dJ12_put_2_196 : decode cJ12_put_2 196 = .ok (.aload 4, 2) := dk_25 4 (dk_at dksJ12_put_2_8 9 rfl rfl)
theorem dJ12_put_2_198 : decode cJ12_put_2 198 = .ok (.ifnonnull (-75), 3) := dk_199 255 181 (dk_at dksJ12_put_2_8 11 rfl rfl)
theorem dJ12_put_2_201 : decode cJ12_put_2 201 = .ok (.aload_n 0, 1) := dk_42 (dk_at dksJ12_put_2_8 14 rfl rfl)
theorem dJ12_put_2_202 : decode cJ12_put_2 202 = .ok (.aload_n 1, 1) := dk_43 (dk_at dksJ12_put_2_8 15 rfl rfl)
theorem dJ12_put_2_203 : decode cJ12_put_2 203 = .ok (.aload_n 2, 1) := dk_44 (dk_at dksJ12_put_2_8 16 rfl rfl)
theorem dJ12_put_2_204 : decode cJ12_put_2 204 = .ok (.aload 6, 2) := dk_25 6 (dk_at dksJ12_put_2_8 17 rfl rfl)
theorem dJ12_put_2_206 : decode cJ12_put_2 206 = .ok (.iload 5, 2) := dk_21 5 (dk_at dksJ12_put_2_8 19 rfl rfl)
theorem dJ12_put_2_208 : decode cJ12_put_2 208 = .ok (.ifCond .ge 7, 3) := dk_156 0 7 (dk_at dksJ12_put_2_8 21 rfl rfl)
theorem dJ12_put_2_211 : decode cJ12_put_2 211 = .ok (.iconst 1, 1) := dk_4 (dk_at dksJ12_put_2_9 0 rfl rfl)
theorem dJ12_put_2_212 : decode cJ12_put_2 212 = .ok (.goto 4, 3) := dk_167 0 4 (dk_at dksJ12_put_2_9 1 rfl rfl)
theorem dJ12_put_2_215 : decode cJ12_put_2 215 = .ok (.iconst 0, 1) := dk_3 (dk_at dksJ12_put_2_9 4 rfl rfl)
theorem dJ12_put_2_216 : decode cJ12_put_2 216 = .ok (.invokevirtual 139, 3) := dk_182 0 139 (dk_at dksJ12_put_2_9 5 rfl rfl)
theorem dJ12_put_2_219 : decode cJ12_put_2 219 = .ok (.aconst_null, 1) := dk_1 (dk_at dksJ12_put_2_9 8 rfl rfl)
theorem dJ12_put_2_220 : decode cJ12_put_2 220 = .ok (.areturn, 1) := dk_176 (dk_at dksJ12_put_2_9 9 rfl rfl)
abbrev cJ12_addEntryToEmptyMap : ByteArray := prog_66_method_30_code
def yJ12_addEntryToEmptyMap : MethodName := ⟨RJ12, "addEntryToEmptyMap", "(Ljava/lang/Object;Ljava/lang/Object;)V"⟩
def dkwJ12_addEntryToEmptyMap_1 : List UInt8 := [181, 0, 7, 42, 89, 180, 0, 13, 4, 96, 181, 0, 13, 177]
abbrev dktJ12_addEntryToEmptyMap_1 : List UInt8 := dkwJ12_addEntryToEmptyMap_1 ++ []
def dkwJ12_addEntryToEmptyMap_0 : List UInt8 := [42, 43, 43, 182, 0, 123, 87, 42, 187, 0, 59, 89, 43, 44, 1, 183, 0, 167, 181, 0, 101, 42, 4]
abbrev dktJ12_addEntryToEmptyMap_0 : List UInt8 := dkwJ12_addEntryToEmptyMap_0 ++ dktJ12_addEntryToEmptyMap_1
theorem dksJ12_addEntryToEmptyMap_0 : cJ12_addEntryToEmptyMap.data.toList.drop 0 = dktJ12_addEntryToEmptyMap_0 := by decide +kernel
theorem dksJ12_addEntryToEmptyMap_1 : cJ12_addEntryToEmptyMap.data.toList.drop 23 = dktJ12_addEntryToEmptyMap_1 := dk_seg dksJ12_addEntryToEmptyMap_0 23 rfl rfl
theorem dJ12_addEntryToEmptyMap_0 : decode cJ12_addEntryToEmptyMap 0 = .ok (.aload_n 0, 1) := dk_42 (dk_at dksJ12_addEntryToEmptyMap_0 0 rfl rfl)
theorem dJ12_addEntryToEmptyMap_1 : decode cJ12_addEntryToEmptyMap 1 = .ok (.aload_n 1, 1) := dk_43 (dk_at dksJ12_addEntryToEmptyMap_0 1 rfl rfl)
theorem dJ12_addEntryToEmptyMap_2 : decode cJ12_addEntryToEmptyMap 2 = .ok (.aload_n 1, 1) := dk_43 (dk_at dksJ12_addEntryToEmptyMap_0 2 rfl rfl)
theorem dJ12_addEntryToEmptyMap_3 : decode cJ12_addEntryToEmptyMap 3 = .ok (.invokevirtual 123, 3) := dk_182 0 123 (dk_at dksJ12_addEntryToEmptyMap_0 3 rfl rfl)
theorem dJ12_addEntryToEmptyMap_6 : decode cJ12_addEntryToEmptyMap 6 = .ok (.pop, 1) := dk_87 (dk_at dksJ12_addEntryToEmptyMap_0 6 rfl rfl)
theorem dJ12_addEntryToEmptyMap_7 : decode cJ12_addEntryToEmptyMap 7 = .ok (.aload_n 0, 1) := dk_42 (dk_at dksJ12_addEntryToEmptyMap_0 7 rfl rfl)
theorem dJ12_addEntryToEmptyMap_8 : decode cJ12_addEntryToEmptyMap 8 = .ok (.new 59, 3) := dk_187 0 59 (dk_at dksJ12_addEntryToEmptyMap_0 8 rfl rfl)
theorem dJ12_addEntryToEmptyMap_11 : decode cJ12_addEntryToEmptyMap 11 = .ok (.dup, 1) := dk_89 (dk_at dksJ12_addEntryToEmptyMap_0 11 rfl rfl)
theorem dJ12_addEntryToEmptyMap_12 : decode cJ12_addEntryToEmptyMap 12 = .ok (.aload_n 1, 1) := dk_43 (dk_at dksJ12_addEntryToEmptyMap_0 12 rfl rfl)
theorem dJ12_addEntryToEmptyMap_13 : decode cJ12_addEntryToEmptyMap 13 = .ok (.aload_n 2, 1) := dk_44 (dk_at dksJ12_addEntryToEmptyMap_0 13 rfl rfl)
theorem dJ12_addEntryToEmptyMap_14 : decode cJ12_addEntryToEmptyMap 14 = .ok (.aconst_null, 1) := dk_1 (dk_at dksJ12_addEntryToEmptyMap_0 14 rfl rfl)
theorem dJ12_addEntryToEmptyMap_15 : decode cJ12_addEntryToEmptyMap 15 = .ok (.invokespecial 167, 3) := dk_183 0 167 (dk_at dksJ12_addEntryToEmptyMap_0 15 rfl rfl)
theorem dJ12_addEntryToEmptyMap_18 : decode cJ12_addEntryToEmptyMap 18 = .ok (.putfield 101, 3) := dk_181 0 101 (dk_at dksJ12_addEntryToEmptyMap_0 18 rfl rfl)
theorem dJ12_addEntryToEmptyMap_21 : decode cJ12_addEntryToEmptyMap 21 = .ok (.aload_n 0, 1) := dk_42 (dk_at dksJ12_addEntryToEmptyMap_0 21 rfl rfl)
theorem dJ12_addEntryToEmptyMap_22 : decode cJ12_addEntryToEmptyMap 22 = .ok (.iconst 1, 1) := dk_4 (dk_at dksJ12_addEntryToEmptyMap_0 22 rfl rfl)
theorem dJ12_addEntryToEmptyMap_23 : decode cJ12_addEntryToEmptyMap 23 = .ok (.putfield 7, 3) := dk_181 0 7 (dk_at dksJ12_addEntryToEmptyMap_1 0 rfl rfl)
theorem dJ12_addEntryToEmptyMap_26 : decode cJ12_addEntryToEmptyMap 26 = .ok (.aload_n 0, 1) := dk_42 (dk_at dksJ12_addEntryToEmptyMap_1 3 rfl rfl)
theorem dJ12_addEntryToEmptyMap_27 : decode cJ12_addEntryToEmptyMap 27 = .ok (.dup, 1) := dk_89 (dk_at dksJ12_addEntryToEmptyMap_1 4 rfl rfl)
theorem dJ12_addEntryToEmptyMap_28 : decode cJ12_addEntryToEmptyMap 28 = .ok (.getfield 13, 3) := dk_180 0 13 (dk_at dksJ12_addEntryToEmptyMap_1 5 rfl rfl)
theorem dJ12_addEntryToEmptyMap_31 : decode cJ12_addEntryToEmptyMap 31 = .ok (.iconst 1, 1) := dk_4 (dk_at dksJ12_addEntryToEmptyMap_1 8 rfl rfl)
theorem dJ12_addEntryToEmptyMap_32 : decode cJ12_addEntryToEmptyMap 32 = .ok (.iadd, 1) := dk_96 (dk_at dksJ12_addEntryToEmptyMap_1 9 rfl rfl)
theorem dJ12_addEntryToEmptyMap_33 : decode cJ12_addEntryToEmptyMap 33 = .ok (.putfield 13, 3) := dk_181 0 13 (dk_at dksJ12_addEntryToEmptyMap_1 10 rfl rfl)
theorem dJ12_addEntryToEmptyMap_36 : decode cJ12_addEntryToEmptyMap 36 = .ok (.return_, 1) := dk_177 (dk_at dksJ12_addEntryToEmptyMap_1 13 rfl rfl)
abbrev cJ12_compare : ByteArray := prog_66_method_67_code
def yJ12_compare : MethodName := ⟨RJ12, "compare", "(Ljava/lang/Object;Ljava/lang/Object;)I"⟩
def dkwJ12_compare_1 : List UInt8 := [43, 44, 185, 0, 117, 3, 0, 172]
abbrev dktJ12_compare_1 : List UInt8 := dkwJ12_compare_1 ++ []
def dkwJ12_compare_0 : List UInt8 := [42, 180, 0, 16, 199, 0, 16, 43, 192, 0, 99, 44, 185, 0, 107, 2, 0, 167, 0, 14, 42, 180, 0, 16]
abbrev dktJ12_compare_0 : List UInt8 := dkwJ12_compare_0 ++ dktJ12_compare_1
theorem dksJ12_compare_0 : cJ12_compare.data.toList.drop 0 = dktJ12_compare_0 := by decide +kernel
theorem dksJ12_compare_1 : cJ12_compare.data.toList.drop 24 = dktJ12_compare_1 := dk_seg dksJ12_compare_0 24 rfl rfl
theorem dJ12_compare_0 : decode cJ12_compare 0 = .ok (.aload_n 0, 1) := dk_42 (dk_at dksJ12_compare_0 0 rfl rfl)
theorem dJ12_compare_1 : decode cJ12_compare 1 = .ok (.getfield 16, 3) := dk_180 0 16 (dk_at dksJ12_compare_0 1 rfl rfl)
theorem dJ12_compare_4 : decode cJ12_compare 4 = .ok (.ifnonnull 16, 3) := dk_199 0 16 (dk_at dksJ12_compare_0 4 rfl rfl)
theorem dJ12_compare_7 : decode cJ12_compare 7 = .ok (.aload_n 1, 1) := dk_43 (dk_at dksJ12_compare_0 7 rfl rfl)
theorem dJ12_compare_8 : decode cJ12_compare 8 = .ok (.checkcast 99, 3) := dk_192 0 99 (dk_at dksJ12_compare_0 8 rfl rfl)
theorem dJ12_compare_11 : decode cJ12_compare 11 = .ok (.aload_n 2, 1) := dk_44 (dk_at dksJ12_compare_0 11 rfl rfl)
theorem dJ12_compare_12 : decode cJ12_compare 12 = .ok (.invokeinterface 107 2, 5) := by decide +kernel
theorem dJ12_compare_17 : decode cJ12_compare 17 = .ok (.goto 14, 3) := dk_167 0 14 (dk_at dksJ12_compare_0 17 rfl rfl)
theorem dJ12_compare_20 : decode cJ12_compare 20 = .ok (.aload_n 0, 1) := dk_42 (dk_at dksJ12_compare_0 20 rfl rfl)
theorem dJ12_compare_21 : decode cJ12_compare 21 = .ok (.getfield 16, 3) := dk_180 0 16 (dk_at dksJ12_compare_0 21 rfl rfl)
theorem dJ12_compare_24 : decode cJ12_compare 24 = .ok (.aload_n 1, 1) := dk_43 (dk_at dksJ12_compare_1 0 rfl rfl)
theorem dJ12_compare_25 : decode cJ12_compare 25 = .ok (.aload_n 2, 1) := dk_44 (dk_at dksJ12_compare_1 1 rfl rfl)
theorem dJ12_compare_26 : decode cJ12_compare 26 = .ok (.invokeinterface 117 3, 5) := by decide +kernel
theorem dJ12_compare_31 : decode cJ12_compare 31 = .ok (.ireturn, 1) := dk_172 (dk_at dksJ12_compare_1 7 rfl rfl)
abbrev cJ12_addEntry : ByteArray := prog_66_method_29_code
def yJ12_addEntry : MethodName := ⟨RJ12, "addEntry", "(Ljava/lang/Object;Ljava/lang/Object;Ljava/util/TreeMap$Entry;Z)V"⟩
def dkwJ12_addEntry_2 : List UInt8 := [181, 0, 7, 42, 89, 180, 0, 13, 4, 96, 181, 0, 13, 177]
abbrev dktJ12_addEntry_2 : List UInt8 := dkwJ12_addEntry_2 ++ []
def dkwJ12_addEntry_1 : List UInt8 := [167, 0, 9, 45, 25, 5, 181, 0, 114, 42, 25, 5, 182, 0, 170, 42, 89, 180, 0, 7, 4, 96]
abbrev dktJ12_addEntry_1 : List UInt8 := dkwJ12_addEntry_1 ++ dktJ12_addEntry_2
def dkwJ12_addEntry_0 : List UInt8 := [187, 0, 59, 89, 43, 44, 45, 183, 0, 167, 58, 5, 21, 4, 153, 0, 12, 45, 25, 5, 181, 0, 111]
abbrev dktJ12_addEntry_0 : List UInt8 := dkwJ12_addEntry_0 ++ dktJ12_addEntry_1
theorem dksJ12_addEntry_0 : cJ12_addEntry.data.toList.drop 0 = dktJ12_addEntry_0 := by decide +kernel
theorem dksJ12_addEntry_1 : cJ12_addEntry.data.toList.drop 23 = dktJ12_addEntry_1 := dk_seg dksJ12_addEntry_0 23 rfl rfl
theorem dksJ12_addEntry_2 : cJ12_addEntry.data.toList.drop 45 = dktJ12_addEntry_2 := dk_seg dksJ12_addEntry_1 22 rfl rfl
theorem dJ12_addEntry_0 : decode cJ12_addEntry 0 = .ok (.new 59, 3) := dk_187 0 59 (dk_at dksJ12_addEntry_0 0 rfl rfl)
theorem dJ12_addEntry_3 : decode cJ12_addEntry 3 = .ok (.dup, 1) := dk_89 (dk_at dksJ12_addEntry_0 3 rfl rfl)
theorem dJ12_addEntry_4 : decode cJ12_addEntry 4 = .ok (.aload_n 1, 1) := dk_43 (dk_at dksJ12_addEntry_0 4 rfl rfl)
theorem dJ12_addEntry_5 : decode cJ12_addEntry 5 = .ok (.aload_n 2, 1) := dk_44 (dk_at dksJ12_addEntry_0 5 rfl rfl)
theorem dJ12_addEntry_6 : decode cJ12_addEntry 6 = .ok (.aload_n 3, 1) := dk_45 (dk_at dksJ12_addEntry_0 6 rfl rfl)
theorem dJ12_addEntry_7 : decode cJ12_addEntry 7 = .ok (.invokespecial 167, 3) := dk_183 0 167 (dk_at dksJ12_addEntry_0 7 rfl rfl)
theorem dJ12_addEntry_10 : decode cJ12_addEntry 10 = .ok (.astore 5, 2) := dk_58 5 (dk_at dksJ12_addEntry_0 10 rfl rfl)
theorem dJ12_addEntry_12 : decode cJ12_addEntry 12 = .ok (.iload 4, 2) := dk_21 4 (dk_at dksJ12_addEntry_0 12 rfl rfl)
theorem dJ12_addEntry_14 : decode cJ12_addEntry 14 = .ok (.ifCond .eq 12, 3) := dk_153 0 12 (dk_at dksJ12_addEntry_0 14 rfl rfl)
theorem dJ12_addEntry_17 : decode cJ12_addEntry 17 = .ok (.aload_n 3, 1) := dk_45 (dk_at dksJ12_addEntry_0 17 rfl rfl)
theorem dJ12_addEntry_18 : decode cJ12_addEntry 18 = .ok (.aload 5, 2) := dk_25 5 (dk_at dksJ12_addEntry_0 18 rfl rfl)
theorem dJ12_addEntry_20 : decode cJ12_addEntry 20 = .ok (.putfield 111, 3) := dk_181 0 111 (dk_at dksJ12_addEntry_0 20 rfl rfl)
theorem dJ12_addEntry_23 : decode cJ12_addEntry 23 = .ok (.goto 9, 3) := dk_167 0 9 (dk_at dksJ12_addEntry_1 0 rfl rfl)
theorem dJ12_addEntry_26 : decode cJ12_addEntry 26 = .ok (.aload_n 3, 1) := dk_45 (dk_at dksJ12_addEntry_1 3 rfl rfl)
theorem dJ12_addEntry_27 : decode cJ12_addEntry 27 = .ok (.aload 5, 2) := dk_25 5 (dk_at dksJ12_addEntry_1 4 rfl rfl)
theorem dJ12_addEntry_29 : decode cJ12_addEntry 29 = .ok (.putfield 114, 3) := dk_181 0 114 (dk_at dksJ12_addEntry_1 6 rfl rfl)
theorem dJ12_addEntry_32 : decode cJ12_addEntry 32 = .ok (.aload_n 0, 1) := dk_42 (dk_at dksJ12_addEntry_1 9 rfl rfl)
theorem dJ12_addEntry_33 : decode cJ12_addEntry 33 = .ok (.aload 5, 2) := dk_25 5 (dk_at dksJ12_addEntry_1 10 rfl rfl)
theorem dJ12_addEntry_35 : decode cJ12_addEntry 35 = .ok (.invokevirtual 170, 3) := dk_182 0 170 (dk_at dksJ12_addEntry_1 12 rfl rfl)
theorem dJ12_addEntry_38 : decode cJ12_addEntry 38 = .ok (.aload_n 0, 1) := dk_42 (dk_at dksJ12_addEntry_1 15 rfl rfl)
theorem dJ12_addEntry_39 : decode cJ12_addEntry 39 = .ok (.dup, 1) := dk_89 (dk_at dksJ12_addEntry_1 16 rfl rfl)
theorem dJ12_addEntry_40 : decode cJ12_addEntry 40 = .ok (.getfield 7, 3) := dk_180 0 7 (dk_at dksJ12_addEntry_1 17 rfl rfl)
theorem dJ12_addEntry_43 : decode cJ12_addEntry 43 = .ok (.iconst 1, 1) := dk_4 (dk_at dksJ12_addEntry_1 20 rfl rfl)
theorem dJ12_addEntry_44 : decode cJ12_addEntry 44 = .ok (.iadd, 1) := dk_96 (dk_at dksJ12_addEntry_1 21 rfl rfl)
theorem dJ12_addEntry_45 : decode cJ12_addEntry 45 = .ok (.putfield 7, 3) := dk_181 0 7 (dk_at dksJ12_addEntry_2 0 rfl rfl)
theorem dJ12_addEntry_48 : decode cJ12_addEntry 48 = .ok (.aload_n 0, 1) := dk_42 (dk_at dksJ12_addEntry_2 3 rfl rfl)
theorem dJ12_addEntry_49 : decode cJ12_addEntry 49 = .ok (.dup, 1) := dk_89 (dk_at dksJ12_addEntry_2 4 rfl rfl)
theorem dJ12_addEntry_50 : decode cJ12_addEntry 50 = .ok (.getfield 13, 3) := dk_180 0 13 (dk_at dksJ12_addEntry_2 5 rfl rfl)
theorem dJ12_addEntry_53 : decode cJ12_addEntry 53 = .ok (.iconst 1, 1) := dk_4 (dk_at dksJ12_addEntry_2 8 rfl rfl)
theorem dJ12_addEntry_54 : decode cJ12_addEntry 54 = .ok (.iadd, 1) := dk_96 (dk_at dksJ12_addEntry_2 9 rfl rfl)
theorem dJ12_addEntry_55 : decode cJ12_addEntry 55 = .ok (.putfield 13, 3) := dk_181 0 13 (dk_at dksJ12_addEntry_2 10 rfl rfl)
theorem dJ12_addEntry_58 : decode cJ12_addEntry 58 = .ok (.return_, 1) := dk_177 (dk_at dksJ12_addEntry_2 13 rfl rfl)
abbrev cJ12_fixAfterInsertion : ByteArray := prog_66_method_83_code
def yJ12_fixAfterInsertion : MethodName := ⟨RJ12, "fixAfterInsertion", "(Ljava/util/TreeMap$Entry;)V"⟩
def dkwJ12_fixAfterInsertion_11 : List UInt8 := [42, 180, 0, 101, 4, 181, 1, 34, 177]
abbrev dktJ12_fixAfterInsertion_11 : List UInt8 := dkwJ12_fixAfterInsertion_11 ++ []
def dkwJ12_fixAfterInsertion_10 : List UInt8 := [184, 1, 38, 184, 1, 38, 3, 184, 1, 51, 42, 43, 184, 1, 38, 184, 1, 38, 182, 1, 55, 167, 255, 6]
abbrev dktJ12_fixAfterInsertion_10 : List UInt8 := dkwJ12_fixAfterInsertion_10 ++ dktJ12_fixAfterInsertion_11
def dkwJ12_fixAfterInsertion_9 : List UInt8 := [166, 0, 13, 43, 184, 1, 38, 76, 42, 43, 182, 1, 58, 43, 184, 1, 38, 4, 184, 1, 51, 43]
abbrev dktJ12_fixAfterInsertion_9 : List UInt8 := dkwJ12_fixAfterInsertion_9 ++ dktJ12_fixAfterInsertion_10
def dkwJ12_fixAfterInsertion_8 : List UInt8 := [184, 1, 51, 43, 184, 1, 38, 184, 1, 38, 76, 167, 0, 54, 43, 43, 184, 1, 38, 184, 1, 41]
abbrev dktJ12_fixAfterInsertion_8 : List UInt8 := dkwJ12_fixAfterInsertion_8 ++ dktJ12_fixAfterInsertion_9
def dkwJ12_fixAfterInsertion_7 : List UInt8 := [154, 0, 38, 43, 184, 1, 38, 4, 184, 1, 51, 44, 4, 184, 1, 51, 43, 184, 1, 38, 184, 1, 38, 3]
abbrev dktJ12_fixAfterInsertion_7 : List UInt8 := dkwJ12_fixAfterInsertion_7 ++ dktJ12_fixAfterInsertion_8
def dkwJ12_fixAfterInsertion_6 : List UInt8 := [184, 1, 38, 182, 1, 58, 167, 255, 113, 43, 184, 1, 38, 184, 1, 38, 184, 1, 41, 77, 44, 184, 1, 47]
abbrev dktJ12_fixAfterInsertion_6 : List UInt8 := dkwJ12_fixAfterInsertion_6 ++ dktJ12_fixAfterInsertion_7
def dkwJ12_fixAfterInsertion_5 : List UInt8 := [43, 184, 1, 38, 4, 184, 1, 51, 43, 184, 1, 38, 184, 1, 38, 3, 184, 1, 51, 42, 43, 184, 1, 38]
abbrev dktJ12_fixAfterInsertion_5 : List UInt8 := dkwJ12_fixAfterInsertion_5 ++ dktJ12_fixAfterInsertion_6
def dkwJ12_fixAfterInsertion_4 : List UInt8 := [167, 0, 54, 43, 43, 184, 1, 38, 184, 1, 44, 166, 0, 13, 43, 184, 1, 38, 76, 42, 43, 182, 1, 55]
abbrev dktJ12_fixAfterInsertion_4 : List UInt8 := dkwJ12_fixAfterInsertion_4 ++ dktJ12_fixAfterInsertion_5
def dkwJ12_fixAfterInsertion_3 : List UInt8 := [184, 1, 51, 43, 184, 1, 38, 184, 1, 38, 3, 184, 1, 51, 43, 184, 1, 38, 184, 1, 38, 76]
abbrev dktJ12_fixAfterInsertion_3 : List UInt8 := dkwJ12_fixAfterInsertion_3 ++ dktJ12_fixAfterInsertion_4
def dkwJ12_fixAfterInsertion_2 : List UInt8 := [184, 1, 38, 184, 1, 44, 77, 44, 184, 1, 47, 154, 0, 38, 43, 184, 1, 38, 4, 184, 1, 51, 44, 4]
abbrev dktJ12_fixAfterInsertion_2 : List UInt8 := dkwJ12_fixAfterInsertion_2 ++ dktJ12_fixAfterInsertion_3
def dkwJ12_fixAfterInsertion_1 : List UInt8 := [154, 0, 234, 43, 184, 1, 38, 43, 184, 1, 38, 184, 1, 38, 184, 1, 41, 166, 0, 110, 43, 184, 1, 38]
abbrev dktJ12_fixAfterInsertion_1 : List UInt8 := dkwJ12_fixAfterInsertion_1 ++ dktJ12_fixAfterInsertion_2
def dkwJ12_fixAfterInsertion_0 : List UInt8 := [43, 3, 181, 1, 34, 43, 198, 0, 252, 43, 42, 180, 0, 101, 165, 0, 244, 43, 180, 0, 124, 180, 1, 34]
abbrev dktJ12_fixAfterInsertion_0 : List UInt8 := dkwJ12_fixAfterInsertion_0 ++ dktJ12_fixAfterInsertion_1
theorem dksJ12_fixAfterInsertion_0 : cJ12_fixAfterInsertion.data.toList.drop 0 = dktJ12_fixAfterInsertion_0 := by decide +kernel
theorem dksJ12_fixAfterInsertion_1 : cJ12_fixAfterInsertion.data.toList.drop 24 = dktJ12_fixAfterInsertion_1 := dk_seg dksJ12_fixAfterInsertion_0 24 rfl rfl
theorem dksJ12_fixAfterInsertion_2 : cJ12_fixAfterInsertion.data.toList.drop 48 = dktJ12_fixAfterInsertion_2 := dk_seg dksJ12_fixAfterInsertion_1 24 rfl rfl
theorem dksJ12_fixAfterInsertion_3 : cJ12_fixAfterInsertion.data.toList.drop 72 = dktJ12_fixAfterInsertion_3 := dk_seg dksJ12_fixAfterInsertion_2 24 rfl rfl
theorem dksJ12_fixAfterInsertion_4 : cJ12_fixAfterInsertion.data.toList.drop 94 = dktJ12_fixAfterInsertion_4 := dk_seg dksJ12_fixAfterInsertion_3 22 rfl rfl
theorem dksJ12_fixAfterInsertion_5 : cJ12_fixAfterInsertion.data.toList.drop 118 = dktJ12_fixAfterInsertion_5 := dk_seg dksJ12_fixAfterInsertion_4 24 rfl rfl
theorem dksJ12_fixAfterInsertion_6 : cJ12_fixAfterInsertion.data.toList.drop 142 = dktJ12_fixAfterInsertion_6 := dk_seg dksJ12_fixAfterInsertion_5 24 rfl rfl
theorem dksJ12_fixAfterInsertion_7 : cJ12_fixAfterInsertion.data.toList.drop 166 = dktJ12_fixAfterInsertion_7 := dk_seg dksJ12_fixAfterInsertion_6 24 rfl rfl
theorem dksJ12_fixAfterInsertion_8 : cJ12_fixAfterInsertion.data.toList.drop 190 = dktJ12_fixAfterInsertion_8 := dk_seg dksJ12_fixAfterInsertion_7 24 rfl rfl
theorem dksJ12_fixAfterInsertion_9 : cJ12_fixAfterInsertion.data.toList.drop 212 = dktJ12_fixAfterInsertion_9 := dk_seg dksJ12_fixAfterInsertion_8 22 rfl rfl
theorem dksJ12_fixAfterInsertion_10 : cJ12_fixAfterInsertion.data.toList.drop 234 = dktJ12_fixAfterInsertion_10 := dk_seg dksJ12_fixAfterInsertion_9 22 rfl rfl
theorem dksJ12_fixAfterInsertion_11 : cJ12_fixAfterInsertion.data.toList.drop 258 = dktJ12_fixAfterInsertion_11 := dk_seg dksJ12_fixAfterInsertion_10 24 rfl rfl
theorem dJ12_fixAfterInsertion_0 : decode cJ12_fixAfterInsertion 0 = .ok (.aload_n 1, 1) := dk_43 (dk_at dksJ12_fixAfterInsertion_0 0 rfl rfl)
theorem dJ12_fixAfterInsertion_1 : decode cJ12_fixAfterInsertion 1 = .ok (.iconst 0, 1) := dk_3 (dk_at dksJ12_fixAfterInsertion_0 1 rfl rfl)
theorem dJ12_fixAfterInsertion_2 : decode cJ12_fixAfterInsertion 2 = .ok (.putfield 290, 3) := dk_181 1 34 (dk_at dksJ12_fixAfterInsertion_0 2 rfl rfl)
theorem dJ12_fixAfterInsertion_5 : decode cJ12_fixAfterInsertion 5 = .ok (.aload_n 1, 1) := dk_43 (dk_at dksJ12_fixAfterInsertion_0 5 rfl rfl)
theorem dJ12_fixAfterInsertion_6 : decode cJ12_fixAfterInsertion 6 = .ok (.ifnull 252, 3) := dk_198 0 252 (dk_at dksJ12_fixAfterInsertion_0 6 rfl rfl)
theorem dJ12_fixAfterInsertion_9 : decode cJ12_fixAfterInsertion 9 = .ok (.aload_n 1, 1) := dk_43 (dk_at dksJ12_fixAfterInsertion_0 9 rfl rfl)
theorem dJ12_fixAfterInsertion_10 : decode cJ12_fixAfterInsertion 10 = .ok (.aload_n 0, 1) := dk_42 (dk_at dksJ12_fixAfterInsertion_0 10 rfl rfl)
theorem dJ12_fixAfterInsertion_11 : decode cJ12_fixAfterInsertion 11 = .ok (.getfield 101, 3) := dk_180 0 101 (dk_at dksJ12_fixAfterInsertion_0 11 rfl rfl)
theorem dJ12_fixAfterInsertion_14 : decode cJ12_fixAfterInsertion 14 = .ok (.if_acmp .eq 244, 3) := dk_165 0 244 (dk_at dksJ12_fixAfterInsertion_0 14 rfl rfl)
theorem dJ12_fixAfterInsertion_17 : decode cJ12_fixAfterInsertion 17 = .ok (.aload_n 1, 1) := dk_43 (dk_at dksJ12_fixAfterInsertion_0 17 rfl rfl)
theorem dJ12_fixAfterInsertion_18 : decode cJ12_fixAfterInsertion 18 = .ok (.getfield 124, 3) := dk_180 0 124 (dk_at dksJ12_fixAfterInsertion_0 18 rfl rfl)
theorem dJ12_fixAfterInsertion_21 : decode cJ12_fixAfterInsertion 21 = .ok (.getfield 290, 3) := dk_180 1 34 (dk_at dksJ12_fixAfterInsertion_0 21 rfl rfl)
theorem dJ12_fixAfterInsertion_24 : decode cJ12_fixAfterInsertion 24 = .ok (.ifCond .ne 234, 3) := dk_154 0 234 (dk_at dksJ12_fixAfterInsertion_1 0 rfl rfl)
theorem dJ12_fixAfterInsertion_27 : decode cJ12_fixAfterInsertion 27 = .ok (.aload_n 1, 1) := dk_43 (dk_at dksJ12_fixAfterInsertion_1 3 rfl rfl)
theorem dJ12_fixAfterInsertion_28 : decode cJ12_fixAfterInsertion 28 = .ok (.invokestatic 294, 3) := dk_184 1 38 (dk_at dksJ12_fixAfterInsertion_1 4 rfl rfl)
theorem dJ12_fixAfterInsertion_31 : decode cJ12_fixAfterInsertion 31 = .ok (.aload_n 1, 1) := dk_43 (dk_at dksJ12_fixAfterInsertion_1 7 rfl rfl)
theorem dJ12_fixAfterInsertion_32 : decode cJ12_fixAfterInsertion 32 = .ok (.invokestatic 294, 3) := dk_184 1 38 (dk_at dksJ12_fixAfterInsertion_1 8 rfl rfl)
theorem dJ12_fixAfterInsertion_35 : decode cJ12_fixAfterInsertion 35 = .ok (.invokestatic 294, 3) := dk_184 1 38 (dk_at dksJ12_fixAfterInsertion_1 11 rfl rfl)
theorem dJ12_fixAfterInsertion_38 : decode cJ12_fixAfterInsertion 38 = .ok (.invokestatic 297, 3) := dk_184 1 41 (dk_at dksJ12_fixAfterInsertion_1 14 rfl rfl)
theorem dJ12_fixAfterInsertion_41 : decode cJ12_fixAfterInsertion 41 = .ok (.if_acmp .ne 110, 3) := dk_166 0 110 (dk_at dksJ12_fixAfterInsertion_1 17 rfl rfl)
theorem dJ12_fixAfterInsertion_44 : decode cJ12_fixAfterInsertion 44 = .ok (.aload_n 1, 1) := dk_43 (dk_at dksJ12_fixAfterInsertion_1 20 rfl rfl)
theorem dJ12_fixAfterInsertion_45 : decode cJ12_fixAfterInsertion 45 = .ok (.invokestatic 294, 3) := dk_184 1 38 (dk_at dksJ12_fixAfterInsertion_1 21 rfl rfl)
theorem dJ12_fixAfterInsertion_48 : decode cJ12_fixAfterInsertion 48 = .ok (.invokestatic 294, 3) := dk_184 1 38 (dk_at dksJ12_fixAfterInsertion_2 0 rfl rfl)
theorem dJ12_fixAfterInsertion_51 : decode cJ12_fixAfterInsertion 51 = .ok (.invokestatic 300, 3) := dk_184 1 44 (dk_at dksJ12_fixAfterInsertion_2 3 rfl rfl)
theorem dJ12_fixAfterInsertion_54 : decode cJ12_fixAfterInsertion 54 = .ok (.astore_n 2, 1) := dk_77 (dk_at dksJ12_fixAfterInsertion_2 6 rfl rfl)
theorem dJ12_fixAfterInsertion_55 : decode cJ12_fixAfterInsertion 55 = .ok (.aload_n 2, 1) := dk_44 (dk_at dksJ12_fixAfterInsertion_2 7 rfl rfl)
theorem dJ12_fixAfterInsertion_56 : decode cJ12_fixAfterInsertion 56 = .ok (.invokestatic 303, 3) := dk_184 1 47 (dk_at dksJ12_fixAfterInsertion_2 8 rfl rfl)
theorem dJ12_fixAfterInsertion_59 : decode cJ12_fixAfterInsertion 59 = .ok (.ifCond .ne 38, 3) := dk_154 0 38 (dk_at dksJ12_fixAfterInsertion_2 11 rfl rfl)
theorem dJ12_fixAfterInsertion_62 : decode cJ12_fixAfterInsertion 62 = .ok (.aload_n 1, 1) := dk_43 (dk_at dksJ12_fixAfterInsertion_2 14 rfl rfl)
theorem dJ12_fixAfterInsertion_63 : decode cJ12_fixAfterInsertion 63 = .ok (.invokestatic 294, 3) := dk_184 1 38 (dk_at dksJ12_fixAfterInsertion_2 15 rfl rfl)
theorem dJ12_fixAfterInsertion_66 : decode cJ12_fixAfterInsertion 66 = .ok (.iconst 1, 1) := dk_4 (dk_at dksJ12_fixAfterInsertion_2 18 rfl rfl)
theorem dJ12_fixAfterInsertion_67 : decode cJ12_fixAfterInsertion 67 = .ok (.invokestatic 307, 3) := dk_184 1 51 (dk_at dksJ12_fixAfterInsertion_2 19 rfl rfl)
theorem dJ12_fixAfterInsertion_70 : decode cJ12_fixAfterInsertion 70 = .ok (.aload_n 2, 1) := dk_44 (dk_at dksJ12_fixAfterInsertion_2 22 rfl rfl)
theorem dJ12_fixAfterInsertion_71 : decode cJ12_fixAfterInsertion 71 = .ok (.iconst 1, 1) := dk_4 (dk_at dksJ12_fixAfterInsertion_2 23 rfl rfl)
theorem dJ12_fixAfterInsertion_72 : decode cJ12_fixAfterInsertion 72 = .ok (.invokestatic 307, 3) := dk_184 1 51 (dk_at dksJ12_fixAfterInsertion_3 0 rfl rfl)
theorem dJ12_fixAfterInsertion_75 : decode cJ12_fixAfterInsertion 75 = .ok (.aload_n 1, 1) := dk_43 (dk_at dksJ12_fixAfterInsertion_3 3 rfl rfl)
theorem dJ12_fixAfterInsertion_76 : decode cJ12_fixAfterInsertion 76 = .ok (.invokestatic 294, 3) := dk_184 1 38 (dk_at dksJ12_fixAfterInsertion_3 4 rfl rfl)
theorem dJ12_fixAfterInsertion_79 : decode cJ12_fixAfterInsertion 79 = .ok (.invokestatic 294, 3) := dk_184 1 38 (dk_at dksJ12_fixAfterInsertion_3 7 rfl rfl)
theorem dJ12_fixAfterInsertion_82 : decode cJ12_fixAfterInsertion 82 = .ok (.iconst 0, 1) := dk_3 (dk_at dksJ12_fixAfterInsertion_3 10 rfl rfl)
theorem dJ12_fixAfterInsertion_83 : decode cJ12_fixAfterInsertion 83 = .ok (.invokestatic 307, 3) := dk_184 1 51 (dk_at dksJ12_fixAfterInsertion_3 11 rfl rfl)
theorem dJ12_fixAfterInsertion_86 : decode cJ12_fixAfterInsertion 86 = .ok (.aload_n 1, 1) := dk_43 (dk_at dksJ12_fixAfterInsertion_3 14 rfl rfl)
theorem dJ12_fixAfterInsertion_87 : decode cJ12_fixAfterInsertion 87 = .ok (.invokestatic 294, 3) := dk_184 1 38 (dk_at dksJ12_fixAfterInsertion_3 15 rfl rfl)
theorem dJ12_fixAfterInsertion_90 : decode cJ12_fixAfterInsertion 90 = .ok (.invokestatic 294, 3) := dk_184 1 38 (dk_at dksJ12_fixAfterInsertion_3 18 rfl rfl)
theorem dJ12_fixAfterInsertion_93 : decode cJ12_fixAfterInsertion 93 = .ok (.astore_n 1, 1) := dk_76 (dk_at dksJ12_fixAfterInsertion_3 21 rfl rfl)
theorem dJ12_fixAfterInsertion_94 : decode cJ12_fixAfterInsertion 94 = .ok (.goto 54, 3) := dk_167 0 54 (dk_at dksJ12_fixAfterInsertion_4 0 rfl rfl)
theorem dJ12_fixAfterInsertion_97 : decode cJ12_fixAfterInsertion 97 = .ok (.aload_n 1, 1) := dk_43 (dk_at dksJ12_fixAfterInsertion_4 3 rfl rfl)
theorem dJ12_fixAfterInsertion_98 : decode cJ12_fixAfterInsertion 98 = .ok (.aload_n 1, 1) := dk_43 (dk_at dksJ12_fixAfterInsertion_4 4 rfl rfl)
theorem dJ12_fixAfterInsertion_99 : decode cJ12_fixAfterInsertion 99 = .ok (.invokestatic 294, 3) := dk_184 1 38 (dk_at dksJ12_fixAfterInsertion_4 5 rfl rfl)
theorem dJ12_fixAfterInsertion_102 : decode cJ12_fixAfterInsertion 102 = .ok (.invokestatic 300, 3) := dk_184 1 44 (dk_at dksJ12_fixAfterInsertion_4 8 rfl rfl)
theorem dJ12_fixAfterInsertion_105 : decode cJ12_fixAfterInsertion 105 = .ok (.if_acmp .ne 13, 3) := dk_166 0 13 (dk_at dksJ12_fixAfterInsertion_4 11 rfl rfl)
theorem dJ12_fixAfterInsertion_108 : decode cJ12_fixAfterInsertion 108 = .ok (.aload_n 1, 1) := dk_43 (dk_at dksJ12_fixAfterInsertion_4 14 rfl rfl)
theorem dJ12_fixAfterInsertion_109 : decode cJ12_fixAfterInsertion 109 = .ok (.invokestatic 294, 3) := dk_184 1 38 (dk_at dksJ12_fixAfterInsertion_4 15 rfl rfl)
theorem dJ12_fixAfterInsertion_112 : decode cJ12_fixAfterInsertion 112 = .ok (.astore_n 1, 1) := dk_76 (dk_at dksJ12_fixAfterInsertion_4 18 rfl rfl)
theorem dJ12_fixAfterInsertion_113 : decode cJ12_fixAfterInsertion 113 = .ok (.aload_n 0, 1) := dk_42 (dk_at dksJ12_fixAfterInsertion_4 19 rfl rfl)
theorem dJ12_fixAfterInsertion_114 : decode cJ12_fixAfterInsertion 114 = .ok (.aload_n 1, 1) := dk_43 (dk_at dksJ12_fixAfterInsertion_4 20 rfl rfl)
theorem dJ12_fixAfterInsertion_115 : decode cJ12_fixAfterInsertion 115 = .ok (.invokevirtual 311, 3) := dk_182 1 55 (dk_at dksJ12_fixAfterInsertion_4 21 rfl rfl)
theorem dJ12_fixAfterInsertion_118 : decode cJ12_fixAfterInsertion 118 = .ok (.aload_n 1, 1) := dk_43 (dk_at dksJ12_fixAfterInsertion_5 0 rfl rfl)
theorem dJ12_fixAfterInsertion_119 : decode cJ12_fixAfterInsertion 119 = .ok (.invokestatic 294, 3) := dk_184 1 38 (dk_at dksJ12_fixAfterInsertion_5 1 rfl rfl)
theorem dJ12_fixAfterInsertion_122 : decode cJ12_fixAfterInsertion 122 = .ok (.iconst 1, 1) := dk_4 (dk_at dksJ12_fixAfterInsertion_5 4 rfl rfl)
theorem dJ12_fixAfterInsertion_123 : decode cJ12_fixAfterInsertion 123 = .ok (.invokestatic 307, 3) := dk_184 1 51 (dk_at dksJ12_fixAfterInsertion_5 5 rfl rfl)
theorem dJ12_fixAfterInsertion_126 : decode cJ12_fixAfterInsertion 126 = .ok (.aload_n 1, 1) := dk_43 (dk_at dksJ12_fixAfterInsertion_5 8 rfl rfl)
theorem dJ12_fixAfterInsertion_127 : decode cJ12_fixAfterInsertion 127 = .ok (.invokestatic 294, 3) := dk_184 1 38 (dk_at dksJ12_fixAfterInsertion_5 9 rfl rfl)
theorem dJ12_fixAfterInsertion_130 : decode cJ12_fixAfterInsertion 130 = .ok (.invokestatic 294, 3) := dk_184 1 38 (dk_at dksJ12_fixAfterInsertion_5 12 rfl rfl)
theorem dJ12_fixAfterInsertion_133 : decode cJ12_fixAfterInsertion 133 = .ok (.iconst 0, 1) := dk_3 (dk_at dksJ12_fixAfterInsertion_5 15 rfl rfl)
theorem dJ12_fixAfterInsertion_134 : decode cJ12_fixAfterInsertion 134 = .ok (.invokestatic 307, 3) := dk_184 1 51 (dk_at dksJ12_fixAfterInsertion_5 16 rfl rfl)
theorem dJ12_fixAfterInsertion_137 : decode cJ12_fixAfterInsertion 137 = .ok (.aload_n 0, 1) := dk_42 (dk_at dksJ12_fixAfterInsertion_5 19 rfl rfl)
theorem dJ12_fixAfterInsertion_138 : decode cJ12_fixAfterInsertion 138 = .ok (.aload_n 1, 1) := dk_43 (dk_at dksJ12_fixAfterInsertion_5 20 rfl rfl)
theorem dJ12_fixAfterInsertion_139 : decode cJ12_fixAfterInsertion 139 = .ok (.invokestatic 294, 3) := dk_184 1 38 (dk_at dksJ12_fixAfterInsertion_5 21 rfl rfl)
theorem dJ12_fixAfterInsertion_142 : decode cJ12_fixAfterInsertion 142 = .ok (.invokestatic 294, 3) := dk_184 1 38 (dk_at dksJ12_fixAfterInsertion_6 0 rfl rfl)
theorem dJ12_fixAfterInsertion_145 : decode cJ12_fixAfterInsertion 145 = .ok (.invokevirtual 314, 3) := dk_182 1 58 (dk_at dksJ12_fixAfterInsertion_6 3 rfl rfl)
theorem dJ12_fixAfterInsertion_148 : decode cJ12_fixAfterInsertion 148 = .ok (.goto (-143), 3) := dk_167 255 113 (dk_at dksJ12_fixAfterInsertion_6 6 rfl rfl)
theorem dJ12_fixAfterInsertion_151 : decode cJ12_fixAfterInsertion 151 = .ok (.aload_n 1, 1) := dk_43 (dk_at dksJ12_fixAfterInsertion_6 9 rfl rfl)
theorem dJ12_fixAfterInsertion_152 : decode cJ12_fixAfterInsertion 152 = .ok (.invokestatic 294, 3) := dk_184 1 38 (dk_at dksJ12_fixAfterInsertion_6 10 rfl rfl)
theorem dJ12_fixAfterInsertion_155 : decode cJ12_fixAfterInsertion 155 = .ok (.invokestatic 294, 3) := dk_184 1 38 (dk_at dksJ12_fixAfterInsertion_6 13 rfl rfl)
theorem dJ12_fixAfterInsertion_158 : decode cJ12_fixAfterInsertion 158 = .ok (.invokestatic 297, 3) := dk_184 1 41 (dk_at dksJ12_fixAfterInsertion_6 16 rfl rfl)
theorem dJ12_fixAfterInsertion_161 : decode cJ12_fixAfterInsertion 161 = .ok (.astore_n 2, 1) := dk_77 (dk_at dksJ12_fixAfterInsertion_6 19 rfl rfl)
theorem dJ12_fixAfterInsertion_162 : decode cJ12_fixAfterInsertion 162 = .ok (.aload_n 2, 1) := dk_44 (dk_at dksJ12_fixAfterInsertion_6 20 rfl rfl)
theorem dJ12_fixAfterInsertion_163 : decode cJ12_fixAfterInsertion 163 = .ok (.invokestatic 303, 3) := dk_184 1 47 (dk_at dksJ12_fixAfterInsertion_6 21 rfl rfl)
theorem dJ12_fixAfterInsertion_166 : decode cJ12_fixAfterInsertion 166 = .ok (.ifCond .ne 38, 3) := dk_154 0 38 (dk_at dksJ12_fixAfterInsertion_7 0 rfl rfl)
theorem dJ12_fixAfterInsertion_169 : decode cJ12_fixAfterInsertion 169 = .ok (.aload_n 1, 1) := dk_43 (dk_at dksJ12_fixAfterInsertion_7 3 rfl rfl)
theorem dJ12_fixAfterInsertion_170 : decode cJ12_fixAfterInsertion 170 = .ok (.invokestatic 294, 3) := dk_184 1 38 (dk_at dksJ12_fixAfterInsertion_7 4 rfl rfl)
theorem dJ12_fixAfterInsertion_173 : decode cJ12_fixAfterInsertion 173 = .ok (.iconst 1, 1) := dk_4 (dk_at dksJ12_fixAfterInsertion_7 7 rfl rfl)
theorem dJ12_fixAfterInsertion_174 : decode cJ12_fixAfterInsertion 174 = .ok (.invokestatic 307, 3) := dk_184 1 51 (dk_at dksJ12_fixAfterInsertion_7 8 rfl rfl)
theorem dJ12_fixAfterInsertion_177 : decode cJ12_fixAfterInsertion 177 = .ok (.aload_n 2, 1) := dk_44 (dk_at dksJ12_fixAfterInsertion_7 11 rfl rfl)
theorem dJ12_fixAfterInsertion_178 : decode cJ12_fixAfterInsertion 178 = .ok (.iconst 1, 1) := dk_4 (dk_at dksJ12_fixAfterInsertion_7 12 rfl rfl)
theorem dJ12_fixAfterInsertion_179 : decode cJ12_fixAfterInsertion 179 = .ok (.invokestatic 307, 3) := dk_184 1 51 (dk_at dksJ12_fixAfterInsertion_7 13 rfl rfl)
theorem dJ12_fixAfterInsertion_182 : decode cJ12_fixAfterInsertion 182 = .ok (.aload_n 1, 1) := dk_43 (dk_at dksJ12_fixAfterInsertion_7 16 rfl rfl)
theorem dJ12_fixAfterInsertion_183 : decode cJ12_fixAfterInsertion 183 = .ok (.invokestatic 294, 3) := dk_184 1 38 (dk_at dksJ12_fixAfterInsertion_7 17 rfl rfl)
theorem dJ12_fixAfterInsertion_186 : decode cJ12_fixAfterInsertion 186 = .ok (.invokestatic 294, 3) := dk_184 1 38 (dk_at dksJ12_fixAfterInsertion_7 20 rfl rfl)
theorem dJ12_fixAfterInsertion_189 : decode cJ12_fixAfterInsertion 189 = .ok (.iconst 0, 1) := dk_3 (dk_at dksJ12_fixAfterInsertion_7 23 rfl rfl)
theorem dJ12_fixAfterInsertion_190 : decode cJ12_fixAfterInsertion 190 = .ok (.invokestatic 307, 3) := dk_184 1 51 (dk_at dksJ12_fixAfterInsertion_8 0 rfl rfl)
theorem dJ12_fixAfterInsertion_193 : decode cJ12_fixAfterInsertion 193 = .ok (.aload_n 1, 1) := dk_43 (dk_at dksJ12_fixAfterInsertion_8 3 rfl rfl)
theorem dJ12_fixAfterInsertion_194 : decode cJ12_fixAfterInsertion 194 = .ok (.invokestatic 294, 3) := dk_184 1 38 (dk_at dksJ12_fixAfterInsertion_8 4 rfl rfl)
theorem dJ12_fixAfterInsertion_197 : decode cJ12_fixAfterInsertion 197 = .ok (.invokestatic 294, 3) := dk_184 1 38 (dk_at dksJ12_fixAfterInsertion_8 7 rfl rfl)
theorem dJ12_fixAfterInsertion_200 : decode cJ12_fixAfterInsertion 200 = .ok (.astore_n 1, 1) := dk_76 (dk_at dksJ12_fixAfterInsertion_8 10 rfl rfl)
theorem dJ12_fixAfterInsertion_201 : decode cJ12_fixAfterInsertion 201 = .ok (.goto 54, 3) := dk_167 0 54 (dk_at dksJ12_fixAfterInsertion_8 11 rfl rfl)
theorem dJ12_fixAfterInsertion_204 : decode cJ12_fixAfterInsertion 204 = .ok (.aload_n 1, 1) := dk_43 (dk_at dksJ12_fixAfterInsertion_8 14 rfl rfl)
theorem dJ12_fixAfterInsertion_205 : decode cJ12_fixAfterInsertion 205 = .ok (.aload_n 1, 1) := dk_43 (dk_at dksJ12_fixAfterInsertion_8 15 rfl rfl)
theorem dJ12_fixAfterInsertion_206 : decode cJ12_fixAfterInsertion 206 = .ok (.invokestatic 294, 3) := dk_184 1 38 (dk_at dksJ12_fixAfterInsertion_8 16 rfl rfl)
theorem dJ12_fixAfterInsertion_209 : decode cJ12_fixAfterInsertion 209 = .ok (.invokestatic 297, 3) := dk_184 1 41 (dk_at dksJ12_fixAfterInsertion_8 19 rfl rfl)
theorem dJ12_fixAfterInsertion_212 : decode cJ12_fixAfterInsertion 212 = .ok (.if_acmp .ne 13, 3) := dk_166 0 13 (dk_at dksJ12_fixAfterInsertion_9 0 rfl rfl)
theorem dJ12_fixAfterInsertion_215 : decode cJ12_fixAfterInsertion 215 = .ok (.aload_n 1, 1) := dk_43 (dk_at dksJ12_fixAfterInsertion_9 3 rfl rfl)
theorem dJ12_fixAfterInsertion_216 : decode cJ12_fixAfterInsertion 216 = .ok (.invokestatic 294, 3) := dk_184 1 38 (dk_at dksJ12_fixAfterInsertion_9 4 rfl rfl)
theorem dJ12_fixAfterInsertion_219 : decode cJ12_fixAfterInsertion 219 = .ok (.astore_n 1, 1) := dk_76 (dk_at dksJ12_fixAfterInsertion_9 7 rfl rfl)
theorem dJ12_fixAfterInsertion_220 : decode cJ12_fixAfterInsertion 220 = .ok (.aload_n 0, 1) := dk_42 (dk_at dksJ12_fixAfterInsertion_9 8 rfl rfl)
theorem dJ12_fixAfterInsertion_221 : decode cJ12_fixAfterInsertion 221 = .ok (.aload_n 1, 1) := dk_43 (dk_at dksJ12_fixAfterInsertion_9 9 rfl rfl)
theorem dJ12_fixAfterInsertion_222 : decode cJ12_fixAfterInsertion 222 = .ok (.invokevirtual 314, 3) := dk_182 1 58 (dk_at dksJ12_fixAfterInsertion_9 10 rfl rfl)
theorem dJ12_fixAfterInsertion_225 : decode cJ12_fixAfterInsertion 225 = .ok (.aload_n 1, 1) := dk_43 (dk_at dksJ12_fixAfterInsertion_9 13 rfl rfl)
theorem dJ12_fixAfterInsertion_226 : decode cJ12_fixAfterInsertion 226 = .ok (.invokestatic 294, 3) := dk_184 1 38 (dk_at dksJ12_fixAfterInsertion_9 14 rfl rfl)
theorem dJ12_fixAfterInsertion_229 : decode cJ12_fixAfterInsertion 229 = .ok (.iconst 1, 1) := dk_4 (dk_at dksJ12_fixAfterInsertion_9 17 rfl rfl)
theorem dJ12_fixAfterInsertion_230 : decode cJ12_fixAfterInsertion 230 = .ok (.invokestatic 307, 3) := dk_184 1 51 (dk_at dksJ12_fixAfterInsertion_9 18 rfl rfl)
theorem dJ12_fixAfterInsertion_233 : decode cJ12_fixAfterInsertion 233 = .ok (.aload_n 1, 1) := dk_43 (dk_at dksJ12_fixAfterInsertion_9 21 rfl rfl)
theorem dJ12_fixAfterInsertion_234 : decode cJ12_fixAfterInsertion 234 = .ok (.invokestatic 294, 3) := dk_184 1 38 (dk_at dksJ12_fixAfterInsertion_10 0 rfl rfl)
theorem dJ12_fixAfterInsertion_237 : decode cJ12_fixAfterInsertion 237 = .ok (.invokestatic 294, 3) := dk_184 1 38 (dk_at dksJ12_fixAfterInsertion_10 3 rfl rfl)
theorem dJ12_fixAfterInsertion_240 : decode cJ12_fixAfterInsertion 240 = .ok (.iconst 0, 1) := dk_3 (dk_at dksJ12_fixAfterInsertion_10 6 rfl rfl)
theorem dJ12_fixAfterInsertion_241 : decode cJ12_fixAfterInsertion 241 = .ok (.invokestatic 307, 3) := dk_184 1 51 (dk_at dksJ12_fixAfterInsertion_10 7 rfl rfl)
theorem dJ12_fixAfterInsertion_244 : decode cJ12_fixAfterInsertion 244 = .ok (.aload_n 0, 1) := dk_42 (dk_at dksJ12_fixAfterInsertion_10 10 rfl rfl)
theorem dJ12_fixAfterInsertion_245 : decode cJ12_fixAfterInsertion 245 = .ok (.aload_n 1, 1) := dk_43 (dk_at dksJ12_fixAfterInsertion_10 11 rfl rfl)
theorem dJ12_fixAfterInsertion_246 : decode cJ12_fixAfterInsertion 246 = .ok (.invokestatic 294, 3) := dk_184 1 38 (dk_at dksJ12_fixAfterInsertion_10 12 rfl rfl)
theorem dJ12_fixAfterInsertion_249 : decode cJ12_fixAfterInsertion 249 = .ok (.invokestatic 294, 3) := dk_184 1 38 (dk_at dksJ12_fixAfterInsertion_10 15 rfl rfl)
theorem dJ12_fixAfterInsertion_252 : decode cJ12_fixAfterInsertion 252 = .ok (.invokevirtual 311, 3) := dk_182 1 55 (dk_at dksJ12_fixAfterInsertion_10 18 rfl rfl)
theorem dJ12_fixAfterInsertion_255 : decode cJ12_fixAfterInsertion 255 = .ok (.goto (-250), 3) := dk_167 255 6 (dk_at dksJ12_fixAfterInsertion_10 21 rfl rfl)
theorem dJ12_fixAfterInsertion_258 : decode cJ12_fixAfterInsertion 258 = .ok (.aload_n 0, 1) := dk_42 (dk_at dksJ12_fixAfterInsertion_11 0 rfl rfl)
theorem dJ12_fixAfterInsertion_259 : decode cJ12_fixAfterInsertion 259 = .ok (.getfield 101, 3) := dk_180 0 101 (dk_at dksJ12_fixAfterInsertion_11 1 rfl rfl)
theorem dJ12_fixAfterInsertion_262 : decode cJ12_fixAfterInsertion 262 = .ok (.iconst 1, 1) := dk_4 (dk_at dksJ12_fixAfterInsertion_11 4 rfl rfl)
theorem dJ12_fixAfterInsertion_263 : decode cJ12_fixAfterInsertion 263 = .ok (.putfield 290, 3) := dk_181 1 34 (dk_at dksJ12_fixAfterInsertion_11 5 rfl rfl)
theorem dJ12_fixAfterInsertion_266 : decode cJ12_fixAfterInsertion 266 = .ok (.return_, 1) := dk_177 (dk_at dksJ12_fixAfterInsertion_11 8 rfl rfl)
abbrev cJ12_parentOf : ByteArray := prog_66_method_77_code
def yJ12_parentOf : MethodName := ⟨RJ12, "parentOf", "(Ljava/util/TreeMap$Entry;)Ljava/util/TreeMap$Entry;"⟩
def dkwJ12_parentOf_0 : List UInt8 := [42, 199, 0, 7, 1, 167, 0, 7, 42, 180, 0, 124, 176]
abbrev dktJ12_parentOf_0 : List UInt8 := dkwJ12_parentOf_0 ++ []
theorem dksJ12_parentOf_0 : cJ12_parentOf.data.toList.drop 0 = dktJ12_parentOf_0 := by decide +kernel
theorem dJ12_parentOf_0 : decode cJ12_parentOf 0 = .ok (.aload_n 0, 1) := dk_42 (dk_at dksJ12_parentOf_0 0 rfl rfl)
theorem dJ12_parentOf_1 : decode cJ12_parentOf 1 = .ok (.ifnonnull 7, 3) := dk_199 0 7 (dk_at dksJ12_parentOf_0 1 rfl rfl)
theorem dJ12_parentOf_4 : decode cJ12_parentOf 4 = .ok (.aconst_null, 1) := dk_1 (dk_at dksJ12_parentOf_0 4 rfl rfl)
theorem dJ12_parentOf_5 : decode cJ12_parentOf 5 = .ok (.goto 7, 3) := dk_167 0 7 (dk_at dksJ12_parentOf_0 5 rfl rfl)
theorem dJ12_parentOf_8 : decode cJ12_parentOf 8 = .ok (.aload_n 0, 1) := dk_42 (dk_at dksJ12_parentOf_0 8 rfl rfl)
theorem dJ12_parentOf_9 : decode cJ12_parentOf 9 = .ok (.getfield 124, 3) := dk_180 0 124 (dk_at dksJ12_parentOf_0 9 rfl rfl)
theorem dJ12_parentOf_12 : decode cJ12_parentOf 12 = .ok (.areturn, 1) := dk_176 (dk_at dksJ12_parentOf_0 12 rfl rfl)
abbrev cJ12_leftOf : ByteArray := prog_66_method_79_code
def yJ12_leftOf : MethodName := ⟨RJ12, "leftOf", "(Ljava/util/TreeMap$Entry;)Ljava/util/TreeMap$Entry;"⟩
def dkwJ12_leftOf_0 : List UInt8 := [42, 199, 0, 7, 1, 167, 0, 7, 42, 180, 0, 111, 176]
abbrev dktJ12_leftOf_0 : List UInt8 := dkwJ12_leftOf_0 ++ []
theorem dksJ12_leftOf_0 : cJ12_leftOf.data.toList.drop 0 = dktJ12_leftOf_0 := by decide +kernel
theorem dJ12_leftOf_0 : decode cJ12_leftOf 0 = .ok (.aload_n 0, 1) := dk_42 (dk_at dksJ12_leftOf_0 0 rfl rfl)
theorem dJ12_leftOf_1 : decode cJ12_leftOf 1 = .ok (.ifnonnull 7, 3) := dk_199 0 7 (dk_at dksJ12_leftOf_0 1 rfl rfl)
theorem dJ12_leftOf_4 : decode cJ12_leftOf 4 = .ok (.aconst_null, 1) := dk_1 (dk_at dksJ12_leftOf_0 4 rfl rfl)
theorem dJ12_leftOf_5 : decode cJ12_leftOf 5 = .ok (.goto 7, 3) := dk_167 0 7 (dk_at dksJ12_leftOf_0 5 rfl rfl)
theorem dJ12_leftOf_8 : decode cJ12_leftOf 8 = .ok (.aload_n 0, 1) := dk_42 (dk_at dksJ12_leftOf_0 8 rfl rfl)
theorem dJ12_leftOf_9 : decode cJ12_leftOf 9 = .ok (.getfield 111, 3) := dk_180 0 111 (dk_at dksJ12_leftOf_0 9 rfl rfl)
theorem dJ12_leftOf_12 : decode cJ12_leftOf 12 = .ok (.areturn, 1) := dk_176 (dk_at dksJ12_leftOf_0 12 rfl rfl)
abbrev cJ12_rightOf : ByteArray := prog_66_method_80_code
def yJ12_rightOf : MethodName := ⟨RJ12, "rightOf", "(Ljava/util/TreeMap$Entry;)Ljava/util/TreeMap$Entry;"⟩
def dkwJ12_rightOf_0 : List UInt8 := [42, 199, 0, 7, 1, 167, 0, 7, 42, 180, 0, 114, 176]
abbrev dktJ12_rightOf_0 : List UInt8 := dkwJ12_rightOf_0 ++ []
theorem dksJ12_rightOf_0 : cJ12_rightOf.data.toList.drop 0 = dktJ12_rightOf_0 := by decide +kernel
theorem dJ12_rightOf_0 : decode cJ12_rightOf 0 = .ok (.aload_n 0, 1) := dk_42 (dk_at dksJ12_rightOf_0 0 rfl rfl)
theorem dJ12_rightOf_1 : decode cJ12_rightOf 1 = .ok (.ifnonnull 7, 3) := dk_199 0 7 (dk_at dksJ12_rightOf_0 1 rfl rfl)
theorem dJ12_rightOf_4 : decode cJ12_rightOf 4 = .ok (.aconst_null, 1) := dk_1 (dk_at dksJ12_rightOf_0 4 rfl rfl)
theorem dJ12_rightOf_5 : decode cJ12_rightOf 5 = .ok (.goto 7, 3) := dk_167 0 7 (dk_at dksJ12_rightOf_0 5 rfl rfl)
theorem dJ12_rightOf_8 : decode cJ12_rightOf 8 = .ok (.aload_n 0, 1) := dk_42 (dk_at dksJ12_rightOf_0 8 rfl rfl)
theorem dJ12_rightOf_9 : decode cJ12_rightOf 9 = .ok (.getfield 114, 3) := dk_180 0 114 (dk_at dksJ12_rightOf_0 9 rfl rfl)
theorem dJ12_rightOf_12 : decode cJ12_rightOf 12 = .ok (.areturn, 1) := dk_176 (dk_at dksJ12_rightOf_0 12 rfl rfl)
abbrev cJ12_colorOf : ByteArray := prog_66_method_76_code
def yJ12_colorOf : MethodName := ⟨RJ12, "colorOf", "(Ljava/util/TreeMap$Entry;)Z"⟩
def dkwJ12_colorOf_0 : List UInt8 := [42, 199, 0, 7, 4, 167, 0, 7, 42, 180, 1, 34, 172]
abbrev dktJ12_colorOf_0 : List UInt8 := dkwJ12_colorOf_0 ++ []
theorem dksJ12_colorOf_0 : cJ12_colorOf.data.toList.drop 0 = dktJ12_colorOf_0 := by decide +kernel
theorem dJ12_colorOf_0 : decode cJ12_colorOf 0 = .ok (.aload_n 0, 1) := dk_42 (dk_at dksJ12_colorOf_0 0 rfl rfl)
theorem dJ12_colorOf_1 : decode cJ12_colorOf 1 = .ok (.ifnonnull 7, 3) := dk_199 0 7 (dk_at dksJ12_colorOf_0 1 rfl rfl)
theorem dJ12_colorOf_4 : decode cJ12_colorOf 4 = .ok (.iconst 1, 1) := dk_4 (dk_at dksJ12_colorOf_0 4 rfl rfl)
theorem dJ12_colorOf_5 : decode cJ12_colorOf 5 = .ok (.goto 7, 3) := dk_167 0 7 (dk_at dksJ12_colorOf_0 5 rfl rfl)
theorem dJ12_colorOf_8 : decode cJ12_colorOf 8 = .ok (.aload_n 0, 1) := dk_42 (dk_at dksJ12_colorOf_0 8 rfl rfl)
theorem dJ12_colorOf_9 : decode cJ12_colorOf 9 = .ok (.getfield 290, 3) := dk_180 1 34 (dk_at dksJ12_colorOf_0 9 rfl rfl)
theorem dJ12_colorOf_12 : decode cJ12_colorOf 12 = .ok (.ireturn, 1) := dk_172 (dk_at dksJ12_colorOf_0 12 rfl rfl)
abbrev cJ12_setColor : ByteArray := prog_66_method_78_code
def yJ12_setColor : MethodName := ⟨RJ12, "setColor", "(Ljava/util/TreeMap$Entry;Z)V"⟩
def dkwJ12_setColor_0 : List UInt8 := [42, 198, 0, 8, 42, 27, 181, 1, 34, 177]
abbrev dktJ12_setColor_0 : List UInt8 := dkwJ12_setColor_0 ++ []
theorem dksJ12_setColor_0 : cJ12_setColor.data.toList.drop 0 = dktJ12_setColor_0 := by decide +kernel
theorem dJ12_setColor_0 : decode cJ12_setColor 0 = .ok (.aload_n 0, 1) := dk_42 (dk_at dksJ12_setColor_0 0 rfl rfl)
theorem dJ12_setColor_1 : decode cJ12_setColor 1 = .ok (.ifnull 8, 3) := dk_198 0 8 (dk_at dksJ12_setColor_0 1 rfl rfl)
theorem dJ12_setColor_4 : decode cJ12_setColor 4 = .ok (.aload_n 0, 1) := dk_42 (dk_at dksJ12_setColor_0 4 rfl rfl)
theorem dJ12_setColor_5 : decode cJ12_setColor 5 = .ok (.iload_n 1, 1) := dk_27 (dk_at dksJ12_setColor_0 5 rfl rfl)
theorem dJ12_setColor_6 : decode cJ12_setColor 6 = .ok (.putfield 290, 3) := dk_181 1 34 (dk_at dksJ12_setColor_0 6 rfl rfl)
theorem dJ12_setColor_9 : decode cJ12_setColor 9 = .ok (.return_, 1) := dk_177 (dk_at dksJ12_setColor_0 9 rfl rfl)
abbrev cJ12_rotateLeft : ByteArray := prog_66_method_81_code
def yJ12_rotateLeft : MethodName := ⟨RJ12, "rotateLeft", "(Ljava/util/TreeMap$Entry;)V"⟩
def dkwJ12_rotateLeft_4 : List UInt8 := [177]
abbrev dktJ12_rotateLeft_4 : List UInt8 := dkwJ12_rotateLeft_4 ++ []
def dkwJ12_rotateLeft_3 : List UInt8 := [181, 0, 111, 167, 0, 11, 43, 180, 0, 124, 44, 181, 0, 114, 44, 43, 181, 0, 111, 43, 44, 181, 0, 124]
abbrev dktJ12_rotateLeft_3 : List UInt8 := dkwJ12_rotateLeft_3 ++ dktJ12_rotateLeft_4
def dkwJ12_rotateLeft_2 : List UInt8 := [44, 181, 0, 101, 167, 0, 33, 43, 180, 0, 124, 180, 0, 111, 43, 166, 0, 14, 43, 180, 0, 124, 44]
abbrev dktJ12_rotateLeft_2 : List UInt8 := dkwJ12_rotateLeft_2 ++ dktJ12_rotateLeft_3
def dkwJ12_rotateLeft_1 : List UInt8 := [44, 180, 0, 111, 43, 181, 0, 124, 44, 43, 180, 0, 124, 181, 0, 124, 43, 180, 0, 124, 199, 0, 11, 42]
abbrev dktJ12_rotateLeft_1 : List UInt8 := dkwJ12_rotateLeft_1 ++ dktJ12_rotateLeft_2
def dkwJ12_rotateLeft_0 : List UInt8 := [43, 198, 0, 94, 43, 180, 0, 114, 77, 43, 44, 180, 0, 111, 181, 0, 114, 44, 180, 0, 111, 198, 0, 11]
abbrev dktJ12_rotateLeft_0 : List UInt8 := dkwJ12_rotateLeft_0 ++ dktJ12_rotateLeft_1
theorem dksJ12_rotateLeft_0 : cJ12_rotateLeft.data.toList.drop 0 = dktJ12_rotateLeft_0 := by decide +kernel
theorem dksJ12_rotateLeft_1 : cJ12_rotateLeft.data.toList.drop 24 = dktJ12_rotateLeft_1 := dk_seg dksJ12_rotateLeft_0 24 rfl rfl
theorem dksJ12_rotateLeft_2 : cJ12_rotateLeft.data.toList.drop 48 = dktJ12_rotateLeft_2 := dk_seg dksJ12_rotateLeft_1 24 rfl rfl
theorem dksJ12_rotateLeft_3 : cJ12_rotateLeft.data.toList.drop 71 = dktJ12_rotateLeft_3 := dk_seg dksJ12_rotateLeft_2 23 rfl rfl
theorem dksJ12_rotateLeft_4 : cJ12_rotateLeft.data.toList.drop 95 = dktJ12_rotateLeft_4 := dk_seg dksJ12_rotateLeft_3 24 rfl rfl
theorem dJ12_rotateLeft_0 : decode cJ12_rotateLeft 0 = .ok (.aload_n 1, 1) := dk_43 (dk_at dksJ12_rotateLeft_0 0 rfl rfl)
theorem dJ12_rotateLeft_1 : decode cJ12_rotateLeft 1 = .ok (.ifnull 94, 3) := dk_198 0 94 (dk_at dksJ12_rotateLeft_0 1 rfl rfl)
theorem dJ12_rotateLeft_4 : decode cJ12_rotateLeft 4 = .ok (.aload_n 1, 1) := dk_43 (dk_at dksJ12_rotateLeft_0 4 rfl rfl)
theorem dJ12_rotateLeft_5 : decode cJ12_rotateLeft 5 = .ok (.getfield 114, 3) := dk_180 0 114 (dk_at dksJ12_rotateLeft_0 5 rfl rfl)
theorem dJ12_rotateLeft_8 : decode cJ12_rotateLeft 8 = .ok (.astore_n 2, 1) := dk_77 (dk_at dksJ12_rotateLeft_0 8 rfl rfl)
theorem dJ12_rotateLeft_9 : decode cJ12_rotateLeft 9 = .ok (.aload_n 1, 1) := dk_43 (dk_at dksJ12_rotateLeft_0 9 rfl rfl)
theorem dJ12_rotateLeft_10 : decode cJ12_rotateLeft 10 = .ok (.aload_n 2, 1) := dk_44 (dk_at dksJ12_rotateLeft_0 10 rfl rfl)
theorem dJ12_rotateLeft_11 : decode cJ12_rotateLeft 11 = .ok (.getfield 111, 3) := dk_180 0 111 (dk_at dksJ12_rotateLeft_0 11 rfl rfl)
theorem dJ12_rotateLeft_14 : decode cJ12_rotateLeft 14 = .ok (.putfield 114, 3) := dk_181 0 114 (dk_at dksJ12_rotateLeft_0 14 rfl rfl)
theorem dJ12_rotateLeft_17 : decode cJ12_rotateLeft 17 = .ok (.aload_n 2, 1) := dk_44 (dk_at dksJ12_rotateLeft_0 17 rfl rfl)
theorem dJ12_rotateLeft_18 : decode cJ12_rotateLeft 18 = .ok (.getfield 111, 3) := dk_180 0 111 (dk_at dksJ12_rotateLeft_0 18 rfl rfl)
theorem dJ12_rotateLeft_21 : decode cJ12_rotateLeft 21 = .ok (.ifnull 11, 3) := dk_198 0 11 (dk_at dksJ12_rotateLeft_0 21 rfl rfl)
theorem dJ12_rotateLeft_24 : decode cJ12_rotateLeft 24 = .ok (.aload_n 2, 1) := dk_44 (dk_at dksJ12_rotateLeft_1 0 rfl rfl)
theorem dJ12_rotateLeft_25 : decode cJ12_rotateLeft 25 = .ok (.getfield 111, 3) := dk_180 0 111 (dk_at dksJ12_rotateLeft_1 1 rfl rfl)
theorem dJ12_rotateLeft_28 : decode cJ12_rotateLeft 28 = .ok (.aload_n 1, 1) := dk_43 (dk_at dksJ12_rotateLeft_1 4 rfl rfl)
theorem dJ12_rotateLeft_29 : decode cJ12_rotateLeft 29 = .ok (.putfield 124, 3) := dk_181 0 124 (dk_at dksJ12_rotateLeft_1 5 rfl rfl)
theorem dJ12_rotateLeft_32 : decode cJ12_rotateLeft 32 = .ok (.aload_n 2, 1) := dk_44 (dk_at dksJ12_rotateLeft_1 8 rfl rfl)
theorem dJ12_rotateLeft_33 : decode cJ12_rotateLeft 33 = .ok (.aload_n 1, 1) := dk_43 (dk_at dksJ12_rotateLeft_1 9 rfl rfl)
theorem dJ12_rotateLeft_34 : decode cJ12_rotateLeft 34 = .ok (.getfield 124, 3) := dk_180 0 124 (dk_at dksJ12_rotateLeft_1 10 rfl rfl)
theorem dJ12_rotateLeft_37 : decode cJ12_rotateLeft 37 = .ok (.putfield 124, 3) := dk_181 0 124 (dk_at dksJ12_rotateLeft_1 13 rfl rfl)
theorem dJ12_rotateLeft_40 : decode cJ12_rotateLeft 40 = .ok (.aload_n 1, 1) := dk_43 (dk_at dksJ12_rotateLeft_1 16 rfl rfl)
theorem dJ12_rotateLeft_41 : decode cJ12_rotateLeft 41 = .ok (.getfield 124, 3) := dk_180 0 124 (dk_at dksJ12_rotateLeft_1 17 rfl rfl)
theorem dJ12_rotateLeft_44 : decode cJ12_rotateLeft 44 = .ok (.ifnonnull 11, 3) := dk_199 0 11 (dk_at dksJ12_rotateLeft_1 20 rfl rfl)
theorem dJ12_rotateLeft_47 : decode cJ12_rotateLeft 47 = .ok (.aload_n 0, 1) := dk_42 (dk_at dksJ12_rotateLeft_1 23 rfl rfl)
theorem dJ12_rotateLeft_48 : decode cJ12_rotateLeft 48 = .ok (.aload_n 2, 1) := dk_44 (dk_at dksJ12_rotateLeft_2 0 rfl rfl)
theorem dJ12_rotateLeft_49 : decode cJ12_rotateLeft 49 = .ok (.putfield 101, 3) := dk_181 0 101 (dk_at dksJ12_rotateLeft_2 1 rfl rfl)
theorem dJ12_rotateLeft_52 : decode cJ12_rotateLeft 52 = .ok (.goto 33, 3) := dk_167 0 33 (dk_at dksJ12_rotateLeft_2 4 rfl rfl)
theorem dJ12_rotateLeft_55 : decode cJ12_rotateLeft 55 = .ok (.aload_n 1, 1) := dk_43 (dk_at dksJ12_rotateLeft_2 7 rfl rfl)
theorem dJ12_rotateLeft_56 : decode cJ12_rotateLeft 56 = .ok (.getfield 124, 3) := dk_180 0 124 (dk_at dksJ12_rotateLeft_2 8 rfl rfl)
theorem dJ12_rotateLeft_59 : decode cJ12_rotateLeft 59 = .ok (.getfield 111, 3) := dk_180 0 111 (dk_at dksJ12_rotateLeft_2 11 rfl rfl)
theorem dJ12_rotateLeft_62 : decode cJ12_rotateLeft 62 = .ok (.aload_n 1, 1) := dk_43 (dk_at dksJ12_rotateLeft_2 14 rfl rfl)
theorem dJ12_rotateLeft_63 : decode cJ12_rotateLeft 63 = .ok (.if_acmp .ne 14, 3) := dk_166 0 14 (dk_at dksJ12_rotateLeft_2 15 rfl rfl)
theorem dJ12_rotateLeft_66 : decode cJ12_rotateLeft 66 = .ok (.aload_n 1, 1) := dk_43 (dk_at dksJ12_rotateLeft_2 18 rfl rfl)
theorem dJ12_rotateLeft_67 : decode cJ12_rotateLeft 67 = .ok (.getfield 124, 3) := dk_180 0 124 (dk_at dksJ12_rotateLeft_2 19 rfl rfl)
theorem dJ12_rotateLeft_70 : decode cJ12_rotateLeft 70 = .ok (.aload_n 2, 1) := dk_44 (dk_at dksJ12_rotateLeft_2 22 rfl rfl)
theorem dJ12_rotateLeft_71 : decode cJ12_rotateLeft 71 = .ok (.putfield 111, 3) := dk_181 0 111 (dk_at dksJ12_rotateLeft_3 0 rfl rfl)
theorem dJ12_rotateLeft_74 : decode cJ12_rotateLeft 74 = .ok (.goto 11, 3) := dk_167 0 11 (dk_at dksJ12_rotateLeft_3 3 rfl rfl)
theorem dJ12_rotateLeft_77 : decode cJ12_rotateLeft 77 = .ok (.aload_n 1, 1) := dk_43 (dk_at dksJ12_rotateLeft_3 6 rfl rfl)
theorem dJ12_rotateLeft_78 : decode cJ12_rotateLeft 78 = .ok (.getfield 124, 3) := dk_180 0 124 (dk_at dksJ12_rotateLeft_3 7 rfl rfl)
theorem dJ12_rotateLeft_81 : decode cJ12_rotateLeft 81 = .ok (.aload_n 2, 1) := dk_44 (dk_at dksJ12_rotateLeft_3 10 rfl rfl)
theorem dJ12_rotateLeft_82 : decode cJ12_rotateLeft 82 = .ok (.putfield 114, 3) := dk_181 0 114 (dk_at dksJ12_rotateLeft_3 11 rfl rfl)
theorem dJ12_rotateLeft_85 : decode cJ12_rotateLeft 85 = .ok (.aload_n 2, 1) := dk_44 (dk_at dksJ12_rotateLeft_3 14 rfl rfl)
theorem dJ12_rotateLeft_86 : decode cJ12_rotateLeft 86 = .ok (.aload_n 1, 1) := dk_43 (dk_at dksJ12_rotateLeft_3 15 rfl rfl)
theorem dJ12_rotateLeft_87 : decode cJ12_rotateLeft 87 = .ok (.putfield 111, 3) := dk_181 0 111 (dk_at dksJ12_rotateLeft_3 16 rfl rfl)
theorem dJ12_rotateLeft_90 : decode cJ12_rotateLeft 90 = .ok (.aload_n 1, 1) := dk_43 (dk_at dksJ12_rotateLeft_3 19 rfl rfl)
theorem dJ12_rotateLeft_91 : decode cJ12_rotateLeft 91 = .ok (.aload_n 2, 1) := dk_44 (dk_at dksJ12_rotateLeft_3 20 rfl rfl)
theorem dJ12_rotateLeft_92 : decode cJ12_rotateLeft 92 = .ok (.putfield 124, 3) := dk_181 0 124 (dk_at dksJ12_rotateLeft_3 21 rfl rfl)
theorem dJ12_rotateLeft_95 : decode cJ12_rotateLeft 95 = .ok (.return_, 1) := dk_177 (dk_at dksJ12_rotateLeft_4 0 rfl rfl)
abbrev cJ12_rotateRight : ByteArray := prog_66_method_82_code
def yJ12_rotateRight : MethodName := ⟨RJ12, "rotateRight", "(Ljava/util/TreeMap$Entry;)V"⟩
def dkwJ12_rotateRight_4 : List UInt8 := [177]
abbrev dktJ12_rotateRight_4 : List UInt8 := dkwJ12_rotateRight_4 ++ []
def dkwJ12_rotateRight_3 : List UInt8 := [181, 0, 114, 167, 0, 11, 43, 180, 0, 124, 44, 181, 0, 111, 44, 43, 181, 0, 114, 43, 44, 181, 0, 124]
abbrev dktJ12_rotateRight_3 : List UInt8 := dkwJ12_rotateRight_3 ++ dktJ12_rotateRight_4
def dkwJ12_rotateRight_2 : List UInt8 := [44, 181, 0, 101, 167, 0, 33, 43, 180, 0, 124, 180, 0, 114, 43, 166, 0, 14, 43, 180, 0, 124, 44]
abbrev dktJ12_rotateRight_2 : List UInt8 := dkwJ12_rotateRight_2 ++ dktJ12_rotateRight_3
def dkwJ12_rotateRight_1 : List UInt8 := [44, 180, 0, 114, 43, 181, 0, 124, 44, 43, 180, 0, 124, 181, 0, 124, 43, 180, 0, 124, 199, 0, 11, 42]
abbrev dktJ12_rotateRight_1 : List UInt8 := dkwJ12_rotateRight_1 ++ dktJ12_rotateRight_2
def dkwJ12_rotateRight_0 : List UInt8 := [43, 198, 0, 94, 43, 180, 0, 111, 77, 43, 44, 180, 0, 114, 181, 0, 111, 44, 180, 0, 114, 198, 0, 11]
abbrev dktJ12_rotateRight_0 : List UInt8 := dkwJ12_rotateRight_0 ++ dktJ12_rotateRight_1
theorem dksJ12_rotateRight_0 : cJ12_rotateRight.data.toList.drop 0 = dktJ12_rotateRight_0 := by decide +kernel
theorem dksJ12_rotateRight_1 : cJ12_rotateRight.data.toList.drop 24 = dktJ12_rotateRight_1 := dk_seg dksJ12_rotateRight_0 24 rfl rfl
theorem dksJ12_rotateRight_2 : cJ12_rotateRight.data.toList.drop 48 = dktJ12_rotateRight_2 := dk_seg dksJ12_rotateRight_1 24 rfl rfl
theorem dksJ12_rotateRight_3 : cJ12_rotateRight.data.toList.drop 71 = dktJ12_rotateRight_3 := dk_seg dksJ12_rotateRight_2 23 rfl rfl
theorem dksJ12_rotateRight_4 : cJ12_rotateRight.data.toList.drop 95 = dktJ12_rotateRight_4 := dk_seg dksJ12_rotateRight_3 24 rfl rfl
theorem dJ12_rotateRight_0 : decode cJ12_rotateRight 0 = .ok (.aload_n 1, 1) := dk_43 (dk_at dksJ12_rotateRight_0 0 rfl rfl)
theorem dJ12_rotateRight_1 : decode cJ12_rotateRight 1 = .ok (.ifnull 94, 3) := dk_198 0 94 (dk_at dksJ12_rotateRight_0 1 rfl rfl)
theorem dJ12_rotateRight_4 : decode cJ12_rotateRight 4 = .ok (.aload_n 1, 1) := dk_43 (dk_at dksJ12_rotateRight_0 4 rfl rfl)
theorem dJ12_rotateRight_5 : decode cJ12_rotateRight 5 = .ok (.getfield 111, 3) := dk_180 0 111 (dk_at dksJ12_rotateRight_0 5 rfl rfl)
theorem dJ12_rotateRight_8 : decode cJ12_rotateRight 8 = .ok (.astore_n 2, 1) := dk_77 (dk_at dksJ12_rotateRight_0 8 rfl rfl)
theorem dJ12_rotateRight_9 : decode cJ12_rotateRight 9 = .ok (.aload_n 1, 1) := dk_43 (dk_at dksJ12_rotateRight_0 9 rfl rfl)
theorem dJ12_rotateRight_10 : decode cJ12_rotateRight 10 = .ok (.aload_n 2, 1) := dk_44 (dk_at dksJ12_rotateRight_0 10 rfl rfl)
theorem dJ12_rotateRight_11 : decode cJ12_rotateRight 11 = .ok (.getfield 114, 3) := dk_180 0 114 (dk_at dksJ12_rotateRight_0 11 rfl rfl)
theorem dJ12_rotateRight_14 : decode cJ12_rotateRight 14 = .ok (.putfield 111, 3) := dk_181 0 111 (dk_at dksJ12_rotateRight_0 14 rfl rfl)
theorem dJ12_rotateRight_17 : decode cJ12_rotateRight 17 = .ok (.aload_n 2, 1) := dk_44 (dk_at dksJ12_rotateRight_0 17 rfl rfl)
theorem dJ12_rotateRight_18 : decode cJ12_rotateRight 18 = .ok (.getfield 114, 3) := dk_180 0 114 (dk_at dksJ12_rotateRight_0 18 rfl rfl)
theorem dJ12_rotateRight_21 : decode cJ12_rotateRight 21 = .ok (.ifnull 11, 3) := dk_198 0 11 (dk_at dksJ12_rotateRight_0 21 rfl rfl)
theorem dJ12_rotateRight_24 : decode cJ12_rotateRight 24 = .ok (.aload_n 2, 1) := dk_44 (dk_at dksJ12_rotateRight_1 0 rfl rfl)
theorem dJ12_rotateRight_25 : decode cJ12_rotateRight 25 = .ok (.getfield 114, 3) := dk_180 0 114 (dk_at dksJ12_rotateRight_1 1 rfl rfl)
theorem dJ12_rotateRight_28 : decode cJ12_rotateRight 28 = .ok (.aload_n 1, 1) := dk_43 (dk_at dksJ12_rotateRight_1 4 rfl rfl)
theorem dJ12_rotateRight_29 : decode cJ12_rotateRight 29 = .ok (.putfield 124, 3) := dk_181 0 124 (dk_at dksJ12_rotateRight_1 5 rfl rfl)
theorem dJ12_rotateRight_32 : decode cJ12_rotateRight 32 = .ok (.aload_n 2, 1) := dk_44 (dk_at dksJ12_rotateRight_1 8 rfl rfl)
theorem dJ12_rotateRight_33 : decode cJ12_rotateRight 33 = .ok (.aload_n 1, 1) := dk_43 (dk_at dksJ12_rotateRight_1 9 rfl rfl)
theorem dJ12_rotateRight_34 : decode cJ12_rotateRight 34 = .ok (.getfield 124, 3) := dk_180 0 124 (dk_at dksJ12_rotateRight_1 10 rfl rfl)
theorem dJ12_rotateRight_37 : decode cJ12_rotateRight 37 = .ok (.putfield 124, 3) := dk_181 0 124 (dk_at dksJ12_rotateRight_1 13 rfl rfl)
theorem dJ12_rotateRight_40 : decode cJ12_rotateRight 40 = .ok (.aload_n 1, 1) := dk_43 (dk_at dksJ12_rotateRight_1 16 rfl rfl)
theorem dJ12_rotateRight_41 : decode cJ12_rotateRight 41 = .ok (.getfield 124, 3) := dk_180 0 124 (dk_at dksJ12_rotateRight_1 17 rfl rfl)
theorem dJ12_rotateRight_44 : decode cJ12_rotateRight 44 = .ok (.ifnonnull 11, 3) := dk_199 0 11 (dk_at dksJ12_rotateRight_1 20 rfl rfl)
theorem dJ12_rotateRight_47 : decode cJ12_rotateRight 47 = .ok (.aload_n 0, 1) := dk_42 (dk_at dksJ12_rotateRight_1 23 rfl rfl)
theorem dJ12_rotateRight_48 : decode cJ12_rotateRight 48 = .ok (.aload_n 2, 1) := dk_44 (dk_at dksJ12_rotateRight_2 0 rfl rfl)
theorem dJ12_rotateRight_49 : decode cJ12_rotateRight 49 = .ok (.putfield 101, 3) := dk_181 0 101 (dk_at dksJ12_rotateRight_2 1 rfl rfl)
theorem dJ12_rotateRight_52 : decode cJ12_rotateRight 52 = .ok (.goto 33, 3) := dk_167 0 33 (dk_at dksJ12_rotateRight_2 4 rfl rfl)
theorem dJ12_rotateRight_55 : decode cJ12_rotateRight 55 = .ok (.aload_n 1, 1) := dk_43 (dk_at dksJ12_rotateRight_2 7 rfl rfl)
theorem dJ12_rotateRight_56 : decode cJ12_rotateRight 56 = .ok (.getfield 124, 3) := dk_180 0 124 (dk_at dksJ12_rotateRight_2 8 rfl rfl)
theorem dJ12_rotateRight_59 : decode cJ12_rotateRight 59 = .ok (.getfield 114, 3) := dk_180 0 114 (dk_at dksJ12_rotateRight_2 11 rfl rfl)
theorem dJ12_rotateRight_62 : decode cJ12_rotateRight 62 = .ok (.aload_n 1, 1) := dk_43 (dk_at dksJ12_rotateRight_2 14 rfl rfl)
theorem dJ12_rotateRight_63 : decode cJ12_rotateRight 63 = .ok (.if_acmp .ne 14, 3) := dk_166 0 14 (dk_at dksJ12_rotateRight_2 15 rfl rfl)
theorem dJ12_rotateRight_66 : decode cJ12_rotateRight 66 = .ok (.aload_n 1, 1) := dk_43 (dk_at dksJ12_rotateRight_2 18 rfl rfl)
theorem dJ12_rotateRight_67 : decode cJ12_rotateRight 67 = .ok (.getfield 124, 3) := dk_180 0 124 (dk_at dksJ12_rotateRight_2 19 rfl rfl)
theorem dJ12_rotateRight_70 : decode cJ12_rotateRight 70 = .ok (.aload_n 2, 1) := dk_44 (dk_at dksJ12_rotateRight_2 22 rfl rfl)
theorem dJ12_rotateRight_71 : decode cJ12_rotateRight 71 = .ok (.putfield 114, 3) := dk_181 0 114 (dk_at dksJ12_rotateRight_3 0 rfl rfl)
theorem dJ12_rotateRight_74 : decode cJ12_rotateRight 74 = .ok (.goto 11, 3) := dk_167 0 11 (dk_at dksJ12_rotateRight_3 3 rfl rfl)
theorem dJ12_rotateRight_77 : decode cJ12_rotateRight 77 = .ok (.aload_n 1, 1) := dk_43 (dk_at dksJ12_rotateRight_3 6 rfl rfl)
theorem dJ12_rotateRight_78 : decode cJ12_rotateRight 78 = .ok (.getfield 124, 3) := dk_180 0 124 (dk_at dksJ12_rotateRight_3 7 rfl rfl)
theorem dJ12_rotateRight_81 : decode cJ12_rotateRight 81 = .ok (.aload_n 2, 1) := dk_44 (dk_at dksJ12_rotateRight_3 10 rfl rfl)
theorem dJ12_rotateRight_82 : decode cJ12_rotateRight 82 = .ok (.putfield 111, 3) := dk_181 0 111 (dk_at dksJ12_rotateRight_3 11 rfl rfl)
theorem dJ12_rotateRight_85 : decode cJ12_rotateRight 85 = .ok (.aload_n 2, 1) := dk_44 (dk_at dksJ12_rotateRight_3 14 rfl rfl)
theorem dJ12_rotateRight_86 : decode cJ12_rotateRight 86 = .ok (.aload_n 1, 1) := dk_43 (dk_at dksJ12_rotateRight_3 15 rfl rfl)
theorem dJ12_rotateRight_87 : decode cJ12_rotateRight 87 = .ok (.putfield 114, 3) := dk_181 0 114 (dk_at dksJ12_rotateRight_3 16 rfl rfl)
theorem dJ12_rotateRight_90 : decode cJ12_rotateRight 90 = .ok (.aload_n 1, 1) := dk_43 (dk_at dksJ12_rotateRight_3 19 rfl rfl)
theorem dJ12_rotateRight_91 : decode cJ12_rotateRight 91 = .ok (.aload_n 2, 1) := dk_44 (dk_at dksJ12_rotateRight_3 20 rfl rfl)
theorem dJ12_rotateRight_92 : decode cJ12_rotateRight 92 = .ok (.putfield 124, 3) := dk_181 0 124 (dk_at dksJ12_rotateRight_3 21 rfl rfl)
theorem dJ12_rotateRight_95 : decode cJ12_rotateRight 95 = .ok (.return_, 1) := dk_177 (dk_at dksJ12_rotateRight_4 0 rfl rfl)
abbrev cJ12_get : ByteArray := prog_66_method_8_code
def yJ12_get : MethodName := ⟨RJ12, "get", "(Ljava/lang/Object;)Ljava/lang/Object;"⟩
def dkwJ12_get_0 : List UInt8 := [42, 43, 182, 0, 50, 77, 44, 199, 0, 7, 1, 167, 0, 7, 44, 180, 0, 58, 176]
abbrev dktJ12_get_0 : List UInt8 := dkwJ12_get_0 ++ []
theorem dksJ12_get_0 : cJ12_get.data.toList.drop 0 = dktJ12_get_0 := by decide +kernel
theorem dJ12_get_0 : decode cJ12_get 0 = .ok (.aload_n 0, 1) := dk_42 (dk_at dksJ12_get_0 0 rfl rfl)
theorem dJ12_get_1 : decode cJ12_get 1 = .ok (.aload_n 1, 1) := dk_43 (dk_at dksJ12_get_0 1 rfl rfl)
theorem dJ12_get_2 : decode cJ12_get 2 = .ok (.invokevirtual 50, 3) := dk_182 0 50 (dk_at dksJ12_get_0 2 rfl rfl)
theorem dJ12_get_5 : decode cJ12_get 5 = .ok (.astore_n 2, 1) := dk_77 (dk_at dksJ12_get_0 5 rfl rfl)
theorem dJ12_get_6 : decode cJ12_get 6 = .ok (.aload_n 2, 1) := dk_44 (dk_at dksJ12_get_0 6 rfl rfl)
theorem dJ12_get_7 : decode cJ12_get 7 = .ok (.ifnonnull 7, 3) := dk_199 0 7 (dk_at dksJ12_get_0 7 rfl rfl)
theorem dJ12_get_10 : decode cJ12_get 10 = .ok (.aconst_null, 1) := dk_1 (dk_at dksJ12_get_0 10 rfl rfl)
theorem dJ12_get_11 : decode cJ12_get 11 = .ok (.goto 7, 3) := dk_167 0 7 (dk_at dksJ12_get_0 11 rfl rfl)
theorem dJ12_get_14 : decode cJ12_get 14 = .ok (.aload_n 2, 1) := dk_44 (dk_at dksJ12_get_0 14 rfl rfl)
theorem dJ12_get_15 : decode cJ12_get 15 = .ok (.getfield 58, 3) := dk_180 0 58 (dk_at dksJ12_get_0 15 rfl rfl)
theorem dJ12_get_18 : decode cJ12_get 18 = .ok (.areturn, 1) := dk_176 (dk_at dksJ12_get_0 18 rfl rfl)
abbrev cJ13_init : ByteArray := prog_46_method_1_code
def yJ13_init : MethodName := ⟨RJ13, "<init>", "()V"⟩
def dkwJ13_init_0 : List UInt8 := [42, 183, 0, 1, 42, 3, 181, 0, 7, 177]
abbrev dktJ13_init_0 : List UInt8 := dkwJ13_init_0 ++ []
theorem dksJ13_init_0 : cJ13_init.data.toList.drop 0 = dktJ13_init_0 := by decide +kernel
theorem dJ13_init_0 : decode cJ13_init 0 = .ok (.aload_n 0, 1) := dk_42 (dk_at dksJ13_init_0 0 rfl rfl)
theorem dJ13_init_1 : decode cJ13_init 1 = .ok (.invokespecial 1, 3) := dk_183 0 1 (dk_at dksJ13_init_0 1 rfl rfl)
theorem dJ13_init_4 : decode cJ13_init 4 = .ok (.aload_n 0, 1) := dk_42 (dk_at dksJ13_init_0 4 rfl rfl)
theorem dJ13_init_5 : decode cJ13_init 5 = .ok (.iconst 0, 1) := dk_3 (dk_at dksJ13_init_0 5 rfl rfl)
theorem dJ13_init_6 : decode cJ13_init 6 = .ok (.putfield 7, 3) := dk_181 0 7 (dk_at dksJ13_init_0 6 rfl rfl)
theorem dJ13_init_9 : decode cJ13_init 9 = .ok (.return_, 1) := dk_177 (dk_at dksJ13_init_0 9 rfl rfl)
abbrev cJ14_size : ByteArray := prog_50_method_8_code
def yJ14_size : MethodName := ⟨RJ14, "size", "()I"⟩
theorem dJ14_size_0 : decode cJ14_size 0 = .ok (.aload_n 0, 1) := by decide +kernel
theorem dJ14_size_1 : decode cJ14_size 1 = .ok (.getfield 48, 3) := by decide +kernel
theorem dJ14_size_4 : decode cJ14_size 4 = .ok (.ireturn, 1) := by decide +kernel
abbrev cJ14_init : ByteArray := prog_50_method_2_code
def yJ14_init : MethodName := ⟨RJ14, "<init>", "()V"⟩
def dkwJ14_init_0 : List UInt8 := [42, 183, 0, 1, 42, 178, 0, 39, 181, 0, 9, 177]
abbrev dktJ14_init_0 : List UInt8 := dkwJ14_init_0 ++ []
theorem dksJ14_init_0 : cJ14_init.data.toList.drop 0 = dktJ14_init_0 := by decide +kernel
theorem dJ14_init_0 : decode cJ14_init 0 = .ok (.aload_n 0, 1) := dk_42 (dk_at dksJ14_init_0 0 rfl rfl)
theorem dJ14_init_1 : decode cJ14_init 1 = .ok (.invokespecial 1, 3) := dk_183 0 1 (dk_at dksJ14_init_0 1 rfl rfl)
theorem dJ14_init_4 : decode cJ14_init 4 = .ok (.aload_n 0, 1) := dk_42 (dk_at dksJ14_init_0 4 rfl rfl)
theorem dJ14_init_5 : decode cJ14_init 5 = .ok (.getstatic 39, 3) := dk_178 0 39 (dk_at dksJ14_init_0 5 rfl rfl)
theorem dJ14_init_8 : decode cJ14_init 8 = .ok (.putfield 9, 3) := dk_181 0 9 (dk_at dksJ14_init_0 8 rfl rfl)
theorem dJ14_init_11 : decode cJ14_init 11 = .ok (.return_, 1) := dk_177 (dk_at dksJ14_init_0 11 rfl rfl)
abbrev cJ14_add : ByteArray := prog_50_method_25_code
def yJ14_add : MethodName := ⟨RJ14, "add", "(Ljava/lang/Object;)Z"⟩
def dkwJ14_add_1 : List UInt8 := [172]
abbrev dktJ14_add_1 : List UInt8 := dkwJ14_add_1 ++ []
def dkwJ14_add_0 : List UInt8 := [42, 89, 180, 0, 63, 4, 96, 181, 0, 63, 42, 43, 42, 180, 0, 9, 42, 180, 0, 48, 182, 0, 131, 4]
abbrev dktJ14_add_0 : List UInt8 := dkwJ14_add_0 ++ dktJ14_add_1
theorem dksJ14_add_0 : cJ14_add.data.toList.drop 0 = dktJ14_add_0 := by decide +kernel
theorem dksJ14_add_1 : cJ14_add.data.toList.drop 24 = dktJ14_add_1 := dk_seg dksJ14_add_0 24 rfl rfl
theorem dJ14_add_0 : decode cJ14_add 0 = .ok (.aload_n 0, 1) := dk_42 (dk_at dksJ14_add_0 0 rfl rfl)
theorem dJ14_add_1 : decode cJ14_add 1 = .ok (.dup, 1) := dk_89 (dk_at dksJ14_add_0 1 rfl rfl)
theorem dJ14_add_2 : decode cJ14_add 2 = .ok (.getfield 63, 3) := dk_180 0 63 (dk_at dksJ14_add_0 2 rfl rfl)
theorem dJ14_add_5 : decode cJ14_add 5 = .ok (.iconst 1, 1) := dk_4 (dk_at dksJ14_add_0 5 rfl rfl)
theorem dJ14_add_6 : decode cJ14_add 6 = .ok (.iadd, 1) := dk_96 (dk_at dksJ14_add_0 6 rfl rfl)
theorem dJ14_add_7 : decode cJ14_add 7 = .ok (.putfield 63, 3) := dk_181 0 63 (dk_at dksJ14_add_0 7 rfl rfl)
theorem dJ14_add_10 : decode cJ14_add 10 = .ok (.aload_n 0, 1) := dk_42 (dk_at dksJ14_add_0 10 rfl rfl)
theorem dJ14_add_11 : decode cJ14_add 11 = .ok (.aload_n 1, 1) := dk_43 (dk_at dksJ14_add_0 11 rfl rfl)
theorem dJ14_add_12 : decode cJ14_add 12 = .ok (.aload_n 0, 1) := dk_42 (dk_at dksJ14_add_0 12 rfl rfl)
theorem dJ14_add_13 : decode cJ14_add 13 = .ok (.getfield 9, 3) := dk_180 0 9 (dk_at dksJ14_add_0 13 rfl rfl)
theorem dJ14_add_16 : decode cJ14_add 16 = .ok (.aload_n 0, 1) := dk_42 (dk_at dksJ14_add_0 16 rfl rfl)
theorem dJ14_add_17 : decode cJ14_add 17 = .ok (.getfield 48, 3) := dk_180 0 48 (dk_at dksJ14_add_0 17 rfl rfl)
theorem dJ14_add_20 : decode cJ14_add 20 = .ok (.invokevirtual 131, 3) := dk_182 0 131 (dk_at dksJ14_add_0 20 rfl rfl)
theorem dJ14_add_23 : decode cJ14_add 23 = .ok (.iconst 1, 1) := dk_4 (dk_at dksJ14_add_0 23 rfl rfl)
theorem dJ14_add_24 : decode cJ14_add 24 = .ok (.ireturn, 1) := dk_172 (dk_at dksJ14_add_1 0 rfl rfl)
abbrev cJ14_add_2 : ByteArray := prog_50_method_24_code
def yJ14_add_2 : MethodName := ⟨RJ14, "add", "(Ljava/lang/Object;[Ljava/lang/Object;I)V"⟩
def dkwJ14_add_2_0 : List UInt8 := [29, 44, 190, 160, 0, 8, 42, 182, 0, 129, 77, 44, 29, 43, 83, 42, 29, 4, 96, 181, 0, 48, 177]
abbrev dktJ14_add_2_0 : List UInt8 := dkwJ14_add_2_0 ++ []
theorem dksJ14_add_2_0 : cJ14_add_2.data.toList.drop 0 = dktJ14_add_2_0 := by decide +kernel
theorem dJ14_add_2_0 : decode cJ14_add_2 0 = .ok (.iload_n 3, 1) := dk_29 (dk_at dksJ14_add_2_0 0 rfl rfl)
theorem dJ14_add_2_1 : decode cJ14_add_2 1 = .ok (.aload_n 2, 1) := dk_44 (dk_at dksJ14_add_2_0 1 rfl rfl)
theorem dJ14_add_2_2 : decode cJ14_add_2 2 = .ok (.arraylength, 1) := dk_190 (dk_at dksJ14_add_2_0 2 rfl rfl)
theorem dJ14_add_2_3 : decode cJ14_add_2 3 = .ok (.if_icmp .ne 8, 3) := dk_160 0 8 (dk_at dksJ14_add_2_0 3 rfl rfl)
theorem dJ14_add_2_6 : decode cJ14_add_2 6 = .ok (.aload_n 0, 1) := dk_42 (dk_at dksJ14_add_2_0 6 rfl rfl)
theorem dJ14_add_2_7 : decode cJ14_add_2 7 = .ok (.invokevirtual 129, 3) := dk_182 0 129 (dk_at dksJ14_add_2_0 7 rfl rfl)
theorem dJ14_add_2_10 : decode cJ14_add_2 10 = .ok (.astore_n 2, 1) := dk_77 (dk_at dksJ14_add_2_0 10 rfl rfl)
theorem dJ14_add_2_11 : decode cJ14_add_2 11 = .ok (.aload_n 2, 1) := dk_44 (dk_at dksJ14_add_2_0 11 rfl rfl)
theorem dJ14_add_2_12 : decode cJ14_add_2 12 = .ok (.iload_n 3, 1) := dk_29 (dk_at dksJ14_add_2_0 12 rfl rfl)
theorem dJ14_add_2_13 : decode cJ14_add_2 13 = .ok (.aload_n 1, 1) := dk_43 (dk_at dksJ14_add_2_0 13 rfl rfl)
theorem dJ14_add_2_14 : decode cJ14_add_2 14 = .ok (.aastore, 1) := dk_83 (dk_at dksJ14_add_2_0 14 rfl rfl)
theorem dJ14_add_2_15 : decode cJ14_add_2 15 = .ok (.aload_n 0, 1) := dk_42 (dk_at dksJ14_add_2_0 15 rfl rfl)
theorem dJ14_add_2_16 : decode cJ14_add_2 16 = .ok (.iload_n 3, 1) := dk_29 (dk_at dksJ14_add_2_0 16 rfl rfl)
theorem dJ14_add_2_17 : decode cJ14_add_2 17 = .ok (.iconst 1, 1) := dk_4 (dk_at dksJ14_add_2_0 17 rfl rfl)
theorem dJ14_add_2_18 : decode cJ14_add_2 18 = .ok (.iadd, 1) := dk_96 (dk_at dksJ14_add_2_0 18 rfl rfl)
theorem dJ14_add_2_19 : decode cJ14_add_2 19 = .ok (.putfield 48, 3) := dk_181 0 48 (dk_at dksJ14_add_2_0 19 rfl rfl)
theorem dJ14_add_2_22 : decode cJ14_add_2 22 = .ok (.return_, 1) := dk_177 (dk_at dksJ14_add_2_0 22 rfl rfl)
abbrev cJ14_grow : ByteArray := prog_50_method_7_code
def yJ14_grow : MethodName := ⟨RJ14, "grow", "()[Ljava/lang/Object;"⟩
def dkwJ14_grow_0 : List UInt8 := [42, 42, 180, 0, 48, 4, 96, 182, 0, 69, 176]
abbrev dktJ14_grow_0 : List UInt8 := dkwJ14_grow_0 ++ []
theorem dksJ14_grow_0 : cJ14_grow.data.toList.drop 0 = dktJ14_grow_0 := by decide +kernel
theorem dJ14_grow_0 : decode cJ14_grow 0 = .ok (.aload_n 0, 1) := dk_42 (dk_at dksJ14_grow_0 0 rfl rfl)
theorem dJ14_grow_1 : decode cJ14_grow 1 = .ok (.aload_n 0, 1) := dk_42 (dk_at dksJ14_grow_0 1 rfl rfl)
theorem dJ14_grow_2 : decode cJ14_grow 2 = .ok (.getfield 48, 3) := dk_180 0 48 (dk_at dksJ14_grow_0 2 rfl rfl)
theorem dJ14_grow_5 : decode cJ14_grow 5 = .ok (.iconst 1, 1) := dk_4 (dk_at dksJ14_grow_0 5 rfl rfl)
theorem dJ14_grow_6 : decode cJ14_grow 6 = .ok (.iadd, 1) := dk_96 (dk_at dksJ14_grow_0 6 rfl rfl)
theorem dJ14_grow_7 : decode cJ14_grow 7 = .ok (.invokevirtual 69, 3) := dk_182 0 69 (dk_at dksJ14_grow_0 7 rfl rfl)
theorem dJ14_grow_10 : decode cJ14_grow 10 = .ok (.areturn, 1) := dk_176 (dk_at dksJ14_grow_0 10 rfl rfl)
abbrev cJ14_grow_2 : ByteArray := prog_50_method_6_code
def yJ14_grow_2 : MethodName := ⟨RJ14, "grow", "(I)[Ljava/lang/Object;"⟩
def dkwJ14_grow_2_2 : List UInt8 := [27, 184, 0, 79, 189, 0, 7, 90, 181, 0, 9, 176]
abbrev dktJ14_grow_2_2 : List UInt8 := dkwJ14_grow_2_2 ++ []
def dkwJ14_grow_2_1 : List UInt8 := [28, 4, 122, 184, 0, 73, 62, 42, 42, 180, 0, 9, 29, 184, 0, 66, 90, 181, 0, 9, 176, 42, 16, 10]
abbrev dktJ14_grow_2_1 : List UInt8 := dkwJ14_grow_2_1 ++ dktJ14_grow_2_2
def dkwJ14_grow_2_0 : List UInt8 := [42, 180, 0, 9, 190, 61, 28, 157, 0, 13, 42, 180, 0, 9, 178, 0, 39, 165, 0, 28, 28, 27, 28, 100]
abbrev dktJ14_grow_2_0 : List UInt8 := dkwJ14_grow_2_0 ++ dktJ14_grow_2_1
theorem dksJ14_grow_2_0 : cJ14_grow_2.data.toList.drop 0 = dktJ14_grow_2_0 := by decide +kernel
theorem dksJ14_grow_2_1 : cJ14_grow_2.data.toList.drop 24 = dktJ14_grow_2_1 := dk_seg dksJ14_grow_2_0 24 rfl rfl
theorem dksJ14_grow_2_2 : cJ14_grow_2.data.toList.drop 48 = dktJ14_grow_2_2 := dk_seg dksJ14_grow_2_1 24 rfl rfl
theorem dJ14_grow_2_0 : decode cJ14_grow_2 0 = .ok (.aload_n 0, 1) := dk_42 (dk_at dksJ14_grow_2_0 0 rfl rfl)
theorem dJ14_grow_2_1 : decode cJ14_grow_2 1 = .ok (.getfield 9, 3) := dk_180 0 9 (dk_at dksJ14_grow_2_0 1 rfl rfl)
theorem dJ14_grow_2_4 : decode cJ14_grow_2 4 = .ok (.arraylength, 1) := dk_190 (dk_at dksJ14_grow_2_0 4 rfl rfl)
theorem dJ14_grow_2_5 : decode cJ14_grow_2 5 = .ok (.istore_n 2, 1) := dk_61 (dk_at dksJ14_grow_2_0 5 rfl rfl)
theorem dJ14_grow_2_6 : decode cJ14_grow_2 6 = .ok (.iload_n 2, 1) := dk_28 (dk_at dksJ14_grow_2_0 6 rfl rfl)
theorem dJ14_grow_2_7 : decode cJ14_grow_2 7 = .ok (.ifCond .gt 13, 3) := dk_157 0 13 (dk_at dksJ14_grow_2_0 7 rfl rfl)
theorem dJ14_grow_2_10 : decode cJ14_grow_2 10 = .ok (.aload_n 0, 1) := dk_42 (dk_at dksJ14_grow_2_0 10 rfl rfl)
theorem dJ14_grow_2_11 : decode cJ14_grow_2 11 = .ok (.getfield 9, 3) := dk_180 0 9 (dk_at dksJ14_grow_2_0 11 rfl rfl)
theorem dJ14_grow_2_14 : decode cJ14_grow_2 14 = .ok (.getstatic 39, 3) := dk_178 0 39 (dk_at dksJ14_grow_2_0 14 rfl rfl)
theorem dJ14_grow_2_17 : decode cJ14_grow_2 17 = .ok (.if_acmp .eq 28, 3) := dk_165 0 28 (dk_at dksJ14_grow_2_0 17 rfl rfl)
theorem dJ14_grow_2_20 : decode cJ14_grow_2 20 = .ok (.iload_n 2, 1) := dk_28 (dk_at dksJ14_grow_2_0 20 rfl rfl)
theorem dJ14_grow_2_21 : decode cJ14_grow_2 21 = .ok (.iload_n 1, 1) := dk_27 (dk_at dksJ14_grow_2_0 21 rfl rfl)
theorem dJ14_grow_2_22 : decode cJ14_grow_2 22 = .ok (.iload_n 2, 1) := dk_28 (dk_at dksJ14_grow_2_0 22 rfl rfl)
theorem dJ14_grow_2_23 : decode cJ14_grow_2 23 = .ok (.isub, 1) := dk_100 (dk_at dksJ14_grow_2_0 23 rfl rfl)
theorem dJ14_grow_2_24 : decode cJ14_grow_2 24 = .ok (.iload_n 2, 1) := dk_28 (dk_at dksJ14_grow_2_1 0 rfl rfl)
theorem dJ14_grow_2_25 : decode cJ14_grow_2 25 = .ok (.iconst 1, 1) := dk_4 (dk_at dksJ14_grow_2_1 1 rfl rfl)
theorem dJ14_grow_2_26 : decode cJ14_grow_2 26 = .ok (.ishr, 1) := dk_122 (dk_at dksJ14_grow_2_1 2 rfl rfl)
theorem dJ14_grow_2_27 : decode cJ14_grow_2 27 = .ok (.invokestatic 73, 3) := dk_184 0 73 (dk_at dksJ14_grow_2_1 3 rfl rfl)
theorem dJ14_grow_2_30 : decode cJ14_grow_2 30 = .ok (.istore_n 3, 1) := dk_62 (dk_at dksJ14_grow_2_1 6 rfl rfl)
theorem dJ14_grow_2_31 : decode cJ14_grow_2 31 = .ok (.aload_n 0, 1) := dk_42 (dk_at dksJ14_grow_2_1 7 rfl rfl)
theorem dJ14_grow_2_32 : decode cJ14_grow_2 32 = .ok (.aload_n 0, 1) := dk_42 (dk_at dksJ14_grow_2_1 8 rfl rfl)
theorem dJ14_grow_2_33 : decode cJ14_grow_2 33 = .ok (.getfield 9, 3) := dk_180 0 9 (dk_at dksJ14_grow_2_1 9 rfl rfl)
theorem dJ14_grow_2_36 : decode cJ14_grow_2 36 = .ok (.iload_n 3, 1) := dk_29 (dk_at dksJ14_grow_2_1 12 rfl rfl)
theorem dJ14_grow_2_37 : decode cJ14_grow_2 37 = .ok (.invokestatic 66, 3) := dk_184 0 66 (dk_at dksJ14_grow_2_1 13 rfl rfl)
theorem dJ14_grow_2_40 : decode cJ14_grow_2 40 = .ok (.dup_x1, 1) := dk_90 (dk_at dksJ14_grow_2_1 16 rfl rfl)
theorem dJ14_grow_2_41 : decode cJ14_grow_2 41 = .ok (.putfield 9, 3) := dk_181 0 9 (dk_at dksJ14_grow_2_1 17 rfl rfl)
theorem dJ14_grow_2_44 : decode cJ14_grow_2 44 = .ok (.areturn, 1) := dk_176 (dk_at dksJ14_grow_2_1 20 rfl rfl)
theorem dJ14_grow_2_45 : decode cJ14_grow_2 45 = .ok (.aload_n 0, 1) := dk_42 (dk_at dksJ14_grow_2_1 21 rfl rfl)
theorem dJ14_grow_2_46 : decode cJ14_grow_2 46 = .ok (.bipush 10, 2) := dk_16 10 (dk_at dksJ14_grow_2_1 22 rfl rfl)
theorem dJ14_grow_2_48 : decode cJ14_grow_2 48 = .ok (.iload_n 1, 1) := dk_27 (dk_at dksJ14_grow_2_2 0 rfl rfl)
theorem dJ14_grow_2_49 : decode cJ14_grow_2 49 = .ok (.invokestatic 79, 3) := dk_184 0 79 (dk_at dksJ14_grow_2_2 1 rfl rfl)
theorem dJ14_grow_2_52 : decode cJ14_grow_2 52 = .ok (.anewarray 7, 3) := dk_189 0 7 (dk_at dksJ14_grow_2_2 4 rfl rfl)
theorem dJ14_grow_2_55 : decode cJ14_grow_2 55 = .ok (.dup_x1, 1) := dk_90 (dk_at dksJ14_grow_2_2 7 rfl rfl)
theorem dJ14_grow_2_56 : decode cJ14_grow_2 56 = .ok (.putfield 9, 3) := dk_181 0 9 (dk_at dksJ14_grow_2_2 8 rfl rfl)
theorem dJ14_grow_2_59 : decode cJ14_grow_2 59 = .ok (.areturn, 1) := dk_176 (dk_at dksJ14_grow_2_2 11 rfl rfl)
abbrev cJ14_get : ByteArray := prog_50_method_20_code
def yJ14_get : MethodName := ⟨RJ14, "get", "(I)Ljava/lang/Object;"⟩
def dkwJ14_get_0 : List UInt8 := [27, 42, 180, 0, 48, 184, 0, 118, 87, 42, 27, 182, 0, 123, 176]
abbrev dktJ14_get_0 : List UInt8 := dkwJ14_get_0 ++ []
theorem dksJ14_get_0 : cJ14_get.data.toList.drop 0 = dktJ14_get_0 := by decide +kernel
theorem dJ14_get_0 : decode cJ14_get 0 = .ok (.iload_n 1, 1) := dk_27 (dk_at dksJ14_get_0 0 rfl rfl)
theorem dJ14_get_1 : decode cJ14_get 1 = .ok (.aload_n 0, 1) := dk_42 (dk_at dksJ14_get_0 1 rfl rfl)
theorem dJ14_get_2 : decode cJ14_get 2 = .ok (.getfield 48, 3) := dk_180 0 48 (dk_at dksJ14_get_0 2 rfl rfl)
theorem dJ14_get_5 : decode cJ14_get 5 = .ok (.invokestatic 118, 3) := dk_184 0 118 (dk_at dksJ14_get_0 5 rfl rfl)
theorem dJ14_get_8 : decode cJ14_get 8 = .ok (.pop, 1) := dk_87 (dk_at dksJ14_get_0 8 rfl rfl)
theorem dJ14_get_9 : decode cJ14_get 9 = .ok (.aload_n 0, 1) := dk_42 (dk_at dksJ14_get_0 9 rfl rfl)
theorem dJ14_get_10 : decode cJ14_get 10 = .ok (.iload_n 1, 1) := dk_27 (dk_at dksJ14_get_0 10 rfl rfl)
theorem dJ14_get_11 : decode cJ14_get 11 = .ok (.invokevirtual 123, 3) := dk_182 0 123 (dk_at dksJ14_get_0 11 rfl rfl)
theorem dJ14_get_14 : decode cJ14_get 14 = .ok (.areturn, 1) := dk_176 (dk_at dksJ14_get_0 14 rfl rfl)
abbrev cJ14_elementData : ByteArray := prog_50_method_18_code
def yJ14_elementData : MethodName := ⟨RJ14, "elementData", "(I)Ljava/lang/Object;"⟩
def dkwJ14_elementData_0 : List UInt8 := [42, 180, 0, 9, 27, 50, 176]
abbrev dktJ14_elementData_0 : List UInt8 := dkwJ14_elementData_0 ++ []
theorem dksJ14_elementData_0 : cJ14_elementData.data.toList.drop 0 = dktJ14_elementData_0 := by decide +kernel
theorem dJ14_elementData_0 : decode cJ14_elementData 0 = .ok (.aload_n 0, 1) := dk_42 (dk_at dksJ14_elementData_0 0 rfl rfl)
theorem dJ14_elementData_1 : decode cJ14_elementData 1 = .ok (.getfield 9, 3) := dk_180 0 9 (dk_at dksJ14_elementData_0 1 rfl rfl)
theorem dJ14_elementData_4 : decode cJ14_elementData 4 = .ok (.iload_n 1, 1) := dk_27 (dk_at dksJ14_elementData_0 4 rfl rfl)
theorem dJ14_elementData_5 : decode cJ14_elementData 5 = .ok (.aaload, 1) := dk_50 (dk_at dksJ14_elementData_0 5 rfl rfl)
theorem dJ14_elementData_6 : decode cJ14_elementData 6 = .ok (.areturn, 1) := dk_176 (dk_at dksJ14_elementData_0 6 rfl rfl)
abbrev cJ14_addAll : ByteArray := prog_50_method_41_code
def yJ14_addAll : MethodName := ⟨RJ14, "addAll", "(Ljava/util/Collection;)Z"⟩
def dkwJ14_addAll_3 : List UInt8 := [181, 0, 48, 4, 172]
abbrev dktJ14_addAll_3 : List UInt8 := dkwJ14_addAll_3 ++ []
def dkwJ14_addAll_2 : List UInt8 := [21, 5, 29, 96, 182, 0, 69, 58, 4, 44, 3, 25, 4, 21, 5, 29, 184, 0, 112, 42, 21, 5, 29, 96]
abbrev dktJ14_addAll_2 : List UInt8 := dkwJ14_addAll_2 ++ dktJ14_addAll_3
def dkwJ14_addAll_1 : List UInt8 := [3, 172, 29, 42, 180, 0, 9, 89, 58, 4, 190, 42, 180, 0, 48, 89, 54, 5, 100, 164, 0, 13, 42]
abbrev dktJ14_addAll_1 : List UInt8 := dkwJ14_addAll_1 ++ dktJ14_addAll_2
def dkwJ14_addAll_0 : List UInt8 := [43, 185, 0, 42, 1, 0, 77, 42, 89, 180, 0, 63, 4, 96, 181, 0, 63, 44, 190, 62, 29, 154, 0, 5]
abbrev dktJ14_addAll_0 : List UInt8 := dkwJ14_addAll_0 ++ dktJ14_addAll_1
theorem dksJ14_addAll_0 : cJ14_addAll.data.toList.drop 0 = dktJ14_addAll_0 := by decide +kernel
theorem dksJ14_addAll_1 : cJ14_addAll.data.toList.drop 24 = dktJ14_addAll_1 := dk_seg dksJ14_addAll_0 24 rfl rfl
theorem dksJ14_addAll_2 : cJ14_addAll.data.toList.drop 47 = dktJ14_addAll_2 := dk_seg dksJ14_addAll_1 23 rfl rfl
theorem dksJ14_addAll_3 : cJ14_addAll.data.toList.drop 71 = dktJ14_addAll_3 := dk_seg dksJ14_addAll_2 24 rfl rfl
theorem dJ14_addAll_0 : decode cJ14_addAll 0 = .ok (.aload_n 1, 1) := dk_43 (dk_at dksJ14_addAll_0 0 rfl rfl)
theorem dJ14_addAll_1 : decode cJ14_addAll 1 = .ok (.invokeinterface 42 1, 5) := by decide +kernel
theorem dJ14_addAll_6 : decode cJ14_addAll 6 = .ok (.astore_n 2, 1) := dk_77 (dk_at dksJ14_addAll_0 6 rfl rfl)
theorem dJ14_addAll_7 : decode cJ14_addAll 7 = .ok (.aload_n 0, 1) := dk_42 (dk_at dksJ14_addAll_0 7 rfl rfl)
theorem dJ14_addAll_8 : decode cJ14_addAll 8 = .ok (.dup, 1) := dk_89 (dk_at dksJ14_addAll_0 8 rfl rfl)
theorem dJ14_addAll_9 : decode cJ14_addAll 9 = .ok (.getfield 63, 3) := dk_180 0 63 (dk_at dksJ14_addAll_0 9 rfl rfl)
theorem dJ14_addAll_12 : decode cJ14_addAll 12 = .ok (.iconst 1, 1) := dk_4 (dk_at dksJ14_addAll_0 12 rfl rfl)
theorem dJ14_addAll_13 : decode cJ14_addAll 13 = .ok (.iadd, 1) := dk_96 (dk_at dksJ14_addAll_0 13 rfl rfl)
theorem dJ14_addAll_14 : decode cJ14_addAll 14 = .ok (.putfield 63, 3) := dk_181 0 63 (dk_at dksJ14_addAll_0 14 rfl rfl)
theorem dJ14_addAll_17 : decode cJ14_addAll 17 = .ok (.aload_n 2, 1) := dk_44 (dk_at dksJ14_addAll_0 17 rfl rfl)
theorem dJ14_addAll_18 : decode cJ14_addAll 18 = .ok (.arraylength, 1) := dk_190 (dk_at dksJ14_addAll_0 18 rfl rfl)
theorem dJ14_addAll_19 : decode cJ14_addAll 19 = .ok (.istore_n 3, 1) := dk_62 (dk_at dksJ14_addAll_0 19 rfl rfl)
theorem dJ14_addAll_20 : decode cJ14_addAll 20 = .ok (.iload_n 3, 1) := dk_29 (dk_at dksJ14_addAll_0 20 rfl rfl)
theorem dJ14_addAll_21 : decode cJ14_addAll 21 = .ok (.ifCond .ne 5, 3) := dk_154 0 5 (dk_at dksJ14_addAll_0 21 rfl rfl)
theorem dJ14_addAll_24 : decode cJ14_addAll 24 = .ok (.iconst 0, 1) := dk_3 (dk_at dksJ14_addAll_1 0 rfl rfl)
theorem dJ14_addAll_25 : decode cJ14_addAll 25 = .ok (.ireturn, 1) := dk_172 (dk_at dksJ14_addAll_1 1 rfl rfl)
theorem dJ14_addAll_26 : decode cJ14_addAll 26 = .ok (.iload_n 3, 1) := dk_29 (dk_at dksJ14_addAll_1 2 rfl rfl)
theorem dJ14_addAll_27 : decode cJ14_addAll 27 = .ok (.aload_n 0, 1) := dk_42 (dk_at dksJ14_addAll_1 3 rfl rfl)
theorem dJ14_addAll_28 : decode cJ14_addAll 28 = .ok (.getfield 9, 3) := dk_180 0 9 (dk_at dksJ14_addAll_1 4 rfl rfl)
theorem dJ14_addAll_31 : decode cJ14_addAll 31 = .ok (.dup, 1) := dk_89 (dk_at dksJ14_addAll_1 7 rfl rfl)
theorem dJ14_addAll_32 : decode cJ14_addAll 32 = .ok (.astore 4, 2) := dk_58 4 (dk_at dksJ14_addAll_1 8 rfl rfl)
theorem dJ14_addAll_34 : decode cJ14_addAll 34 = .ok (.arraylength, 1) := dk_190 (dk_at dksJ14_addAll_1 10 rfl rfl)
theorem dJ14_addAll_35 : decode cJ14_addAll 35 = .ok (.aload_n 0, 1) := dk_42 (dk_at dksJ14_addAll_1 11 rfl rfl)
theorem dJ14_addAll_36 : decode cJ14_addAll 36 = .ok (.getfield 48, 3) := dk_180 0 48 (dk_at dksJ14_addAll_1 12 rfl rfl)
theorem dJ14_addAll_39 : decode cJ14_addAll 39 = .ok (.dup, 1) := dk_89 (dk_at dksJ14_addAll_1 15 rfl rfl)
theorem dJ14_addAll_40 : decode cJ14_addAll 40 = .ok (.istore 5, 2) := dk_54 5 (dk_at dksJ14_addAll_1 16 rfl rfl)
theorem dJ14_addAll_42 : decode cJ14_addAll 42 = .ok (.isub, 1) := dk_100 (dk_at dksJ14_addAll_1 18 rfl rfl)
theorem dJ14_addAll_43 : decode cJ14_addAll 43 = .ok (.if_icmp .le 13, 3) := dk_164 0 13 (dk_at dksJ14_addAll_1 19 rfl rfl)
theorem dJ14_addAll_46 : decode cJ14_addAll 46 = .ok (.aload_n 0, 1) := dk_42 (dk_at dksJ14_addAll_1 22 rfl rfl)
theorem dJ14_addAll_47 : decode cJ14_addAll 47 = .ok (.iload 5, 2) := dk_21 5 (dk_at dksJ14_addAll_2 0 rfl rfl)
theorem dJ14_addAll_49 : decode cJ14_addAll 49 = .ok (.iload_n 3, 1) := dk_29 (dk_at dksJ14_addAll_2 2 rfl rfl)
theorem dJ14_addAll_50 : decode cJ14_addAll 50 = .ok (.iadd, 1) := dk_96 (dk_at dksJ14_addAll_2 3 rfl rfl)
theorem dJ14_addAll_51 : decode cJ14_addAll 51 = .ok (.invokevirtual 69, 3) := dk_182 0 69 (dk_at dksJ14_addAll_2 4 rfl rfl)
theorem dJ14_addAll_54 : decode cJ14_addAll 54 = .ok (.astore 4, 2) := dk_58 4 (dk_at dksJ14_addAll_2 7 rfl rfl)
theorem dJ14_addAll_56 : decode cJ14_addAll 56 = .ok (.aload_n 2, 1) := dk_44 (dk_at dksJ14_addAll_2 9 rfl rfl)
theorem dJ14_addAll_57 : decode cJ14_addAll 57 = .ok (.iconst 0, 1) := dk_3 (dk_at dksJ14_addAll_2 10 rfl rfl)
theorem dJ14_addAll_58 : decode cJ14_addAll 58 = .ok (.aload 4, 2) := dk_25 4 (dk_at dksJ14_addAll_2 11 rfl rfl)
theorem dJ14_addAll_60 : decode cJ14_addAll 60 = .ok (.iload 5, 2) := dk_21 5 (dk_at dksJ14_addAll_2 13 rfl rfl)
theorem dJ14_addAll_62 : decode cJ14_addAll 62 = .ok (.iload_n 3, 1) := dk_29 (dk_at dksJ14_addAll_2 15 rfl rfl)
theorem dJ14_addAll_63 : decode cJ14_addAll 63 = .ok (.invokestatic 112, 3) := dk_184 0 112 (dk_at dksJ14_addAll_2 16 rfl rfl)
theorem dJ14_addAll_66 : decode cJ14_addAll 66 = .ok (.aload_n 0, 1) := dk_42 (dk_at dksJ14_addAll_2 19 rfl rfl)
theorem dJ14_addAll_67 : decode cJ14_addAll 67 = .ok (.iload 5, 2) := dk_21 5 (dk_at dksJ14_addAll_2 20 rfl rfl)
theorem dJ14_addAll_69 : decode cJ14_addAll 69 = .ok (.iload_n 3, 1) := dk_29 (dk_at dksJ14_addAll_2 22 rfl rfl)
theorem dJ14_addAll_70 : decode cJ14_addAll 70 = .ok (.iadd, 1) := dk_96 (dk_at dksJ14_addAll_2 23 rfl rfl)
theorem dJ14_addAll_71 : decode cJ14_addAll 71 = .ok (.putfield 48, 3) := dk_181 0 48 (dk_at dksJ14_addAll_3 0 rfl rfl)
theorem dJ14_addAll_74 : decode cJ14_addAll 74 = .ok (.iconst 1, 1) := dk_4 (dk_at dksJ14_addAll_3 3 rfl rfl)
theorem dJ14_addAll_75 : decode cJ14_addAll 75 = .ok (.ireturn, 1) := dk_172 (dk_at dksJ14_addAll_3 4 rfl rfl)
abbrev cJ14_toArray : ByteArray := prog_50_method_16_code
def yJ14_toArray : MethodName := ⟨RJ14, "toArray", "()[Ljava/lang/Object;"⟩
def dkwJ14_toArray_0 : List UInt8 := [42, 180, 0, 9, 42, 180, 0, 48, 184, 0, 66, 176]
abbrev dktJ14_toArray_0 : List UInt8 := dkwJ14_toArray_0 ++ []
theorem dksJ14_toArray_0 : cJ14_toArray.data.toList.drop 0 = dktJ14_toArray_0 := by decide +kernel
theorem dJ14_toArray_0 : decode cJ14_toArray 0 = .ok (.aload_n 0, 1) := dk_42 (dk_at dksJ14_toArray_0 0 rfl rfl)
theorem dJ14_toArray_1 : decode cJ14_toArray 1 = .ok (.getfield 9, 3) := dk_180 0 9 (dk_at dksJ14_toArray_0 1 rfl rfl)
theorem dJ14_toArray_4 : decode cJ14_toArray 4 = .ok (.aload_n 0, 1) := dk_42 (dk_at dksJ14_toArray_0 4 rfl rfl)
theorem dJ14_toArray_5 : decode cJ14_toArray 5 = .ok (.getfield 48, 3) := dk_180 0 48 (dk_at dksJ14_toArray_0 5 rfl rfl)
theorem dJ14_toArray_8 : decode cJ14_toArray 8 = .ok (.invokestatic 66, 3) := dk_184 0 66 (dk_at dksJ14_toArray_0 8 rfl rfl)
theorem dJ14_toArray_11 : decode cJ14_toArray 11 = .ok (.areturn, 1) := dk_176 (dk_at dksJ14_toArray_0 11 rfl rfl)
abbrev cJ14_init_2 : ByteArray := prog_50_method_1_code
def yJ14_init_2 : MethodName := ⟨RJ14, "<init>", "(I)V"⟩
def dkwJ14_init_2_2 : List UInt8 := [182, 0, 25, 27, 182, 0, 29, 182, 0, 32, 183, 0, 36, 191, 177]
abbrev dktJ14_init_2_2 : List UInt8 := dkwJ14_init_2_2 ++ []
def dkwJ14_init_2_1 : List UInt8 := [178, 0, 15, 181, 0, 9, 167, 0, 30, 187, 0, 18, 89, 187, 0, 20, 89, 183, 0, 22, 18, 23]
abbrev dktJ14_init_2_1 : List UInt8 := dkwJ14_init_2_1 ++ dktJ14_init_2_2
def dkwJ14_init_2_0 : List UInt8 := [42, 183, 0, 1, 27, 158, 0, 14, 42, 27, 189, 0, 7, 181, 0, 9, 167, 0, 44, 27, 154, 0, 13, 42]
abbrev dktJ14_init_2_0 : List UInt8 := dkwJ14_init_2_0 ++ dktJ14_init_2_1
theorem dksJ14_init_2_0 : cJ14_init_2.data.toList.drop 0 = dktJ14_init_2_0 := by decide +kernel
theorem dksJ14_init_2_1 : cJ14_init_2.data.toList.drop 24 = dktJ14_init_2_1 := dk_seg dksJ14_init_2_0 24 rfl rfl
theorem dksJ14_init_2_2 : cJ14_init_2.data.toList.drop 46 = dktJ14_init_2_2 := dk_seg dksJ14_init_2_1 22 rfl rfl
theorem dJ14_init_2_0 : decode cJ14_init_2 0 = .ok (.aload_n 0, 1) := dk_42 (dk_at dksJ14_init_2_0 0 rfl rfl)
theorem dJ14_init_2_1 : decode cJ14_init_2 1 = .ok (.invokespecial 1, 3) := dk_183 0 1 (dk_at dksJ14_init_2_0 1 rfl rfl)
theorem dJ14_init_2_4 : decode cJ14_init_2 4 = .ok (.iload_n 1, 1) := dk_27 (dk_at dksJ14_init_2_0 4 rfl rfl)
theorem dJ14_init_2_5 : decode cJ14_init_2 5 = .ok (.ifCond .le 14, 3) := dk_158 0 14 (dk_at dksJ14_init_2_0 5 rfl rfl)
theorem dJ14_init_2_8 : decode cJ14_init_2 8 = .ok (.aload_n 0, 1) := dk_42 (dk_at dksJ14_init_2_0 8 rfl rfl)
theorem dJ14_init_2_9 : decode cJ14_init_2 9 = .ok (.iload_n 1, 1) := dk_27 (dk_at dksJ14_init_2_0 9 rfl rfl)
theorem dJ14_init_2_10 : decode cJ14_init_2 10 = .ok (.anewarray 7, 3) := dk_189 0 7 (dk_at dksJ14_init_2_0 10 rfl rfl)
theorem dJ14_init_2_13 : decode cJ14_init_2 13 = .ok (.putfield 9, 3) := dk_181 0 9 (dk_at dksJ14_init_2_0 13 rfl rfl)
theorem dJ14_init_2_16 : decode cJ14_init_2 16 = .ok (.goto 44, 3) := dk_167 0 44 (dk_at dksJ14_init_2_0 16 rfl rfl)
theorem dJ14_init_2_19 : decode cJ14_init_2 19 = .ok (.iload_n 1, 1) := dk_27 (dk_at dksJ14_init_2_0 19 rfl rfl)
theorem dJ14_init_2_20 : decode cJ14_init_2 20 = .ok (.ifCond .ne 13, 3) := dk_154 0 13 (dk_at dksJ14_init_2_0 20 rfl rfl)
theorem dJ14_init_2_23 : decode cJ14_init_2 23 = .ok (.aload_n 0, 1) := dk_42 (dk_at dksJ14_init_2_0 23 rfl rfl)
theorem dJ14_init_2_24 : decode cJ14_init_2 24 = .ok (.getstatic 15, 3) := dk_178 0 15 (dk_at dksJ14_init_2_1 0 rfl rfl)
theorem dJ14_init_2_27 : decode cJ14_init_2 27 = .ok (.putfield 9, 3) := dk_181 0 9 (dk_at dksJ14_init_2_1 3 rfl rfl)
theorem dJ14_init_2_30 : decode cJ14_init_2 30 = .ok (.goto 30, 3) := dk_167 0 30 (dk_at dksJ14_init_2_1 6 rfl rfl)
theorem dJ14_init_2_33 : decode cJ14_init_2 33 = .ok (.new 18, 3) := dk_187 0 18 (dk_at dksJ14_init_2_1 9 rfl rfl)
theorem dJ14_init_2_36 : decode cJ14_init_2 36 = .ok (.dup, 1) := dk_89 (dk_at dksJ14_init_2_1 12 rfl rfl)
theorem dJ14_init_2_37 : decode cJ14_init_2 37 = .ok (.new 20, 3) := dk_187 0 20 (dk_at dksJ14_init_2_1 13 rfl rfl)
theorem dJ14_init_2_40 : decode cJ14_init_2 40 = .ok (.dup, 1) := dk_89 (dk_at dksJ14_init_2_1 16 rfl rfl)
theorem dJ14_init_2_41 : decode cJ14_init_2 41 = .ok (.invokespecial 22, 3) := dk_183 0 22 (dk_at dksJ14_init_2_1 17 rfl rfl)
theorem dJ14_init_2_44 : decode cJ14_init_2 44 = .ok (.ldc 23, 2) := dk_18 23 (dk_at dksJ14_init_2_1 20 rfl rfl)
theorem dJ14_init_2_46 : decode cJ14_init_2 46 = .ok (.invokevirtual 25, 3) := dk_182 0 25 (dk_at dksJ14_init_2_2 0 rfl rfl)
theorem dJ14_init_2_49 : decode cJ14_init_2 49 = .ok (.iload_n 1, 1) := dk_27 (dk_at dksJ14_init_2_2 3 rfl rfl)
theorem dJ14_init_2_50 : decode cJ14_init_2 50 = .ok (.invokevirtual 29, 3) := dk_182 0 29 (dk_at dksJ14_init_2_2 4 rfl rfl)
theorem dJ14_init_2_53 : decode cJ14_init_2 53 = .ok (.invokevirtual 32, 3) := dk_182 0 32 (dk_at dksJ14_init_2_2 7 rfl rfl)
theorem dJ14_init_2_56 : decode cJ14_init_2 56 = .ok (.invokespecial 36, 3) := dk_183 0 36 (dk_at dksJ14_init_2_2 10 rfl rfl)
theorem dJ14_init_2_59 : decode cJ14_init_2 59 = .ok (.athrow, 1) := dk_191 (dk_at dksJ14_init_2_2 13 rfl rfl)
theorem dJ14_init_2_60 : decode cJ14_init_2 60 = .ok (.return_, 1) := dk_177 (dk_at dksJ14_init_2_2 14 rfl rfl)
abbrev cJ14_isEmpty : ByteArray := prog_50_method_9_code
def yJ14_isEmpty : MethodName := ⟨RJ14, "isEmpty", "()Z"⟩
def dkwJ14_isEmpty_0 : List UInt8 := [42, 180, 0, 48, 154, 0, 7, 4, 167, 0, 4, 3, 172]
abbrev dktJ14_isEmpty_0 : List UInt8 := dkwJ14_isEmpty_0 ++ []
theorem dksJ14_isEmpty_0 : cJ14_isEmpty.data.toList.drop 0 = dktJ14_isEmpty_0 := by decide +kernel
theorem dJ14_isEmpty_0 : decode cJ14_isEmpty 0 = .ok (.aload_n 0, 1) := dk_42 (dk_at dksJ14_isEmpty_0 0 rfl rfl)
theorem dJ14_isEmpty_1 : decode cJ14_isEmpty 1 = .ok (.getfield 48, 3) := dk_180 0 48 (dk_at dksJ14_isEmpty_0 1 rfl rfl)
theorem dJ14_isEmpty_4 : decode cJ14_isEmpty 4 = .ok (.ifCond .ne 7, 3) := dk_154 0 7 (dk_at dksJ14_isEmpty_0 4 rfl rfl)
theorem dJ14_isEmpty_7 : decode cJ14_isEmpty 7 = .ok (.iconst 1, 1) := dk_4 (dk_at dksJ14_isEmpty_0 7 rfl rfl)
theorem dJ14_isEmpty_8 : decode cJ14_isEmpty 8 = .ok (.goto 4, 3) := dk_167 0 4 (dk_at dksJ14_isEmpty_0 8 rfl rfl)
theorem dJ14_isEmpty_11 : decode cJ14_isEmpty 11 = .ok (.iconst 0, 1) := dk_3 (dk_at dksJ14_isEmpty_0 11 rfl rfl)
theorem dJ14_isEmpty_12 : decode cJ14_isEmpty 12 = .ok (.ireturn, 1) := dk_172 (dk_at dksJ14_isEmpty_0 12 rfl rfl)
abbrev cJ15_newLength : ByteArray := prog_71_method_27_code
def yJ15_newLength : MethodName := ⟨RJ15, "newLength", "(III)I"⟩
def dkwJ15_newLength_1 : List UInt8 := [184, 0, 201, 172]
abbrev dktJ15_newLength_1 : List UInt8 := dkwJ15_newLength_1 ++ []
def dkwJ15_newLength_0 : List UInt8 := [26, 27, 28, 184, 0, 194, 96, 62, 3, 29, 162, 0, 11, 29, 18, 200, 163, 0, 5, 29, 172, 26, 27]
abbrev dktJ15_newLength_0 : List UInt8 := dkwJ15_newLength_0 ++ dktJ15_newLength_1
theorem dksJ15_newLength_0 : cJ15_newLength.data.toList.drop 0 = dktJ15_newLength_0 := by decide +kernel
theorem dksJ15_newLength_1 : cJ15_newLength.data.toList.drop 23 = dktJ15_newLength_1 := dk_seg dksJ15_newLength_0 23 rfl rfl
theorem dJ15_newLength_0 : decode cJ15_newLength 0 = .ok (.iload_n 0, 1) := dk_26 (dk_at dksJ15_newLength_0 0 rfl rfl)
theorem dJ15_newLength_1 : decode cJ15_newLength 1 = .ok (.iload_n 1, 1) := dk_27 (dk_at dksJ15_newLength_0 1 rfl rfl)
theorem dJ15_newLength_2 : decode cJ15_newLength 2 = .ok (.iload_n 2, 1) := dk_28 (dk_at dksJ15_newLength_0 2 rfl rfl)
theorem dJ15_newLength_3 : decode cJ15_newLength 3 = .ok (.invokestatic 194, 3) := dk_184 0 194 (dk_at dksJ15_newLength_0 3 rfl rfl)
theorem dJ15_newLength_6 : decode cJ15_newLength 6 = .ok (.iadd, 1) := dk_96 (dk_at dksJ15_newLength_0 6 rfl rfl)
theorem dJ15_newLength_7 : decode cJ15_newLength 7 = .ok (.istore_n 3, 1) := dk_62 (dk_at dksJ15_newLength_0 7 rfl rfl)
theorem dJ15_newLength_8 : decode cJ15_newLength 8 = .ok (.iconst 0, 1) := dk_3 (dk_at dksJ15_newLength_0 8 rfl rfl)
theorem dJ15_newLength_9 : decode cJ15_newLength 9 = .ok (.iload_n 3, 1) := dk_29 (dk_at dksJ15_newLength_0 9 rfl rfl)
theorem dJ15_newLength_10 : decode cJ15_newLength 10 = .ok (.if_icmp .ge 11, 3) := dk_162 0 11 (dk_at dksJ15_newLength_0 10 rfl rfl)
theorem dJ15_newLength_13 : decode cJ15_newLength 13 = .ok (.iload_n 3, 1) := dk_29 (dk_at dksJ15_newLength_0 13 rfl rfl)
theorem dJ15_newLength_14 : decode cJ15_newLength 14 = .ok (.ldc 200, 2) := dk_18 200 (dk_at dksJ15_newLength_0 14 rfl rfl)
theorem dJ15_newLength_16 : decode cJ15_newLength 16 = .ok (.if_icmp .gt 5, 3) := dk_163 0 5 (dk_at dksJ15_newLength_0 16 rfl rfl)
theorem dJ15_newLength_19 : decode cJ15_newLength 19 = .ok (.iload_n 3, 1) := dk_29 (dk_at dksJ15_newLength_0 19 rfl rfl)
theorem dJ15_newLength_20 : decode cJ15_newLength 20 = .ok (.ireturn, 1) := dk_172 (dk_at dksJ15_newLength_0 20 rfl rfl)
theorem dJ15_newLength_21 : decode cJ15_newLength 21 = .ok (.iload_n 0, 1) := dk_26 (dk_at dksJ15_newLength_0 21 rfl rfl)
theorem dJ15_newLength_22 : decode cJ15_newLength 22 = .ok (.iload_n 1, 1) := dk_27 (dk_at dksJ15_newLength_0 22 rfl rfl)
theorem dJ15_newLength_23 : decode cJ15_newLength 23 = .ok (.invokestatic 201, 3) := dk_184 0 201 (dk_at dksJ15_newLength_1 0 rfl rfl)
theorem dJ15_newLength_26 : decode cJ15_newLength 26 = .ok (.ireturn, 1) := dk_172 (dk_at dksJ15_newLength_1 3 rfl rfl)
abbrev cJ15_hugeLength : ByteArray := prog_71_method_28_code
def yJ15_hugeLength : MethodName := ⟨RJ15, "hugeLength", "(II)I"⟩
def dkwJ15_hugeLength_2 : List UInt8 := [191, 28, 18, 200, 163, 0, 6, 18, 200, 172, 28, 172]
abbrev dktJ15_hugeLength_2 : List UInt8 := dkwJ15_hugeLength_2 ++ []
def dkwJ15_hugeLength_1 : List UInt8 := [26, 182, 0, 98, 18, 208, 182, 0, 94, 27, 182, 0, 98, 18, 210, 182, 0, 94, 182, 0, 101, 183, 0, 212]
abbrev dktJ15_hugeLength_1 : List UInt8 := dkwJ15_hugeLength_1 ++ dktJ15_hugeLength_2
def dkwJ15_hugeLength_0 : List UInt8 := [26, 27, 96, 61, 28, 156, 0, 44, 187, 0, 204, 89, 187, 0, 89, 89, 183, 0, 91, 18, 206, 182, 0, 94]
abbrev dktJ15_hugeLength_0 : List UInt8 := dkwJ15_hugeLength_0 ++ dktJ15_hugeLength_1
theorem dksJ15_hugeLength_0 : cJ15_hugeLength.data.toList.drop 0 = dktJ15_hugeLength_0 := by decide +kernel
theorem dksJ15_hugeLength_1 : cJ15_hugeLength.data.toList.drop 24 = dktJ15_hugeLength_1 := dk_seg dksJ15_hugeLength_0 24 rfl rfl
theorem dksJ15_hugeLength_2 : cJ15_hugeLength.data.toList.drop 48 = dktJ15_hugeLength_2 := dk_seg dksJ15_hugeLength_1 24 rfl rfl
theorem dJ15_hugeLength_0 : decode cJ15_hugeLength 0 = .ok (.iload_n 0, 1) := dk_26 (dk_at dksJ15_hugeLength_0 0 rfl rfl)
theorem dJ15_hugeLength_1 : decode cJ15_hugeLength 1 = .ok (.iload_n 1, 1) := dk_27 (dk_at dksJ15_hugeLength_0 1 rfl rfl)
theorem dJ15_hugeLength_2 : decode cJ15_hugeLength 2 = .ok (.iadd, 1) := dk_96 (dk_at dksJ15_hugeLength_0 2 rfl rfl)
theorem dJ15_hugeLength_3 : decode cJ15_hugeLength 3 = .ok (.istore_n 2, 1) := dk_61 (dk_at dksJ15_hugeLength_0 3 rfl rfl)
theorem dJ15_hugeLength_4 : decode cJ15_hugeLength 4 = .ok (.iload_n 2, 1) := dk_28 (dk_at dksJ15_hugeLength_0 4 rfl rfl)
theorem dJ15_hugeLength_5 : decode cJ15_hugeLength 5 = .ok (.ifCond .ge 44, 3) := dk_156 0 44 (dk_at dksJ15_hugeLength_0 5 rfl rfl)
theorem dJ15_hugeLength_8 : decode cJ15_hugeLength 8 = .ok (.new 204, 3) := dk_187 0 204 (dk_at dksJ15_hugeLength_0 8 rfl rfl)
theorem dJ15_hugeLength_11 : decode cJ15_hugeLength 11 = .ok (.dup, 1) := dk_89 (dk_at dksJ15_hugeLength_0 11 rfl rfl)
theorem dJ15_hugeLength_12 : decode cJ15_hugeLength 12 = .ok (.new 89, 3) := dk_187 0 89 (dk_at dksJ15_hugeLength_0 12 rfl rfl)
theorem dJ15_hugeLength_15 : decode cJ15_hugeLength 15 = .ok (.dup, 1) := dk_89 (dk_at dksJ15_hugeLength_0 15 rfl rfl)
theorem dJ15_hugeLength_16 : decode cJ15_hugeLength 16 = .ok (.invokespecial 91, 3) := dk_183 0 91 (dk_at dksJ15_hugeLength_0 16 rfl rfl)
theorem dJ15_hugeLength_19 : decode cJ15_hugeLength 19 = .ok (.ldc 206, 2) := dk_18 206 (dk_at dksJ15_hugeLength_0 19 rfl rfl)
theorem dJ15_hugeLength_21 : decode cJ15_hugeLength 21 = .ok (.invokevirtual 94, 3) := dk_182 0 94 (dk_at dksJ15_hugeLength_0 21 rfl rfl)
theorem dJ15_hugeLength_24 : decode cJ15_hugeLength 24 = .ok (.iload_n 0, 1) := dk_26 (dk_at dksJ15_hugeLength_1 0 rfl rfl)
theorem dJ15_hugeLength_25 : decode cJ15_hugeLength 25 = .ok (.invokevirtual 98, 3) := dk_182 0 98 (dk_at dksJ15_hugeLength_1 1 rfl rfl)
theorem dJ15_hugeLength_28 : decode cJ15_hugeLength 28 = .ok (.ldc 208, 2) := dk_18 208 (dk_at dksJ15_hugeLength_1 4 rfl rfl)
theorem dJ15_hugeLength_30 : decode cJ15_hugeLength 30 = .ok (.invokevirtual 94, 3) := dk_182 0 94 (dk_at dksJ15_hugeLength_1 6 rfl rfl)
theorem dJ15_hugeLength_33 : decode cJ15_hugeLength 33 = .ok (.iload_n 1, 1) := dk_27 (dk_at dksJ15_hugeLength_1 9 rfl rfl)
theorem dJ15_hugeLength_34 : decode cJ15_hugeLength 34 = .ok (.invokevirtual 98, 3) := dk_182 0 98 (dk_at dksJ15_hugeLength_1 10 rfl rfl)
theorem dJ15_hugeLength_37 : decode cJ15_hugeLength 37 = .ok (.ldc 210, 2) := dk_18 210 (dk_at dksJ15_hugeLength_1 13 rfl rfl)
theorem dJ15_hugeLength_39 : decode cJ15_hugeLength 39 = .ok (.invokevirtual 94, 3) := dk_182 0 94 (dk_at dksJ15_hugeLength_1 15 rfl rfl)
theorem dJ15_hugeLength_42 : decode cJ15_hugeLength 42 = .ok (.invokevirtual 101, 3) := dk_182 0 101 (dk_at dksJ15_hugeLength_1 18 rfl rfl)
theorem dJ15_hugeLength_45 : decode cJ15_hugeLength 45 = .ok (.invokespecial 212, 3) := dk_183 0 212 (dk_at dksJ15_hugeLength_1 21 rfl rfl)
theorem dJ15_hugeLength_48 : decode cJ15_hugeLength 48 = .ok (.athrow, 1) := dk_191 (dk_at dksJ15_hugeLength_2 0 rfl rfl)
theorem dJ15_hugeLength_49 : decode cJ15_hugeLength 49 = .ok (.iload_n 2, 1) := dk_28 (dk_at dksJ15_hugeLength_2 1 rfl rfl)
theorem dJ15_hugeLength_50 : decode cJ15_hugeLength 50 = .ok (.ldc 200, 2) := dk_18 200 (dk_at dksJ15_hugeLength_2 2 rfl rfl)
theorem dJ15_hugeLength_52 : decode cJ15_hugeLength 52 = .ok (.if_icmp .gt 6, 3) := dk_163 0 6 (dk_at dksJ15_hugeLength_2 4 rfl rfl)
theorem dJ15_hugeLength_55 : decode cJ15_hugeLength 55 = .ok (.ldc 200, 2) := dk_18 200 (dk_at dksJ15_hugeLength_2 7 rfl rfl)
theorem dJ15_hugeLength_57 : decode cJ15_hugeLength 57 = .ok (.ireturn, 1) := dk_172 (dk_at dksJ15_hugeLength_2 9 rfl rfl)
theorem dJ15_hugeLength_58 : decode cJ15_hugeLength 58 = .ok (.iload_n 2, 1) := dk_28 (dk_at dksJ15_hugeLength_2 10 rfl rfl)
theorem dJ15_hugeLength_59 : decode cJ15_hugeLength 59 = .ok (.ireturn, 1) := dk_172 (dk_at dksJ15_hugeLength_2 11 rfl rfl)
abbrev cJ15_mismatch : ByteArray := prog_71_method_13_code
def yJ15_mismatch : MethodName := ⟨RJ15, "mismatch", "([B[BI)I"⟩
def dkwJ15_mismatch_3 : List UInt8 := [172]
abbrev dktJ15_mismatch_3 : List UInt8 := dkwJ15_mismatch_3 ++ []
def dkwJ15_mismatch_2 : List UInt8 := [62, 29, 28, 162, 0, 20, 42, 29, 51, 43, 29, 51, 159, 0, 5, 29, 172, 132, 3, 1, 167, 255, 237, 2]
abbrev dktJ15_mismatch_2 : List UInt8 := dkwJ15_mismatch_2 ++ dktJ15_mismatch_3
def dkwJ15_mismatch_1 : List UInt8 := [43, 178, 0, 126, 133, 28, 178, 0, 129, 184, 0, 122, 62, 29, 155, 0, 5, 29, 172, 28, 29, 2, 130, 100]
abbrev dktJ15_mismatch_1 : List UInt8 := dkwJ15_mismatch_1 ++ dktJ15_mismatch_2
def dkwJ15_mismatch_0 : List UInt8 := [3, 62, 28, 16, 7, 164, 0, 44, 42, 3, 51, 43, 3, 51, 159, 0, 5, 3, 172, 42, 178, 0, 126, 133]
abbrev dktJ15_mismatch_0 : List UInt8 := dkwJ15_mismatch_0 ++ dktJ15_mismatch_1
theorem dksJ15_mismatch_0 : cJ15_mismatch.data.toList.drop 0 = dktJ15_mismatch_0 := by decide +kernel
theorem dksJ15_mismatch_1 : cJ15_mismatch.data.toList.drop 24 = dktJ15_mismatch_1 := dk_seg dksJ15_mismatch_0 24 rfl rfl
theorem dksJ15_mismatch_2 : cJ15_mismatch.data.toList.drop 48 = dktJ15_mismatch_2 := dk_seg dksJ15_mismatch_1 24 rfl rfl
theorem dksJ15_mismatch_3 : cJ15_mismatch.data.toList.drop 72 = dktJ15_mismatch_3 := dk_seg dksJ15_mismatch_2 24 rfl rfl
theorem dJ15_mismatch_0 : decode cJ15_mismatch 0 = .ok (.iconst 0, 1) := dk_3 (dk_at dksJ15_mismatch_0 0 rfl rfl)
theorem dJ15_mismatch_1 : decode cJ15_mismatch 1 = .ok (.istore_n 3, 1) := dk_62 (dk_at dksJ15_mismatch_0 1 rfl rfl)
theorem dJ15_mismatch_2 : decode cJ15_mismatch 2 = .ok (.iload_n 2, 1) := dk_28 (dk_at dksJ15_mismatch_0 2 rfl rfl)
theorem dJ15_mismatch_3 : decode cJ15_mismatch 3 = .ok (.bipush 7, 2) := dk_16 7 (dk_at dksJ15_mismatch_0 3 rfl rfl)
theorem dJ15_mismatch_5 : decode cJ15_mismatch 5 = .ok (.if_icmp .le 44, 3) := dk_164 0 44 (dk_at dksJ15_mismatch_0 5 rfl rfl)
theorem dJ15_mismatch_8 : decode cJ15_mismatch 8 = .ok (.aload_n 0, 1) := dk_42 (dk_at dksJ15_mismatch_0 8 rfl rfl)
theorem dJ15_mismatch_9 : decode cJ15_mismatch 9 = .ok (.iconst 0, 1) := dk_3 (dk_at dksJ15_mismatch_0 9 rfl rfl)
theorem dJ15_mismatch_10 : decode cJ15_mismatch 10 = .ok (.baload, 1) := dk_51 (dk_at dksJ15_mismatch_0 10 rfl rfl)
theorem dJ15_mismatch_11 : decode cJ15_mismatch 11 = .ok (.aload_n 1, 1) := dk_43 (dk_at dksJ15_mismatch_0 11 rfl rfl)
theorem dJ15_mismatch_12 : decode cJ15_mismatch 12 = .ok (.iconst 0, 1) := dk_3 (dk_at dksJ15_mismatch_0 12 rfl rfl)
theorem dJ15_mismatch_13 : decode cJ15_mismatch 13 = .ok (.baload, 1) := dk_51 (dk_at dksJ15_mismatch_0 13 rfl rfl)
theorem dJ15_mismatch_14 : decode cJ15_mismatch 14 = .ok (.if_icmp .eq 5, 3) := dk_159 0 5 (dk_at dksJ15_mismatch_0 14 rfl rfl)
theorem dJ15_mismatch_17 : decode cJ15_mismatch 17 = .ok (.iconst 0, 1) := dk_3 (dk_at dksJ15_mismatch_0 17 rfl rfl)
theorem dJ15_mismatch_18 : decode cJ15_mismatch 18 = .ok (.ireturn, 1) := dk_172 (dk_at dksJ15_mismatch_0 18 rfl rfl)
theorem dJ15_mismatch_19 : decode cJ15_mismatch 19 = .ok (.aload_n 0, 1) := dk_42 (dk_at dksJ15_mismatch_0 19 rfl rfl)
theorem dJ15_mismatch_20 : decode cJ15_mismatch 20 = .ok (.getstatic 126, 3) := dk_178 0 126 (dk_at dksJ15_mismatch_0 20 rfl rfl)
theorem dJ15_mismatch_23 : decode cJ15_mismatch 23 = .ok (.i2l, 1) := dk_133 (dk_at dksJ15_mismatch_0 23 rfl rfl)
theorem dJ15_mismatch_24 : decode cJ15_mismatch 24 = .ok (.aload_n 1, 1) := dk_43 (dk_at dksJ15_mismatch_1 0 rfl rfl)
theorem dJ15_mismatch_25 : decode cJ15_mismatch 25 = .ok (.getstatic 126, 3) := dk_178 0 126 (dk_at dksJ15_mismatch_1 1 rfl rfl)
theorem dJ15_mismatch_28 : decode cJ15_mismatch 28 = .ok (.i2l, 1) := dk_133 (dk_at dksJ15_mismatch_1 4 rfl rfl)
theorem dJ15_mismatch_29 : decode cJ15_mismatch 29 = .ok (.iload_n 2, 1) := dk_28 (dk_at dksJ15_mismatch_1 5 rfl rfl)
theorem dJ15_mismatch_30 : decode cJ15_mismatch 30 = .ok (.getstatic 129, 3) := dk_178 0 129 (dk_at dksJ15_mismatch_1 6 rfl rfl)
theorem dJ15_mismatch_33 : decode cJ15_mismatch 33 = .ok (.invokestatic 122, 3) := dk_184 0 122 (dk_at dksJ15_mismatch_1 9 rfl rfl)
theorem dJ15_mismatch_36 : decode cJ15_mismatch 36 = .ok (.istore_n 3, 1) := dk_62 (dk_at dksJ15_mismatch_1 12 rfl rfl)
theorem dJ15_mismatch_37 : decode cJ15_mismatch 37 = .ok (.iload_n 3, 1) := dk_29 (dk_at dksJ15_mismatch_1 13 rfl rfl)
theorem dJ15_mismatch_38 : decode cJ15_mismatch 38 = .ok (.ifCond .lt 5, 3) := dk_155 0 5 (dk_at dksJ15_mismatch_1 14 rfl rfl)
theorem dJ15_mismatch_41 : decode cJ15_mismatch 41 = .ok (.iload_n 3, 1) := dk_29 (dk_at dksJ15_mismatch_1 17 rfl rfl)
theorem dJ15_mismatch_42 : decode cJ15_mismatch 42 = .ok (.ireturn, 1) := dk_172 (dk_at dksJ15_mismatch_1 18 rfl rfl)
theorem dJ15_mismatch_43 : decode cJ15_mismatch 43 = .ok (.iload_n 2, 1) := dk_28 (dk_at dksJ15_mismatch_1 19 rfl rfl)
theorem dJ15_mismatch_44 : decode cJ15_mismatch 44 = .ok (.iload_n 3, 1) := dk_29 (dk_at dksJ15_mismatch_1 20 rfl rfl)
theorem dJ15_mismatch_45 : decode cJ15_mismatch 45 = .ok (.iconst (-1), 1) := dk_2 (dk_at dksJ15_mismatch_1 21 rfl rfl)
theorem dJ15_mismatch_46 : decode cJ15_mismatch 46 = .ok (.ixor, 1) := dk_130 (dk_at dksJ15_mismatch_1 22 rfl rfl)
theorem dJ15_mismatch_47 : decode cJ15_mismatch 47 = .ok (.isub, 1) := dk_100 (dk_at dksJ15_mismatch_1 23 rfl rfl)
theorem dJ15_mismatch_48 : decode cJ15_mismatch 48 = .ok (.istore_n 3, 1) := dk_62 (dk_at dksJ15_mismatch_2 0 rfl rfl)
theorem dJ15_mismatch_49 : decode cJ15_mismatch 49 = .ok (.iload_n 3, 1) := dk_29 (dk_at dksJ15_mismatch_2 1 rfl rfl)
theorem dJ15_mismatch_50 : decode cJ15_mismatch 50 = .ok (.iload_n 2, 1) := dk_28 (dk_at dksJ15_mismatch_2 2 rfl rfl)
theorem dJ15_mismatch_51 : decode cJ15_mismatch 51 = .ok (.if_icmp .ge 20, 3) := dk_162 0 20 (dk_at dksJ15_mismatch_2 3 rfl rfl)
theorem dJ15_mismatch_54 : decode cJ15_mismatch 54 = .ok (.aload_n 0, 1) := dk_42 (dk_at dksJ15_mismatch_2 6 rfl rfl)
theorem dJ15_mismatch_55 : decode cJ15_mismatch 55 = .ok (.iload_n 3, 1) := dk_29 (dk_at dksJ15_mismatch_2 7 rfl rfl)
theorem dJ15_mismatch_56 : decode cJ15_mismatch 56 = .ok (.baload, 1) := dk_51 (dk_at dksJ15_mismatch_2 8 rfl rfl)
theorem dJ15_mismatch_57 : decode cJ15_mismatch 57 = .ok (.aload_n 1, 1) := dk_43 (dk_at dksJ15_mismatch_2 9 rfl rfl)
theorem dJ15_mismatch_58 : decode cJ15_mismatch 58 = .ok (.iload_n 3, 1) := dk_29 (dk_at dksJ15_mismatch_2 10 rfl rfl)
theorem dJ15_mismatch_59 : decode cJ15_mismatch 59 = .ok (.baload, 1) := dk_51 (dk_at dksJ15_mismatch_2 11 rfl rfl)
theorem dJ15_mismatch_60 : decode cJ15_mismatch 60 = .ok (.if_icmp .eq 5, 3) := dk_159 0 5 (dk_at dksJ15_mismatch_2 12 rfl rfl)
theorem dJ15_mismatch_63 : decode cJ15_mismatch 63 = .ok (.iload_n 3, 1) := dk_29 (dk_at dksJ15_mismatch_2 15 rfl rfl)
theorem dJ15_mismatch_64 : decode cJ15_mismatch 64 = .ok (.ireturn, 1) := dk_172 (dk_at dksJ15_mismatch_2 16 rfl rfl)
theorem dJ15_mismatch_65 : decode cJ15_mismatch 65 = .ok (.iinc 3 1, 3) := dk_132 3 1 (dk_at dksJ15_mismatch_2 17 rfl rfl)
theorem dJ15_mismatch_68 : decode cJ15_mismatch 68 = .ok (.goto (-19), 3) := dk_167 255 237 (dk_at dksJ15_mismatch_2 20 rfl rfl)
theorem dJ15_mismatch_71 : decode cJ15_mismatch 71 = .ok (.iconst (-1), 1) := dk_2 (dk_at dksJ15_mismatch_2 23 rfl rfl)
theorem dJ15_mismatch_72 : decode cJ15_mismatch 72 = .ok (.ireturn, 1) := dk_172 (dk_at dksJ15_mismatch_3 0 rfl rfl)
abbrev cJ15_vectorizedMismatch : ByteArray := prog_71_method_3_code
def yJ15_vectorizedMismatch : MethodName := ⟨RJ15, "vectorizedMismatch", "(Ljava/lang/Object;JLjava/lang/Object;JII)I"⟩
def dkwJ15_vectorizedMismatch_11 : List UInt8 := [54, 10, 21, 10, 2, 130, 172, 21, 10, 2, 130, 172]
abbrev dktJ15_vectorizedMismatch_11 : List UInt8 := dkwJ15_vectorizedMismatch_11 ++ []
def dkwJ15_vectorizedMismatch_10 : List UInt8 := [178, 0, 46, 21, 7, 96, 122, 54, 17, 21, 9, 21, 8, 120, 21, 17, 96, 172, 21, 10, 21, 11, 100]
abbrev dktJ15_vectorizedMismatch_10 : List UInt8 := dkwJ15_vectorizedMismatch_10 ++ dktJ15_vectorizedMismatch_11
def dkwJ15_vectorizedMismatch_9 : List UInt8 := [153, 0, 18, 21, 16, 184, 0, 58, 178, 0, 46, 21, 7, 96, 122, 167, 0, 15, 21, 16, 184, 0, 11]
abbrev dktJ15_vectorizedMismatch_9 : List UInt8 := dkwJ15_vectorizedMismatch_9 ++ dktJ15_vectorizedMismatch_10
def dkwJ15_vectorizedMismatch_8 : List UInt8 := [182, 0, 54, 54, 15, 21, 14, 21, 15, 159, 0, 54, 21, 14, 21, 15, 130, 54, 16, 178, 0, 36]
abbrev dktJ15_vectorizedMismatch_8 : List UInt8 := dkwJ15_vectorizedMismatch_8 ++ dktJ15_vectorizedMismatch_9
def dkwJ15_vectorizedMismatch_7 : List UInt8 := [55, 12, 178, 0, 26, 42, 31, 22, 12, 97, 182, 0, 54, 54, 14, 178, 0, 26, 45, 22, 4, 22, 12, 97]
abbrev dktJ15_vectorizedMismatch_7 : List UInt8 := dkwJ15_vectorizedMismatch_7 ++ dktJ15_vectorizedMismatch_8
def dkwJ15_vectorizedMismatch_6 : List UInt8 := [4, 178, 0, 51, 21, 7, 100, 120, 54, 11, 21, 10, 21, 11, 161, 0, 104, 21, 9, 133, 178, 0, 20, 121]
abbrev dktJ15_vectorizedMismatch_6 : List UInt8 := dkwJ15_vectorizedMismatch_6 ++ dktJ15_vectorizedMismatch_7
def dkwJ15_vectorizedMismatch_5 : List UInt8 := [132, 9, 1, 167, 255, 148, 21, 6, 21, 9, 21, 8, 120, 100, 54, 10, 21, 7, 178, 0, 51, 162, 0, 126]
abbrev dktJ15_vectorizedMismatch_5 : List UInt8 := dkwJ15_vectorizedMismatch_5 ++ dktJ15_vectorizedMismatch_6
def dkwJ15_vectorizedMismatch_4 : List UInt8 := [22, 16, 184, 0, 49, 178, 0, 46, 21, 7, 96, 122, 54, 18, 21, 9, 21, 8, 120, 21, 18, 96, 172]
abbrev dktJ15_vectorizedMismatch_4 : List UInt8 := dkwJ15_vectorizedMismatch_4 ++ dktJ15_vectorizedMismatch_5
def dkwJ15_vectorizedMismatch_3 : List UInt8 := [55, 16, 178, 0, 36, 153, 0, 18, 22, 16, 184, 0, 40, 178, 0, 46, 21, 7, 96, 122, 167, 0, 15]
abbrev dktJ15_vectorizedMismatch_3 : List UInt8 := dkwJ15_vectorizedMismatch_3 ++ dktJ15_vectorizedMismatch_4
def dkwJ15_vectorizedMismatch_2 : List UInt8 := [22, 4, 22, 10, 97, 182, 0, 30, 55, 14, 22, 12, 22, 14, 148, 153, 0, 54, 22, 12, 22, 14, 131]
abbrev dktJ15_vectorizedMismatch_2 : List UInt8 := dkwJ15_vectorizedMismatch_2 ++ dktJ15_vectorizedMismatch_3
def dkwJ15_vectorizedMismatch_1 : List UInt8 := [178, 0, 20, 121, 55, 10, 178, 0, 26, 42, 31, 22, 10, 97, 182, 0, 30, 55, 12, 178, 0, 26, 45]
abbrev dktJ15_vectorizedMismatch_1 : List UInt8 := dkwJ15_vectorizedMismatch_1 ++ dktJ15_vectorizedMismatch_2
def dkwJ15_vectorizedMismatch_0 : List UInt8 := [178, 0, 20, 21, 7, 100, 54, 8, 3, 54, 9, 21, 9, 21, 6, 21, 8, 122, 162, 0, 104, 21, 9, 133]
abbrev dktJ15_vectorizedMismatch_0 : List UInt8 := dkwJ15_vectorizedMismatch_0 ++ dktJ15_vectorizedMismatch_1
theorem dksJ15_vectorizedMismatch_0 : cJ15_vectorizedMismatch.data.toList.drop 0 = dktJ15_vectorizedMismatch_0 := by decide +kernel
theorem dksJ15_vectorizedMismatch_1 : cJ15_vectorizedMismatch.data.toList.drop 24 = dktJ15_vectorizedMismatch_1 := dk_seg dksJ15_vectorizedMismatch_0 24 rfl rfl
theorem dksJ15_vectorizedMismatch_2 : cJ15_vectorizedMismatch.data.toList.drop 47 = dktJ15_vectorizedMismatch_2 := dk_seg dksJ15_vectorizedMismatch_1 23 rfl rfl
theorem dksJ15_vectorizedMismatch_3 : cJ15_vectorizedMismatch.data.toList.drop 70 = dktJ15_vectorizedMismatch_3 := dk_seg dksJ15_vectorizedMismatch_2 23 rfl rfl
theorem dksJ15_vectorizedMismatch_4 : cJ15_vectorizedMismatch.data.toList.drop 93 = dktJ15_vectorizedMismatch_4 := dk_seg dksJ15_vectorizedMismatch_3 23 rfl rfl
theorem dksJ15_vectorizedMismatch_5 : cJ15_vectorizedMismatch.data.toList.drop 116 = dktJ15_vectorizedMismatch_5 := dk_seg dksJ15_vectorizedMismatch_4 23 rfl rfl
theorem dksJ15_vectorizedMismatch_6 : cJ15_vectorizedMismatch.data.toList.drop 140 = dktJ15_vectorizedMismatch_6 := dk_seg dksJ15_vectorizedMismatch_5 24 rfl rfl
theorem dksJ15_vectorizedMismatch_7 : cJ15_vectorizedMismatch.data.toList.drop 164 = dktJ15_vectorizedMismatch_7 := dk_seg dksJ15_vectorizedMismatch_6 24 rfl rfl
theorem dksJ15_vectorizedMismatch_8 : cJ15_vectorizedMismatch.data.toList.drop 188 = dktJ15_vectorizedMismatch_8 := dk_seg dksJ15_vectorizedMismatch_7 24 rfl rfl
theorem dksJ15_vectorizedMismatch_9 : cJ15_vectorizedMismatch.data.toList.drop 210 = dktJ15_vectorizedMismatch_9 := dk_seg dksJ15_vectorizedMismatch_8 22 rfl rfl
theorem dksJ15_vectorizedMismatch_10 : cJ15_vectorizedMismatch.data.toList.drop 233 = dktJ15_vectorizedMismatch_10 := dk_seg dksJ15_vectorizedMismatch_9 23 rfl rfl
theorem dksJ15_vectorizedMismatch_11 : cJ15_vectorizedMismatch.data.toList.drop 256 = dktJ15_vectorizedMismatch_11 := dk_seg dksJ15_vectorizedMismatch_10 23 rfl rfl
theorem dJ15_vectorizedMismatch_0 : decode cJ15_vectorizedMismatch 0 = .ok (.getstatic 20, 3) := dk_178 0 20 (dk_at dksJ15_vectorizedMismatch_0 0 rfl rfl)
theorem dJ15_vectorizedMismatch_3 : decode cJ15_vectorizedMismatch 3 = .ok (.iload 7, 2) := dk_21 7 (dk_at dksJ15_vectorizedMismatch_0 3 rfl rfl)
theorem dJ15_vectorizedMismatch_5 : decode cJ15_vectorizedMismatch 5 = .ok (.isub, 1) := dk_100 (dk_at dksJ15_vectorizedMismatch_0 5 rfl rfl)
theorem dJ15_vectorizedMismatch_6 : decode cJ15_vectorizedMismatch 6 = .ok (.istore 8, 2) := dk_54 8 (dk_at dksJ15_vectorizedMismatch_0 6 rfl rfl)
theorem dJ15_vectorizedMismatch_8 : decode cJ15_vectorizedMismatch 8 = .ok (.iconst 0, 1) := dk_3 (dk_at dksJ15_vectorizedMismatch_0 8 rfl rfl)
theorem dJ15_vectorizedMismatch_9 : decode cJ15_vectorizedMismatch 9 = .ok (.istore 9, 2) := dk_54 9 (dk_at dksJ15_vectorizedMismatch_0 9 rfl rfl)
theorem dJ15_vectorizedMismatch_11 : decode cJ15_vectorizedMismatch 11 = .ok (.iload 9, 2) := dk_21 9 (dk_at dksJ15_vectorizedMismatch_0 11 rfl rfl)
theorem dJ15_vectorizedMismatch_13 : decode cJ15_vectorizedMismatch 13 = .ok (.iload 6, 2) := dk_21 6 (dk_at dksJ15_vectorizedMismatch_0 13 rfl rfl)
theorem dJ15_vectorizedMismatch_15 : decode cJ15_vectorizedMismatch 15 = .ok (.iload 8, 2) := dk_21 8 (dk_at dksJ15_vectorizedMismatch_0 15 rfl rfl)
theorem dJ15_vectorizedMismatch_17 : decode cJ15_vectorizedMismatch 17 = .ok (.ishr, 1) := dk_122 (dk_at dksJ15_vectorizedMismatch_0 17 rfl rfl)
theorem dJ15_vectorizedMismatch_18 : decode cJ15_vectorizedMismatch 18 = .ok (.if_icmp .ge 104, 3) := dk_162 0 104 (dk_at dksJ15_vectorizedMismatch_0 18 rfl rfl)
theorem dJ15_vectorizedMismatch_21 : decode cJ15_vectorizedMismatch 21 = .ok (.iload 9, 2) := dk_21 9 (dk_at dksJ15_vectorizedMismatch_0 21 rfl rfl)
theorem dJ15_vectorizedMismatch_23 : decode cJ15_vectorizedMismatch 23 = .ok (.i2l, 1) := dk_133 (dk_at dksJ15_vectorizedMismatch_0 23 rfl rfl)
theorem dJ15_vectorizedMismatch_24 : decode cJ15_vectorizedMismatch 24 = .ok (.getstatic 20, 3) := dk_178 0 20 (dk_at dksJ15_vectorizedMismatch_1 0 rfl rfl)
theorem dJ15_vectorizedMismatch_27 : decode cJ15_vectorizedMismatch 27 = .ok (.lshl, 1) := dk_121 (dk_at dksJ15_vectorizedMismatch_1 3 rfl rfl)
theorem dJ15_vectorizedMismatch_28 : decode cJ15_vectorizedMismatch 28 = .ok (.lstore 10, 2) := dk_55 10 (dk_at dksJ15_vectorizedMismatch_1 4 rfl rfl)
theorem dJ15_vectorizedMismatch_30 : decode cJ15_vectorizedMismatch 30 = .ok (.getstatic 26, 3) := dk_178 0 26 (dk_at dksJ15_vectorizedMismatch_1 6 rfl rfl)
theorem dJ15_vectorizedMismatch_33 : decode cJ15_vectorizedMismatch 33 = .ok (.aload_n 0, 1) := dk_42 (dk_at dksJ15_vectorizedMismatch_1 9 rfl rfl)
theorem dJ15_vectorizedMismatch_34 : decode cJ15_vectorizedMismatch 34 = .ok (.lload_n 1, 1) := dk_31 (dk_at dksJ15_vectorizedMismatch_1 10 rfl rfl)
theorem dJ15_vectorizedMismatch_35 : decode cJ15_vectorizedMismatch 35 = .ok (.lload 10, 2) := dk_22 10 (dk_at dksJ15_vectorizedMismatch_1 11 rfl rfl)
theorem dJ15_vectorizedMismatch_37 : decode cJ15_vectorizedMismatch 37 = .ok (.ladd, 1) := dk_97 (dk_at dksJ15_vectorizedMismatch_1 13 rfl rfl)
theorem dJ15_vectorizedMismatch_38 : decode cJ15_vectorizedMismatch 38 = .ok (.invokevirtual 30, 3) := dk_182 0 30 (dk_at dksJ15_vectorizedMismatch_1 14 rfl rfl)
theorem dJ15_vectorizedMismatch_41 : decode cJ15_vectorizedMismatch 41 = .ok (.lstore 12, 2) := dk_55 12 (dk_at dksJ15_vectorizedMismatch_1 17 rfl rfl)
theorem dJ15_vectorizedMismatch_43 : decode cJ15_vectorizedMismatch 43 = .ok (.getstatic 26, 3) := dk_178 0 26 (dk_at dksJ15_vectorizedMismatch_1 19 rfl rfl)
theorem dJ15_vectorizedMismatch_46 : decode cJ15_vectorizedMismatch 46 = .ok (.aload_n 3, 1) := dk_45 (dk_at dksJ15_vectorizedMismatch_1 22 rfl rfl)
theorem dJ15_vectorizedMismatch_47 : decode cJ15_vectorizedMismatch 47 = .ok (.lload 4, 2) := dk_22 4 (dk_at dksJ15_vectorizedMismatch_2 0 rfl rfl)
theorem dJ15_vectorizedMismatch_49 : decode cJ15_vectorizedMismatch 49 = .ok (.lload 10, 2) := dk_22 10 (dk_at dksJ15_vectorizedMismatch_2 2 rfl rfl)
theorem dJ15_vectorizedMismatch_51 : decode cJ15_vectorizedMismatch 51 = .ok (.ladd, 1) := dk_97 (dk_at dksJ15_vectorizedMismatch_2 4 rfl rfl)
theorem dJ15_vectorizedMismatch_52 : decode cJ15_vectorizedMismatch 52 = .ok (.invokevirtual 30, 3) := dk_182 0 30 (dk_at dksJ15_vectorizedMismatch_2 5 rfl rfl)
theorem dJ15_vectorizedMismatch_55 : decode cJ15_vectorizedMismatch 55 = .ok (.lstore 14, 2) := dk_55 14 (dk_at dksJ15_vectorizedMismatch_2 8 rfl rfl)
theorem dJ15_vectorizedMismatch_57 : decode cJ15_vectorizedMismatch 57 = .ok (.lload 12, 2) := dk_22 12 (dk_at dksJ15_vectorizedMismatch_2 10 rfl rfl)
theorem dJ15_vectorizedMismatch_59 : decode cJ15_vectorizedMismatch 59 = .ok (.lload 14, 2) := dk_22 14 (dk_at dksJ15_vectorizedMismatch_2 12 rfl rfl)
theorem dJ15_vectorizedMismatch_61 : decode cJ15_vectorizedMismatch 61 = .ok (.lcmp, 1) := dk_148 (dk_at dksJ15_vectorizedMismatch_2 14 rfl rfl)
theorem dJ15_vectorizedMismatch_62 : decode cJ15_vectorizedMismatch 62 = .ok (.ifCond .eq 54, 3) := dk_153 0 54 (dk_at dksJ15_vectorizedMismatch_2 15 rfl rfl)
theorem dJ15_vectorizedMismatch_65 : decode cJ15_vectorizedMismatch 65 = .ok (.lload 12, 2) := dk_22 12 (dk_at dksJ15_vectorizedMismatch_2 18 rfl rfl)
theorem dJ15_vectorizedMismatch_67 : decode cJ15_vectorizedMismatch 67 = .ok (.lload 14, 2) := dk_22 14 (dk_at dksJ15_vectorizedMismatch_2 20 rfl rfl)
theorem dJ15_vectorizedMismatch_69 : decode cJ15_vectorizedMismatch 69 = .ok (.lxor, 1) := dk_131 (dk_at dksJ15_vectorizedMismatch_2 22 rfl rfl)
theorem dJ15_vectorizedMismatch_70 : decode cJ15_vectorizedMismatch 70 = .ok (.lstore 16, 2) := dk_55 16 (dk_at dksJ15_vectorizedMismatch_3 0 rfl rfl)
theorem dJ15_vectorizedMismatch_72 : decode cJ15_vectorizedMismatch 72 = .ok (.getstatic 36, 3) := dk_178 0 36 (dk_at dksJ15_vectorizedMismatch_3 2 rfl rfl)
theorem dJ15_vectorizedMismatch_75 : decode cJ15_vectorizedMismatch 75 = .ok (.ifCond .eq 18, 3) := dk_153 0 18 (dk_at dksJ15_vectorizedMismatch_3 5 rfl rfl)
theorem dJ15_vectorizedMismatch_78 : decode cJ15_vectorizedMismatch 78 = .ok (.lload 16, 2) := dk_22 16 (dk_at dksJ15_vectorizedMismatch_3 8 rfl rfl)
theorem dJ15_vectorizedMismatch_80 : decode cJ15_vectorizedMismatch 80 = .ok (.invokestatic 40, 3) := dk_184 0 40 (dk_at dksJ15_vectorizedMismatch_3 10 rfl rfl)
theorem dJ15_vectorizedMismatch_83 : decode cJ15_vectorizedMismatch 83 = .ok (.getstatic 46, 3) := dk_178 0 46 (dk_at dksJ15_vectorizedMismatch_3 13 rfl rfl)
theorem dJ15_vectorizedMismatch_86 : decode cJ15_vectorizedMismatch 86 = .ok (.iload 7, 2) := dk_21 7 (dk_at dksJ15_vectorizedMismatch_3 16 rfl rfl)
theorem dJ15_vectorizedMismatch_88 : decode cJ15_vectorizedMismatch 88 = .ok (.iadd, 1) := dk_96 (dk_at dksJ15_vectorizedMismatch_3 18 rfl rfl)
theorem dJ15_vectorizedMismatch_89 : decode cJ15_vectorizedMismatch 89 = .ok (.ishr, 1) := dk_122 (dk_at dksJ15_vectorizedMismatch_3 19 rfl rfl)
theorem dJ15_vectorizedMismatch_90 : decode cJ15_vectorizedMismatch 90 = .ok (.goto 15, 3) := dk_167 0 15 (dk_at dksJ15_vectorizedMismatch_3 20 rfl rfl)
theorem dJ15_vectorizedMismatch_93 : decode cJ15_vectorizedMismatch 93 = .ok (.lload 16, 2) := dk_22 16 (dk_at dksJ15_vectorizedMismatch_4 0 rfl rfl)
theorem dJ15_vectorizedMismatch_95 : decode cJ15_vectorizedMismatch 95 = .ok (.invokestatic 49, 3) := dk_184 0 49 (dk_at dksJ15_vectorizedMismatch_4 2 rfl rfl)
theorem dJ15_vectorizedMismatch_98 : decode cJ15_vectorizedMismatch 98 = .ok (.getstatic 46, 3) := dk_178 0 46 (dk_at dksJ15_vectorizedMismatch_4 5 rfl rfl)
theorem dJ15_vectorizedMismatch_101 : decode cJ15_vectorizedMismatch 101 = .ok (.iload 7, 2) := dk_21 7 (dk_at dksJ15_vectorizedMismatch_4 8 rfl rfl)
theorem dJ15_vectorizedMismatch_103 : decode cJ15_vectorizedMismatch 103 = .ok (.iadd, 1) := dk_96 (dk_at dksJ15_vectorizedMismatch_4 10 rfl rfl)
theorem dJ15_vectorizedMismatch_104 : decode cJ15_vectorizedMismatch 104 = .ok (.ishr, 1) := dk_122 (dk_at dksJ15_vectorizedMismatch_4 11 rfl rfl)
theorem dJ15_vectorizedMismatch_105 : decode cJ15_vectorizedMismatch 105 = .ok (.istore 18, 2) := dk_54 18 (dk_at dksJ15_vectorizedMismatch_4 12 rfl rfl)
theorem dJ15_vectorizedMismatch_107 : decode cJ15_vectorizedMismatch 107 = .ok (.iload 9, 2) := dk_21 9 (dk_at dksJ15_vectorizedMismatch_4 14 rfl rfl)
theorem dJ15_vectorizedMismatch_109 : decode cJ15_vectorizedMismatch 109 = .ok (.iload 8, 2) := dk_21 8 (dk_at dksJ15_vectorizedMismatch_4 16 rfl rfl)
theorem dJ15_vectorizedMismatch_111 : decode cJ15_vectorizedMismatch 111 = .ok (.ishl, 1) := dk_120 (dk_at dksJ15_vectorizedMismatch_4 18 rfl rfl)
theorem dJ15_vectorizedMismatch_112 : decode cJ15_vectorizedMismatch 112 = .ok (.iload 18, 2) := dk_21 18 (dk_at dksJ15_vectorizedMismatch_4 19 rfl rfl)
theorem dJ15_vectorizedMismatch_114 : decode cJ15_vectorizedMismatch 114 = .ok (.iadd, 1) := dk_96 (dk_at dksJ15_vectorizedMismatch_4 21 rfl rfl)
theorem dJ15_vectorizedMismatch_115 : decode cJ15_vectorizedMismatch 115 = .ok (.ireturn, 1) := dk_172 (dk_at dksJ15_vectorizedMismatch_4 22 rfl rfl)
theorem dJ15_vectorizedMismatch_116 : decode cJ15_vectorizedMismatch 116 = .ok (.iinc 9 1, 3) := dk_132 9 1 (dk_at dksJ15_vectorizedMismatch_5 0 rfl rfl)
theorem dJ15_vectorizedMismatch_119 : decode cJ15_vectorizedMismatch 119 = .ok (.goto (-108), 3) := dk_167 255 148 (dk_at dksJ15_vectorizedMismatch_5 3 rfl rfl)
theorem dJ15_vectorizedMismatch_122 : decode cJ15_vectorizedMismatch 122 = .ok (.iload 6, 2) := dk_21 6 (dk_at dksJ15_vectorizedMismatch_5 6 rfl rfl)
theorem dJ15_vectorizedMismatch_124 : decode cJ15_vectorizedMismatch 124 = .ok (.iload 9, 2) := dk_21 9 (dk_at dksJ15_vectorizedMismatch_5 8 rfl rfl)
theorem dJ15_vectorizedMismatch_126 : decode cJ15_vectorizedMismatch 126 = .ok (.iload 8, 2) := dk_21 8 (dk_at dksJ15_vectorizedMismatch_5 10 rfl rfl)
theorem dJ15_vectorizedMismatch_128 : decode cJ15_vectorizedMismatch 128 = .ok (.ishl, 1) := dk_120 (dk_at dksJ15_vectorizedMismatch_5 12 rfl rfl)
theorem dJ15_vectorizedMismatch_129 : decode cJ15_vectorizedMismatch 129 = .ok (.isub, 1) := dk_100 (dk_at dksJ15_vectorizedMismatch_5 13 rfl rfl)
theorem dJ15_vectorizedMismatch_130 : decode cJ15_vectorizedMismatch 130 = .ok (.istore 10, 2) := dk_54 10 (dk_at dksJ15_vectorizedMismatch_5 14 rfl rfl)
theorem dJ15_vectorizedMismatch_132 : decode cJ15_vectorizedMismatch 132 = .ok (.iload 7, 2) := dk_21 7 (dk_at dksJ15_vectorizedMismatch_5 16 rfl rfl)
theorem dJ15_vectorizedMismatch_134 : decode cJ15_vectorizedMismatch 134 = .ok (.getstatic 51, 3) := dk_178 0 51 (dk_at dksJ15_vectorizedMismatch_5 18 rfl rfl)
theorem dJ15_vectorizedMismatch_137 : decode cJ15_vectorizedMismatch 137 = .ok (.if_icmp .ge 126, 3) := dk_162 0 126 (dk_at dksJ15_vectorizedMismatch_5 21 rfl rfl)
theorem dJ15_vectorizedMismatch_140 : decode cJ15_vectorizedMismatch 140 = .ok (.iconst 1, 1) := dk_4 (dk_at dksJ15_vectorizedMismatch_6 0 rfl rfl)
theorem dJ15_vectorizedMismatch_141 : decode cJ15_vectorizedMismatch 141 = .ok (.getstatic 51, 3) := dk_178 0 51 (dk_at dksJ15_vectorizedMismatch_6 1 rfl rfl)
theorem dJ15_vectorizedMismatch_144 : decode cJ15_vectorizedMismatch 144 = .ok (.iload 7, 2) := dk_21 7 (dk_at dksJ15_vectorizedMismatch_6 4 rfl rfl)
theorem dJ15_vectorizedMismatch_146 : decode cJ15_vectorizedMismatch 146 = .ok (.isub, 1) := dk_100 (dk_at dksJ15_vectorizedMismatch_6 6 rfl rfl)
theorem dJ15_vectorizedMismatch_147 : decode cJ15_vectorizedMismatch 147 = .ok (.ishl, 1) := dk_120 (dk_at dksJ15_vectorizedMismatch_6 7 rfl rfl)
theorem dJ15_vectorizedMismatch_148 : decode cJ15_vectorizedMismatch 148 = .ok (.istore 11, 2) := dk_54 11 (dk_at dksJ15_vectorizedMismatch_6 8 rfl rfl)
theorem dJ15_vectorizedMismatch_150 : decode cJ15_vectorizedMismatch 150 = .ok (.iload 10, 2) := dk_21 10 (dk_at dksJ15_vectorizedMismatch_6 10 rfl rfl)
theorem dJ15_vectorizedMismatch_152 : decode cJ15_vectorizedMismatch 152 = .ok (.iload 11, 2) := dk_21 11 (dk_at dksJ15_vectorizedMismatch_6 12 rfl rfl)
theorem dJ15_vectorizedMismatch_154 : decode cJ15_vectorizedMismatch 154 = .ok (.if_icmp .lt 104, 3) := dk_161 0 104 (dk_at dksJ15_vectorizedMismatch_6 14 rfl rfl)
theorem dJ15_vectorizedMismatch_157 : decode cJ15_vectorizedMismatch 157 = .ok (.iload 9, 2) := dk_21 9 (dk_at dksJ15_vectorizedMismatch_6 17 rfl rfl)
theorem dJ15_vectorizedMismatch_159 : decode cJ15_vectorizedMismatch 159 = .ok (.i2l, 1) := dk_133 (dk_at dksJ15_vectorizedMismatch_6 19 rfl rfl)
theorem dJ15_vectorizedMismatch_160 : decode cJ15_vectorizedMismatch 160 = .ok (.getstatic 20, 3) := dk_178 0 20 (dk_at dksJ15_vectorizedMismatch_6 20 rfl rfl)
theorem dJ15_vectorizedMismatch_163 : decode cJ15_vectorizedMismatch 163 = .ok (.lshl, 1) := dk_121 (dk_at dksJ15_vectorizedMismatch_6 23 rfl rfl)
theorem dJ15_vectorizedMismatch_164 : decode cJ15_vectorizedMismatch 164 = .ok (.lstore 12, 2) := dk_55 12 (dk_at dksJ15_vectorizedMismatch_7 0 rfl rfl)
theorem dJ15_vectorizedMismatch_166 : decode cJ15_vectorizedMismatch 166 = .ok (.getstatic 26, 3) := dk_178 0 26 (dk_at dksJ15_vectorizedMismatch_7 2 rfl rfl)
theorem dJ15_vectorizedMismatch_169 : decode cJ15_vectorizedMismatch 169 = .ok (.aload_n 0, 1) := dk_42 (dk_at dksJ15_vectorizedMismatch_7 5 rfl rfl)
theorem dJ15_vectorizedMismatch_170 : decode cJ15_vectorizedMismatch 170 = .ok (.lload_n 1, 1) := dk_31 (dk_at dksJ15_vectorizedMismatch_7 6 rfl rfl)
theorem dJ15_vectorizedMismatch_171 : decode cJ15_vectorizedMismatch 171 = .ok (.lload 12, 2) := dk_22 12 (dk_at dksJ15_vectorizedMismatch_7 7 rfl rfl)
theorem dJ15_vectorizedMismatch_173 : decode cJ15_vectorizedMismatch 173 = .ok (.ladd, 1) := dk_97 (dk_at dksJ15_vectorizedMismatch_7 9 rfl rfl)
theorem dJ15_vectorizedMismatch_174 : decode cJ15_vectorizedMismatch 174 = .ok (.invokevirtual 54, 3) := dk_182 0 54 (dk_at dksJ15_vectorizedMismatch_7 10 rfl rfl)
theorem dJ15_vectorizedMismatch_177 : decode cJ15_vectorizedMismatch 177 = .ok (.istore 14, 2) := dk_54 14 (dk_at dksJ15_vectorizedMismatch_7 13 rfl rfl)
theorem dJ15_vectorizedMismatch_179 : decode cJ15_vectorizedMismatch 179 = .ok (.getstatic 26, 3) := dk_178 0 26 (dk_at dksJ15_vectorizedMismatch_7 15 rfl rfl)
theorem dJ15_vectorizedMismatch_182 : decode cJ15_vectorizedMismatch 182 = .ok (.aload_n 3, 1) := dk_45 (dk_at dksJ15_vectorizedMismatch_7 18 rfl rfl)
theorem dJ15_vectorizedMismatch_183 : decode cJ15_vectorizedMismatch 183 = .ok (.lload 4, 2) := dk_22 4 (dk_at dksJ15_vectorizedMismatch_7 19 rfl rfl)
theorem dJ15_vectorizedMismatch_185 : decode cJ15_vectorizedMismatch 185 = .ok (.lload 12, 2) := dk_22 12 (dk_at dksJ15_vectorizedMismatch_7 21 rfl rfl)
theorem dJ15_vectorizedMismatch_187 : decode cJ15_vectorizedMismatch 187 = .ok (.ladd, 1) := dk_97 (dk_at dksJ15_vectorizedMismatch_7 23 rfl rfl)
theorem dJ15_vectorizedMismatch_188 : decode cJ15_vectorizedMismatch 188 = .ok (.invokevirtual 54, 3) := dk_182 0 54 (dk_at dksJ15_vectorizedMismatch_8 0 rfl rfl)
theorem dJ15_vectorizedMismatch_191 : decode cJ15_vectorizedMismatch 191 = .ok (.istore 15, 2) := dk_54 15 (dk_at dksJ15_vectorizedMismatch_8 3 rfl rfl)
theorem dJ15_vectorizedMismatch_193 : decode cJ15_vectorizedMismatch 193 = .ok (.iload 14, 2) := dk_21 14 (dk_at dksJ15_vectorizedMismatch_8 5 rfl rfl)
theorem dJ15_vectorizedMismatch_195 : decode cJ15_vectorizedMismatch 195 = .ok (.iload 15, 2) := dk_21 15 (dk_at dksJ15_vectorizedMismatch_8 7 rfl rfl)
theorem dJ15_vectorizedMismatch_197 : decode cJ15_vectorizedMismatch 197 = .ok (.if_icmp .eq 54, 3) := dk_159 0 54 (dk_at dksJ15_vectorizedMismatch_8 9 rfl rfl)
theorem dJ15_vectorizedMismatch_200 : decode cJ15_vectorizedMismatch 200 = .ok (.iload 14, 2) := dk_21 14 (dk_at dksJ15_vectorizedMismatch_8 12 rfl rfl)
theorem dJ15_vectorizedMismatch_202 : decode cJ15_vectorizedMismatch 202 = .ok (.iload 15, 2) := dk_21 15 (dk_at dksJ15_vectorizedMismatch_8 14 rfl rfl)
theorem dJ15_vectorizedMismatch_204 : decode cJ15_vectorizedMismatch 204 = .ok (.ixor, 1) := dk_130 (dk_at dksJ15_vectorizedMismatch_8 16 rfl rfl)
theorem dJ15_vectorizedMismatch_205 : decode cJ15_vectorizedMismatch 205 = .ok (.istore 16, 2) := dk_54 16 (dk_at dksJ15_vectorizedMismatch_8 17 rfl rfl)
theorem dJ15_vectorizedMismatch_207 : decode cJ15_vectorizedMismatch 207 = .ok (.getstatic 36, 3) := dk_178 0 36 (dk_at dksJ15_vectorizedMismatch_8 19 rfl rfl)
theorem dJ15_vectorizedMismatch_210 : decode cJ15_vectorizedMismatch 210 = .ok (.ifCond .eq 18, 3) := dk_153 0 18 (dk_at dksJ15_vectorizedMismatch_9 0 rfl rfl)
theorem dJ15_vectorizedMismatch_213 : decode cJ15_vectorizedMismatch 213 = .ok (.iload 16, 2) := dk_21 16 (dk_at dksJ15_vectorizedMismatch_9 3 rfl rfl)
theorem dJ15_vectorizedMismatch_215 : decode cJ15_vectorizedMismatch 215 = .ok (.invokestatic 58, 3) := dk_184 0 58 (dk_at dksJ15_vectorizedMismatch_9 5 rfl rfl)
theorem dJ15_vectorizedMismatch_218 : decode cJ15_vectorizedMismatch 218 = .ok (.getstatic 46, 3) := dk_178 0 46 (dk_at dksJ15_vectorizedMismatch_9 8 rfl rfl)
theorem dJ15_vectorizedMismatch_221 : decode cJ15_vectorizedMismatch 221 = .ok (.iload 7, 2) := dk_21 7 (dk_at dksJ15_vectorizedMismatch_9 11 rfl rfl)
theorem dJ15_vectorizedMismatch_223 : decode cJ15_vectorizedMismatch 223 = .ok (.iadd, 1) := dk_96 (dk_at dksJ15_vectorizedMismatch_9 13 rfl rfl)
theorem dJ15_vectorizedMismatch_224 : decode cJ15_vectorizedMismatch 224 = .ok (.ishr, 1) := dk_122 (dk_at dksJ15_vectorizedMismatch_9 14 rfl rfl)
theorem dJ15_vectorizedMismatch_225 : decode cJ15_vectorizedMismatch 225 = .ok (.goto 15, 3) := dk_167 0 15 (dk_at dksJ15_vectorizedMismatch_9 15 rfl rfl)
theorem dJ15_vectorizedMismatch_228 : decode cJ15_vectorizedMismatch 228 = .ok (.iload 16, 2) := dk_21 16 (dk_at dksJ15_vectorizedMismatch_9 18 rfl rfl)
theorem dJ15_vectorizedMismatch_230 : decode cJ15_vectorizedMismatch 230 = .ok (.invokestatic 11, 3) := dk_184 0 11 (dk_at dksJ15_vectorizedMismatch_9 20 rfl rfl)
theorem dJ15_vectorizedMismatch_233 : decode cJ15_vectorizedMismatch 233 = .ok (.getstatic 46, 3) := dk_178 0 46 (dk_at dksJ15_vectorizedMismatch_10 0 rfl rfl)
theorem dJ15_vectorizedMismatch_236 : decode cJ15_vectorizedMismatch 236 = .ok (.iload 7, 2) := dk_21 7 (dk_at dksJ15_vectorizedMismatch_10 3 rfl rfl)
theorem dJ15_vectorizedMismatch_238 : decode cJ15_vectorizedMismatch 238 = .ok (.iadd, 1) := dk_96 (dk_at dksJ15_vectorizedMismatch_10 5 rfl rfl)
theorem dJ15_vectorizedMismatch_239 : decode cJ15_vectorizedMismatch 239 = .ok (.ishr, 1) := dk_122 (dk_at dksJ15_vectorizedMismatch_10 6 rfl rfl)
theorem dJ15_vectorizedMismatch_240 : decode cJ15_vectorizedMismatch 240 = .ok (.istore 17, 2) := dk_54 17 (dk_at dksJ15_vectorizedMismatch_10 7 rfl rfl)
theorem dJ15_vectorizedMismatch_242 : decode cJ15_vectorizedMismatch 242 = .ok (.iload 9, 2) := dk_21 9 (dk_at dksJ15_vectorizedMismatch_10 9 rfl rfl)
theorem dJ15_vectorizedMismatch_244 : decode cJ15_vectorizedMismatch 244 = .ok (.iload 8, 2) := dk_21 8 (dk_at dksJ15_vectorizedMismatch_10 11 rfl rfl)
theorem dJ15_vectorizedMismatch_246 : decode cJ15_vectorizedMismatch 246 = .ok (.ishl, 1) := dk_120 (dk_at dksJ15_vectorizedMismatch_10 13 rfl rfl)
theorem dJ15_vectorizedMismatch_247 : decode cJ15_vectorizedMismatch 247 = .ok (.iload 17, 2) := dk_21 17 (dk_at dksJ15_vectorizedMismatch_10 14 rfl rfl)
theorem dJ15_vectorizedMismatch_249 : decode cJ15_vectorizedMismatch 249 = .ok (.iadd, 1) := dk_96 (dk_at dksJ15_vectorizedMismatch_10 16 rfl rfl)
theorem dJ15_vectorizedMismatch_250 : decode cJ15_vectorizedMismatch 250 = .ok (.ireturn, 1) := dk_172 (dk_at dksJ15_vectorizedMismatch_10 17 rfl rfl)
theorem dJ15_vectorizedMismatch_251 : decode cJ15_vectorizedMismatch 251 = .ok (.iload 10, 2) := dk_21 10 (dk_at dksJ15_vectorizedMismatch_10 18 rfl rfl)
theorem dJ15_vectorizedMismatch_253 : decode cJ15_vectorizedMismatch 253 = .ok (.iload 11, 2) := dk_21 11 (dk_at dksJ15_vectorizedMismatch_10 20 rfl rfl)
theorem dJ15_vectorizedMismatch_255 : decode cJ15_vectorizedMismatch 255 = .ok (.isub, 1) := dk_100 (dk_at dksJ15_vectorizedMismatch_10 22 rfl rfl)
theorem dJ15_vectorizedMismatch_256 : decode cJ15_vectorizedMismatch 256 = .ok (.istore 10, 2) := dk_54 10 (dk_at dksJ15_vectorizedMismatch_11 0 rfl rfl)
theorem dJ15_vectorizedMismatch_258 : decode cJ15_vectorizedMismatch 258 = .ok (.iload 10, 2) := dk_21 10 (dk_at dksJ15_vectorizedMismatch_11 2 rfl rfl)
theorem dJ15_vectorizedMismatch_260 : decode cJ15_vectorizedMismatch 260 = .ok (.iconst (-1), 1) := dk_2 (dk_at dksJ15_vectorizedMismatch_11 4 rfl rfl)
theorem dJ15_vectorizedMismatch_261 : decode cJ15_vectorizedMismatch 261 = .ok (.ixor, 1) := dk_130 (dk_at dksJ15_vectorizedMismatch_11 5 rfl rfl)
theorem dJ15_vectorizedMismatch_262 : decode cJ15_vectorizedMismatch 262 = .ok (.ireturn, 1) := dk_172 (dk_at dksJ15_vectorizedMismatch_11 6 rfl rfl)
theorem dJ15_vectorizedMismatch_263 : decode cJ15_vectorizedMismatch 263 = .ok (.iload 10, 2) := dk_21 10 (dk_at dksJ15_vectorizedMismatch_11 7 rfl rfl)
theorem dJ15_vectorizedMismatch_265 : decode cJ15_vectorizedMismatch 265 = .ok (.iconst (-1), 1) := dk_2 (dk_at dksJ15_vectorizedMismatch_11 9 rfl rfl)
theorem dJ15_vectorizedMismatch_266 : decode cJ15_vectorizedMismatch 266 = .ok (.ixor, 1) := dk_130 (dk_at dksJ15_vectorizedMismatch_11 10 rfl rfl)
theorem dJ15_vectorizedMismatch_267 : decode cJ15_vectorizedMismatch 267 = .ok (.ireturn, 1) := dk_172 (dk_at dksJ15_vectorizedMismatch_11 11 rfl rfl)
abbrev cJ15_vectorizedHashCode : ByteArray := prog_71_method_4_code
def yJ15_vectorizedHashCode : MethodName := ⟨RJ15, "vectorizedHashCode", "(Ljava/lang/Object;IIII)I"⟩
def dkwJ15_vectorizedHashCode_6 : List UInt8 := [183, 0, 91, 18, 92, 182, 0, 94, 21, 4, 182, 0, 98, 182, 0, 101, 183, 0, 105, 191, 172]
abbrev dktJ15_vectorizedHashCode_6 : List UInt8 := dkwJ15_vectorizedHashCode_6 ++ []
def dkwJ15_vectorizedHashCode_5 : List UInt8 := [167, 0, 44, 29, 42, 192, 0, 82, 27, 28, 184, 0, 84, 167, 0, 31, 187, 0, 87, 89, 187, 0, 89, 89]
abbrev dktJ15_vectorizedHashCode_5 : List UInt8 := dkwJ15_vectorizedHashCode_5 ++ dktJ15_vectorizedHashCode_6
def dkwJ15_vectorizedHashCode_4 : List UInt8 := [29, 42, 192, 0, 60, 27, 28, 184, 0, 75, 167, 0, 57, 29, 42, 192, 0, 77, 27, 28, 184, 0, 79]
abbrev dktJ15_vectorizedHashCode_4 : List UInt8 := dkwJ15_vectorizedHashCode_4 ++ dktJ15_vectorizedHashCode_5
def dkwJ15_vectorizedHashCode_3 : List UInt8 := [192, 0, 60, 27, 28, 184, 0, 66, 167, 0, 83, 29, 42, 192, 0, 69, 27, 28, 184, 0, 71, 167, 0, 70]
abbrev dktJ15_vectorizedHashCode_3 : List UInt8 := dkwJ15_vectorizedHashCode_3 ++ dktJ15_vectorizedHashCode_4
def dkwJ15_vectorizedHashCode_2 : List UInt8 := [29, 42, 192, 0, 60, 27, 28, 184, 0, 62, 167, 0, 103, 42, 193, 0, 60, 153, 0, 16, 29, 42]
abbrev dktJ15_vectorizedHashCode_2 : List UInt8 := dkwJ15_vectorizedHashCode_2 ++ dktJ15_vectorizedHashCode_3
def dkwJ15_vectorizedHashCode_1 : List UInt8 := [170, 0, 0, 0, 0, 127, 0, 0, 0, 4, 0, 0, 0, 10, 0, 0, 0, 42, 0, 0, 0, 55, 0, 0, 0, 127, 0, 0, 0, 127, 0, 0, 0, 88, 0, 0, 0, 101, 0, 0, 0, 114]
abbrev dktJ15_vectorizedHashCode_1 : List UInt8 := dkwJ15_vectorizedHashCode_1 ++ dktJ15_vectorizedHashCode_2
def dkwJ15_vectorizedHashCode_0 : List UInt8 := [21, 4]
abbrev dktJ15_vectorizedHashCode_0 : List UInt8 := dkwJ15_vectorizedHashCode_0 ++ dktJ15_vectorizedHashCode_1
theorem dksJ15_vectorizedHashCode_0 : cJ15_vectorizedHashCode.data.toList.drop 0 = dktJ15_vectorizedHashCode_0 := by decide +kernel
theorem dksJ15_vectorizedHashCode_1 : cJ15_vectorizedHashCode.data.toList.drop 2 = dktJ15_vectorizedHashCode_1 := dk_seg dksJ15_vectorizedHashCode_0 2 rfl rfl
theorem dksJ15_vectorizedHashCode_2 : cJ15_vectorizedHashCode.data.toList.drop 44 = dktJ15_vectorizedHashCode_2 := dk_seg dksJ15_vectorizedHashCode_1 42 rfl rfl
theorem dksJ15_vectorizedHashCode_3 : cJ15_vectorizedHashCode.data.toList.drop 66 = dktJ15_vectorizedHashCode_3 := dk_seg dksJ15_vectorizedHashCode_2 22 rfl rfl
theorem dksJ15_vectorizedHashCode_4 : cJ15_vectorizedHashCode.data.toList.drop 90 = dktJ15_vectorizedHashCode_4 := dk_seg dksJ15_vectorizedHashCode_3 24 rfl rfl
theorem dksJ15_vectorizedHashCode_5 : cJ15_vectorizedHashCode.data.toList.drop 113 = dktJ15_vectorizedHashCode_5 := dk_seg dksJ15_vectorizedHashCode_4 23 rfl rfl
theorem dksJ15_vectorizedHashCode_6 : cJ15_vectorizedHashCode.data.toList.drop 137 = dktJ15_vectorizedHashCode_6 := dk_seg dksJ15_vectorizedHashCode_5 24 rfl rfl
theorem dJ15_vectorizedHashCode_0 : decode cJ15_vectorizedHashCode 0 = .ok (.iload 4, 2) := dk_21 4 (dk_at dksJ15_vectorizedHashCode_0 0 rfl rfl)
theorem dJ15_vectorizedHashCode_2 : decode cJ15_vectorizedHashCode 2 = .ok (.tableswitch 127 4 10 #[42, 55, 127, 127, 88, 101, 114], 42) := by decide +kernel
theorem dJ15_vectorizedHashCode_44 : decode cJ15_vectorizedHashCode 44 = .ok (.iload_n 3, 1) := dk_29 (dk_at dksJ15_vectorizedHashCode_2 0 rfl rfl)
theorem dJ15_vectorizedHashCode_45 : decode cJ15_vectorizedHashCode 45 = .ok (.aload_n 0, 1) := dk_42 (dk_at dksJ15_vectorizedHashCode_2 1 rfl rfl)
theorem dJ15_vectorizedHashCode_46 : decode cJ15_vectorizedHashCode 46 = .ok (.checkcast 60, 3) := dk_192 0 60 (dk_at dksJ15_vectorizedHashCode_2 2 rfl rfl)
theorem dJ15_vectorizedHashCode_49 : decode cJ15_vectorizedHashCode 49 = .ok (.iload_n 1, 1) := dk_27 (dk_at dksJ15_vectorizedHashCode_2 5 rfl rfl)
theorem dJ15_vectorizedHashCode_50 : decode cJ15_vectorizedHashCode 50 = .ok (.iload_n 2, 1) := dk_28 (dk_at dksJ15_vectorizedHashCode_2 6 rfl rfl)
theorem dJ15_vectorizedHashCode_51 : decode cJ15_vectorizedHashCode 51 = .ok (.invokestatic 62, 3) := dk_184 0 62 (dk_at dksJ15_vectorizedHashCode_2 7 rfl rfl)
theorem dJ15_vectorizedHashCode_54 : decode cJ15_vectorizedHashCode 54 = .ok (.goto 103, 3) := dk_167 0 103 (dk_at dksJ15_vectorizedHashCode_2 10 rfl rfl)
theorem dJ15_vectorizedHashCode_57 : decode cJ15_vectorizedHashCode 57 = .ok (.aload_n 0, 1) := dk_42 (dk_at dksJ15_vectorizedHashCode_2 13 rfl rfl)
theorem dJ15_vectorizedHashCode_58 : decode cJ15_vectorizedHashCode 58 = .ok (.instanceof 60, 3) := dk_193 0 60 (dk_at dksJ15_vectorizedHashCode_2 14 rfl rfl)
theorem dJ15_vectorizedHashCode_61 : decode cJ15_vectorizedHashCode 61 = .ok (.ifCond .eq 16, 3) := dk_153 0 16 (dk_at dksJ15_vectorizedHashCode_2 17 rfl rfl)
theorem dJ15_vectorizedHashCode_64 : decode cJ15_vectorizedHashCode 64 = .ok (.iload_n 3, 1) := dk_29 (dk_at dksJ15_vectorizedHashCode_2 20 rfl rfl)
theorem dJ15_vectorizedHashCode_65 : decode cJ15_vectorizedHashCode 65 = .ok (.aload_n 0, 1) := dk_42 (dk_at dksJ15_vectorizedHashCode_2 21 rfl rfl)
theorem dJ15_vectorizedHashCode_66 : decode cJ15_vectorizedHashCode 66 = .ok (.checkcast 60, 3) := dk_192 0 60 (dk_at dksJ15_vectorizedHashCode_3 0 rfl rfl)
theorem dJ15_vectorizedHashCode_69 : decode cJ15_vectorizedHashCode 69 = .ok (.iload_n 1, 1) := dk_27 (dk_at dksJ15_vectorizedHashCode_3 3 rfl rfl)
theorem dJ15_vectorizedHashCode_70 : decode cJ15_vectorizedHashCode 70 = .ok (.iload_n 2, 1) := dk_28 (dk_at dksJ15_vectorizedHashCode_3 4 rfl rfl)
theorem dJ15_vectorizedHashCode_71 : decode cJ15_vectorizedHashCode 71 = .ok (.invokestatic 66, 3) := dk_184 0 66 (dk_at dksJ15_vectorizedHashCode_3 5 rfl rfl)
theorem dJ15_vectorizedHashCode_74 : decode cJ15_vectorizedHashCode 74 = .ok (.goto 83, 3) := dk_167 0 83 (dk_at dksJ15_vectorizedHashCode_3 8 rfl rfl)
theorem dJ15_vectorizedHashCode_77 : decode cJ15_vectorizedHashCode 77 = .ok (.iload_n 3, 1) := dk_29 (dk_at dksJ15_vectorizedHashCode_3 11 rfl rfl)
theorem dJ15_vectorizedHashCode_78 : decode cJ15_vectorizedHashCode 78 = .ok (.aload_n 0, 1) := dk_42 (dk_at dksJ15_vectorizedHashCode_3 12 rfl rfl)
theorem dJ15_vectorizedHashCode_79 : decode cJ15_vectorizedHashCode 79 = .ok (.checkcast 69, 3) := dk_192 0 69 (dk_at dksJ15_vectorizedHashCode_3 13 rfl rfl)
theorem dJ15_vectorizedHashCode_82 : decode cJ15_vectorizedHashCode 82 = .ok (.iload_n 1, 1) := dk_27 (dk_at dksJ15_vectorizedHashCode_3 16 rfl rfl)
theorem dJ15_vectorizedHashCode_83 : decode cJ15_vectorizedHashCode 83 = .ok (.iload_n 2, 1) := dk_28 (dk_at dksJ15_vectorizedHashCode_3 17 rfl rfl)
theorem dJ15_vectorizedHashCode_84 : decode cJ15_vectorizedHashCode 84 = .ok (.invokestatic 71, 3) := dk_184 0 71 (dk_at dksJ15_vectorizedHashCode_3 18 rfl rfl)
theorem dJ15_vectorizedHashCode_87 : decode cJ15_vectorizedHashCode 87 = .ok (.goto 70, 3) := dk_167 0 70 (dk_at dksJ15_vectorizedHashCode_3 21 rfl rfl)
theorem dJ15_vectorizedHashCode_90 : decode cJ15_vectorizedHashCode 90 = .ok (.iload_n 3, 1) := dk_29 (dk_at dksJ15_vectorizedHashCode_4 0 rfl rfl)
theorem dJ15_vectorizedHashCode_91 : decode cJ15_vectorizedHashCode 91 = .ok (.aload_n 0, 1) := dk_42 (dk_at dksJ15_vectorizedHashCode_4 1 rfl rfl)
theorem dJ15_vectorizedHashCode_92 : decode cJ15_vectorizedHashCode 92 = .ok (.checkcast 60, 3) := dk_192 0 60 (dk_at dksJ15_vectorizedHashCode_4 2 rfl rfl)
theorem dJ15_vectorizedHashCode_95 : decode cJ15_vectorizedHashCode 95 = .ok (.iload_n 1, 1) := dk_27 (dk_at dksJ15_vectorizedHashCode_4 5 rfl rfl)
theorem dJ15_vectorizedHashCode_96 : decode cJ15_vectorizedHashCode 96 = .ok (.iload_n 2, 1) := dk_28 (dk_at dksJ15_vectorizedHashCode_4 6 rfl rfl)
theorem dJ15_vectorizedHashCode_97 : decode cJ15_vectorizedHashCode 97 = .ok (.invokestatic 75, 3) := dk_184 0 75 (dk_at dksJ15_vectorizedHashCode_4 7 rfl rfl)
theorem dJ15_vectorizedHashCode_100 : decode cJ15_vectorizedHashCode 100 = .ok (.goto 57, 3) := dk_167 0 57 (dk_at dksJ15_vectorizedHashCode_4 10 rfl rfl)
theorem dJ15_vectorizedHashCode_103 : decode cJ15_vectorizedHashCode 103 = .ok (.iload_n 3, 1) := dk_29 (dk_at dksJ15_vectorizedHashCode_4 13 rfl rfl)
theorem dJ15_vectorizedHashCode_104 : decode cJ15_vectorizedHashCode 104 = .ok (.aload_n 0, 1) := dk_42 (dk_at dksJ15_vectorizedHashCode_4 14 rfl rfl)
theorem dJ15_vectorizedHashCode_105 : decode cJ15_vectorizedHashCode 105 = .ok (.checkcast 77, 3) := dk_192 0 77 (dk_at dksJ15_vectorizedHashCode_4 15 rfl rfl)
theorem dJ15_vectorizedHashCode_108 : decode cJ15_vectorizedHashCode 108 = .ok (.iload_n 1, 1) := dk_27 (dk_at dksJ15_vectorizedHashCode_4 18 rfl rfl)
theorem dJ15_vectorizedHashCode_109 : decode cJ15_vectorizedHashCode 109 = .ok (.iload_n 2, 1) := dk_28 (dk_at dksJ15_vectorizedHashCode_4 19 rfl rfl)
theorem dJ15_vectorizedHashCode_110 : decode cJ15_vectorizedHashCode 110 = .ok (.invokestatic 79, 3) := dk_184 0 79 (dk_at dksJ15_vectorizedHashCode_4 20 rfl rfl)
theorem dJ15_vectorizedHashCode_113 : decode cJ15_vectorizedHashCode 113 = .ok (.goto 44, 3) := dk_167 0 44 (dk_at dksJ15_vectorizedHashCode_5 0 rfl rfl)
theorem dJ15_vectorizedHashCode_116 : decode cJ15_vectorizedHashCode 116 = .ok (.iload_n 3, 1) := dk_29 (dk_at dksJ15_vectorizedHashCode_5 3 rfl rfl)
theorem dJ15_vectorizedHashCode_117 : decode cJ15_vectorizedHashCode 117 = .ok (.aload_n 0, 1) := dk_42 (dk_at dksJ15_vectorizedHashCode_5 4 rfl rfl)
theorem dJ15_vectorizedHashCode_118 : decode cJ15_vectorizedHashCode 118 = .ok (.checkcast 82, 3) := dk_192 0 82 (dk_at dksJ15_vectorizedHashCode_5 5 rfl rfl)
theorem dJ15_vectorizedHashCode_121 : decode cJ15_vectorizedHashCode 121 = .ok (.iload_n 1, 1) := dk_27 (dk_at dksJ15_vectorizedHashCode_5 8 rfl rfl)
theorem dJ15_vectorizedHashCode_122 : decode cJ15_vectorizedHashCode 122 = .ok (.iload_n 2, 1) := dk_28 (dk_at dksJ15_vectorizedHashCode_5 9 rfl rfl)
theorem dJ15_vectorizedHashCode_123 : decode cJ15_vectorizedHashCode 123 = .ok (.invokestatic 84, 3) := dk_184 0 84 (dk_at dksJ15_vectorizedHashCode_5 10 rfl rfl)
theorem dJ15_vectorizedHashCode_126 : decode cJ15_vectorizedHashCode 126 = .ok (.goto 31, 3) := dk_167 0 31 (dk_at dksJ15_vectorizedHashCode_5 13 rfl rfl)
theorem dJ15_vectorizedHashCode_129 : decode cJ15_vectorizedHashCode 129 = .ok (.new 87, 3) := dk_187 0 87 (dk_at dksJ15_vectorizedHashCode_5 16 rfl rfl)
theorem dJ15_vectorizedHashCode_132 : decode cJ15_vectorizedHashCode 132 = .ok (.dup, 1) := dk_89 (dk_at dksJ15_vectorizedHashCode_5 19 rfl rfl)
theorem dJ15_vectorizedHashCode_133 : decode cJ15_vectorizedHashCode 133 = .ok (.new 89, 3) := dk_187 0 89 (dk_at dksJ15_vectorizedHashCode_5 20 rfl rfl)
theorem dJ15_vectorizedHashCode_136 : decode cJ15_vectorizedHashCode 136 = .ok (.dup, 1) := dk_89 (dk_at dksJ15_vectorizedHashCode_5 23 rfl rfl)
theorem dJ15_vectorizedHashCode_137 : decode cJ15_vectorizedHashCode 137 = .ok (.invokespecial 91, 3) := dk_183 0 91 (dk_at dksJ15_vectorizedHashCode_6 0 rfl rfl)
theorem dJ15_vectorizedHashCode_140 : decode cJ15_vectorizedHashCode 140 = .ok (.ldc 92, 2) := dk_18 92 (dk_at dksJ15_vectorizedHashCode_6 3 rfl rfl)
theorem dJ15_vectorizedHashCode_142 : decode cJ15_vectorizedHashCode 142 = .ok (.invokevirtual 94, 3) := dk_182 0 94 (dk_at dksJ15_vectorizedHashCode_6 5 rfl rfl)
theorem dJ15_vectorizedHashCode_145 : decode cJ15_vectorizedHashCode 145 = .ok (.iload 4, 2) := dk_21 4 (dk_at dksJ15_vectorizedHashCode_6 8 rfl rfl)
theorem dJ15_vectorizedHashCode_147 : decode cJ15_vectorizedHashCode 147 = .ok (.invokevirtual 98, 3) := dk_182 0 98 (dk_at dksJ15_vectorizedHashCode_6 10 rfl rfl)
theorem dJ15_vectorizedHashCode_150 : decode cJ15_vectorizedHashCode 150 = .ok (.invokevirtual 101, 3) := dk_182 0 101 (dk_at dksJ15_vectorizedHashCode_6 13 rfl rfl)
theorem dJ15_vectorizedHashCode_153 : decode cJ15_vectorizedHashCode 153 = .ok (.invokespecial 105, 3) := dk_183 0 105 (dk_at dksJ15_vectorizedHashCode_6 16 rfl rfl)
theorem dJ15_vectorizedHashCode_156 : decode cJ15_vectorizedHashCode 156 = .ok (.athrow, 1) := dk_191 (dk_at dksJ15_vectorizedHashCode_6 19 rfl rfl)
theorem dJ15_vectorizedHashCode_157 : decode cJ15_vectorizedHashCode 157 = .ok (.ireturn, 1) := dk_172 (dk_at dksJ15_vectorizedHashCode_6 20 rfl rfl)
abbrev cJ15_signedHashCode : ByteArray := prog_71_method_5_code
def yJ15_signedHashCode : MethodName := ⟨RJ15, "signedHashCode", "(I[BII)I"⟩
def dkwJ15_signedHashCode_1 : List UInt8 := [17, 0, 255, 126, 96, 59, 132, 5, 1, 167, 255, 232, 26, 172]
abbrev dktJ15_signedHashCode_1 : List UInt8 := dkwJ15_signedHashCode_1 ++ []
def dkwJ15_signedHashCode_0 : List UInt8 := [28, 29, 96, 54, 4, 28, 54, 5, 21, 5, 21, 4, 162, 0, 23, 16, 31, 26, 104, 43, 21, 5, 51]
abbrev dktJ15_signedHashCode_0 : List UInt8 := dkwJ15_signedHashCode_0 ++ dktJ15_signedHashCode_1
theorem dksJ15_signedHashCode_0 : cJ15_signedHashCode.data.toList.drop 0 = dktJ15_signedHashCode_0 := by decide +kernel
theorem dksJ15_signedHashCode_1 : cJ15_signedHashCode.data.toList.drop 23 = dktJ15_signedHashCode_1 := dk_seg dksJ15_signedHashCode_0 23 rfl rfl
theorem dJ15_signedHashCode_0 : decode cJ15_signedHashCode 0 = .ok (.iload_n 2, 1) := dk_28 (dk_at dksJ15_signedHashCode_0 0 rfl rfl)
theorem dJ15_signedHashCode_1 : decode cJ15_signedHashCode 1 = .ok (.iload_n 3, 1) := dk_29 (dk_at dksJ15_signedHashCode_0 1 rfl rfl)
theorem dJ15_signedHashCode_2 : decode cJ15_signedHashCode 2 = .ok (.iadd, 1) := dk_96 (dk_at dksJ15_signedHashCode_0 2 rfl rfl)
theorem dJ15_signedHashCode_3 : decode cJ15_signedHashCode 3 = .ok (.istore 4, 2) := dk_54 4 (dk_at dksJ15_signedHashCode_0 3 rfl rfl)
theorem dJ15_signedHashCode_5 : decode cJ15_signedHashCode 5 = .ok (.iload_n 2, 1) := dk_28 (dk_at dksJ15_signedHashCode_0 5 rfl rfl)
theorem dJ15_signedHashCode_6 : decode cJ15_signedHashCode 6 = .ok (.istore 5, 2) := dk_54 5 (dk_at dksJ15_signedHashCode_0 6 rfl rfl)
theorem dJ15_signedHashCode_8 : decode cJ15_signedHashCode 8 = .ok (.iload 5, 2) := dk_21 5 (dk_at dksJ15_signedHashCode_0 8 rfl rfl)
theorem dJ15_signedHashCode_10 : decode cJ15_signedHashCode 10 = .ok (.iload 4, 2) := dk_21 4 (dk_at dksJ15_signedHashCode_0 10 rfl rfl)
theorem dJ15_signedHashCode_12 : decode cJ15_signedHashCode 12 = .ok (.if_icmp .ge 23, 3) := dk_162 0 23 (dk_at dksJ15_signedHashCode_0 12 rfl rfl)
theorem dJ15_signedHashCode_15 : decode cJ15_signedHashCode 15 = .ok (.bipush 31, 2) := dk_16 31 (dk_at dksJ15_signedHashCode_0 15 rfl rfl)
theorem dJ15_signedHashCode_17 : decode cJ15_signedHashCode 17 = .ok (.iload_n 0, 1) := dk_26 (dk_at dksJ15_signedHashCode_0 17 rfl rfl)
theorem dJ15_signedHashCode_18 : decode cJ15_signedHashCode 18 = .ok (.imul, 1) := dk_104 (dk_at dksJ15_signedHashCode_0 18 rfl rfl)
theorem dJ15_signedHashCode_19 : decode cJ15_signedHashCode 19 = .ok (.aload_n 1, 1) := dk_43 (dk_at dksJ15_signedHashCode_0 19 rfl rfl)
theorem dJ15_signedHashCode_20 : decode cJ15_signedHashCode 20 = .ok (.iload 5, 2) := dk_21 5 (dk_at dksJ15_signedHashCode_0 20 rfl rfl)
theorem dJ15_signedHashCode_22 : decode cJ15_signedHashCode 22 = .ok (.baload, 1) := dk_51 (dk_at dksJ15_signedHashCode_0 22 rfl rfl)
theorem dJ15_signedHashCode_23 : decode cJ15_signedHashCode 23 = .ok (.sipush 255, 3) := dk_17 0 255 (dk_at dksJ15_signedHashCode_1 0 rfl rfl)
theorem dJ15_signedHashCode_26 : decode cJ15_signedHashCode 26 = .ok (.iand, 1) := dk_126 (dk_at dksJ15_signedHashCode_1 3 rfl rfl)
theorem dJ15_signedHashCode_27 : decode cJ15_signedHashCode 27 = .ok (.iadd, 1) := dk_96 (dk_at dksJ15_signedHashCode_1 4 rfl rfl)
theorem dJ15_signedHashCode_28 : decode cJ15_signedHashCode 28 = .ok (.istore_n 0, 1) := dk_59 (dk_at dksJ15_signedHashCode_1 5 rfl rfl)
theorem dJ15_signedHashCode_29 : decode cJ15_signedHashCode 29 = .ok (.iinc 5 1, 3) := dk_132 5 1 (dk_at dksJ15_signedHashCode_1 6 rfl rfl)
theorem dJ15_signedHashCode_32 : decode cJ15_signedHashCode 32 = .ok (.goto (-24), 3) := dk_167 255 232 (dk_at dksJ15_signedHashCode_1 9 rfl rfl)
theorem dJ15_signedHashCode_35 : decode cJ15_signedHashCode 35 = .ok (.iload_n 0, 1) := dk_26 (dk_at dksJ15_signedHashCode_1 12 rfl rfl)
theorem dJ15_signedHashCode_36 : decode cJ15_signedHashCode 36 = .ok (.ireturn, 1) := dk_172 (dk_at dksJ15_signedHashCode_1 13 rfl rfl)
abbrev cJ15_utf16hashCode : ByteArray := prog_71_method_10_code
def yJ15_utf16hashCode : MethodName := ⟨RJ15, "utf16hashCode", "(I[BII)I"⟩
def dkwJ15_utf16hashCode_1 : List UInt8 := [21, 5, 185, 0, 110, 3, 0, 96, 59, 132, 5, 1, 167, 255, 229, 26, 172]
abbrev dktJ15_utf16hashCode_1 : List UInt8 := dkwJ15_utf16hashCode_1 ++ []
def dkwJ15_utf16hashCode_0 : List UInt8 := [28, 29, 96, 54, 4, 28, 54, 5, 21, 5, 21, 4, 162, 0, 26, 16, 31, 26, 104, 178, 0, 106, 43]
abbrev dktJ15_utf16hashCode_0 : List UInt8 := dkwJ15_utf16hashCode_0 ++ dktJ15_utf16hashCode_1
theorem dksJ15_utf16hashCode_0 : cJ15_utf16hashCode.data.toList.drop 0 = dktJ15_utf16hashCode_0 := by decide +kernel
theorem dksJ15_utf16hashCode_1 : cJ15_utf16hashCode.data.toList.drop 23 = dktJ15_utf16hashCode_1 := dk_seg dksJ15_utf16hashCode_0 23 rfl rfl
theorem dJ15_utf16hashCode_0 : decode cJ15_utf16hashCode 0 = .ok (.iload_n 2, 1) := dk_28 (dk_at dksJ15_utf16hashCode_0 0 rfl rfl)
theorem dJ15_utf16hashCode_1 : decode cJ15_utf16hashCode 1 = .ok (.iload_n 3, 1) := dk_29 (dk_at dksJ15_utf16hashCode_0 1 rfl rfl)
theorem dJ15_utf16hashCode_2 : decode cJ15_utf16hashCode 2 = .ok (.iadd, 1) := dk_96 (dk_at dksJ15_utf16hashCode_0 2 rfl rfl)
theorem dJ15_utf16hashCode_3 : decode cJ15_utf16hashCode 3 = .ok (.istore 4, 2) := dk_54 4 (dk_at dksJ15_utf16hashCode_0 3 rfl rfl)
theorem dJ15_utf16hashCode_5 : decode cJ15_utf16hashCode 5 = .ok (.iload_n 2, 1) := dk_28 (dk_at dksJ15_utf16hashCode_0 5 rfl rfl)
theorem dJ15_utf16hashCode_6 : decode cJ15_utf16hashCode 6 = .ok (.istore 5, 2) := dk_54 5 (dk_at dksJ15_utf16hashCode_0 6 rfl rfl)
theorem dJ15_utf16hashCode_8 : decode cJ15_utf16hashCode 8 = .ok (.iload 5, 2) := dk_21 5 (dk_at dksJ15_utf16hashCode_0 8 rfl rfl)
theorem dJ15_utf16hashCode_10 : decode cJ15_utf16hashCode 10 = .ok (.iload 4, 2) := dk_21 4 (dk_at dksJ15_utf16hashCode_0 10 rfl rfl)
theorem dJ15_utf16hashCode_12 : decode cJ15_utf16hashCode 12 = .ok (.if_icmp .ge 26, 3) := dk_162 0 26 (dk_at dksJ15_utf16hashCode_0 12 rfl rfl)
theorem dJ15_utf16hashCode_15 : decode cJ15_utf16hashCode 15 = .ok (.bipush 31, 2) := dk_16 31 (dk_at dksJ15_utf16hashCode_0 15 rfl rfl)
theorem dJ15_utf16hashCode_17 : decode cJ15_utf16hashCode 17 = .ok (.iload_n 0, 1) := dk_26 (dk_at dksJ15_utf16hashCode_0 17 rfl rfl)
theorem dJ15_utf16hashCode_18 : decode cJ15_utf16hashCode 18 = .ok (.imul, 1) := dk_104 (dk_at dksJ15_utf16hashCode_0 18 rfl rfl)
theorem dJ15_utf16hashCode_19 : decode cJ15_utf16hashCode 19 = .ok (.getstatic 106, 3) := dk_178 0 106 (dk_at dksJ15_utf16hashCode_0 19 rfl rfl)
theorem dJ15_utf16hashCode_22 : decode cJ15_utf16hashCode 22 = .ok (.aload_n 1, 1) := dk_43 (dk_at dksJ15_utf16hashCode_0 22 rfl rfl)
theorem dJ15_utf16hashCode_23 : decode cJ15_utf16hashCode 23 = .ok (.iload 5, 2) := dk_21 5 (dk_at dksJ15_utf16hashCode_1 0 rfl rfl)
theorem dJ15_utf16hashCode_25 : decode cJ15_utf16hashCode 25 = .ok (.invokeinterface 110 3, 5) := by decide +kernel
theorem dJ15_utf16hashCode_30 : decode cJ15_utf16hashCode 30 = .ok (.iadd, 1) := dk_96 (dk_at dksJ15_utf16hashCode_1 7 rfl rfl)
theorem dJ15_utf16hashCode_31 : decode cJ15_utf16hashCode 31 = .ok (.istore_n 0, 1) := dk_59 (dk_at dksJ15_utf16hashCode_1 8 rfl rfl)
theorem dJ15_utf16hashCode_32 : decode cJ15_utf16hashCode 32 = .ok (.iinc 5 1, 3) := dk_132 5 1 (dk_at dksJ15_utf16hashCode_1 9 rfl rfl)
theorem dJ15_utf16hashCode_35 : decode cJ15_utf16hashCode 35 = .ok (.goto (-27), 3) := dk_167 255 229 (dk_at dksJ15_utf16hashCode_1 12 rfl rfl)
theorem dJ15_utf16hashCode_38 : decode cJ15_utf16hashCode 38 = .ok (.iload_n 0, 1) := dk_26 (dk_at dksJ15_utf16hashCode_1 15 rfl rfl)
theorem dJ15_utf16hashCode_39 : decode cJ15_utf16hashCode 39 = .ok (.ireturn, 1) := dk_172 (dk_at dksJ15_utf16hashCode_1 16 rfl rfl)
abbrev cJ15_hashCode : ByteArray := prog_71_method_7_code
def yJ15_hashCode : MethodName := ⟨RJ15, "hashCode", "(I[CII)I"⟩
def dkwJ15_hashCode_1 : List UInt8 := [59, 132, 5, 1, 167, 255, 236, 26, 172]
abbrev dktJ15_hashCode_1 : List UInt8 := dkwJ15_hashCode_1 ++ []
def dkwJ15_hashCode_0 : List UInt8 := [28, 29, 96, 54, 4, 28, 54, 5, 21, 5, 21, 4, 162, 0, 19, 16, 31, 26, 104, 43, 21, 5, 52, 96]
abbrev dktJ15_hashCode_0 : List UInt8 := dkwJ15_hashCode_0 ++ dktJ15_hashCode_1
theorem dksJ15_hashCode_0 : cJ15_hashCode.data.toList.drop 0 = dktJ15_hashCode_0 := by decide +kernel
theorem dksJ15_hashCode_1 : cJ15_hashCode.data.toList.drop 24 = dktJ15_hashCode_1 := dk_seg dksJ15_hashCode_0 24 rfl rfl
theorem dJ15_hashCode_0 : decode cJ15_hashCode 0 = .ok (.iload_n 2, 1) := dk_28 (dk_at dksJ15_hashCode_0 0 rfl rfl)
theorem dJ15_hashCode_1 : decode cJ15_hashCode 1 = .ok (.iload_n 3, 1) := dk_29 (dk_at dksJ15_hashCode_0 1 rfl rfl)
theorem dJ15_hashCode_2 : decode cJ15_hashCode 2 = .ok (.iadd, 1) := dk_96 (dk_at dksJ15_hashCode_0 2 rfl rfl)
theorem dJ15_hashCode_3 : decode cJ15_hashCode 3 = .ok (.istore 4, 2) := dk_54 4 (dk_at dksJ15_hashCode_0 3 rfl rfl)
theorem dJ15_hashCode_5 : decode cJ15_hashCode 5 = .ok (.iload_n 2, 1) := dk_28 (dk_at dksJ15_hashCode_0 5 rfl rfl)
theorem dJ15_hashCode_6 : decode cJ15_hashCode 6 = .ok (.istore 5, 2) := dk_54 5 (dk_at dksJ15_hashCode_0 6 rfl rfl)
theorem dJ15_hashCode_8 : decode cJ15_hashCode 8 = .ok (.iload 5, 2) := dk_21 5 (dk_at dksJ15_hashCode_0 8 rfl rfl)
theorem dJ15_hashCode_10 : decode cJ15_hashCode 10 = .ok (.iload 4, 2) := dk_21 4 (dk_at dksJ15_hashCode_0 10 rfl rfl)
theorem dJ15_hashCode_12 : decode cJ15_hashCode 12 = .ok (.if_icmp .ge 19, 3) := dk_162 0 19 (dk_at dksJ15_hashCode_0 12 rfl rfl)
theorem dJ15_hashCode_15 : decode cJ15_hashCode 15 = .ok (.bipush 31, 2) := dk_16 31 (dk_at dksJ15_hashCode_0 15 rfl rfl)
theorem dJ15_hashCode_17 : decode cJ15_hashCode 17 = .ok (.iload_n 0, 1) := dk_26 (dk_at dksJ15_hashCode_0 17 rfl rfl)
theorem dJ15_hashCode_18 : decode cJ15_hashCode 18 = .ok (.imul, 1) := dk_104 (dk_at dksJ15_hashCode_0 18 rfl rfl)
theorem dJ15_hashCode_19 : decode cJ15_hashCode 19 = .ok (.aload_n 1, 1) := dk_43 (dk_at dksJ15_hashCode_0 19 rfl rfl)
theorem dJ15_hashCode_20 : decode cJ15_hashCode 20 = .ok (.iload 5, 2) := dk_21 5 (dk_at dksJ15_hashCode_0 20 rfl rfl)
theorem dJ15_hashCode_22 : decode cJ15_hashCode 22 = .ok (.caload, 1) := dk_52 (dk_at dksJ15_hashCode_0 22 rfl rfl)
theorem dJ15_hashCode_23 : decode cJ15_hashCode 23 = .ok (.iadd, 1) := dk_96 (dk_at dksJ15_hashCode_0 23 rfl rfl)
theorem dJ15_hashCode_24 : decode cJ15_hashCode 24 = .ok (.istore_n 0, 1) := dk_59 (dk_at dksJ15_hashCode_1 0 rfl rfl)
theorem dJ15_hashCode_25 : decode cJ15_hashCode 25 = .ok (.iinc 5 1, 3) := dk_132 5 1 (dk_at dksJ15_hashCode_1 1 rfl rfl)
theorem dJ15_hashCode_28 : decode cJ15_hashCode 28 = .ok (.goto (-20), 3) := dk_167 255 236 (dk_at dksJ15_hashCode_1 4 rfl rfl)
theorem dJ15_hashCode_31 : decode cJ15_hashCode 31 = .ok (.iload_n 0, 1) := dk_26 (dk_at dksJ15_hashCode_1 7 rfl rfl)
theorem dJ15_hashCode_32 : decode cJ15_hashCode 32 = .ok (.ireturn, 1) := dk_172 (dk_at dksJ15_hashCode_1 8 rfl rfl)
abbrev cJ15_hashCode_2 : ByteArray := prog_71_method_6_code
def yJ15_hashCode_2 : MethodName := ⟨RJ15, "hashCode", "(I[BII)I"⟩
def dkwJ15_hashCode_2_1 : List UInt8 := [59, 132, 5, 1, 167, 255, 236, 26, 172]
abbrev dktJ15_hashCode_2_1 : List UInt8 := dkwJ15_hashCode_2_1 ++ []
def dkwJ15_hashCode_2_0 : List UInt8 := [28, 29, 96, 54, 4, 28, 54, 5, 21, 5, 21, 4, 162, 0, 19, 16, 31, 26, 104, 43, 21, 5, 51, 96]
abbrev dktJ15_hashCode_2_0 : List UInt8 := dkwJ15_hashCode_2_0 ++ dktJ15_hashCode_2_1
theorem dksJ15_hashCode_2_0 : cJ15_hashCode_2.data.toList.drop 0 = dktJ15_hashCode_2_0 := by decide +kernel
theorem dksJ15_hashCode_2_1 : cJ15_hashCode_2.data.toList.drop 24 = dktJ15_hashCode_2_1 := dk_seg dksJ15_hashCode_2_0 24 rfl rfl
theorem dJ15_hashCode_2_0 : decode cJ15_hashCode_2 0 = .ok (.iload_n 2, 1) := dk_28 (dk_at dksJ15_hashCode_2_0 0 rfl rfl)
theorem dJ15_hashCode_2_1 : decode cJ15_hashCode_2 1 = .ok (.iload_n 3, 1) := dk_29 (dk_at dksJ15_hashCode_2_0 1 rfl rfl)
theorem dJ15_hashCode_2_2 : decode cJ15_hashCode_2 2 = .ok (.iadd, 1) := dk_96 (dk_at dksJ15_hashCode_2_0 2 rfl rfl)
theorem dJ15_hashCode_2_3 : decode cJ15_hashCode_2 3 = .ok (.istore 4, 2) := dk_54 4 (dk_at dksJ15_hashCode_2_0 3 rfl rfl)
theorem dJ15_hashCode_2_5 : decode cJ15_hashCode_2 5 = .ok (.iload_n 2, 1) := dk_28 (dk_at dksJ15_hashCode_2_0 5 rfl rfl)
theorem dJ15_hashCode_2_6 : decode cJ15_hashCode_2 6 = .ok (.istore 5, 2) := dk_54 5 (dk_at dksJ15_hashCode_2_0 6 rfl rfl)
theorem dJ15_hashCode_2_8 : decode cJ15_hashCode_2 8 = .ok (.iload 5, 2) := dk_21 5 (dk_at dksJ15_hashCode_2_0 8 rfl rfl)
theorem dJ15_hashCode_2_10 : decode cJ15_hashCode_2 10 = .ok (.iload 4, 2) := dk_21 4 (dk_at dksJ15_hashCode_2_0 10 rfl rfl)
theorem dJ15_hashCode_2_12 : decode cJ15_hashCode_2 12 = .ok (.if_icmp .ge 19, 3) := dk_162 0 19 (dk_at dksJ15_hashCode_2_0 12 rfl rfl)
theorem dJ15_hashCode_2_15 : decode cJ15_hashCode_2 15 = .ok (.bipush 31, 2) := dk_16 31 (dk_at dksJ15_hashCode_2_0 15 rfl rfl)
theorem dJ15_hashCode_2_17 : decode cJ15_hashCode_2 17 = .ok (.iload_n 0, 1) := dk_26 (dk_at dksJ15_hashCode_2_0 17 rfl rfl)
theorem dJ15_hashCode_2_18 : decode cJ15_hashCode_2 18 = .ok (.imul, 1) := dk_104 (dk_at dksJ15_hashCode_2_0 18 rfl rfl)
theorem dJ15_hashCode_2_19 : decode cJ15_hashCode_2 19 = .ok (.aload_n 1, 1) := dk_43 (dk_at dksJ15_hashCode_2_0 19 rfl rfl)
theorem dJ15_hashCode_2_20 : decode cJ15_hashCode_2 20 = .ok (.iload 5, 2) := dk_21 5 (dk_at dksJ15_hashCode_2_0 20 rfl rfl)
theorem dJ15_hashCode_2_22 : decode cJ15_hashCode_2 22 = .ok (.baload, 1) := dk_51 (dk_at dksJ15_hashCode_2_0 22 rfl rfl)
theorem dJ15_hashCode_2_23 : decode cJ15_hashCode_2 23 = .ok (.iadd, 1) := dk_96 (dk_at dksJ15_hashCode_2_0 23 rfl rfl)
theorem dJ15_hashCode_2_24 : decode cJ15_hashCode_2 24 = .ok (.istore_n 0, 1) := dk_59 (dk_at dksJ15_hashCode_2_1 0 rfl rfl)
theorem dJ15_hashCode_2_25 : decode cJ15_hashCode_2 25 = .ok (.iinc 5 1, 3) := dk_132 5 1 (dk_at dksJ15_hashCode_2_1 1 rfl rfl)
theorem dJ15_hashCode_2_28 : decode cJ15_hashCode_2 28 = .ok (.goto (-20), 3) := dk_167 255 236 (dk_at dksJ15_hashCode_2_1 4 rfl rfl)
theorem dJ15_hashCode_2_31 : decode cJ15_hashCode_2 31 = .ok (.iload_n 0, 1) := dk_26 (dk_at dksJ15_hashCode_2_1 7 rfl rfl)
theorem dJ15_hashCode_2_32 : decode cJ15_hashCode_2 32 = .ok (.ireturn, 1) := dk_172 (dk_at dksJ15_hashCode_2_1 8 rfl rfl)
abbrev cJ15_hashCode_3 : ByteArray := prog_71_method_8_code
def yJ15_hashCode_3 : MethodName := ⟨RJ15, "hashCode", "(I[SII)I"⟩
def dkwJ15_hashCode_3_1 : List UInt8 := [59, 132, 5, 1, 167, 255, 236, 26, 172]
abbrev dktJ15_hashCode_3_1 : List UInt8 := dkwJ15_hashCode_3_1 ++ []
def dkwJ15_hashCode_3_0 : List UInt8 := [28, 29, 96, 54, 4, 28, 54, 5, 21, 5, 21, 4, 162, 0, 19, 16, 31, 26, 104, 43, 21, 5, 53, 96]
abbrev dktJ15_hashCode_3_0 : List UInt8 := dkwJ15_hashCode_3_0 ++ dktJ15_hashCode_3_1
theorem dksJ15_hashCode_3_0 : cJ15_hashCode_3.data.toList.drop 0 = dktJ15_hashCode_3_0 := by decide +kernel
theorem dksJ15_hashCode_3_1 : cJ15_hashCode_3.data.toList.drop 24 = dktJ15_hashCode_3_1 := dk_seg dksJ15_hashCode_3_0 24 rfl rfl
theorem dJ15_hashCode_3_0 : decode cJ15_hashCode_3 0 = .ok (.iload_n 2, 1) := dk_28 (dk_at dksJ15_hashCode_3_0 0 rfl rfl)
theorem dJ15_hashCode_3_1 : decode cJ15_hashCode_3 1 = .ok (.iload_n 3, 1) := dk_29 (dk_at dksJ15_hashCode_3_0 1 rfl rfl)
theorem dJ15_hashCode_3_2 : decode cJ15_hashCode_3 2 = .ok (.iadd, 1) := dk_96 (dk_at dksJ15_hashCode_3_0 2 rfl rfl)
theorem dJ15_hashCode_3_3 : decode cJ15_hashCode_3 3 = .ok (.istore 4, 2) := dk_54 4 (dk_at dksJ15_hashCode_3_0 3 rfl rfl)
theorem dJ15_hashCode_3_5 : decode cJ15_hashCode_3 5 = .ok (.iload_n 2, 1) := dk_28 (dk_at dksJ15_hashCode_3_0 5 rfl rfl)
theorem dJ15_hashCode_3_6 : decode cJ15_hashCode_3 6 = .ok (.istore 5, 2) := dk_54 5 (dk_at dksJ15_hashCode_3_0 6 rfl rfl)
theorem dJ15_hashCode_3_8 : decode cJ15_hashCode_3 8 = .ok (.iload 5, 2) := dk_21 5 (dk_at dksJ15_hashCode_3_0 8 rfl rfl)
theorem dJ15_hashCode_3_10 : decode cJ15_hashCode_3 10 = .ok (.iload 4, 2) := dk_21 4 (dk_at dksJ15_hashCode_3_0 10 rfl rfl)
theorem dJ15_hashCode_3_12 : decode cJ15_hashCode_3 12 = .ok (.if_icmp .ge 19, 3) := dk_162 0 19 (dk_at dksJ15_hashCode_3_0 12 rfl rfl)
theorem dJ15_hashCode_3_15 : decode cJ15_hashCode_3 15 = .ok (.bipush 31, 2) := dk_16 31 (dk_at dksJ15_hashCode_3_0 15 rfl rfl)
theorem dJ15_hashCode_3_17 : decode cJ15_hashCode_3 17 = .ok (.iload_n 0, 1) := dk_26 (dk_at dksJ15_hashCode_3_0 17 rfl rfl)
theorem dJ15_hashCode_3_18 : decode cJ15_hashCode_3 18 = .ok (.imul, 1) := dk_104 (dk_at dksJ15_hashCode_3_0 18 rfl rfl)
theorem dJ15_hashCode_3_19 : decode cJ15_hashCode_3 19 = .ok (.aload_n 1, 1) := dk_43 (dk_at dksJ15_hashCode_3_0 19 rfl rfl)
theorem dJ15_hashCode_3_20 : decode cJ15_hashCode_3 20 = .ok (.iload 5, 2) := dk_21 5 (dk_at dksJ15_hashCode_3_0 20 rfl rfl)
theorem dJ15_hashCode_3_22 : decode cJ15_hashCode_3 22 = .ok (.saload, 1) := dk_53 (dk_at dksJ15_hashCode_3_0 22 rfl rfl)
theorem dJ15_hashCode_3_23 : decode cJ15_hashCode_3 23 = .ok (.iadd, 1) := dk_96 (dk_at dksJ15_hashCode_3_0 23 rfl rfl)
theorem dJ15_hashCode_3_24 : decode cJ15_hashCode_3 24 = .ok (.istore_n 0, 1) := dk_59 (dk_at dksJ15_hashCode_3_1 0 rfl rfl)
theorem dJ15_hashCode_3_25 : decode cJ15_hashCode_3 25 = .ok (.iinc 5 1, 3) := dk_132 5 1 (dk_at dksJ15_hashCode_3_1 1 rfl rfl)
theorem dJ15_hashCode_3_28 : decode cJ15_hashCode_3 28 = .ok (.goto (-20), 3) := dk_167 255 236 (dk_at dksJ15_hashCode_3_1 4 rfl rfl)
theorem dJ15_hashCode_3_31 : decode cJ15_hashCode_3 31 = .ok (.iload_n 0, 1) := dk_26 (dk_at dksJ15_hashCode_3_1 7 rfl rfl)
theorem dJ15_hashCode_3_32 : decode cJ15_hashCode_3 32 = .ok (.ireturn, 1) := dk_172 (dk_at dksJ15_hashCode_3_1 8 rfl rfl)
abbrev cJ15_hashCode_4 : ByteArray := prog_71_method_9_code
def yJ15_hashCode_4 : MethodName := ⟨RJ15, "hashCode", "(I[III)I"⟩
def dkwJ15_hashCode_4_1 : List UInt8 := [59, 132, 5, 1, 167, 255, 236, 26, 172]
abbrev dktJ15_hashCode_4_1 : List UInt8 := dkwJ15_hashCode_4_1 ++ []
def dkwJ15_hashCode_4_0 : List UInt8 := [28, 29, 96, 54, 4, 28, 54, 5, 21, 5, 21, 4, 162, 0, 19, 16, 31, 26, 104, 43, 21, 5, 46, 96]
abbrev dktJ15_hashCode_4_0 : List UInt8 := dkwJ15_hashCode_4_0 ++ dktJ15_hashCode_4_1
theorem dksJ15_hashCode_4_0 : cJ15_hashCode_4.data.toList.drop 0 = dktJ15_hashCode_4_0 := by decide +kernel
theorem dksJ15_hashCode_4_1 : cJ15_hashCode_4.data.toList.drop 24 = dktJ15_hashCode_4_1 := dk_seg dksJ15_hashCode_4_0 24 rfl rfl
theorem dJ15_hashCode_4_0 : decode cJ15_hashCode_4 0 = .ok (.iload_n 2, 1) := dk_28 (dk_at dksJ15_hashCode_4_0 0 rfl rfl)
theorem dJ15_hashCode_4_1 : decode cJ15_hashCode_4 1 = .ok (.iload_n 3, 1) := dk_29 (dk_at dksJ15_hashCode_4_0 1 rfl rfl)
theorem dJ15_hashCode_4_2 : decode cJ15_hashCode_4 2 = .ok (.iadd, 1) := dk_96 (dk_at dksJ15_hashCode_4_0 2 rfl rfl)
theorem dJ15_hashCode_4_3 : decode cJ15_hashCode_4 3 = .ok (.istore 4, 2) := dk_54 4 (dk_at dksJ15_hashCode_4_0 3 rfl rfl)
theorem dJ15_hashCode_4_5 : decode cJ15_hashCode_4 5 = .ok (.iload_n 2, 1) := dk_28 (dk_at dksJ15_hashCode_4_0 5 rfl rfl)
theorem dJ15_hashCode_4_6 : decode cJ15_hashCode_4 6 = .ok (.istore 5, 2) := dk_54 5 (dk_at dksJ15_hashCode_4_0 6 rfl rfl)
theorem dJ15_hashCode_4_8 : decode cJ15_hashCode_4 8 = .ok (.iload 5, 2) := dk_21 5 (dk_at dksJ15_hashCode_4_0 8 rfl rfl)
theorem dJ15_hashCode_4_10 : decode cJ15_hashCode_4 10 = .ok (.iload 4, 2) := dk_21 4 (dk_at dksJ15_hashCode_4_0 10 rfl rfl)
theorem dJ15_hashCode_4_12 : decode cJ15_hashCode_4 12 = .ok (.if_icmp .ge 19, 3) := dk_162 0 19 (dk_at dksJ15_hashCode_4_0 12 rfl rfl)
theorem dJ15_hashCode_4_15 : decode cJ15_hashCode_4 15 = .ok (.bipush 31, 2) := dk_16 31 (dk_at dksJ15_hashCode_4_0 15 rfl rfl)
theorem dJ15_hashCode_4_17 : decode cJ15_hashCode_4 17 = .ok (.iload_n 0, 1) := dk_26 (dk_at dksJ15_hashCode_4_0 17 rfl rfl)
theorem dJ15_hashCode_4_18 : decode cJ15_hashCode_4 18 = .ok (.imul, 1) := dk_104 (dk_at dksJ15_hashCode_4_0 18 rfl rfl)
theorem dJ15_hashCode_4_19 : decode cJ15_hashCode_4 19 = .ok (.aload_n 1, 1) := dk_43 (dk_at dksJ15_hashCode_4_0 19 rfl rfl)
theorem dJ15_hashCode_4_20 : decode cJ15_hashCode_4 20 = .ok (.iload 5, 2) := dk_21 5 (dk_at dksJ15_hashCode_4_0 20 rfl rfl)
theorem dJ15_hashCode_4_22 : decode cJ15_hashCode_4 22 = .ok (.iaload, 1) := dk_46 (dk_at dksJ15_hashCode_4_0 22 rfl rfl)
theorem dJ15_hashCode_4_23 : decode cJ15_hashCode_4 23 = .ok (.iadd, 1) := dk_96 (dk_at dksJ15_hashCode_4_0 23 rfl rfl)
theorem dJ15_hashCode_4_24 : decode cJ15_hashCode_4 24 = .ok (.istore_n 0, 1) := dk_59 (dk_at dksJ15_hashCode_4_1 0 rfl rfl)
theorem dJ15_hashCode_4_25 : decode cJ15_hashCode_4 25 = .ok (.iinc 5 1, 3) := dk_132 5 1 (dk_at dksJ15_hashCode_4_1 1 rfl rfl)
theorem dJ15_hashCode_4_28 : decode cJ15_hashCode_4 28 = .ok (.goto (-20), 3) := dk_167 255 236 (dk_at dksJ15_hashCode_4_1 4 rfl rfl)
theorem dJ15_hashCode_4_31 : decode cJ15_hashCode_4 31 = .ok (.iload_n 0, 1) := dk_26 (dk_at dksJ15_hashCode_4_1 7 rfl rfl)
theorem dJ15_hashCode_4_32 : decode cJ15_hashCode_4 32 = .ok (.ireturn, 1) := dk_172 (dk_at dksJ15_hashCode_4_1 8 rfl rfl)
abbrev cJ16_max : ByteArray := prog_32_method_65_code
def yJ16_max : MethodName := ⟨RJ16, "max", "(II)I"⟩
def dkwJ16_max_0 : List UInt8 := [26, 27, 161, 0, 7, 26, 167, 0, 4, 27, 172]
abbrev dktJ16_max_0 : List UInt8 := dkwJ16_max_0 ++ []
theorem dksJ16_max_0 : cJ16_max.data.toList.drop 0 = dktJ16_max_0 := by decide +kernel
theorem dJ16_max_0 : decode cJ16_max 0 = .ok (.iload_n 0, 1) := dk_26 (dk_at dksJ16_max_0 0 rfl rfl)
theorem dJ16_max_1 : decode cJ16_max 1 = .ok (.iload_n 1, 1) := dk_27 (dk_at dksJ16_max_0 1 rfl rfl)
theorem dJ16_max_2 : decode cJ16_max 2 = .ok (.if_icmp .lt 7, 3) := dk_161 0 7 (dk_at dksJ16_max_0 2 rfl rfl)
theorem dJ16_max_5 : decode cJ16_max 5 = .ok (.iload_n 0, 1) := dk_26 (dk_at dksJ16_max_0 5 rfl rfl)
theorem dJ16_max_6 : decode cJ16_max 6 = .ok (.goto 4, 3) := dk_167 0 4 (dk_at dksJ16_max_0 6 rfl rfl)
theorem dJ16_max_9 : decode cJ16_max 9 = .ok (.iload_n 1, 1) := dk_27 (dk_at dksJ16_max_0 9 rfl rfl)
theorem dJ16_max_10 : decode cJ16_max 10 = .ok (.ireturn, 1) := dk_172 (dk_at dksJ16_max_0 10 rfl rfl)
abbrev cJ16_min : ByteArray := prog_32_method_69_code
def yJ16_min : MethodName := ⟨RJ16, "min", "(II)I"⟩
def dkwJ16_min_0 : List UInt8 := [26, 27, 163, 0, 7, 26, 167, 0, 4, 27, 172]
abbrev dktJ16_min_0 : List UInt8 := dkwJ16_min_0 ++ []
theorem dksJ16_min_0 : cJ16_min.data.toList.drop 0 = dktJ16_min_0 := by decide +kernel
theorem dJ16_min_0 : decode cJ16_min 0 = .ok (.iload_n 0, 1) := dk_26 (dk_at dksJ16_min_0 0 rfl rfl)
theorem dJ16_min_1 : decode cJ16_min 1 = .ok (.iload_n 1, 1) := dk_27 (dk_at dksJ16_min_0 1 rfl rfl)
theorem dJ16_min_2 : decode cJ16_min 2 = .ok (.if_icmp .gt 7, 3) := dk_163 0 7 (dk_at dksJ16_min_0 2 rfl rfl)
theorem dJ16_min_5 : decode cJ16_min 5 = .ok (.iload_n 0, 1) := dk_26 (dk_at dksJ16_min_0 5 rfl rfl)
theorem dJ16_min_6 : decode cJ16_min 6 = .ok (.goto 4, 3) := dk_167 0 4 (dk_at dksJ16_min_0 6 rfl rfl)
theorem dJ16_min_9 : decode cJ16_min 9 = .ok (.iload_n 1, 1) := dk_27 (dk_at dksJ16_min_0 9 rfl rfl)
theorem dJ16_min_10 : decode cJ16_min 10 = .ok (.ireturn, 1) := dk_172 (dk_at dksJ16_min_0 10 rfl rfl)
abbrev cJ17_copyOf : ByteArray := prog_51_method_121_code
def yJ17_copyOf : MethodName := ⟨RJ17, "copyOf", "([BI)[B"⟩
def dkwJ17_copyOf_1 : List UInt8 := [27, 184, 1, 48, 184, 0, 150, 44, 176]
abbrev dktJ17_copyOf_1 : List UInt8 := dkwJ17_copyOf_1 ++ []
def dkwJ17_copyOf_0 : List UInt8 := [27, 42, 190, 160, 0, 11, 42, 182, 1, 54, 192, 1, 55, 176, 27, 188, 8, 77, 42, 3, 44, 3, 42, 190]
abbrev dktJ17_copyOf_0 : List UInt8 := dkwJ17_copyOf_0 ++ dktJ17_copyOf_1
theorem dksJ17_copyOf_0 : cJ17_copyOf.data.toList.drop 0 = dktJ17_copyOf_0 := by decide +kernel
theorem dksJ17_copyOf_1 : cJ17_copyOf.data.toList.drop 24 = dktJ17_copyOf_1 := dk_seg dksJ17_copyOf_0 24 rfl rfl
theorem dJ17_copyOf_0 : decode cJ17_copyOf 0 = .ok (.iload_n 1, 1) := dk_27 (dk_at dksJ17_copyOf_0 0 rfl rfl)
theorem dJ17_copyOf_1 : decode cJ17_copyOf 1 = .ok (.aload_n 0, 1) := dk_42 (dk_at dksJ17_copyOf_0 1 rfl rfl)
theorem dJ17_copyOf_2 : decode cJ17_copyOf 2 = .ok (.arraylength, 1) := dk_190 (dk_at dksJ17_copyOf_0 2 rfl rfl)
theorem dJ17_copyOf_3 : decode cJ17_copyOf 3 = .ok (.if_icmp .ne 11, 3) := dk_160 0 11 (dk_at dksJ17_copyOf_0 3 rfl rfl)
theorem dJ17_copyOf_6 : decode cJ17_copyOf 6 = .ok (.aload_n 0, 1) := dk_42 (dk_at dksJ17_copyOf_0 6 rfl rfl)
theorem dJ17_copyOf_7 : decode cJ17_copyOf 7 = .ok (.invokevirtual 310, 3) := dk_182 1 54 (dk_at dksJ17_copyOf_0 7 rfl rfl)
theorem dJ17_copyOf_10 : decode cJ17_copyOf 10 = .ok (.checkcast 311, 3) := dk_192 1 55 (dk_at dksJ17_copyOf_0 10 rfl rfl)
theorem dJ17_copyOf_13 : decode cJ17_copyOf 13 = .ok (.areturn, 1) := dk_176 (dk_at dksJ17_copyOf_0 13 rfl rfl)
theorem dJ17_copyOf_14 : decode cJ17_copyOf 14 = .ok (.iload_n 1, 1) := dk_27 (dk_at dksJ17_copyOf_0 14 rfl rfl)
theorem dJ17_copyOf_15 : decode cJ17_copyOf 15 = .ok (.newarray .byte, 2) := dk_188_8 (dk_at dksJ17_copyOf_0 15 rfl rfl)
theorem dJ17_copyOf_17 : decode cJ17_copyOf 17 = .ok (.astore_n 2, 1) := dk_77 (dk_at dksJ17_copyOf_0 17 rfl rfl)
theorem dJ17_copyOf_18 : decode cJ17_copyOf 18 = .ok (.aload_n 0, 1) := dk_42 (dk_at dksJ17_copyOf_0 18 rfl rfl)
theorem dJ17_copyOf_19 : decode cJ17_copyOf 19 = .ok (.iconst 0, 1) := dk_3 (dk_at dksJ17_copyOf_0 19 rfl rfl)
theorem dJ17_copyOf_20 : decode cJ17_copyOf 20 = .ok (.aload_n 2, 1) := dk_44 (dk_at dksJ17_copyOf_0 20 rfl rfl)
theorem dJ17_copyOf_21 : decode cJ17_copyOf 21 = .ok (.iconst 0, 1) := dk_3 (dk_at dksJ17_copyOf_0 21 rfl rfl)
theorem dJ17_copyOf_22 : decode cJ17_copyOf 22 = .ok (.aload_n 0, 1) := dk_42 (dk_at dksJ17_copyOf_0 22 rfl rfl)
theorem dJ17_copyOf_23 : decode cJ17_copyOf 23 = .ok (.arraylength, 1) := dk_190 (dk_at dksJ17_copyOf_0 23 rfl rfl)
theorem dJ17_copyOf_24 : decode cJ17_copyOf 24 = .ok (.iload_n 1, 1) := dk_27 (dk_at dksJ17_copyOf_1 0 rfl rfl)
theorem dJ17_copyOf_25 : decode cJ17_copyOf 25 = .ok (.invokestatic 304, 3) := dk_184 1 48 (dk_at dksJ17_copyOf_1 1 rfl rfl)
theorem dJ17_copyOf_28 : decode cJ17_copyOf 28 = .ok (.invokestatic 150, 3) := dk_184 0 150 (dk_at dksJ17_copyOf_1 4 rfl rfl)
theorem dJ17_copyOf_31 : decode cJ17_copyOf 31 = .ok (.aload_n 2, 1) := dk_44 (dk_at dksJ17_copyOf_1 7 rfl rfl)
theorem dJ17_copyOf_32 : decode cJ17_copyOf 32 = .ok (.areturn, 1) := dk_176 (dk_at dksJ17_copyOf_1 8 rfl rfl)
abbrev cJ17_copyOfRange : ByteArray := prog_51_method_132_code
def yJ17_copyOfRange : MethodName := ⟨RJ17, "copyOfRange", "([BII)[B"⟩
def dkwJ17_copyOfRange_1 : List UInt8 := [176]
abbrev dktJ17_copyOfRange_1 : List UInt8 := dkwJ17_copyOfRange_1 ++ []
def dkwJ17_copyOfRange_0 : List UInt8 := [27, 154, 0, 9, 28, 42, 190, 159, 0, 10, 42, 27, 28, 184, 1, 83, 176, 42, 182, 1, 54, 192, 1, 55]
abbrev dktJ17_copyOfRange_0 : List UInt8 := dkwJ17_copyOfRange_0 ++ dktJ17_copyOfRange_1
theorem dksJ17_copyOfRange_0 : cJ17_copyOfRange.data.toList.drop 0 = dktJ17_copyOfRange_0 := by decide +kernel
theorem dksJ17_copyOfRange_1 : cJ17_copyOfRange.data.toList.drop 24 = dktJ17_copyOfRange_1 := dk_seg dksJ17_copyOfRange_0 24 rfl rfl
theorem dJ17_copyOfRange_0 : decode cJ17_copyOfRange 0 = .ok (.iload_n 1, 1) := dk_27 (dk_at dksJ17_copyOfRange_0 0 rfl rfl)
theorem dJ17_copyOfRange_1 : decode cJ17_copyOfRange 1 = .ok (.ifCond .ne 9, 3) := dk_154 0 9 (dk_at dksJ17_copyOfRange_0 1 rfl rfl)
theorem dJ17_copyOfRange_4 : decode cJ17_copyOfRange 4 = .ok (.iload_n 2, 1) := dk_28 (dk_at dksJ17_copyOfRange_0 4 rfl rfl)
theorem dJ17_copyOfRange_5 : decode cJ17_copyOfRange 5 = .ok (.aload_n 0, 1) := dk_42 (dk_at dksJ17_copyOfRange_0 5 rfl rfl)
theorem dJ17_copyOfRange_6 : decode cJ17_copyOfRange 6 = .ok (.arraylength, 1) := dk_190 (dk_at dksJ17_copyOfRange_0 6 rfl rfl)
theorem dJ17_copyOfRange_7 : decode cJ17_copyOfRange 7 = .ok (.if_icmp .eq 10, 3) := dk_159 0 10 (dk_at dksJ17_copyOfRange_0 7 rfl rfl)
theorem dJ17_copyOfRange_10 : decode cJ17_copyOfRange 10 = .ok (.aload_n 0, 1) := dk_42 (dk_at dksJ17_copyOfRange_0 10 rfl rfl)
theorem dJ17_copyOfRange_11 : decode cJ17_copyOfRange 11 = .ok (.iload_n 1, 1) := dk_27 (dk_at dksJ17_copyOfRange_0 11 rfl rfl)
theorem dJ17_copyOfRange_12 : decode cJ17_copyOfRange 12 = .ok (.iload_n 2, 1) := dk_28 (dk_at dksJ17_copyOfRange_0 12 rfl rfl)
theorem dJ17_copyOfRange_13 : decode cJ17_copyOfRange 13 = .ok (.invokestatic 339, 3) := dk_184 1 83 (dk_at dksJ17_copyOfRange_0 13 rfl rfl)
theorem dJ17_copyOfRange_16 : decode cJ17_copyOfRange 16 = .ok (.areturn, 1) := dk_176 (dk_at dksJ17_copyOfRange_0 16 rfl rfl)
theorem dJ17_copyOfRange_17 : decode cJ17_copyOfRange 17 = .ok (.aload_n 0, 1) := dk_42 (dk_at dksJ17_copyOfRange_0 17 rfl rfl)
theorem dJ17_copyOfRange_18 : decode cJ17_copyOfRange 18 = .ok (.invokevirtual 310, 3) := dk_182 1 54 (dk_at dksJ17_copyOfRange_0 18 rfl rfl)
theorem dJ17_copyOfRange_21 : decode cJ17_copyOfRange 21 = .ok (.checkcast 311, 3) := dk_192 1 55 (dk_at dksJ17_copyOfRange_0 21 rfl rfl)
theorem dJ17_copyOfRange_24 : decode cJ17_copyOfRange 24 = .ok (.areturn, 1) := dk_176 (dk_at dksJ17_copyOfRange_1 0 rfl rfl)
abbrev cJ17_copyOfRangeByte : ByteArray := prog_51_method_133_code
def yJ17_copyOfRangeByte : MethodName := ⟨RJ17, "copyOfRangeByte", "([BII)[B"⟩
def dkwJ17_copyOfRangeByte_1 : List UInt8 := [184, 1, 48, 184, 0, 150, 25, 4, 176]
abbrev dktJ17_copyOfRangeByte_1 : List UInt8 := dkwJ17_copyOfRangeByte_1 ++ []
def dkwJ17_copyOfRangeByte_0 : List UInt8 := [27, 28, 184, 1, 87, 28, 27, 100, 62, 29, 188, 8, 58, 4, 42, 27, 25, 4, 3, 42, 190, 27, 100, 29]
abbrev dktJ17_copyOfRangeByte_0 : List UInt8 := dkwJ17_copyOfRangeByte_0 ++ dktJ17_copyOfRangeByte_1
theorem dksJ17_copyOfRangeByte_0 : cJ17_copyOfRangeByte.data.toList.drop 0 = dktJ17_copyOfRangeByte_0 := by decide +kernel
theorem dksJ17_copyOfRangeByte_1 : cJ17_copyOfRangeByte.data.toList.drop 24 = dktJ17_copyOfRangeByte_1 := dk_seg dksJ17_copyOfRangeByte_0 24 rfl rfl
theorem dJ17_copyOfRangeByte_0 : decode cJ17_copyOfRangeByte 0 = .ok (.iload_n 1, 1) := dk_27 (dk_at dksJ17_copyOfRangeByte_0 0 rfl rfl)
theorem dJ17_copyOfRangeByte_1 : decode cJ17_copyOfRangeByte 1 = .ok (.iload_n 2, 1) := dk_28 (dk_at dksJ17_copyOfRangeByte_0 1 rfl rfl)
theorem dJ17_copyOfRangeByte_2 : decode cJ17_copyOfRangeByte 2 = .ok (.invokestatic 343, 3) := dk_184 1 87 (dk_at dksJ17_copyOfRangeByte_0 2 rfl rfl)
theorem dJ17_copyOfRangeByte_5 : decode cJ17_copyOfRangeByte 5 = .ok (.iload_n 2, 1) := dk_28 (dk_at dksJ17_copyOfRangeByte_0 5 rfl rfl)
theorem dJ17_copyOfRangeByte_6 : decode cJ17_copyOfRangeByte 6 = .ok (.iload_n 1, 1) := dk_27 (dk_at dksJ17_copyOfRangeByte_0 6 rfl rfl)
theorem dJ17_copyOfRangeByte_7 : decode cJ17_copyOfRangeByte 7 = .ok (.isub, 1) := dk_100 (dk_at dksJ17_copyOfRangeByte_0 7 rfl rfl)
theorem dJ17_copyOfRangeByte_8 : decode cJ17_copyOfRangeByte 8 = .ok (.istore_n 3, 1) := dk_62 (dk_at dksJ17_copyOfRangeByte_0 8 rfl rfl)
theorem dJ17_copyOfRangeByte_9 : decode cJ17_copyOfRangeByte 9 = .ok (.iload_n 3, 1) := dk_29 (dk_at dksJ17_copyOfRangeByte_0 9 rfl rfl)
theorem dJ17_copyOfRangeByte_10 : decode cJ17_copyOfRangeByte 10 = .ok (.newarray .byte, 2) := dk_188_8 (dk_at dksJ17_copyOfRangeByte_0 10 rfl rfl)
theorem dJ17_copyOfRangeByte_12 : decode cJ17_copyOfRangeByte 12 = .ok (.astore 4, 2) := dk_58 4 (dk_at dksJ17_copyOfRangeByte_0 12 rfl rfl)
theorem dJ17_copyOfRangeByte_14 : decode cJ17_copyOfRangeByte 14 = .ok (.aload_n 0, 1) := dk_42 (dk_at dksJ17_copyOfRangeByte_0 14 rfl rfl)
theorem dJ17_copyOfRangeByte_15 : decode cJ17_copyOfRangeByte 15 = .ok (.iload_n 1, 1) := dk_27 (dk_at dksJ17_copyOfRangeByte_0 15 rfl rfl)
theorem dJ17_copyOfRangeByte_16 : decode cJ17_copyOfRangeByte 16 = .ok (.aload 4, 2) := dk_25 4 (dk_at dksJ17_copyOfRangeByte_0 16 rfl rfl)
theorem dJ17_copyOfRangeByte_18 : decode cJ17_copyOfRangeByte 18 = .ok (.iconst 0, 1) := dk_3 (dk_at dksJ17_copyOfRangeByte_0 18 rfl rfl)
theorem dJ17_copyOfRangeByte_19 : decode cJ17_copyOfRangeByte 19 = .ok (.aload_n 0, 1) := dk_42 (dk_at dksJ17_copyOfRangeByte_0 19 rfl rfl)
theorem dJ17_copyOfRangeByte_20 : decode cJ17_copyOfRangeByte 20 = .ok (.arraylength, 1) := dk_190 (dk_at dksJ17_copyOfRangeByte_0 20 rfl rfl)
theorem dJ17_copyOfRangeByte_21 : decode cJ17_copyOfRangeByte 21 = .ok (.iload_n 1, 1) := dk_27 (dk_at dksJ17_copyOfRangeByte_0 21 rfl rfl)
theorem dJ17_copyOfRangeByte_22 : decode cJ17_copyOfRangeByte 22 = .ok (.isub, 1) := dk_100 (dk_at dksJ17_copyOfRangeByte_0 22 rfl rfl)
theorem dJ17_copyOfRangeByte_23 : decode cJ17_copyOfRangeByte 23 = .ok (.iload_n 3, 1) := dk_29 (dk_at dksJ17_copyOfRangeByte_0 23 rfl rfl)
theorem dJ17_copyOfRangeByte_24 : decode cJ17_copyOfRangeByte 24 = .ok (.invokestatic 304, 3) := dk_184 1 48 (dk_at dksJ17_copyOfRangeByte_1 0 rfl rfl)
theorem dJ17_copyOfRangeByte_27 : decode cJ17_copyOfRangeByte 27 = .ok (.invokestatic 150, 3) := dk_184 0 150 (dk_at dksJ17_copyOfRangeByte_1 3 rfl rfl)
theorem dJ17_copyOfRangeByte_30 : decode cJ17_copyOfRangeByte 30 = .ok (.aload 4, 2) := dk_25 4 (dk_at dksJ17_copyOfRangeByte_1 6 rfl rfl)
theorem dJ17_copyOfRangeByte_32 : decode cJ17_copyOfRangeByte 32 = .ok (.areturn, 1) := dk_176 (dk_at dksJ17_copyOfRangeByte_1 8 rfl rfl)
abbrev cJ17_checkLength : ByteArray := prog_51_method_131_code
def yJ17_checkLength : MethodName := ⟨RJ17, "checkLength", "(II)V"⟩
def dkwJ17_checkLength_1 : List UInt8 := [182, 0, 50, 27, 182, 0, 54, 182, 0, 61, 183, 0, 65, 191, 177]
abbrev dktJ17_checkLength_1 : List UInt8 := dkwJ17_checkLength_1 ++ []
def dkwJ17_checkLength_0 : List UInt8 := [27, 26, 162, 0, 35, 187, 0, 43, 89, 187, 0, 45, 89, 183, 0, 47, 26, 182, 0, 54, 19, 1, 81]
abbrev dktJ17_checkLength_0 : List UInt8 := dkwJ17_checkLength_0 ++ dktJ17_checkLength_1
theorem dksJ17_checkLength_0 : cJ17_checkLength.data.toList.drop 0 = dktJ17_checkLength_0 := by decide +kernel
theorem dksJ17_checkLength_1 : cJ17_checkLength.data.toList.drop 23 = dktJ17_checkLength_1 := dk_seg dksJ17_checkLength_0 23 rfl rfl
theorem dJ17_checkLength_0 : decode cJ17_checkLength 0 = .ok (.iload_n 1, 1) := dk_27 (dk_at dksJ17_checkLength_0 0 rfl rfl)
theorem dJ17_checkLength_1 : decode cJ17_checkLength 1 = .ok (.iload_n 0, 1) := dk_26 (dk_at dksJ17_checkLength_0 1 rfl rfl)
theorem dJ17_checkLength_2 : decode cJ17_checkLength 2 = .ok (.if_icmp .ge 35, 3) := dk_162 0 35 (dk_at dksJ17_checkLength_0 2 rfl rfl)
theorem dJ17_checkLength_5 : decode cJ17_checkLength 5 = .ok (.new 43, 3) := dk_187 0 43 (dk_at dksJ17_checkLength_0 5 rfl rfl)
theorem dJ17_checkLength_8 : decode cJ17_checkLength 8 = .ok (.dup, 1) := dk_89 (dk_at dksJ17_checkLength_0 8 rfl rfl)
theorem dJ17_checkLength_9 : decode cJ17_checkLength 9 = .ok (.new 45, 3) := dk_187 0 45 (dk_at dksJ17_checkLength_0 9 rfl rfl)
theorem dJ17_checkLength_12 : decode cJ17_checkLength 12 = .ok (.dup, 1) := dk_89 (dk_at dksJ17_checkLength_0 12 rfl rfl)
theorem dJ17_checkLength_13 : decode cJ17_checkLength 13 = .ok (.invokespecial 47, 3) := dk_183 0 47 (dk_at dksJ17_checkLength_0 13 rfl rfl)
theorem dJ17_checkLength_16 : decode cJ17_checkLength 16 = .ok (.iload_n 0, 1) := dk_26 (dk_at dksJ17_checkLength_0 16 rfl rfl)
theorem dJ17_checkLength_17 : decode cJ17_checkLength 17 = .ok (.invokevirtual 54, 3) := dk_182 0 54 (dk_at dksJ17_checkLength_0 17 rfl rfl)
theorem dJ17_checkLength_20 : decode cJ17_checkLength 20 = .ok (.ldc_w 337, 3) := dk_19 1 81 (dk_at dksJ17_checkLength_0 20 rfl rfl)
theorem dJ17_checkLength_23 : decode cJ17_checkLength 23 = .ok (.invokevirtual 50, 3) := dk_182 0 50 (dk_at dksJ17_checkLength_1 0 rfl rfl)
theorem dJ17_checkLength_26 : decode cJ17_checkLength 26 = .ok (.iload_n 1, 1) := dk_27 (dk_at dksJ17_checkLength_1 3 rfl rfl)
theorem dJ17_checkLength_27 : decode cJ17_checkLength 27 = .ok (.invokevirtual 54, 3) := dk_182 0 54 (dk_at dksJ17_checkLength_1 4 rfl rfl)
theorem dJ17_checkLength_30 : decode cJ17_checkLength 30 = .ok (.invokevirtual 61, 3) := dk_182 0 61 (dk_at dksJ17_checkLength_1 7 rfl rfl)
theorem dJ17_checkLength_33 : decode cJ17_checkLength 33 = .ok (.invokespecial 65, 3) := dk_183 0 65 (dk_at dksJ17_checkLength_1 10 rfl rfl)
theorem dJ17_checkLength_36 : decode cJ17_checkLength 36 = .ok (.athrow, 1) := dk_191 (dk_at dksJ17_checkLength_1 13 rfl rfl)
theorem dJ17_checkLength_37 : decode cJ17_checkLength 37 = .ok (.return_, 1) := dk_177 (dk_at dksJ17_checkLength_1 14 rfl rfl)
abbrev cJ17_copyOf_2 : ByteArray := prog_51_method_119_code
def yJ17_copyOf_2 : MethodName := ⟨RJ17, "copyOf", "([Ljava/lang/Object;I)[Ljava/lang/Object;"⟩
def dkwJ17_copyOf_2_0 : List UInt8 := [42, 27, 42, 182, 0, 86, 184, 1, 44, 176]
abbrev dktJ17_copyOf_2_0 : List UInt8 := dkwJ17_copyOf_2_0 ++ []
theorem dksJ17_copyOf_2_0 : cJ17_copyOf_2.data.toList.drop 0 = dktJ17_copyOf_2_0 := by decide +kernel
theorem dJ17_copyOf_2_0 : decode cJ17_copyOf_2 0 = .ok (.aload_n 0, 1) := dk_42 (dk_at dksJ17_copyOf_2_0 0 rfl rfl)
theorem dJ17_copyOf_2_1 : decode cJ17_copyOf_2 1 = .ok (.iload_n 1, 1) := dk_27 (dk_at dksJ17_copyOf_2_0 1 rfl rfl)
theorem dJ17_copyOf_2_2 : decode cJ17_copyOf_2 2 = .ok (.aload_n 0, 1) := dk_42 (dk_at dksJ17_copyOf_2_0 2 rfl rfl)
theorem dJ17_copyOf_2_3 : decode cJ17_copyOf_2 3 = .ok (.invokevirtual 86, 3) := dk_182 0 86 (dk_at dksJ17_copyOf_2_0 3 rfl rfl)
theorem dJ17_copyOf_2_6 : decode cJ17_copyOf_2 6 = .ok (.invokestatic 300, 3) := dk_184 1 44 (dk_at dksJ17_copyOf_2_0 6 rfl rfl)
theorem dJ17_copyOf_2_9 : decode cJ17_copyOf_2 9 = .ok (.areturn, 1) := dk_176 (dk_at dksJ17_copyOf_2_0 9 rfl rfl)
abbrev cJ17_copyOf_3 : ByteArray := prog_51_method_120_code
def yJ17_copyOf_3 : MethodName := ⟨RJ17, "copyOf", "([Ljava/lang/Object;ILjava/lang/Class;)[Ljava/lang/Object;"⟩
def dkwJ17_copyOf_3_1 : List UInt8 := [78, 42, 3, 45, 3, 42, 190, 27, 184, 1, 48, 184, 0, 150, 45, 176]
abbrev dktJ17_copyOf_3_1 : List UInt8 := dkwJ17_copyOf_3_1 ++ []
def dkwJ17_copyOf_3_0 : List UInt8 := [44, 18, 110, 166, 0, 10, 27, 189, 0, 2, 167, 0, 14, 44, 182, 0, 90, 27, 184, 0, 95, 192, 0, 110]
abbrev dktJ17_copyOf_3_0 : List UInt8 := dkwJ17_copyOf_3_0 ++ dktJ17_copyOf_3_1
theorem dksJ17_copyOf_3_0 : cJ17_copyOf_3.data.toList.drop 0 = dktJ17_copyOf_3_0 := by decide +kernel
theorem dksJ17_copyOf_3_1 : cJ17_copyOf_3.data.toList.drop 24 = dktJ17_copyOf_3_1 := dk_seg dksJ17_copyOf_3_0 24 rfl rfl
theorem dJ17_copyOf_3_0 : decode cJ17_copyOf_3 0 = .ok (.aload_n 2, 1) := dk_44 (dk_at dksJ17_copyOf_3_0 0 rfl rfl)
theorem dJ17_copyOf_3_1 : decode cJ17_copyOf_3 1 = .ok (.ldc 110, 2) := dk_18 110 (dk_at dksJ17_copyOf_3_0 1 rfl rfl)
theorem dJ17_copyOf_3_3 : decode cJ17_copyOf_3 3 = .ok (.if_acmp .ne 10, 3) := dk_166 0 10 (dk_at dksJ17_copyOf_3_0 3 rfl rfl)
theorem dJ17_copyOf_3_6 : decode cJ17_copyOf_3 6 = .ok (.iload_n 1, 1) := dk_27 (dk_at dksJ17_copyOf_3_0 6 rfl rfl)
theorem dJ17_copyOf_3_7 : decode cJ17_copyOf_3 7 = .ok (.anewarray 2, 3) := dk_189 0 2 (dk_at dksJ17_copyOf_3_0 7 rfl rfl)
theorem dJ17_copyOf_3_10 : decode cJ17_copyOf_3 10 = .ok (.goto 14, 3) := dk_167 0 14 (dk_at dksJ17_copyOf_3_0 10 rfl rfl)
theorem dJ17_copyOf_3_13 : decode cJ17_copyOf_3 13 = .ok (.aload_n 2, 1) := dk_44 (dk_at dksJ17_copyOf_3_0 13 rfl rfl)
theorem dJ17_copyOf_3_14 : decode cJ17_copyOf_3 14 = .ok (.invokevirtual 90, 3) := dk_182 0 90 (dk_at dksJ17_copyOf_3_0 14 rfl rfl)
theorem dJ17_copyOf_3_17 : decode cJ17_copyOf_3 17 = .ok (.iload_n 1, 1) := dk_27 (dk_at dksJ17_copyOf_3_0 17 rfl rfl)
theorem dJ17_copyOf_3_18 : decode cJ17_copyOf_3 18 = .ok (.invokestatic 95, 3) := dk_184 0 95 (dk_at dksJ17_copyOf_3_0 18 rfl rfl)
theorem dJ17_copyOf_3_21 : decode cJ17_copyOf_3 21 = .ok (.checkcast 110, 3) := dk_192 0 110 (dk_at dksJ17_copyOf_3_0 21 rfl rfl)
theorem dJ17_copyOf_3_24 : decode cJ17_copyOf_3 24 = .ok (.astore_n 3, 1) := dk_78 (dk_at dksJ17_copyOf_3_1 0 rfl rfl)
theorem dJ17_copyOf_3_25 : decode cJ17_copyOf_3 25 = .ok (.aload_n 0, 1) := dk_42 (dk_at dksJ17_copyOf_3_1 1 rfl rfl)
theorem dJ17_copyOf_3_26 : decode cJ17_copyOf_3 26 = .ok (.iconst 0, 1) := dk_3 (dk_at dksJ17_copyOf_3_1 2 rfl rfl)
theorem dJ17_copyOf_3_27 : decode cJ17_copyOf_3 27 = .ok (.aload_n 3, 1) := dk_45 (dk_at dksJ17_copyOf_3_1 3 rfl rfl)
theorem dJ17_copyOf_3_28 : decode cJ17_copyOf_3 28 = .ok (.iconst 0, 1) := dk_3 (dk_at dksJ17_copyOf_3_1 4 rfl rfl)
theorem dJ17_copyOf_3_29 : decode cJ17_copyOf_3 29 = .ok (.aload_n 0, 1) := dk_42 (dk_at dksJ17_copyOf_3_1 5 rfl rfl)
theorem dJ17_copyOf_3_30 : decode cJ17_copyOf_3 30 = .ok (.arraylength, 1) := dk_190 (dk_at dksJ17_copyOf_3_1 6 rfl rfl)
theorem dJ17_copyOf_3_31 : decode cJ17_copyOf_3 31 = .ok (.iload_n 1, 1) := dk_27 (dk_at dksJ17_copyOf_3_1 7 rfl rfl)
theorem dJ17_copyOf_3_32 : decode cJ17_copyOf_3 32 = .ok (.invokestatic 304, 3) := dk_184 1 48 (dk_at dksJ17_copyOf_3_1 8 rfl rfl)
theorem dJ17_copyOf_3_35 : decode cJ17_copyOf_3 35 = .ok (.invokestatic 150, 3) := dk_184 0 150 (dk_at dksJ17_copyOf_3_1 11 rfl rfl)
theorem dJ17_copyOf_3_38 : decode cJ17_copyOf_3 38 = .ok (.aload_n 3, 1) := dk_45 (dk_at dksJ17_copyOf_3_1 14 rfl rfl)
theorem dJ17_copyOf_3_39 : decode cJ17_copyOf_3 39 = .ok (.areturn, 1) := dk_176 (dk_at dksJ17_copyOf_3_1 15 rfl rfl)
abbrev cJ17_copyOfRange_2 : ByteArray := prog_51_method_130_code
def yJ17_copyOfRange_2 : MethodName := ⟨RJ17, "copyOfRange", "([Ljava/lang/Object;IILjava/lang/Class;)[Ljava/lang/Object;"⟩
def dkwJ17_copyOfRange_2_3 : List UInt8 := [58, 5, 42, 27, 25, 5, 3, 42, 190, 27, 100, 21, 4, 184, 1, 48, 184, 0, 150, 25, 5, 176]
abbrev dktJ17_copyOfRange_2_3 : List UInt8 := dkwJ17_copyOfRange_2_3 ++ []
def dkwJ17_copyOfRange_2_2 : List UInt8 := [166, 0, 11, 21, 4, 189, 0, 2, 167, 0, 15, 45, 182, 0, 90, 21, 4, 184, 0, 95, 192, 0, 110]
abbrev dktJ17_copyOfRange_2_2 : List UInt8 := dkwJ17_copyOfRange_2_2 ++ dktJ17_copyOfRange_2_3
def dkwJ17_copyOfRange_2_1 : List UInt8 := [182, 0, 54, 19, 1, 81, 182, 0, 50, 28, 182, 0, 54, 182, 0, 61, 183, 0, 65, 191, 45, 18, 110]
abbrev dktJ17_copyOfRange_2_1 : List UInt8 := dkwJ17_copyOfRange_2_1 ++ dktJ17_copyOfRange_2_2
def dkwJ17_copyOfRange_2_0 : List UInt8 := [28, 27, 100, 54, 4, 21, 4, 156, 0, 35, 187, 0, 43, 89, 187, 0, 45, 89, 183, 0, 47, 27]
abbrev dktJ17_copyOfRange_2_0 : List UInt8 := dkwJ17_copyOfRange_2_0 ++ dktJ17_copyOfRange_2_1
theorem dksJ17_copyOfRange_2_0 : cJ17_copyOfRange_2.data.toList.drop 0 = dktJ17_copyOfRange_2_0 := by decide +kernel
theorem dksJ17_copyOfRange_2_1 : cJ17_copyOfRange_2.data.toList.drop 22 = dktJ17_copyOfRange_2_1 := dk_seg dksJ17_copyOfRange_2_0 22 rfl rfl
theorem dksJ17_copyOfRange_2_2 : cJ17_copyOfRange_2.data.toList.drop 45 = dktJ17_copyOfRange_2_2 := dk_seg dksJ17_copyOfRange_2_1 23 rfl rfl
theorem dksJ17_copyOfRange_2_3 : cJ17_copyOfRange_2.data.toList.drop 68 = dktJ17_copyOfRange_2_3 := dk_seg dksJ17_copyOfRange_2_2 23 rfl rfl
theorem dJ17_copyOfRange_2_0 : decode cJ17_copyOfRange_2 0 = .ok (.iload_n 2, 1) := dk_28 (dk_at dksJ17_copyOfRange_2_0 0 rfl rfl)
theorem dJ17_copyOfRange_2_1 : decode cJ17_copyOfRange_2 1 = .ok (.iload_n 1, 1) := dk_27 (dk_at dksJ17_copyOfRange_2_0 1 rfl rfl)
theorem dJ17_copyOfRange_2_2 : decode cJ17_copyOfRange_2 2 = .ok (.isub, 1) := dk_100 (dk_at dksJ17_copyOfRange_2_0 2 rfl rfl)
theorem dJ17_copyOfRange_2_3 : decode cJ17_copyOfRange_2 3 = .ok (.istore 4, 2) := dk_54 4 (dk_at dksJ17_copyOfRange_2_0 3 rfl rfl)
theorem dJ17_copyOfRange_2_5 : decode cJ17_copyOfRange_2 5 = .ok (.iload 4, 2) := dk_21 4 (dk_at dksJ17_copyOfRange_2_0 5 rfl rfl)
theorem dJ17_copyOfRange_2_7 : decode cJ17_copyOfRange_2 7 = .ok (.ifCond .ge 35, 3) := dk_156 0 35 (dk_at dksJ17_copyOfRange_2_0 7 rfl rfl)
theorem dJ17_copyOfRange_2_10 : decode cJ17_copyOfRange_2 10 = .ok (.new 43, 3) := dk_187 0 43 (dk_at dksJ17_copyOfRange_2_0 10 rfl rfl)
theorem dJ17_copyOfRange_2_13 : decode cJ17_copyOfRange_2 13 = .ok (.dup, 1) := dk_89 (dk_at dksJ17_copyOfRange_2_0 13 rfl rfl)
theorem dJ17_copyOfRange_2_14 : decode cJ17_copyOfRange_2 14 = .ok (.new 45, 3) := dk_187 0 45 (dk_at dksJ17_copyOfRange_2_0 14 rfl rfl)
theorem dJ17_copyOfRange_2_17 : decode cJ17_copyOfRange_2 17 = .ok (.dup, 1) := dk_89 (dk_at dksJ17_copyOfRange_2_0 17 rfl rfl)
theorem dJ17_copyOfRange_2_18 : decode cJ17_copyOfRange_2 18 = .ok (.invokespecial 47, 3) := dk_183 0 47 (dk_at dksJ17_copyOfRange_2_0 18 rfl rfl)
theorem dJ17_copyOfRange_2_21 : decode cJ17_copyOfRange_2 21 = .ok (.iload_n 1, 1) := dk_27 (dk_at dksJ17_copyOfRange_2_0 21 rfl rfl)
theorem dJ17_copyOfRange_2_22 : decode cJ17_copyOfRange_2 22 = .ok (.invokevirtual 54, 3) := dk_182 0 54 (dk_at dksJ17_copyOfRange_2_1 0 rfl rfl)
theorem dJ17_copyOfRange_2_25 : decode cJ17_copyOfRange_2 25 = .ok (.ldc_w 337, 3) := dk_19 1 81 (dk_at dksJ17_copyOfRange_2_1 3 rfl rfl)
theorem dJ17_copyOfRange_2_28 : decode cJ17_copyOfRange_2 28 = .ok (.invokevirtual 50, 3) := dk_182 0 50 (dk_at dksJ17_copyOfRange_2_1 6 rfl rfl)
theorem dJ17_copyOfRange_2_31 : decode cJ17_copyOfRange_2 31 = .ok (.iload_n 2, 1) := dk_28 (dk_at dksJ17_copyOfRange_2_1 9 rfl rfl)
theorem dJ17_copyOfRange_2_32 : decode cJ17_copyOfRange_2 32 = .ok (.invokevirtual 54, 3) := dk_182 0 54 (dk_at dksJ17_copyOfRange_2_1 10 rfl rfl)
theorem dJ17_copyOfRange_2_35 : decode cJ17_copyOfRange_2 35 = .ok (.invokevirtual 61, 3) := dk_182 0 61 (dk_at dksJ17_copyOfRange_2_1 13 rfl rfl)
theorem dJ17_copyOfRange_2_38 : decode cJ17_copyOfRange_2 38 = .ok (.invokespecial 65, 3) := dk_183 0 65 (dk_at dksJ17_copyOfRange_2_1 16 rfl rfl)
theorem dJ17_copyOfRange_2_41 : decode cJ17_copyOfRange_2 41 = .ok (.athrow, 1) := dk_191 (dk_at dksJ17_copyOfRange_2_1 19 rfl rfl)
theorem dJ17_copyOfRange_2_42 : decode cJ17_copyOfRange_2 42 = .ok (.aload_n 3, 1) := dk_45 (dk_at dksJ17_copyOfRange_2_1 20 rfl rfl)
theorem dJ17_copyOfRange_2_43 : decode cJ17_copyOfRange_2 43 = .ok (.ldc 110, 2) := dk_18 110 (dk_at dksJ17_copyOfRange_2_1 21 rfl rfl)
theorem dJ17_copyOfRange_2_45 : decode cJ17_copyOfRange_2 45 = .ok (.if_acmp .ne 11, 3) := dk_166 0 11 (dk_at dksJ17_copyOfRange_2_2 0 rfl rfl)
theorem dJ17_copyOfRange_2_48 : decode cJ17_copyOfRange_2 48 = .ok (.iload 4, 2) := dk_21 4 (dk_at dksJ17_copyOfRange_2_2 3 rfl rfl)
theorem dJ17_copyOfRange_2_50 : decode cJ17_copyOfRange_2 50 = .ok (.anewarray 2, 3) := dk_189 0 2 (dk_at dksJ17_copyOfRange_2_2 5 rfl rfl)
theorem dJ17_copyOfRange_2_53 : decode cJ17_copyOfRange_2 53 = .ok (.goto 15, 3) := dk_167 0 15 (dk_at dksJ17_copyOfRange_2_2 8 rfl rfl)
theorem dJ17_copyOfRange_2_56 : decode cJ17_copyOfRange_2 56 = .ok (.aload_n 3, 1) := dk_45 (dk_at dksJ17_copyOfRange_2_2 11 rfl rfl)
theorem dJ17_copyOfRange_2_57 : decode cJ17_copyOfRange_2 57 = .ok (.invokevirtual 90, 3) := dk_182 0 90 (dk_at dksJ17_copyOfRange_2_2 12 rfl rfl)
theorem dJ17_copyOfRange_2_60 : decode cJ17_copyOfRange_2 60 = .ok (.iload 4, 2) := dk_21 4 (dk_at dksJ17_copyOfRange_2_2 15 rfl rfl)
theorem dJ17_copyOfRange_2_62 : decode cJ17_copyOfRange_2 62 = .ok (.invokestatic 95, 3) := dk_184 0 95 (dk_at dksJ17_copyOfRange_2_2 17 rfl rfl)
theorem dJ17_copyOfRange_2_65 : decode cJ17_copyOfRange_2 65 = .ok (.checkcast 110, 3) := dk_192 0 110 (dk_at dksJ17_copyOfRange_2_2 20 rfl rfl)
theorem dJ17_copyOfRange_2_68 : decode cJ17_copyOfRange_2 68 = .ok (.astore 5, 2) := dk_58 5 (dk_at dksJ17_copyOfRange_2_3 0 rfl rfl)
theorem dJ17_copyOfRange_2_70 : decode cJ17_copyOfRange_2 70 = .ok (.aload_n 0, 1) := dk_42 (dk_at dksJ17_copyOfRange_2_3 2 rfl rfl)
theorem dJ17_copyOfRange_2_71 : decode cJ17_copyOfRange_2 71 = .ok (.iload_n 1, 1) := dk_27 (dk_at dksJ17_copyOfRange_2_3 3 rfl rfl)
theorem dJ17_copyOfRange_2_72 : decode cJ17_copyOfRange_2 72 = .ok (.aload 5, 2) := dk_25 5 (dk_at dksJ17_copyOfRange_2_3 4 rfl rfl)
theorem dJ17_copyOfRange_2_74 : decode cJ17_copyOfRange_2 74 = .ok (.iconst 0, 1) := dk_3 (dk_at dksJ17_copyOfRange_2_3 6 rfl rfl)
theorem dJ17_copyOfRange_2_75 : decode cJ17_copyOfRange_2 75 = .ok (.aload_n 0, 1) := dk_42 (dk_at dksJ17_copyOfRange_2_3 7 rfl rfl)
theorem dJ17_copyOfRange_2_76 : decode cJ17_copyOfRange_2 76 = .ok (.arraylength, 1) := dk_190 (dk_at dksJ17_copyOfRange_2_3 8 rfl rfl)
theorem dJ17_copyOfRange_2_77 : decode cJ17_copyOfRange_2 77 = .ok (.iload_n 1, 1) := dk_27 (dk_at dksJ17_copyOfRange_2_3 9 rfl rfl)
theorem dJ17_copyOfRange_2_78 : decode cJ17_copyOfRange_2 78 = .ok (.isub, 1) := dk_100 (dk_at dksJ17_copyOfRange_2_3 10 rfl rfl)
theorem dJ17_copyOfRange_2_79 : decode cJ17_copyOfRange_2 79 = .ok (.iload 4, 2) := dk_21 4 (dk_at dksJ17_copyOfRange_2_3 11 rfl rfl)
theorem dJ17_copyOfRange_2_81 : decode cJ17_copyOfRange_2 81 = .ok (.invokestatic 304, 3) := dk_184 1 48 (dk_at dksJ17_copyOfRange_2_3 13 rfl rfl)
theorem dJ17_copyOfRange_2_84 : decode cJ17_copyOfRange_2 84 = .ok (.invokestatic 150, 3) := dk_184 0 150 (dk_at dksJ17_copyOfRange_2_3 16 rfl rfl)
theorem dJ17_copyOfRange_2_87 : decode cJ17_copyOfRange_2 87 = .ok (.aload 5, 2) := dk_25 5 (dk_at dksJ17_copyOfRange_2_3 19 rfl rfl)
theorem dJ17_copyOfRange_2_89 : decode cJ17_copyOfRange_2 89 = .ok (.areturn, 1) := dk_176 (dk_at dksJ17_copyOfRange_2_3 21 rfl rfl)
abbrev cJ17_fill : ByteArray := prog_51_method_110_code
def yJ17_fill : MethodName := ⟨RJ17, "fill", "([BIIB)V"⟩
def dkwJ17_fill_1 : List UInt8 := [167, 255, 242, 177]
abbrev dktJ17_fill_1 : List UInt8 := dkwJ17_fill_1 ++ []
def dkwJ17_fill_0 : List UInt8 := [42, 190, 27, 28, 184, 0, 13, 27, 54, 4, 21, 4, 28, 162, 0, 14, 42, 21, 4, 29, 84, 132, 4, 1]
abbrev dktJ17_fill_0 : List UInt8 := dkwJ17_fill_0 ++ dktJ17_fill_1
theorem dksJ17_fill_0 : cJ17_fill.data.toList.drop 0 = dktJ17_fill_0 := by decide +kernel
theorem dksJ17_fill_1 : cJ17_fill.data.toList.drop 24 = dktJ17_fill_1 := dk_seg dksJ17_fill_0 24 rfl rfl
theorem dJ17_fill_0 : decode cJ17_fill 0 = .ok (.aload_n 0, 1) := dk_42 (dk_at dksJ17_fill_0 0 rfl rfl)
theorem dJ17_fill_1 : decode cJ17_fill 1 = .ok (.arraylength, 1) := dk_190 (dk_at dksJ17_fill_0 1 rfl rfl)
theorem dJ17_fill_2 : decode cJ17_fill 2 = .ok (.iload_n 1, 1) := dk_27 (dk_at dksJ17_fill_0 2 rfl rfl)
theorem dJ17_fill_3 : decode cJ17_fill 3 = .ok (.iload_n 2, 1) := dk_28 (dk_at dksJ17_fill_0 3 rfl rfl)
theorem dJ17_fill_4 : decode cJ17_fill 4 = .ok (.invokestatic 13, 3) := dk_184 0 13 (dk_at dksJ17_fill_0 4 rfl rfl)
theorem dJ17_fill_7 : decode cJ17_fill 7 = .ok (.iload_n 1, 1) := dk_27 (dk_at dksJ17_fill_0 7 rfl rfl)
theorem dJ17_fill_8 : decode cJ17_fill 8 = .ok (.istore 4, 2) := dk_54 4 (dk_at dksJ17_fill_0 8 rfl rfl)
theorem dJ17_fill_10 : decode cJ17_fill 10 = .ok (.iload 4, 2) := dk_21 4 (dk_at dksJ17_fill_0 10 rfl rfl)
theorem dJ17_fill_12 : decode cJ17_fill 12 = .ok (.iload_n 2, 1) := dk_28 (dk_at dksJ17_fill_0 12 rfl rfl)
theorem dJ17_fill_13 : decode cJ17_fill 13 = .ok (.if_icmp .ge 14, 3) := dk_162 0 14 (dk_at dksJ17_fill_0 13 rfl rfl)
theorem dJ17_fill_16 : decode cJ17_fill 16 = .ok (.aload_n 0, 1) := dk_42 (dk_at dksJ17_fill_0 16 rfl rfl)
theorem dJ17_fill_17 : decode cJ17_fill 17 = .ok (.iload 4, 2) := dk_21 4 (dk_at dksJ17_fill_0 17 rfl rfl)
theorem dJ17_fill_19 : decode cJ17_fill 19 = .ok (.iload_n 3, 1) := dk_29 (dk_at dksJ17_fill_0 19 rfl rfl)
theorem dJ17_fill_20 : decode cJ17_fill 20 = .ok (.bastore, 1) := dk_84 (dk_at dksJ17_fill_0 20 rfl rfl)
theorem dJ17_fill_21 : decode cJ17_fill 21 = .ok (.iinc 4 1, 3) := dk_132 4 1 (dk_at dksJ17_fill_0 21 rfl rfl)
theorem dJ17_fill_24 : decode cJ17_fill 24 = .ok (.goto (-14), 3) := dk_167 255 242 (dk_at dksJ17_fill_1 0 rfl rfl)
theorem dJ17_fill_27 : decode cJ17_fill 27 = .ok (.return_, 1) := dk_177 (dk_at dksJ17_fill_1 3 rfl rfl)
abbrev cJ17_rangeCheck : ByteArray := prog_51_method_30_code
def yJ17_rangeCheck : MethodName := ⟨RJ17, "rangeCheck", "(III)V"⟩
def dkwJ17_rangeCheck_3 : List UInt8 := [183, 0, 70, 191, 177]
abbrev dktJ17_rangeCheck_3 : List UInt8 := dkwJ17_rangeCheck_3 ++ []
def dkwJ17_rangeCheck_2 : List UInt8 := [27, 156, 0, 12, 187, 0, 68, 89, 27, 183, 0, 70, 191, 28, 26, 164, 0, 12, 187, 0, 68, 89, 28]
abbrev dktJ17_rangeCheck_2 : List UInt8 := dkwJ17_rangeCheck_2 ++ dktJ17_rangeCheck_3
def dkwJ17_rangeCheck_1 : List UInt8 := [182, 0, 54, 18, 57, 182, 0, 50, 28, 182, 0, 54, 18, 59, 182, 0, 50, 182, 0, 61, 183, 0, 65, 191]
abbrev dktJ17_rangeCheck_1 : List UInt8 := dkwJ17_rangeCheck_1 ++ dktJ17_rangeCheck_2
def dkwJ17_rangeCheck_0 : List UInt8 := [27, 28, 164, 0, 44, 187, 0, 43, 89, 187, 0, 45, 89, 183, 0, 47, 18, 48, 182, 0, 50, 27]
abbrev dktJ17_rangeCheck_0 : List UInt8 := dkwJ17_rangeCheck_0 ++ dktJ17_rangeCheck_1
theorem dksJ17_rangeCheck_0 : cJ17_rangeCheck.data.toList.drop 0 = dktJ17_rangeCheck_0 := by decide +kernel
theorem dksJ17_rangeCheck_1 : cJ17_rangeCheck.data.toList.drop 22 = dktJ17_rangeCheck_1 := dk_seg dksJ17_rangeCheck_0 22 rfl rfl
theorem dksJ17_rangeCheck_2 : cJ17_rangeCheck.data.toList.drop 46 = dktJ17_rangeCheck_2 := dk_seg dksJ17_rangeCheck_1 24 rfl rfl
theorem dksJ17_rangeCheck_3 : cJ17_rangeCheck.data.toList.drop 69 = dktJ17_rangeCheck_3 := dk_seg dksJ17_rangeCheck_2 23 rfl rfl
theorem dJ17_rangeCheck_0 : decode cJ17_rangeCheck 0 = .ok (.iload_n 1, 1) := dk_27 (dk_at dksJ17_rangeCheck_0 0 rfl rfl)
theorem dJ17_rangeCheck_1 : decode cJ17_rangeCheck 1 = .ok (.iload_n 2, 1) := dk_28 (dk_at dksJ17_rangeCheck_0 1 rfl rfl)
theorem dJ17_rangeCheck_2 : decode cJ17_rangeCheck 2 = .ok (.if_icmp .le 44, 3) := dk_164 0 44 (dk_at dksJ17_rangeCheck_0 2 rfl rfl)
theorem dJ17_rangeCheck_5 : decode cJ17_rangeCheck 5 = .ok (.new 43, 3) := dk_187 0 43 (dk_at dksJ17_rangeCheck_0 5 rfl rfl)
theorem dJ17_rangeCheck_8 : decode cJ17_rangeCheck 8 = .ok (.dup, 1) := dk_89 (dk_at dksJ17_rangeCheck_0 8 rfl rfl)
theorem dJ17_rangeCheck_9 : decode cJ17_rangeCheck 9 = .ok (.new 45, 3) := dk_187 0 45 (dk_at dksJ17_rangeCheck_0 9 rfl rfl)
theorem dJ17_rangeCheck_12 : decode cJ17_rangeCheck 12 = .ok (.dup, 1) := dk_89 (dk_at dksJ17_rangeCheck_0 12 rfl rfl)
theorem dJ17_rangeCheck_13 : decode cJ17_rangeCheck 13 = .ok (.invokespecial 47, 3) := dk_183 0 47 (dk_at dksJ17_rangeCheck_0 13 rfl rfl)
theorem dJ17_rangeCheck_16 : decode cJ17_rangeCheck 16 = .ok (.ldc 48, 2) := dk_18 48 (dk_at dksJ17_rangeCheck_0 16 rfl rfl)
theorem dJ17_rangeCheck_18 : decode cJ17_rangeCheck 18 = .ok (.invokevirtual 50, 3) := dk_182 0 50 (dk_at dksJ17_rangeCheck_0 18 rfl rfl)
theorem dJ17_rangeCheck_21 : decode cJ17_rangeCheck 21 = .ok (.iload_n 1, 1) := dk_27 (dk_at dksJ17_rangeCheck_0 21 rfl rfl)
theorem dJ17_rangeCheck_22 : decode cJ17_rangeCheck 22 = .ok (.invokevirtual 54, 3) := dk_182 0 54 (dk_at dksJ17_rangeCheck_1 0 rfl rfl)
theorem dJ17_rangeCheck_25 : decode cJ17_rangeCheck 25 = .ok (.ldc 57, 2) := dk_18 57 (dk_at dksJ17_rangeCheck_1 3 rfl rfl)
theorem dJ17_rangeCheck_27 : decode cJ17_rangeCheck 27 = .ok (.invokevirtual 50, 3) := dk_182 0 50 (dk_at dksJ17_rangeCheck_1 5 rfl rfl)
theorem dJ17_rangeCheck_30 : decode cJ17_rangeCheck 30 = .ok (.iload_n 2, 1) := dk_28 (dk_at dksJ17_rangeCheck_1 8 rfl rfl)
theorem dJ17_rangeCheck_31 : decode cJ17_rangeCheck 31 = .ok (.invokevirtual 54, 3) := dk_182 0 54 (dk_at dksJ17_rangeCheck_1 9 rfl rfl)
theorem dJ17_rangeCheck_34 : decode cJ17_rangeCheck 34 = .ok (.ldc 59, 2) := dk_18 59 (dk_at dksJ17_rangeCheck_1 12 rfl rfl)
theorem dJ17_rangeCheck_36 : decode cJ17_rangeCheck 36 = .ok (.invokevirtual 50, 3) := dk_182 0 50 (dk_at dksJ17_rangeCheck_1 14 rfl rfl)
theorem dJ17_rangeCheck_39 : decode cJ17_rangeCheck 39 = .ok (.invokevirtual 61, 3) := dk_182 0 61 (dk_at dksJ17_rangeCheck_1 17 rfl rfl)
theorem dJ17_rangeCheck_42 : decode cJ17_rangeCheck 42 = .ok (.invokespecial 65, 3) := dk_183 0 65 (dk_at dksJ17_rangeCheck_1 20 rfl rfl)
theorem dJ17_rangeCheck_45 : decode cJ17_rangeCheck 45 = .ok (.athrow, 1) := dk_191 (dk_at dksJ17_rangeCheck_1 23 rfl rfl)
theorem dJ17_rangeCheck_46 : decode cJ17_rangeCheck 46 = .ok (.iload_n 1, 1) := dk_27 (dk_at dksJ17_rangeCheck_2 0 rfl rfl)
theorem dJ17_rangeCheck_47 : decode cJ17_rangeCheck 47 = .ok (.ifCond .ge 12, 3) := dk_156 0 12 (dk_at dksJ17_rangeCheck_2 1 rfl rfl)
theorem dJ17_rangeCheck_50 : decode cJ17_rangeCheck 50 = .ok (.new 68, 3) := dk_187 0 68 (dk_at dksJ17_rangeCheck_2 4 rfl rfl)
theorem dJ17_rangeCheck_53 : decode cJ17_rangeCheck 53 = .ok (.dup, 1) := dk_89 (dk_at dksJ17_rangeCheck_2 7 rfl rfl)
theorem dJ17_rangeCheck_54 : decode cJ17_rangeCheck 54 = .ok (.iload_n 1, 1) := dk_27 (dk_at dksJ17_rangeCheck_2 8 rfl rfl)
theorem dJ17_rangeCheck_55 : decode cJ17_rangeCheck 55 = .ok (.invokespecial 70, 3) := dk_183 0 70 (dk_at dksJ17_rangeCheck_2 9 rfl rfl)
theorem dJ17_rangeCheck_58 : decode cJ17_rangeCheck 58 = .ok (.athrow, 1) := dk_191 (dk_at dksJ17_rangeCheck_2 12 rfl rfl)
theorem dJ17_rangeCheck_59 : decode cJ17_rangeCheck 59 = .ok (.iload_n 2, 1) := dk_28 (dk_at dksJ17_rangeCheck_2 13 rfl rfl)
theorem dJ17_rangeCheck_60 : decode cJ17_rangeCheck 60 = .ok (.iload_n 0, 1) := dk_26 (dk_at dksJ17_rangeCheck_2 14 rfl rfl)
theorem dJ17_rangeCheck_61 : decode cJ17_rangeCheck 61 = .ok (.if_icmp .le 12, 3) := dk_164 0 12 (dk_at dksJ17_rangeCheck_2 15 rfl rfl)
theorem dJ17_rangeCheck_64 : decode cJ17_rangeCheck 64 = .ok (.new 68, 3) := dk_187 0 68 (dk_at dksJ17_rangeCheck_2 18 rfl rfl)
theorem dJ17_rangeCheck_67 : decode cJ17_rangeCheck 67 = .ok (.dup, 1) := dk_89 (dk_at dksJ17_rangeCheck_2 21 rfl rfl)
theorem dJ17_rangeCheck_68 : decode cJ17_rangeCheck 68 = .ok (.iload_n 2, 1) := dk_28 (dk_at dksJ17_rangeCheck_2 22 rfl rfl)
theorem dJ17_rangeCheck_69 : decode cJ17_rangeCheck 69 = .ok (.invokespecial 70, 3) := dk_183 0 70 (dk_at dksJ17_rangeCheck_3 0 rfl rfl)
theorem dJ17_rangeCheck_72 : decode cJ17_rangeCheck 72 = .ok (.athrow, 1) := dk_191 (dk_at dksJ17_rangeCheck_3 3 rfl rfl)
theorem dJ17_rangeCheck_73 : decode cJ17_rangeCheck 73 = .ok (.return_, 1) := dk_177 (dk_at dksJ17_rangeCheck_3 4 rfl rfl)
abbrev cJ18_canEncode : ByteArray := prog_38_method_3_code
def yJ18_canEncode : MethodName := ⟨RJ18, "canEncode", "(C)Z"⟩
def dkwJ18_canEncode_0 : List UInt8 := [26, 17, 0, 255, 163, 0, 7, 4, 167, 0, 4, 3, 172]
abbrev dktJ18_canEncode_0 : List UInt8 := dkwJ18_canEncode_0 ++ []
theorem dksJ18_canEncode_0 : cJ18_canEncode.data.toList.drop 0 = dktJ18_canEncode_0 := by decide +kernel
theorem dJ18_canEncode_0 : decode cJ18_canEncode 0 = .ok (.iload_n 0, 1) := dk_26 (dk_at dksJ18_canEncode_0 0 rfl rfl)
theorem dJ18_canEncode_1 : decode cJ18_canEncode 1 = .ok (.sipush 255, 3) := dk_17 0 255 (dk_at dksJ18_canEncode_0 1 rfl rfl)
theorem dJ18_canEncode_4 : decode cJ18_canEncode 4 = .ok (.if_icmp .gt 7, 3) := dk_163 0 7 (dk_at dksJ18_canEncode_0 4 rfl rfl)
theorem dJ18_canEncode_7 : decode cJ18_canEncode 7 = .ok (.iconst 1, 1) := dk_4 (dk_at dksJ18_canEncode_0 7 rfl rfl)
theorem dJ18_canEncode_8 : decode cJ18_canEncode 8 = .ok (.goto 4, 3) := dk_167 0 4 (dk_at dksJ18_canEncode_0 8 rfl rfl)
theorem dJ18_canEncode_11 : decode cJ18_canEncode 11 = .ok (.iconst 0, 1) := dk_3 (dk_at dksJ18_canEncode_0 11 rfl rfl)
theorem dJ18_canEncode_12 : decode cJ18_canEncode 12 = .ok (.ireturn, 1) := dk_172 (dk_at dksJ18_canEncode_0 12 rfl rfl)
abbrev cJ18_inflate : ByteArray := prog_38_method_50_code
def yJ18_inflate : MethodName := ⟨RJ18, "inflate", "([BI[BII)V"⟩
def dkwJ18_inflate_0 : List UInt8 := [42, 27, 44, 29, 21, 4, 184, 0, 240, 177]
abbrev dktJ18_inflate_0 : List UInt8 := dkwJ18_inflate_0 ++ []
theorem dksJ18_inflate_0 : cJ18_inflate.data.toList.drop 0 = dktJ18_inflate_0 := by decide +kernel
theorem dJ18_inflate_0 : decode cJ18_inflate 0 = .ok (.aload_n 0, 1) := dk_42 (dk_at dksJ18_inflate_0 0 rfl rfl)
theorem dJ18_inflate_1 : decode cJ18_inflate 1 = .ok (.iload_n 1, 1) := dk_27 (dk_at dksJ18_inflate_0 1 rfl rfl)
theorem dJ18_inflate_2 : decode cJ18_inflate 2 = .ok (.aload_n 2, 1) := dk_44 (dk_at dksJ18_inflate_0 2 rfl rfl)
theorem dJ18_inflate_3 : decode cJ18_inflate 3 = .ok (.iload_n 3, 1) := dk_29 (dk_at dksJ18_inflate_0 3 rfl rfl)
theorem dJ18_inflate_4 : decode cJ18_inflate 4 = .ok (.iload 4, 2) := dk_21 4 (dk_at dksJ18_inflate_0 4 rfl rfl)
theorem dJ18_inflate_6 : decode cJ18_inflate 6 = .ok (.invokestatic 240, 3) := dk_184 0 240 (dk_at dksJ18_inflate_0 6 rfl rfl)
theorem dJ18_inflate_9 : decode cJ18_inflate 9 = .ok (.return_, 1) := dk_177 (dk_at dksJ18_inflate_0 9 rfl rfl)
abbrev cJ18_equals : ByteArray := prog_38_method_13_code
def yJ18_equals : MethodName := ⟨RJ18, "equals", "([B[B)Z"⟩
def dkwJ18_equals_1 : List UInt8 := [3, 172, 132, 2, 1, 167, 255, 236, 4, 172, 3, 172]
abbrev dktJ18_equals_1 : List UInt8 := dkwJ18_equals_1 ++ []
def dkwJ18_equals_0 : List UInt8 := [42, 190, 43, 190, 160, 0, 30, 3, 61, 28, 42, 190, 162, 0, 20, 42, 28, 51, 43, 28, 51, 159, 0, 5]
abbrev dktJ18_equals_0 : List UInt8 := dkwJ18_equals_0 ++ dktJ18_equals_1
theorem dksJ18_equals_0 : cJ18_equals.data.toList.drop 0 = dktJ18_equals_0 := by decide +kernel
theorem dksJ18_equals_1 : cJ18_equals.data.toList.drop 24 = dktJ18_equals_1 := dk_seg dksJ18_equals_0 24 rfl rfl
theorem dJ18_equals_0 : decode cJ18_equals 0 = .ok (.aload_n 0, 1) := dk_42 (dk_at dksJ18_equals_0 0 rfl rfl)
theorem dJ18_equals_1 : decode cJ18_equals 1 = .ok (.arraylength, 1) := dk_190 (dk_at dksJ18_equals_0 1 rfl rfl)
theorem dJ18_equals_2 : decode cJ18_equals 2 = .ok (.aload_n 1, 1) := dk_43 (dk_at dksJ18_equals_0 2 rfl rfl)
theorem dJ18_equals_3 : decode cJ18_equals 3 = .ok (.arraylength, 1) := dk_190 (dk_at dksJ18_equals_0 3 rfl rfl)
theorem dJ18_equals_4 : decode cJ18_equals 4 = .ok (.if_icmp .ne 30, 3) := dk_160 0 30 (dk_at dksJ18_equals_0 4 rfl rfl)
theorem dJ18_equals_7 : decode cJ18_equals 7 = .ok (.iconst 0, 1) := dk_3 (dk_at dksJ18_equals_0 7 rfl rfl)
theorem dJ18_equals_8 : decode cJ18_equals 8 = .ok (.istore_n 2, 1) := dk_61 (dk_at dksJ18_equals_0 8 rfl rfl)
theorem dJ18_equals_9 : decode cJ18_equals 9 = .ok (.iload_n 2, 1) := dk_28 (dk_at dksJ18_equals_0 9 rfl rfl)
theorem dJ18_equals_10 : decode cJ18_equals 10 = .ok (.aload_n 0, 1) := dk_42 (dk_at dksJ18_equals_0 10 rfl rfl)
theorem dJ18_equals_11 : decode cJ18_equals 11 = .ok (.arraylength, 1) := dk_190 (dk_at dksJ18_equals_0 11 rfl rfl)
theorem dJ18_equals_12 : decode cJ18_equals 12 = .ok (.if_icmp .ge 20, 3) := dk_162 0 20 (dk_at dksJ18_equals_0 12 rfl rfl)
theorem dJ18_equals_15 : decode cJ18_equals 15 = .ok (.aload_n 0, 1) := dk_42 (dk_at dksJ18_equals_0 15 rfl rfl)
theorem dJ18_equals_16 : decode cJ18_equals 16 = .ok (.iload_n 2, 1) := dk_28 (dk_at dksJ18_equals_0 16 rfl rfl)
theorem dJ18_equals_17 : decode cJ18_equals 17 = .ok (.baload, 1) := dk_51 (dk_at dksJ18_equals_0 17 rfl rfl)
theorem dJ18_equals_18 : decode cJ18_equals 18 = .ok (.aload_n 1, 1) := dk_43 (dk_at dksJ18_equals_0 18 rfl rfl)
theorem dJ18_equals_19 : decode cJ18_equals 19 = .ok (.iload_n 2, 1) := dk_28 (dk_at dksJ18_equals_0 19 rfl rfl)
theorem dJ18_equals_20 : decode cJ18_equals 20 = .ok (.baload, 1) := dk_51 (dk_at dksJ18_equals_0 20 rfl rfl)
theorem dJ18_equals_21 : decode cJ18_equals 21 = .ok (.if_icmp .eq 5, 3) := dk_159 0 5 (dk_at dksJ18_equals_0 21 rfl rfl)
theorem dJ18_equals_24 : decode cJ18_equals 24 = .ok (.iconst 0, 1) := dk_3 (dk_at dksJ18_equals_1 0 rfl rfl)
theorem dJ18_equals_25 : decode cJ18_equals 25 = .ok (.ireturn, 1) := dk_172 (dk_at dksJ18_equals_1 1 rfl rfl)
theorem dJ18_equals_26 : decode cJ18_equals 26 = .ok (.iinc 2 1, 3) := dk_132 2 1 (dk_at dksJ18_equals_1 2 rfl rfl)
theorem dJ18_equals_29 : decode cJ18_equals 29 = .ok (.goto (-20), 3) := dk_167 255 236 (dk_at dksJ18_equals_1 5 rfl rfl)
theorem dJ18_equals_32 : decode cJ18_equals 32 = .ok (.iconst 1, 1) := dk_4 (dk_at dksJ18_equals_1 8 rfl rfl)
theorem dJ18_equals_33 : decode cJ18_equals 33 = .ok (.ireturn, 1) := dk_172 (dk_at dksJ18_equals_1 9 rfl rfl)
theorem dJ18_equals_34 : decode cJ18_equals 34 = .ok (.iconst 0, 1) := dk_3 (dk_at dksJ18_equals_1 10 rfl rfl)
theorem dJ18_equals_35 : decode cJ18_equals 35 = .ok (.ireturn, 1) := dk_172 (dk_at dksJ18_equals_1 11 rfl rfl)
abbrev cJ18_charAt : ByteArray := prog_38_method_2_code
def yJ18_charAt : MethodName := ⟨RJ18, "charAt", "([BI)C"⟩
def dkwJ18_charAt_0 : List UInt8 := [27, 42, 190, 184, 0, 9, 42, 27, 51, 17, 0, 255, 126, 146, 172]
abbrev dktJ18_charAt_0 : List UInt8 := dkwJ18_charAt_0 ++ []
theorem dksJ18_charAt_0 : cJ18_charAt.data.toList.drop 0 = dktJ18_charAt_0 := by decide +kernel
theorem dJ18_charAt_0 : decode cJ18_charAt 0 = .ok (.iload_n 1, 1) := dk_27 (dk_at dksJ18_charAt_0 0 rfl rfl)
theorem dJ18_charAt_1 : decode cJ18_charAt 1 = .ok (.aload_n 0, 1) := dk_42 (dk_at dksJ18_charAt_0 1 rfl rfl)
theorem dJ18_charAt_2 : decode cJ18_charAt 2 = .ok (.arraylength, 1) := dk_190 (dk_at dksJ18_charAt_0 2 rfl rfl)
theorem dJ18_charAt_3 : decode cJ18_charAt 3 = .ok (.invokestatic 9, 3) := dk_184 0 9 (dk_at dksJ18_charAt_0 3 rfl rfl)
theorem dJ18_charAt_6 : decode cJ18_charAt 6 = .ok (.aload_n 0, 1) := dk_42 (dk_at dksJ18_charAt_0 6 rfl rfl)
theorem dJ18_charAt_7 : decode cJ18_charAt 7 = .ok (.iload_n 1, 1) := dk_27 (dk_at dksJ18_charAt_0 7 rfl rfl)
theorem dJ18_charAt_8 : decode cJ18_charAt 8 = .ok (.baload, 1) := dk_51 (dk_at dksJ18_charAt_0 8 rfl rfl)
theorem dJ18_charAt_9 : decode cJ18_charAt 9 = .ok (.sipush 255, 3) := dk_17 0 255 (dk_at dksJ18_charAt_0 9 rfl rfl)
theorem dJ18_charAt_12 : decode cJ18_charAt 12 = .ok (.iand, 1) := dk_126 (dk_at dksJ18_charAt_0 12 rfl rfl)
theorem dJ18_charAt_13 : decode cJ18_charAt 13 = .ok (.i2c, 1) := dk_146 (dk_at dksJ18_charAt_0 13 rfl rfl)
theorem dJ18_charAt_14 : decode cJ18_charAt 14 = .ok (.ireturn, 1) := dk_172 (dk_at dksJ18_charAt_0 14 rfl rfl)
abbrev cJ18_compareTo : ByteArray := prog_38_method_14_code
def yJ18_compareTo : MethodName := ⟨RJ18, "compareTo", "([B[B)I"⟩
def dkwJ18_compareTo_0 : List UInt8 := [42, 190, 61, 43, 190, 62, 42, 43, 28, 29, 184, 0, 34, 172]
abbrev dktJ18_compareTo_0 : List UInt8 := dkwJ18_compareTo_0 ++ []
theorem dksJ18_compareTo_0 : cJ18_compareTo.data.toList.drop 0 = dktJ18_compareTo_0 := by decide +kernel
theorem dJ18_compareTo_0 : decode cJ18_compareTo 0 = .ok (.aload_n 0, 1) := dk_42 (dk_at dksJ18_compareTo_0 0 rfl rfl)
theorem dJ18_compareTo_1 : decode cJ18_compareTo 1 = .ok (.arraylength, 1) := dk_190 (dk_at dksJ18_compareTo_0 1 rfl rfl)
theorem dJ18_compareTo_2 : decode cJ18_compareTo 2 = .ok (.istore_n 2, 1) := dk_61 (dk_at dksJ18_compareTo_0 2 rfl rfl)
theorem dJ18_compareTo_3 : decode cJ18_compareTo 3 = .ok (.aload_n 1, 1) := dk_43 (dk_at dksJ18_compareTo_0 3 rfl rfl)
theorem dJ18_compareTo_4 : decode cJ18_compareTo 4 = .ok (.arraylength, 1) := dk_190 (dk_at dksJ18_compareTo_0 4 rfl rfl)
theorem dJ18_compareTo_5 : decode cJ18_compareTo 5 = .ok (.istore_n 3, 1) := dk_62 (dk_at dksJ18_compareTo_0 5 rfl rfl)
theorem dJ18_compareTo_6 : decode cJ18_compareTo 6 = .ok (.aload_n 0, 1) := dk_42 (dk_at dksJ18_compareTo_0 6 rfl rfl)
theorem dJ18_compareTo_7 : decode cJ18_compareTo 7 = .ok (.aload_n 1, 1) := dk_43 (dk_at dksJ18_compareTo_0 7 rfl rfl)
theorem dJ18_compareTo_8 : decode cJ18_compareTo 8 = .ok (.iload_n 2, 1) := dk_28 (dk_at dksJ18_compareTo_0 8 rfl rfl)
theorem dJ18_compareTo_9 : decode cJ18_compareTo 9 = .ok (.iload_n 3, 1) := dk_29 (dk_at dksJ18_compareTo_0 9 rfl rfl)
theorem dJ18_compareTo_10 : decode cJ18_compareTo 10 = .ok (.invokestatic 34, 3) := dk_184 0 34 (dk_at dksJ18_compareTo_0 10 rfl rfl)
theorem dJ18_compareTo_13 : decode cJ18_compareTo 13 = .ok (.ireturn, 1) := dk_172 (dk_at dksJ18_compareTo_0 13 rfl rfl)
abbrev cJ18_compareTo_2 : ByteArray := prog_38_method_15_code
def yJ18_compareTo_2 : MethodName := ⟨RJ18, "compareTo", "([B[BII)I"⟩
def dkwJ18_compareTo_2_1 : List UInt8 := [167, 0, 16, 42, 21, 5, 184, 0, 50, 43, 21, 5, 184, 0, 50, 100, 172]
abbrev dktJ18_compareTo_2_1 : List UInt8 := dkwJ18_compareTo_2_1 ++ []
def dkwJ18_compareTo_2_0 : List UInt8 := [28, 29, 184, 0, 38, 54, 4, 42, 43, 21, 4, 184, 0, 44, 54, 5, 21, 5, 156, 0, 9, 28, 29, 100]
abbrev dktJ18_compareTo_2_0 : List UInt8 := dkwJ18_compareTo_2_0 ++ dktJ18_compareTo_2_1
theorem dksJ18_compareTo_2_0 : cJ18_compareTo_2.data.toList.drop 0 = dktJ18_compareTo_2_0 := by decide +kernel
theorem dksJ18_compareTo_2_1 : cJ18_compareTo_2.data.toList.drop 24 = dktJ18_compareTo_2_1 := dk_seg dksJ18_compareTo_2_0 24 rfl rfl
theorem dJ18_compareTo_2_0 : decode cJ18_compareTo_2 0 = .ok (.iload_n 2, 1) := dk_28 (dk_at dksJ18_compareTo_2_0 0 rfl rfl)
theorem dJ18_compareTo_2_1 : decode cJ18_compareTo_2 1 = .ok (.iload_n 3, 1) := dk_29 (dk_at dksJ18_compareTo_2_0 1 rfl rfl)
theorem dJ18_compareTo_2_2 : decode cJ18_compareTo_2 2 = .ok (.invokestatic 38, 3) := dk_184 0 38 (dk_at dksJ18_compareTo_2_0 2 rfl rfl)
theorem dJ18_compareTo_2_5 : decode cJ18_compareTo_2 5 = .ok (.istore 4, 2) := dk_54 4 (dk_at dksJ18_compareTo_2_0 5 rfl rfl)
theorem dJ18_compareTo_2_7 : decode cJ18_compareTo_2 7 = .ok (.aload_n 0, 1) := dk_42 (dk_at dksJ18_compareTo_2_0 7 rfl rfl)
theorem dJ18_compareTo_2_8 : decode cJ18_compareTo_2 8 = .ok (.aload_n 1, 1) := dk_43 (dk_at dksJ18_compareTo_2_0 8 rfl rfl)
theorem dJ18_compareTo_2_9 : decode cJ18_compareTo_2 9 = .ok (.iload 4, 2) := dk_21 4 (dk_at dksJ18_compareTo_2_0 9 rfl rfl)
theorem dJ18_compareTo_2_11 : decode cJ18_compareTo_2 11 = .ok (.invokestatic 44, 3) := dk_184 0 44 (dk_at dksJ18_compareTo_2_0 11 rfl rfl)
theorem dJ18_compareTo_2_14 : decode cJ18_compareTo_2 14 = .ok (.istore 5, 2) := dk_54 5 (dk_at dksJ18_compareTo_2_0 14 rfl rfl)
theorem dJ18_compareTo_2_16 : decode cJ18_compareTo_2 16 = .ok (.iload 5, 2) := dk_21 5 (dk_at dksJ18_compareTo_2_0 16 rfl rfl)
theorem dJ18_compareTo_2_18 : decode cJ18_compareTo_2 18 = .ok (.ifCond .ge 9, 3) := dk_156 0 9 (dk_at dksJ18_compareTo_2_0 18 rfl rfl)
theorem dJ18_compareTo_2_21 : decode cJ18_compareTo_2 21 = .ok (.iload_n 2, 1) := dk_28 (dk_at dksJ18_compareTo_2_0 21 rfl rfl)
theorem dJ18_compareTo_2_22 : decode cJ18_compareTo_2 22 = .ok (.iload_n 3, 1) := dk_29 (dk_at dksJ18_compareTo_2_0 22 rfl rfl)
theorem dJ18_compareTo_2_23 : decode cJ18_compareTo_2 23 = .ok (.isub, 1) := dk_100 (dk_at dksJ18_compareTo_2_0 23 rfl rfl)
theorem dJ18_compareTo_2_24 : decode cJ18_compareTo_2 24 = .ok (.goto 16, 3) := dk_167 0 16 (dk_at dksJ18_compareTo_2_1 0 rfl rfl)
theorem dJ18_compareTo_2_27 : decode cJ18_compareTo_2 27 = .ok (.aload_n 0, 1) := dk_42 (dk_at dksJ18_compareTo_2_1 3 rfl rfl)
theorem dJ18_compareTo_2_28 : decode cJ18_compareTo_2 28 = .ok (.iload 5, 2) := dk_21 5 (dk_at dksJ18_compareTo_2_1 4 rfl rfl)
theorem dJ18_compareTo_2_30 : decode cJ18_compareTo_2 30 = .ok (.invokestatic 50, 3) := dk_184 0 50 (dk_at dksJ18_compareTo_2_1 6 rfl rfl)
theorem dJ18_compareTo_2_33 : decode cJ18_compareTo_2 33 = .ok (.aload_n 1, 1) := dk_43 (dk_at dksJ18_compareTo_2_1 9 rfl rfl)
theorem dJ18_compareTo_2_34 : decode cJ18_compareTo_2 34 = .ok (.iload 5, 2) := dk_21 5 (dk_at dksJ18_compareTo_2_1 10 rfl rfl)
theorem dJ18_compareTo_2_36 : decode cJ18_compareTo_2 36 = .ok (.invokestatic 50, 3) := dk_184 0 50 (dk_at dksJ18_compareTo_2_1 12 rfl rfl)
theorem dJ18_compareTo_2_39 : decode cJ18_compareTo_2 39 = .ok (.isub, 1) := dk_100 (dk_at dksJ18_compareTo_2_1 15 rfl rfl)
theorem dJ18_compareTo_2_40 : decode cJ18_compareTo_2 40 = .ok (.ireturn, 1) := dk_172 (dk_at dksJ18_compareTo_2_1 16 rfl rfl)
abbrev cJ18_getChar : ByteArray := prog_38_method_44_code
def yJ18_getChar : MethodName := ⟨RJ18, "getChar", "([BI)C"⟩
def dkwJ18_getChar_0 : List UInt8 := [42, 27, 51, 17, 0, 255, 126, 146, 172]
abbrev dktJ18_getChar_0 : List UInt8 := dkwJ18_getChar_0 ++ []
theorem dksJ18_getChar_0 : cJ18_getChar.data.toList.drop 0 = dktJ18_getChar_0 := by decide +kernel
theorem dJ18_getChar_0 : decode cJ18_getChar 0 = .ok (.aload_n 0, 1) := dk_42 (dk_at dksJ18_getChar_0 0 rfl rfl)
theorem dJ18_getChar_1 : decode cJ18_getChar 1 = .ok (.iload_n 1, 1) := dk_27 (dk_at dksJ18_getChar_0 1 rfl rfl)
theorem dJ18_getChar_2 : decode cJ18_getChar 2 = .ok (.baload, 1) := dk_51 (dk_at dksJ18_getChar_0 2 rfl rfl)
theorem dJ18_getChar_3 : decode cJ18_getChar 3 = .ok (.sipush 255, 3) := dk_17 0 255 (dk_at dksJ18_getChar_0 3 rfl rfl)
theorem dJ18_getChar_6 : decode cJ18_getChar 6 = .ok (.iand, 1) := dk_126 (dk_at dksJ18_getChar_0 6 rfl rfl)
theorem dJ18_getChar_7 : decode cJ18_getChar 7 = .ok (.i2c, 1) := dk_146 (dk_at dksJ18_getChar_0 7 rfl rfl)
theorem dJ18_getChar_8 : decode cJ18_getChar 8 = .ok (.ireturn, 1) := dk_172 (dk_at dksJ18_getChar_0 8 rfl rfl)
abbrev cJ18_compareToUTF16 : ByteArray := prog_38_method_16_code
def yJ18_compareToUTF16 : MethodName := ⟨RJ18, "compareToUTF16", "([B[B)I"⟩
def dkwJ18_compareToUTF16_0 : List UInt8 := [42, 184, 0, 54, 61, 43, 184, 0, 58, 62, 42, 43, 28, 29, 184, 0, 59, 172]
abbrev dktJ18_compareToUTF16_0 : List UInt8 := dkwJ18_compareToUTF16_0 ++ []
theorem dksJ18_compareToUTF16_0 : cJ18_compareToUTF16.data.toList.drop 0 = dktJ18_compareToUTF16_0 := by decide +kernel
theorem dJ18_compareToUTF16_0 : decode cJ18_compareToUTF16 0 = .ok (.aload_n 0, 1) := dk_42 (dk_at dksJ18_compareToUTF16_0 0 rfl rfl)
theorem dJ18_compareToUTF16_1 : decode cJ18_compareToUTF16 1 = .ok (.invokestatic 54, 3) := dk_184 0 54 (dk_at dksJ18_compareToUTF16_0 1 rfl rfl)
theorem dJ18_compareToUTF16_4 : decode cJ18_compareToUTF16 4 = .ok (.istore_n 2, 1) := dk_61 (dk_at dksJ18_compareToUTF16_0 4 rfl rfl)
theorem dJ18_compareToUTF16_5 : decode cJ18_compareToUTF16 5 = .ok (.aload_n 1, 1) := dk_43 (dk_at dksJ18_compareToUTF16_0 5 rfl rfl)
theorem dJ18_compareToUTF16_6 : decode cJ18_compareToUTF16 6 = .ok (.invokestatic 58, 3) := dk_184 0 58 (dk_at dksJ18_compareToUTF16_0 6 rfl rfl)
theorem dJ18_compareToUTF16_9 : decode cJ18_compareToUTF16 9 = .ok (.istore_n 3, 1) := dk_62 (dk_at dksJ18_compareToUTF16_0 9 rfl rfl)
theorem dJ18_compareToUTF16_10 : decode cJ18_compareToUTF16 10 = .ok (.aload_n 0, 1) := dk_42 (dk_at dksJ18_compareToUTF16_0 10 rfl rfl)
theorem dJ18_compareToUTF16_11 : decode cJ18_compareToUTF16 11 = .ok (.aload_n 1, 1) := dk_43 (dk_at dksJ18_compareToUTF16_0 11 rfl rfl)
theorem dJ18_compareToUTF16_12 : decode cJ18_compareToUTF16 12 = .ok (.iload_n 2, 1) := dk_28 (dk_at dksJ18_compareToUTF16_0 12 rfl rfl)
theorem dJ18_compareToUTF16_13 : decode cJ18_compareToUTF16 13 = .ok (.iload_n 3, 1) := dk_29 (dk_at dksJ18_compareToUTF16_0 13 rfl rfl)
theorem dJ18_compareToUTF16_14 : decode cJ18_compareToUTF16 14 = .ok (.invokestatic 59, 3) := dk_184 0 59 (dk_at dksJ18_compareToUTF16_0 14 rfl rfl)
theorem dJ18_compareToUTF16_17 : decode cJ18_compareToUTF16 17 = .ok (.ireturn, 1) := dk_172 (dk_at dksJ18_compareToUTF16_0 17 rfl rfl)
abbrev cJ18_length : ByteArray := prog_38_method_5_code
def yJ18_length : MethodName := ⟨RJ18, "length", "([B)I"⟩
theorem dJ18_length_0 : decode cJ18_length 0 = .ok (.aload_n 0, 1) := by decide +kernel
theorem dJ18_length_1 : decode cJ18_length 1 = .ok (.arraylength, 1) := by decide +kernel
theorem dJ18_length_2 : decode cJ18_length 2 = .ok (.ireturn, 1) := by decide +kernel
abbrev cJ18_compareToUTF16Values : ByteArray := prog_38_method_18_code
def yJ18_compareToUTF16Values : MethodName := ⟨RJ18, "compareToUTF16Values", "([B[BII)I"⟩
def dkwJ18_compareToUTF16Values_2 : List UInt8 := [132, 5, 1, 167, 255, 217, 28, 29, 100, 172]
abbrev dktJ18_compareToUTF16Values_2 : List UInt8 := dkwJ18_compareToUTF16Values_2 ++ []
def dkwJ18_compareToUTF16Values_1 : List UInt8 := [54, 6, 43, 21, 5, 184, 0, 65, 54, 7, 21, 6, 21, 7, 159, 0, 9, 21, 6, 21, 7, 100, 172]
abbrev dktJ18_compareToUTF16Values_1 : List UInt8 := dkwJ18_compareToUTF16Values_1 ++ dktJ18_compareToUTF16Values_2
def dkwJ18_compareToUTF16Values_0 : List UInt8 := [28, 29, 184, 0, 38, 54, 4, 3, 54, 5, 21, 5, 21, 4, 162, 0, 38, 42, 21, 5, 184, 0, 50]
abbrev dktJ18_compareToUTF16Values_0 : List UInt8 := dkwJ18_compareToUTF16Values_0 ++ dktJ18_compareToUTF16Values_1
theorem dksJ18_compareToUTF16Values_0 : cJ18_compareToUTF16Values.data.toList.drop 0 = dktJ18_compareToUTF16Values_0 := by decide +kernel
theorem dksJ18_compareToUTF16Values_1 : cJ18_compareToUTF16Values.data.toList.drop 23 = dktJ18_compareToUTF16Values_1 := dk_seg dksJ18_compareToUTF16Values_0 23 rfl rfl
theorem dksJ18_compareToUTF16Values_2 : cJ18_compareToUTF16Values.data.toList.drop 46 = dktJ18_compareToUTF16Values_2 := dk_seg dksJ18_compareToUTF16Values_1 23 rfl rfl
theorem dJ18_compareToUTF16Values_0 : decode cJ18_compareToUTF16Values 0 = .ok (.iload_n 2, 1) := dk_28 (dk_at dksJ18_compareToUTF16Values_0 0 rfl rfl)
theorem dJ18_compareToUTF16Values_1 : decode cJ18_compareToUTF16Values 1 = .ok (.iload_n 3, 1) := dk_29 (dk_at dksJ18_compareToUTF16Values_0 1 rfl rfl)
theorem dJ18_compareToUTF16Values_2 : decode cJ18_compareToUTF16Values 2 = .ok (.invokestatic 38, 3) := dk_184 0 38 (dk_at dksJ18_compareToUTF16Values_0 2 rfl rfl)
theorem dJ18_compareToUTF16Values_5 : decode cJ18_compareToUTF16Values 5 = .ok (.istore 4, 2) := dk_54 4 (dk_at dksJ18_compareToUTF16Values_0 5 rfl rfl)
theorem dJ18_compareToUTF16Values_7 : decode cJ18_compareToUTF16Values 7 = .ok (.iconst 0, 1) := dk_3 (dk_at dksJ18_compareToUTF16Values_0 7 rfl rfl)
theorem dJ18_compareToUTF16Values_8 : decode cJ18_compareToUTF16Values 8 = .ok (.istore 5, 2) := dk_54 5 (dk_at dksJ18_compareToUTF16Values_0 8 rfl rfl)
theorem dJ18_compareToUTF16Values_10 : decode cJ18_compareToUTF16Values 10 = .ok (.iload 5, 2) := dk_21 5 (dk_at dksJ18_compareToUTF16Values_0 10 rfl rfl)
theorem dJ18_compareToUTF16Values_12 : decode cJ18_compareToUTF16Values 12 = .ok (.iload 4, 2) := dk_21 4 (dk_at dksJ18_compareToUTF16Values_0 12 rfl rfl)
theorem dJ18_compareToUTF16Values_14 : decode cJ18_compareToUTF16Values 14 = .ok (.if_icmp .ge 38, 3) := dk_162 0 38 (dk_at dksJ18_compareToUTF16Values_0 14 rfl rfl)
theorem dJ18_compareToUTF16Values_17 : decode cJ18_compareToUTF16Values 17 = .ok (.aload_n 0, 1) := dk_42 (dk_at dksJ18_compareToUTF16Values_0 17 rfl rfl)
theorem dJ18_compareToUTF16Values_18 : decode cJ18_compareToUTF16Values 18 = .ok (.iload 5, 2) := dk_21 5 (dk_at dksJ18_compareToUTF16Values_0 18 rfl rfl)
theorem dJ18_compareToUTF16Values_20 : decode cJ18_compareToUTF16Values 20 = .ok (.invokestatic 50, 3) := dk_184 0 50 (dk_at dksJ18_compareToUTF16Values_0 20 rfl rfl)
theorem dJ18_compareToUTF16Values_23 : decode cJ18_compareToUTF16Values 23 = .ok (.istore 6, 2) := dk_54 6 (dk_at dksJ18_compareToUTF16Values_1 0 rfl rfl)
theorem dJ18_compareToUTF16Values_25 : decode cJ18_compareToUTF16Values 25 = .ok (.aload_n 1, 1) := dk_43 (dk_at dksJ18_compareToUTF16Values_1 2 rfl rfl)
theorem dJ18_compareToUTF16Values_26 : decode cJ18_compareToUTF16Values 26 = .ok (.iload 5, 2) := dk_21 5 (dk_at dksJ18_compareToUTF16Values_1 3 rfl rfl)
theorem dJ18_compareToUTF16Values_28 : decode cJ18_compareToUTF16Values 28 = .ok (.invokestatic 65, 3) := dk_184 0 65 (dk_at dksJ18_compareToUTF16Values_1 5 rfl rfl)
theorem dJ18_compareToUTF16Values_31 : decode cJ18_compareToUTF16Values 31 = .ok (.istore 7, 2) := dk_54 7 (dk_at dksJ18_compareToUTF16Values_1 8 rfl rfl)
theorem dJ18_compareToUTF16Values_33 : decode cJ18_compareToUTF16Values 33 = .ok (.iload 6, 2) := dk_21 6 (dk_at dksJ18_compareToUTF16Values_1 10 rfl rfl)
theorem dJ18_compareToUTF16Values_35 : decode cJ18_compareToUTF16Values 35 = .ok (.iload 7, 2) := dk_21 7 (dk_at dksJ18_compareToUTF16Values_1 12 rfl rfl)
theorem dJ18_compareToUTF16Values_37 : decode cJ18_compareToUTF16Values 37 = .ok (.if_icmp .eq 9, 3) := dk_159 0 9 (dk_at dksJ18_compareToUTF16Values_1 14 rfl rfl)
theorem dJ18_compareToUTF16Values_40 : decode cJ18_compareToUTF16Values 40 = .ok (.iload 6, 2) := dk_21 6 (dk_at dksJ18_compareToUTF16Values_1 17 rfl rfl)
theorem dJ18_compareToUTF16Values_42 : decode cJ18_compareToUTF16Values 42 = .ok (.iload 7, 2) := dk_21 7 (dk_at dksJ18_compareToUTF16Values_1 19 rfl rfl)
theorem dJ18_compareToUTF16Values_44 : decode cJ18_compareToUTF16Values 44 = .ok (.isub, 1) := dk_100 (dk_at dksJ18_compareToUTF16Values_1 21 rfl rfl)
theorem dJ18_compareToUTF16Values_45 : decode cJ18_compareToUTF16Values 45 = .ok (.ireturn, 1) := dk_172 (dk_at dksJ18_compareToUTF16Values_1 22 rfl rfl)
theorem dJ18_compareToUTF16Values_46 : decode cJ18_compareToUTF16Values 46 = .ok (.iinc 5 1, 3) := dk_132 5 1 (dk_at dksJ18_compareToUTF16Values_2 0 rfl rfl)
theorem dJ18_compareToUTF16Values_49 : decode cJ18_compareToUTF16Values 49 = .ok (.goto (-39), 3) := dk_167 255 217 (dk_at dksJ18_compareToUTF16Values_2 3 rfl rfl)
theorem dJ18_compareToUTF16Values_52 : decode cJ18_compareToUTF16Values 52 = .ok (.iload_n 2, 1) := dk_28 (dk_at dksJ18_compareToUTF16Values_2 6 rfl rfl)
theorem dJ18_compareToUTF16Values_53 : decode cJ18_compareToUTF16Values 53 = .ok (.iload_n 3, 1) := dk_29 (dk_at dksJ18_compareToUTF16Values_2 7 rfl rfl)
theorem dJ18_compareToUTF16Values_54 : decode cJ18_compareToUTF16Values 54 = .ok (.isub, 1) := dk_100 (dk_at dksJ18_compareToUTF16Values_2 8 rfl rfl)
theorem dJ18_compareToUTF16Values_55 : decode cJ18_compareToUTF16Values 55 = .ok (.ireturn, 1) := dk_172 (dk_at dksJ18_compareToUTF16Values_2 9 rfl rfl)
abbrev cJ18_compareToUTF16_2 : ByteArray := prog_38_method_17_code
def yJ18_compareToUTF16_2 : MethodName := ⟨RJ18, "compareToUTF16", "([B[BII)I"⟩
def dkwJ18_compareToUTF16_2_0 : List UInt8 := [28, 42, 184, 0, 54, 184, 0, 62, 29, 43, 184, 0, 58, 184, 0, 62, 42, 43, 28, 29, 184, 0, 59, 172]
abbrev dktJ18_compareToUTF16_2_0 : List UInt8 := dkwJ18_compareToUTF16_2_0 ++ []
theorem dksJ18_compareToUTF16_2_0 : cJ18_compareToUTF16_2.data.toList.drop 0 = dktJ18_compareToUTF16_2_0 := by decide +kernel
theorem dJ18_compareToUTF16_2_0 : decode cJ18_compareToUTF16_2 0 = .ok (.iload_n 2, 1) := dk_28 (dk_at dksJ18_compareToUTF16_2_0 0 rfl rfl)
theorem dJ18_compareToUTF16_2_1 : decode cJ18_compareToUTF16_2 1 = .ok (.aload_n 0, 1) := dk_42 (dk_at dksJ18_compareToUTF16_2_0 1 rfl rfl)
theorem dJ18_compareToUTF16_2_2 : decode cJ18_compareToUTF16_2 2 = .ok (.invokestatic 54, 3) := dk_184 0 54 (dk_at dksJ18_compareToUTF16_2_0 2 rfl rfl)
theorem dJ18_compareToUTF16_2_5 : decode cJ18_compareToUTF16_2 5 = .ok (.invokestatic 62, 3) := dk_184 0 62 (dk_at dksJ18_compareToUTF16_2_0 5 rfl rfl)
theorem dJ18_compareToUTF16_2_8 : decode cJ18_compareToUTF16_2 8 = .ok (.iload_n 3, 1) := dk_29 (dk_at dksJ18_compareToUTF16_2_0 8 rfl rfl)
theorem dJ18_compareToUTF16_2_9 : decode cJ18_compareToUTF16_2 9 = .ok (.aload_n 1, 1) := dk_43 (dk_at dksJ18_compareToUTF16_2_0 9 rfl rfl)
theorem dJ18_compareToUTF16_2_10 : decode cJ18_compareToUTF16_2 10 = .ok (.invokestatic 58, 3) := dk_184 0 58 (dk_at dksJ18_compareToUTF16_2_0 10 rfl rfl)
theorem dJ18_compareToUTF16_2_13 : decode cJ18_compareToUTF16_2 13 = .ok (.invokestatic 62, 3) := dk_184 0 62 (dk_at dksJ18_compareToUTF16_2_0 13 rfl rfl)
theorem dJ18_compareToUTF16_2_16 : decode cJ18_compareToUTF16_2 16 = .ok (.aload_n 0, 1) := dk_42 (dk_at dksJ18_compareToUTF16_2_0 16 rfl rfl)
theorem dJ18_compareToUTF16_2_17 : decode cJ18_compareToUTF16_2 17 = .ok (.aload_n 1, 1) := dk_43 (dk_at dksJ18_compareToUTF16_2_0 17 rfl rfl)
theorem dJ18_compareToUTF16_2_18 : decode cJ18_compareToUTF16_2 18 = .ok (.iload_n 2, 1) := dk_28 (dk_at dksJ18_compareToUTF16_2_0 18 rfl rfl)
theorem dJ18_compareToUTF16_2_19 : decode cJ18_compareToUTF16_2 19 = .ok (.iload_n 3, 1) := dk_29 (dk_at dksJ18_compareToUTF16_2_0 19 rfl rfl)
theorem dJ18_compareToUTF16_2_20 : decode cJ18_compareToUTF16_2 20 = .ok (.invokestatic 59, 3) := dk_184 0 59 (dk_at dksJ18_compareToUTF16_2_0 20 rfl rfl)
theorem dJ18_compareToUTF16_2_23 : decode cJ18_compareToUTF16_2 23 = .ok (.ireturn, 1) := dk_172 (dk_at dksJ18_compareToUTF16_2_0 23 rfl rfl)
abbrev cJ18_hashCode : ByteArray := prog_38_method_21_code
def yJ18_hashCode : MethodName := ⟨RJ18, "hashCode", "([B)I"⟩
def dkwJ18_hashCode_2 : List UInt8 := [3, 167, 0, 22, 42, 3, 51, 17, 0, 255, 126, 167, 0, 12, 42, 3, 42, 190, 3, 7, 184, 0, 84, 172]
abbrev dktJ18_hashCode_2 : List UInt8 := dkwJ18_hashCode_2 ++ []
def dkwJ18_hashCode_1 : List UInt8 := [171, 0, 0, 0, 0, 40, 0, 0, 0, 2, 0, 0, 0, 0, 0, 0, 0, 26, 0, 0, 0, 1, 0, 0, 0, 30]
abbrev dktJ18_hashCode_1 : List UInt8 := dkwJ18_hashCode_1 ++ dktJ18_hashCode_2
def dkwJ18_hashCode_0 : List UInt8 := [42, 190]
abbrev dktJ18_hashCode_0 : List UInt8 := dkwJ18_hashCode_0 ++ dktJ18_hashCode_1
theorem dksJ18_hashCode_0 : cJ18_hashCode.data.toList.drop 0 = dktJ18_hashCode_0 := by decide +kernel
theorem dksJ18_hashCode_1 : cJ18_hashCode.data.toList.drop 2 = dktJ18_hashCode_1 := dk_seg dksJ18_hashCode_0 2 rfl rfl
theorem dksJ18_hashCode_2 : cJ18_hashCode.data.toList.drop 28 = dktJ18_hashCode_2 := dk_seg dksJ18_hashCode_1 26 rfl rfl
theorem dJ18_hashCode_0 : decode cJ18_hashCode 0 = .ok (.aload_n 0, 1) := dk_42 (dk_at dksJ18_hashCode_0 0 rfl rfl)
theorem dJ18_hashCode_1 : decode cJ18_hashCode 1 = .ok (.arraylength, 1) := dk_190 (dk_at dksJ18_hashCode_0 1 rfl rfl)
theorem dJ18_hashCode_2 : decode cJ18_hashCode 2 = .ok (.lookupswitch 40 #[(0, 26), (1, 30)], 26) := by decide +kernel
theorem dJ18_hashCode_28 : decode cJ18_hashCode 28 = .ok (.iconst 0, 1) := dk_3 (dk_at dksJ18_hashCode_2 0 rfl rfl)
theorem dJ18_hashCode_29 : decode cJ18_hashCode 29 = .ok (.goto 22, 3) := dk_167 0 22 (dk_at dksJ18_hashCode_2 1 rfl rfl)
theorem dJ18_hashCode_32 : decode cJ18_hashCode 32 = .ok (.aload_n 0, 1) := dk_42 (dk_at dksJ18_hashCode_2 4 rfl rfl)
theorem dJ18_hashCode_33 : decode cJ18_hashCode 33 = .ok (.iconst 0, 1) := dk_3 (dk_at dksJ18_hashCode_2 5 rfl rfl)
theorem dJ18_hashCode_34 : decode cJ18_hashCode 34 = .ok (.baload, 1) := dk_51 (dk_at dksJ18_hashCode_2 6 rfl rfl)
theorem dJ18_hashCode_35 : decode cJ18_hashCode 35 = .ok (.sipush 255, 3) := dk_17 0 255 (dk_at dksJ18_hashCode_2 7 rfl rfl)
theorem dJ18_hashCode_38 : decode cJ18_hashCode 38 = .ok (.iand, 1) := dk_126 (dk_at dksJ18_hashCode_2 10 rfl rfl)
theorem dJ18_hashCode_39 : decode cJ18_hashCode 39 = .ok (.goto 12, 3) := dk_167 0 12 (dk_at dksJ18_hashCode_2 11 rfl rfl)
theorem dJ18_hashCode_42 : decode cJ18_hashCode 42 = .ok (.aload_n 0, 1) := dk_42 (dk_at dksJ18_hashCode_2 14 rfl rfl)
theorem dJ18_hashCode_43 : decode cJ18_hashCode 43 = .ok (.iconst 0, 1) := dk_3 (dk_at dksJ18_hashCode_2 15 rfl rfl)
theorem dJ18_hashCode_44 : decode cJ18_hashCode 44 = .ok (.aload_n 0, 1) := dk_42 (dk_at dksJ18_hashCode_2 16 rfl rfl)
theorem dJ18_hashCode_45 : decode cJ18_hashCode 45 = .ok (.arraylength, 1) := dk_190 (dk_at dksJ18_hashCode_2 17 rfl rfl)
theorem dJ18_hashCode_46 : decode cJ18_hashCode 46 = .ok (.iconst 0, 1) := dk_3 (dk_at dksJ18_hashCode_2 18 rfl rfl)
theorem dJ18_hashCode_47 : decode cJ18_hashCode 47 = .ok (.iconst 4, 1) := dk_7 (dk_at dksJ18_hashCode_2 19 rfl rfl)
theorem dJ18_hashCode_48 : decode cJ18_hashCode 48 = .ok (.invokestatic 84, 3) := dk_184 0 84 (dk_at dksJ18_hashCode_2 20 rfl rfl)
theorem dJ18_hashCode_51 : decode cJ18_hashCode 51 = .ok (.ireturn, 1) := dk_172 (dk_at dksJ18_hashCode_2 23 rfl rfl)
abbrev cJ18_fillNull : ByteArray := prog_38_method_48_code
def yJ18_fillNull : MethodName := ⟨RJ18, "fillNull", "([BII)V"⟩
def dkwJ18_fillNull_0 : List UInt8 := [42, 27, 28, 3, 184, 0, 236, 177]
abbrev dktJ18_fillNull_0 : List UInt8 := dkwJ18_fillNull_0 ++ []
theorem dksJ18_fillNull_0 : cJ18_fillNull.data.toList.drop 0 = dktJ18_fillNull_0 := by decide +kernel
theorem dJ18_fillNull_0 : decode cJ18_fillNull 0 = .ok (.aload_n 0, 1) := dk_42 (dk_at dksJ18_fillNull_0 0 rfl rfl)
theorem dJ18_fillNull_1 : decode cJ18_fillNull 1 = .ok (.iload_n 1, 1) := dk_27 (dk_at dksJ18_fillNull_0 1 rfl rfl)
theorem dJ18_fillNull_2 : decode cJ18_fillNull 2 = .ok (.iload_n 2, 1) := dk_28 (dk_at dksJ18_fillNull_0 2 rfl rfl)
theorem dJ18_fillNull_3 : decode cJ18_fillNull 3 = .ok (.iconst 0, 1) := dk_3 (dk_at dksJ18_fillNull_0 3 rfl rfl)
theorem dJ18_fillNull_4 : decode cJ18_fillNull 4 = .ok (.invokestatic 236, 3) := dk_184 0 236 (dk_at dksJ18_fillNull_0 4 rfl rfl)
theorem dJ18_fillNull_7 : decode cJ18_fillNull 7 = .ok (.return_, 1) := dk_177 (dk_at dksJ18_fillNull_0 7 rfl rfl)
abbrev cJ19_checkFromIndexSize : ByteArray := prog_72_method_13_code
def yJ19_checkFromIndexSize : MethodName := ⟨RJ19, "checkFromIndexSize", "(IIILjava/util/function/BiFunction;)I"⟩
def dkwJ19_checkFromIndexSize_1 : List UInt8 := [172]
abbrev dktJ19_checkFromIndexSize_1 : List UInt8 := dkwJ19_checkFromIndexSize_1 ++ []
def dkwJ19_checkFromIndexSize_0 : List UInt8 := [28, 26, 128, 27, 128, 155, 0, 10, 27, 28, 26, 100, 164, 0, 11, 45, 26, 27, 28, 184, 0, 103, 191, 26]
abbrev dktJ19_checkFromIndexSize_0 : List UInt8 := dkwJ19_checkFromIndexSize_0 ++ dktJ19_checkFromIndexSize_1
theorem dksJ19_checkFromIndexSize_0 : cJ19_checkFromIndexSize.data.toList.drop 0 = dktJ19_checkFromIndexSize_0 := by decide +kernel
theorem dksJ19_checkFromIndexSize_1 : cJ19_checkFromIndexSize.data.toList.drop 24 = dktJ19_checkFromIndexSize_1 := dk_seg dksJ19_checkFromIndexSize_0 24 rfl rfl
theorem dJ19_checkFromIndexSize_0 : decode cJ19_checkFromIndexSize 0 = .ok (.iload_n 2, 1) := dk_28 (dk_at dksJ19_checkFromIndexSize_0 0 rfl rfl)
theorem dJ19_checkFromIndexSize_1 : decode cJ19_checkFromIndexSize 1 = .ok (.iload_n 0, 1) := dk_26 (dk_at dksJ19_checkFromIndexSize_0 1 rfl rfl)
theorem dJ19_checkFromIndexSize_2 : decode cJ19_checkFromIndexSize 2 = .ok (.ior, 1) := dk_128 (dk_at dksJ19_checkFromIndexSize_0 2 rfl rfl)
theorem dJ19_checkFromIndexSize_3 : decode cJ19_checkFromIndexSize 3 = .ok (.iload_n 1, 1) := dk_27 (dk_at dksJ19_checkFromIndexSize_0 3 rfl rfl)
theorem dJ19_checkFromIndexSize_4 : decode cJ19_checkFromIndexSize 4 = .ok (.ior, 1) := dk_128 (dk_at dksJ19_checkFromIndexSize_0 4 rfl rfl)
theorem dJ19_checkFromIndexSize_5 : decode cJ19_checkFromIndexSize 5 = .ok (.ifCond .lt 10, 3) := dk_155 0 10 (dk_at dksJ19_checkFromIndexSize_0 5 rfl rfl)
theorem dJ19_checkFromIndexSize_8 : decode cJ19_checkFromIndexSize 8 = .ok (.iload_n 1, 1) := dk_27 (dk_at dksJ19_checkFromIndexSize_0 8 rfl rfl)
theorem dJ19_checkFromIndexSize_9 : decode cJ19_checkFromIndexSize 9 = .ok (.iload_n 2, 1) := dk_28 (dk_at dksJ19_checkFromIndexSize_0 9 rfl rfl)
theorem dJ19_checkFromIndexSize_10 : decode cJ19_checkFromIndexSize 10 = .ok (.iload_n 0, 1) := dk_26 (dk_at dksJ19_checkFromIndexSize_0 10 rfl rfl)
theorem dJ19_checkFromIndexSize_11 : decode cJ19_checkFromIndexSize 11 = .ok (.isub, 1) := dk_100 (dk_at dksJ19_checkFromIndexSize_0 11 rfl rfl)
theorem dJ19_checkFromIndexSize_12 : decode cJ19_checkFromIndexSize 12 = .ok (.if_icmp .le 11, 3) := dk_164 0 11 (dk_at dksJ19_checkFromIndexSize_0 12 rfl rfl)
theorem dJ19_checkFromIndexSize_15 : decode cJ19_checkFromIndexSize 15 = .ok (.aload_n 3, 1) := dk_45 (dk_at dksJ19_checkFromIndexSize_0 15 rfl rfl)
theorem dJ19_checkFromIndexSize_16 : decode cJ19_checkFromIndexSize 16 = .ok (.iload_n 0, 1) := dk_26 (dk_at dksJ19_checkFromIndexSize_0 16 rfl rfl)
theorem dJ19_checkFromIndexSize_17 : decode cJ19_checkFromIndexSize 17 = .ok (.iload_n 1, 1) := dk_27 (dk_at dksJ19_checkFromIndexSize_0 17 rfl rfl)
theorem dJ19_checkFromIndexSize_18 : decode cJ19_checkFromIndexSize 18 = .ok (.iload_n 2, 1) := dk_28 (dk_at dksJ19_checkFromIndexSize_0 18 rfl rfl)
theorem dJ19_checkFromIndexSize_19 : decode cJ19_checkFromIndexSize 19 = .ok (.invokestatic 103, 3) := dk_184 0 103 (dk_at dksJ19_checkFromIndexSize_0 19 rfl rfl)
theorem dJ19_checkFromIndexSize_22 : decode cJ19_checkFromIndexSize 22 = .ok (.athrow, 1) := dk_191 (dk_at dksJ19_checkFromIndexSize_0 22 rfl rfl)
theorem dJ19_checkFromIndexSize_23 : decode cJ19_checkFromIndexSize 23 = .ok (.iload_n 0, 1) := dk_26 (dk_at dksJ19_checkFromIndexSize_0 23 rfl rfl)
theorem dJ19_checkFromIndexSize_24 : decode cJ19_checkFromIndexSize 24 = .ok (.ireturn, 1) := dk_172 (dk_at dksJ19_checkFromIndexSize_1 0 rfl rfl)
abbrev cJ19_checkIndex : ByteArray := prog_72_method_11_code
def yJ19_checkIndex : MethodName := ⟨RJ19, "checkIndex", "(IILjava/util/function/BiFunction;)I"⟩
def dkwJ19_checkIndex_0 : List UInt8 := [26, 155, 0, 8, 26, 27, 161, 0, 10, 44, 26, 27, 184, 0, 95, 191, 26, 172]
abbrev dktJ19_checkIndex_0 : List UInt8 := dkwJ19_checkIndex_0 ++ []
theorem dksJ19_checkIndex_0 : cJ19_checkIndex.data.toList.drop 0 = dktJ19_checkIndex_0 := by decide +kernel
theorem dJ19_checkIndex_0 : decode cJ19_checkIndex 0 = .ok (.iload_n 0, 1) := dk_26 (dk_at dksJ19_checkIndex_0 0 rfl rfl)
theorem dJ19_checkIndex_1 : decode cJ19_checkIndex 1 = .ok (.ifCond .lt 8, 3) := dk_155 0 8 (dk_at dksJ19_checkIndex_0 1 rfl rfl)
theorem dJ19_checkIndex_4 : decode cJ19_checkIndex 4 = .ok (.iload_n 0, 1) := dk_26 (dk_at dksJ19_checkIndex_0 4 rfl rfl)
theorem dJ19_checkIndex_5 : decode cJ19_checkIndex 5 = .ok (.iload_n 1, 1) := dk_27 (dk_at dksJ19_checkIndex_0 5 rfl rfl)
theorem dJ19_checkIndex_6 : decode cJ19_checkIndex 6 = .ok (.if_icmp .lt 10, 3) := dk_161 0 10 (dk_at dksJ19_checkIndex_0 6 rfl rfl)
theorem dJ19_checkIndex_9 : decode cJ19_checkIndex 9 = .ok (.aload_n 2, 1) := dk_44 (dk_at dksJ19_checkIndex_0 9 rfl rfl)
theorem dJ19_checkIndex_10 : decode cJ19_checkIndex 10 = .ok (.iload_n 0, 1) := dk_26 (dk_at dksJ19_checkIndex_0 10 rfl rfl)
theorem dJ19_checkIndex_11 : decode cJ19_checkIndex 11 = .ok (.iload_n 1, 1) := dk_27 (dk_at dksJ19_checkIndex_0 11 rfl rfl)
theorem dJ19_checkIndex_12 : decode cJ19_checkIndex 12 = .ok (.invokestatic 95, 3) := dk_184 0 95 (dk_at dksJ19_checkIndex_0 12 rfl rfl)
theorem dJ19_checkIndex_15 : decode cJ19_checkIndex 15 = .ok (.athrow, 1) := dk_191 (dk_at dksJ19_checkIndex_0 15 rfl rfl)
theorem dJ19_checkIndex_16 : decode cJ19_checkIndex 16 = .ok (.iload_n 0, 1) := dk_26 (dk_at dksJ19_checkIndex_0 16 rfl rfl)
theorem dJ19_checkIndex_17 : decode cJ19_checkIndex 17 = .ok (.ireturn, 1) := dk_172 (dk_at dksJ19_checkIndex_0 17 rfl rfl)
abbrev cJ19_checkFromToIndex : ByteArray := prog_72_method_12_code
def yJ19_checkFromToIndex : MethodName := ⟨RJ19, "checkFromToIndex", "(IIILjava/util/function/BiFunction;)I"⟩
def dkwJ19_checkFromToIndex_0 : List UInt8 := [26, 155, 0, 13, 26, 27, 163, 0, 8, 27, 28, 164, 0, 11, 45, 26, 27, 28, 184, 0, 99, 191, 26, 172]
abbrev dktJ19_checkFromToIndex_0 : List UInt8 := dkwJ19_checkFromToIndex_0 ++ []
theorem dksJ19_checkFromToIndex_0 : cJ19_checkFromToIndex.data.toList.drop 0 = dktJ19_checkFromToIndex_0 := by decide +kernel
theorem dJ19_checkFromToIndex_0 : decode cJ19_checkFromToIndex 0 = .ok (.iload_n 0, 1) := dk_26 (dk_at dksJ19_checkFromToIndex_0 0 rfl rfl)
theorem dJ19_checkFromToIndex_1 : decode cJ19_checkFromToIndex 1 = .ok (.ifCond .lt 13, 3) := dk_155 0 13 (dk_at dksJ19_checkFromToIndex_0 1 rfl rfl)
theorem dJ19_checkFromToIndex_4 : decode cJ19_checkFromToIndex 4 = .ok (.iload_n 0, 1) := dk_26 (dk_at dksJ19_checkFromToIndex_0 4 rfl rfl)
theorem dJ19_checkFromToIndex_5 : decode cJ19_checkFromToIndex 5 = .ok (.iload_n 1, 1) := dk_27 (dk_at dksJ19_checkFromToIndex_0 5 rfl rfl)
theorem dJ19_checkFromToIndex_6 : decode cJ19_checkFromToIndex 6 = .ok (.if_icmp .gt 8, 3) := dk_163 0 8 (dk_at dksJ19_checkFromToIndex_0 6 rfl rfl)
theorem dJ19_checkFromToIndex_9 : decode cJ19_checkFromToIndex 9 = .ok (.iload_n 1, 1) := dk_27 (dk_at dksJ19_checkFromToIndex_0 9 rfl rfl)
theorem dJ19_checkFromToIndex_10 : decode cJ19_checkFromToIndex 10 = .ok (.iload_n 2, 1) := dk_28 (dk_at dksJ19_checkFromToIndex_0 10 rfl rfl)
theorem dJ19_checkFromToIndex_11 : decode cJ19_checkFromToIndex 11 = .ok (.if_icmp .le 11, 3) := dk_164 0 11 (dk_at dksJ19_checkFromToIndex_0 11 rfl rfl)
theorem dJ19_checkFromToIndex_14 : decode cJ19_checkFromToIndex 14 = .ok (.aload_n 3, 1) := dk_45 (dk_at dksJ19_checkFromToIndex_0 14 rfl rfl)
theorem dJ19_checkFromToIndex_15 : decode cJ19_checkFromToIndex 15 = .ok (.iload_n 0, 1) := dk_26 (dk_at dksJ19_checkFromToIndex_0 15 rfl rfl)
theorem dJ19_checkFromToIndex_16 : decode cJ19_checkFromToIndex 16 = .ok (.iload_n 1, 1) := dk_27 (dk_at dksJ19_checkFromToIndex_0 16 rfl rfl)
theorem dJ19_checkFromToIndex_17 : decode cJ19_checkFromToIndex 17 = .ok (.iload_n 2, 1) := dk_28 (dk_at dksJ19_checkFromToIndex_0 17 rfl rfl)
theorem dJ19_checkFromToIndex_18 : decode cJ19_checkFromToIndex 18 = .ok (.invokestatic 99, 3) := dk_184 0 99 (dk_at dksJ19_checkFromToIndex_0 18 rfl rfl)
theorem dJ19_checkFromToIndex_21 : decode cJ19_checkFromToIndex 21 = .ok (.athrow, 1) := dk_191 (dk_at dksJ19_checkFromToIndex_0 21 rfl rfl)
theorem dJ19_checkFromToIndex_22 : decode cJ19_checkFromToIndex 22 = .ok (.iload_n 0, 1) := dk_26 (dk_at dksJ19_checkFromToIndex_0 22 rfl rfl)
theorem dJ19_checkFromToIndex_23 : decode cJ19_checkFromToIndex 23 = .ok (.ireturn, 1) := dk_172 (dk_at dksJ19_checkFromToIndex_0 23 rfl rfl)
abbrev cJ21_init : ByteArray := prog_33_method_1_code
def yJ21_init : MethodName := ⟨RJ21, "<init>", "()V"⟩
theorem dJ21_init_0 : decode cJ21_init 0 = .ok (.aload_n 0, 1) := by decide +kernel
theorem dJ21_init_1 : decode cJ21_init 1 = .ok (.invokespecial 1, 3) := by decide +kernel
theorem dJ21_init_4 : decode cJ21_init 4 = .ok (.return_, 1) := by decide +kernel
abbrev cJ22_stringSize : ByteArray := prog_28_method_13_code
def yJ22_stringSize : MethodName := ⟨RJ22, "stringSize", "(I)I"⟩
def dkwJ22_stringSize_1 : List UInt8 := [164, 0, 7, 29, 27, 96, 172, 16, 10, 28, 104, 61, 132, 3, 1, 167, 255, 233, 16, 10, 27, 96, 172]
abbrev dktJ22_stringSize_1 : List UInt8 := dkwJ22_stringSize_1 ++ []
def dkwJ22_stringSize_0 : List UInt8 := [4, 60, 26, 155, 0, 8, 3, 60, 26, 116, 59, 16, 246, 61, 4, 62, 29, 16, 10, 162, 0, 23, 26, 28]
abbrev dktJ22_stringSize_0 : List UInt8 := dkwJ22_stringSize_0 ++ dktJ22_stringSize_1
theorem dksJ22_stringSize_0 : cJ22_stringSize.data.toList.drop 0 = dktJ22_stringSize_0 := by decide +kernel
theorem dksJ22_stringSize_1 : cJ22_stringSize.data.toList.drop 24 = dktJ22_stringSize_1 := dk_seg dksJ22_stringSize_0 24 rfl rfl
theorem dJ22_stringSize_0 : decode cJ22_stringSize 0 = .ok (.iconst 1, 1) := dk_4 (dk_at dksJ22_stringSize_0 0 rfl rfl)
theorem dJ22_stringSize_1 : decode cJ22_stringSize 1 = .ok (.istore_n 1, 1) := dk_60 (dk_at dksJ22_stringSize_0 1 rfl rfl)
theorem dJ22_stringSize_2 : decode cJ22_stringSize 2 = .ok (.iload_n 0, 1) := dk_26 (dk_at dksJ22_stringSize_0 2 rfl rfl)
theorem dJ22_stringSize_3 : decode cJ22_stringSize 3 = .ok (.ifCond .lt 8, 3) := dk_155 0 8 (dk_at dksJ22_stringSize_0 3 rfl rfl)
theorem dJ22_stringSize_6 : decode cJ22_stringSize 6 = .ok (.iconst 0, 1) := dk_3 (dk_at dksJ22_stringSize_0 6 rfl rfl)
theorem dJ22_stringSize_7 : decode cJ22_stringSize 7 = .ok (.istore_n 1, 1) := dk_60 (dk_at dksJ22_stringSize_0 7 rfl rfl)
theorem dJ22_stringSize_8 : decode cJ22_stringSize 8 = .ok (.iload_n 0, 1) := dk_26 (dk_at dksJ22_stringSize_0 8 rfl rfl)
theorem dJ22_stringSize_9 : decode cJ22_stringSize 9 = .ok (.ineg, 1) := dk_116 (dk_at dksJ22_stringSize_0 9 rfl rfl)
theorem dJ22_stringSize_10 : decode cJ22_stringSize 10 = .ok (.istore_n 0, 1) := dk_59 (dk_at dksJ22_stringSize_0 10 rfl rfl)
theorem dJ22_stringSize_11 : decode cJ22_stringSize 11 = .ok (.bipush (-10), 2) := dk_16 246 (dk_at dksJ22_stringSize_0 11 rfl rfl)
theorem dJ22_stringSize_13 : decode cJ22_stringSize 13 = .ok (.istore_n 2, 1) := dk_61 (dk_at dksJ22_stringSize_0 13 rfl rfl)
theorem dJ22_stringSize_14 : decode cJ22_stringSize 14 = .ok (.iconst 1, 1) := dk_4 (dk_at dksJ22_stringSize_0 14 rfl rfl)
theorem dJ22_stringSize_15 : decode cJ22_stringSize 15 = .ok (.istore_n 3, 1) := dk_62 (dk_at dksJ22_stringSize_0 15 rfl rfl)
theorem dJ22_stringSize_16 : decode cJ22_stringSize 16 = .ok (.iload_n 3, 1) := dk_29 (dk_at dksJ22_stringSize_0 16 rfl rfl)
theorem dJ22_stringSize_17 : decode cJ22_stringSize 17 = .ok (.bipush 10, 2) := dk_16 10 (dk_at dksJ22_stringSize_0 17 rfl rfl)
theorem dJ22_stringSize_19 : decode cJ22_stringSize 19 = .ok (.if_icmp .ge 23, 3) := dk_162 0 23 (dk_at dksJ22_stringSize_0 19 rfl rfl)
theorem dJ22_stringSize_22 : decode cJ22_stringSize 22 = .ok (.iload_n 0, 1) := dk_26 (dk_at dksJ22_stringSize_0 22 rfl rfl)
theorem dJ22_stringSize_23 : decode cJ22_stringSize 23 = .ok (.iload_n 2, 1) := dk_28 (dk_at dksJ22_stringSize_0 23 rfl rfl)
theorem dJ22_stringSize_24 : decode cJ22_stringSize 24 = .ok (.if_icmp .le 7, 3) := dk_164 0 7 (dk_at dksJ22_stringSize_1 0 rfl rfl)
theorem dJ22_stringSize_27 : decode cJ22_stringSize 27 = .ok (.iload_n 3, 1) := dk_29 (dk_at dksJ22_stringSize_1 3 rfl rfl)
theorem dJ22_stringSize_28 : decode cJ22_stringSize 28 = .ok (.iload_n 1, 1) := dk_27 (dk_at dksJ22_stringSize_1 4 rfl rfl)
theorem dJ22_stringSize_29 : decode cJ22_stringSize 29 = .ok (.iadd, 1) := dk_96 (dk_at dksJ22_stringSize_1 5 rfl rfl)
theorem dJ22_stringSize_30 : decode cJ22_stringSize 30 = .ok (.ireturn, 1) := dk_172 (dk_at dksJ22_stringSize_1 6 rfl rfl)
theorem dJ22_stringSize_31 : decode cJ22_stringSize 31 = .ok (.bipush 10, 2) := dk_16 10 (dk_at dksJ22_stringSize_1 7 rfl rfl)
theorem dJ22_stringSize_33 : decode cJ22_stringSize 33 = .ok (.iload_n 2, 1) := dk_28 (dk_at dksJ22_stringSize_1 9 rfl rfl)
theorem dJ22_stringSize_34 : decode cJ22_stringSize 34 = .ok (.imul, 1) := dk_104 (dk_at dksJ22_stringSize_1 10 rfl rfl)
theorem dJ22_stringSize_35 : decode cJ22_stringSize 35 = .ok (.istore_n 2, 1) := dk_61 (dk_at dksJ22_stringSize_1 11 rfl rfl)
theorem dJ22_stringSize_36 : decode cJ22_stringSize 36 = .ok (.iinc 3 1, 3) := dk_132 3 1 (dk_at dksJ22_stringSize_1 12 rfl rfl)
theorem dJ22_stringSize_39 : decode cJ22_stringSize 39 = .ok (.goto (-23), 3) := dk_167 255 233 (dk_at dksJ22_stringSize_1 15 rfl rfl)
theorem dJ22_stringSize_42 : decode cJ22_stringSize 42 = .ok (.bipush 10, 2) := dk_16 10 (dk_at dksJ22_stringSize_1 18 rfl rfl)
theorem dJ22_stringSize_44 : decode cJ22_stringSize 44 = .ok (.iload_n 1, 1) := dk_27 (dk_at dksJ22_stringSize_1 20 rfl rfl)
theorem dJ22_stringSize_45 : decode cJ22_stringSize 45 = .ok (.iadd, 1) := dk_96 (dk_at dksJ22_stringSize_1 21 rfl rfl)
theorem dJ22_stringSize_46 : decode cJ22_stringSize 46 = .ok (.ireturn, 1) := dk_172 (dk_at dksJ22_stringSize_1 22 rfl rfl)
abbrev cJ22_getChars : ByteArray := prog_28_method_12_code
def yJ22_getChars : MethodName := ⟨RJ22, "getChars", "(II[B)I"⟩
def dkwJ22_getChars_5 : List UInt8 := [16, 45, 84, 21, 5, 172]
abbrev dktJ22_getChars_5 : List UInt8 := dkwJ22_getChars_5 ++ []
def dkwJ22_getChars_4 : List UInt8 := [132, 5, 255, 21, 5, 178, 0, 87, 26, 116, 51, 84, 21, 6, 153, 0, 12, 44, 132, 5, 255, 21, 5]
abbrev dktJ22_getChars_4 : List UInt8 := dkwJ22_getChars_4 ++ dktJ22_getChars_5
def dkwJ22_getChars_3 : List UInt8 := [167, 255, 209, 44, 132, 5, 255, 21, 5, 178, 0, 83, 26, 116, 51, 84, 26, 16, 247, 162, 0, 16, 44]
abbrev dktJ22_getChars_3 : List UInt8 := dkwJ22_getChars_3 ++ dktJ22_getChars_4
def dkwJ22_getChars_2 : List UInt8 := [21, 5, 178, 0, 83, 21, 4, 51, 84, 44, 132, 5, 255, 21, 5, 178, 0, 87, 21, 4, 51, 84]
abbrev dktJ22_getChars_2 : List UInt8 := dkwJ22_getChars_2 ++ dktJ22_getChars_3
def dkwJ22_getChars_1 : List UInt8 := [16, 156, 163, 0, 47, 26, 16, 100, 108, 62, 29, 16, 100, 104, 26, 100, 54, 4, 29, 59, 44, 132, 5, 255]
abbrev dktJ22_getChars_1 : List UInt8 := dkwJ22_getChars_1 ++ dktJ22_getChars_2
def dkwJ22_getChars_0 : List UInt8 := [27, 54, 5, 26, 156, 0, 7, 4, 167, 0, 4, 3, 54, 6, 21, 6, 154, 0, 6, 26, 116, 59, 26]
abbrev dktJ22_getChars_0 : List UInt8 := dkwJ22_getChars_0 ++ dktJ22_getChars_1
theorem dksJ22_getChars_0 : cJ22_getChars.data.toList.drop 0 = dktJ22_getChars_0 := by decide +kernel
theorem dksJ22_getChars_1 : cJ22_getChars.data.toList.drop 23 = dktJ22_getChars_1 := dk_seg dksJ22_getChars_0 23 rfl rfl
theorem dksJ22_getChars_2 : cJ22_getChars.data.toList.drop 47 = dktJ22_getChars_2 := dk_seg dksJ22_getChars_1 24 rfl rfl
theorem dksJ22_getChars_3 : cJ22_getChars.data.toList.drop 69 = dktJ22_getChars_3 := dk_seg dksJ22_getChars_2 22 rfl rfl
theorem dksJ22_getChars_4 : cJ22_getChars.data.toList.drop 92 = dktJ22_getChars_4 := dk_seg dksJ22_getChars_3 23 rfl rfl
theorem dksJ22_getChars_5 : cJ22_getChars.data.toList.drop 115 = dktJ22_getChars_5 := dk_seg dksJ22_getChars_4 23 rfl rfl
theorem dJ22_getChars_0 : decode cJ22_getChars 0 = .ok (.iload_n 1, 1) := dk_27 (dk_at dksJ22_getChars_0 0 rfl rfl)
theorem dJ22_getChars_1 : decode cJ22_getChars 1 = .ok (.istore 5, 2) := dk_54 5 (dk_at dksJ22_getChars_0 1 rfl rfl)
theorem dJ22_getChars_3 : decode cJ22_getChars 3 = .ok (.iload_n 0, 1) := dk_26 (dk_at dksJ22_getChars_0 3 rfl rfl)
theorem dJ22_getChars_4 : decode cJ22_getChars 4 = .ok (.ifCond .ge 7, 3) := dk_156 0 7 (dk_at dksJ22_getChars_0 4 rfl rfl)
theorem dJ22_getChars_7 : decode cJ22_getChars 7 = .ok (.iconst 1, 1) := dk_4 (dk_at dksJ22_getChars_0 7 rfl rfl)
theorem dJ22_getChars_8 : decode cJ22_getChars 8 = .ok (.goto 4, 3) := dk_167 0 4 (dk_at dksJ22_getChars_0 8 rfl rfl)
theorem dJ22_getChars_11 : decode cJ22_getChars 11 = .ok (.iconst 0, 1) := dk_3 (dk_at dksJ22_getChars_0 11 rfl rfl)
theorem dJ22_getChars_12 : decode cJ22_getChars 12 = .ok (.istore 6, 2) := dk_54 6 (dk_at dksJ22_getChars_0 12 rfl rfl)
theorem dJ22_getChars_14 : decode cJ22_getChars 14 = .ok (.iload 6, 2) := dk_21 6 (dk_at dksJ22_getChars_0 14 rfl rfl)
theorem dJ22_getChars_16 : decode cJ22_getChars 16 = .ok (.ifCond .ne 6, 3) := dk_154 0 6 (dk_at dksJ22_getChars_0 16 rfl rfl)
theorem dJ22_getChars_19 : decode cJ22_getChars 19 = .ok (.iload_n 0, 1) := dk_26 (dk_at dksJ22_getChars_0 19 rfl rfl)
theorem dJ22_getChars_20 : decode cJ22_getChars 20 = .ok (.ineg, 1) := dk_116 (dk_at dksJ22_getChars_0 20 rfl rfl)
theorem dJ22_getChars_21 : decode cJ22_getChars 21 = .ok (.istore_n 0, 1) := dk_59 (dk_at dksJ22_getChars_0 21 rfl rfl)
theorem dJ22_getChars_22 : decode cJ22_getChars 22 = .ok (.iload_n 0, 1) := dk_26 (dk_at dksJ22_getChars_0 22 rfl rfl)
theorem dJ22_getChars_23 : decode cJ22_getChars 23 = .ok (.bipush (-100), 2) := dk_16 156 (dk_at dksJ22_getChars_1 0 rfl rfl)
theorem dJ22_getChars_25 : decode cJ22_getChars 25 = .ok (.if_icmp .gt 47, 3) := dk_163 0 47 (dk_at dksJ22_getChars_1 2 rfl rfl)
theorem dJ22_getChars_28 : decode cJ22_getChars 28 = .ok (.iload_n 0, 1) := dk_26 (dk_at dksJ22_getChars_1 5 rfl rfl)
theorem dJ22_getChars_29 : decode cJ22_getChars 29 = .ok (.bipush 100, 2) := dk_16 100 (dk_at dksJ22_getChars_1 6 rfl rfl)
theorem dJ22_getChars_31 : decode cJ22_getChars 31 = .ok (.idiv, 1) := dk_108 (dk_at dksJ22_getChars_1 8 rfl rfl)
theorem dJ22_getChars_32 : decode cJ22_getChars 32 = .ok (.istore_n 3, 1) := dk_62 (dk_at dksJ22_getChars_1 9 rfl rfl)
theorem dJ22_getChars_33 : decode cJ22_getChars 33 = .ok (.iload_n 3, 1) := dk_29 (dk_at dksJ22_getChars_1 10 rfl rfl)
theorem dJ22_getChars_34 : decode cJ22_getChars 34 = .ok (.bipush 100, 2) := dk_16 100 (dk_at dksJ22_getChars_1 11 rfl rfl)
theorem dJ22_getChars_36 : decode cJ22_getChars 36 = .ok (.imul, 1) := dk_104 (dk_at dksJ22_getChars_1 13 rfl rfl)
theorem dJ22_getChars_37 : decode cJ22_getChars 37 = .ok (.iload_n 0, 1) := dk_26 (dk_at dksJ22_getChars_1 14 rfl rfl)
theorem dJ22_getChars_38 : decode cJ22_getChars 38 = .ok (.isub, 1) := dk_100 (dk_at dksJ22_getChars_1 15 rfl rfl)
theorem dJ22_getChars_39 : decode cJ22_getChars 39 = .ok (.istore 4, 2) := dk_54 4 (dk_at dksJ22_getChars_1 16 rfl rfl)
theorem dJ22_getChars_41 : decode cJ22_getChars 41 = .ok (.iload_n 3, 1) := dk_29 (dk_at dksJ22_getChars_1 18 rfl rfl)
theorem dJ22_getChars_42 : decode cJ22_getChars 42 = .ok (.istore_n 0, 1) := dk_59 (dk_at dksJ22_getChars_1 19 rfl rfl)
theorem dJ22_getChars_43 : decode cJ22_getChars 43 = .ok (.aload_n 2, 1) := dk_44 (dk_at dksJ22_getChars_1 20 rfl rfl)
theorem dJ22_getChars_44 : decode cJ22_getChars 44 = .ok (.iinc 5 (-1), 3) := dk_132 5 255 (dk_at dksJ22_getChars_1 21 rfl rfl)
theorem dJ22_getChars_47 : decode cJ22_getChars 47 = .ok (.iload 5, 2) := dk_21 5 (dk_at dksJ22_getChars_2 0 rfl rfl)
theorem dJ22_getChars_49 : decode cJ22_getChars 49 = .ok (.getstatic 83, 3) := dk_178 0 83 (dk_at dksJ22_getChars_2 2 rfl rfl)
theorem dJ22_getChars_52 : decode cJ22_getChars 52 = .ok (.iload 4, 2) := dk_21 4 (dk_at dksJ22_getChars_2 5 rfl rfl)
theorem dJ22_getChars_54 : decode cJ22_getChars 54 = .ok (.baload, 1) := dk_51 (dk_at dksJ22_getChars_2 7 rfl rfl)
theorem dJ22_getChars_55 : decode cJ22_getChars 55 = .ok (.bastore, 1) := dk_84 (dk_at dksJ22_getChars_2 8 rfl rfl)
theorem dJ22_getChars_56 : decode cJ22_getChars 56 = .ok (.aload_n 2, 1) := dk_44 (dk_at dksJ22_getChars_2 9 rfl rfl)
theorem dJ22_getChars_57 : decode cJ22_getChars 57 = .ok (.iinc 5 (-1), 3) := dk_132 5 255 (dk_at dksJ22_getChars_2 10 rfl rfl)
theorem dJ22_getChars_60 : decode cJ22_getChars 60 = .ok (.iload 5, 2) := dk_21 5 (dk_at dksJ22_getChars_2 13 rfl rfl)
theorem dJ22_getChars_62 : decode cJ22_getChars 62 = .ok (.getstatic 87, 3) := dk_178 0 87 (dk_at dksJ22_getChars_2 15 rfl rfl)
theorem dJ22_getChars_65 : decode cJ22_getChars 65 = .ok (.iload 4, 2) := dk_21 4 (dk_at dksJ22_getChars_2 18 rfl rfl)
theorem dJ22_getChars_67 : decode cJ22_getChars 67 = .ok (.baload, 1) := dk_51 (dk_at dksJ22_getChars_2 20 rfl rfl)
theorem dJ22_getChars_68 : decode cJ22_getChars 68 = .ok (.bastore, 1) := dk_84 (dk_at dksJ22_getChars_2 21 rfl rfl)
theorem dJ22_getChars_69 : decode cJ22_getChars 69 = .ok (.goto (-47), 3) := dk_167 255 209 (dk_at dksJ22_getChars_3 0 rfl rfl)
theorem dJ22_getChars_72 : decode cJ22_getChars 72 = .ok (.aload_n 2, 1) := dk_44 (dk_at dksJ22_getChars_3 3 rfl rfl)
theorem dJ22_getChars_73 : decode cJ22_getChars 73 = .ok (.iinc 5 (-1), 3) := dk_132 5 255 (dk_at dksJ22_getChars_3 4 rfl rfl)
theorem dJ22_getChars_76 : decode cJ22_getChars 76 = .ok (.iload 5, 2) := dk_21 5 (dk_at dksJ22_getChars_3 7 rfl rfl)
theorem dJ22_getChars_78 : decode cJ22_getChars 78 = .ok (.getstatic 83, 3) := dk_178 0 83 (dk_at dksJ22_getChars_3 9 rfl rfl)
theorem dJ22_getChars_81 : decode cJ22_getChars 81 = .ok (.iload_n 0, 1) := dk_26 (dk_at dksJ22_getChars_3 12 rfl rfl)
theorem dJ22_getChars_82 : decode cJ22_getChars 82 = .ok (.ineg, 1) := dk_116 (dk_at dksJ22_getChars_3 13 rfl rfl)
theorem dJ22_getChars_83 : decode cJ22_getChars 83 = .ok (.baload, 1) := dk_51 (dk_at dksJ22_getChars_3 14 rfl rfl)
theorem dJ22_getChars_84 : decode cJ22_getChars 84 = .ok (.bastore, 1) := dk_84 (dk_at dksJ22_getChars_3 15 rfl rfl)
theorem dJ22_getChars_85 : decode cJ22_getChars 85 = .ok (.iload_n 0, 1) := dk_26 (dk_at dksJ22_getChars_3 16 rfl rfl)
theorem dJ22_getChars_86 : decode cJ22_getChars 86 = .ok (.bipush (-9), 2) := dk_16 247 (dk_at dksJ22_getChars_3 17 rfl rfl)
theorem dJ22_getChars_88 : decode cJ22_getChars 88 = .ok (.if_icmp .ge 16, 3) := dk_162 0 16 (dk_at dksJ22_getChars_3 19 rfl rfl)
theorem dJ22_getChars_91 : decode cJ22_getChars 91 = .ok (.aload_n 2, 1) := dk_44 (dk_at dksJ22_getChars_3 22 rfl rfl)
theorem dJ22_getChars_92 : decode cJ22_getChars 92 = .ok (.iinc 5 (-1), 3) := dk_132 5 255 (dk_at dksJ22_getChars_4 0 rfl rfl)
theorem dJ22_getChars_95 : decode cJ22_getChars 95 = .ok (.iload 5, 2) := dk_21 5 (dk_at dksJ22_getChars_4 3 rfl rfl)
theorem dJ22_getChars_97 : decode cJ22_getChars 97 = .ok (.getstatic 87, 3) := dk_178 0 87 (dk_at dksJ22_getChars_4 5 rfl rfl)
theorem dJ22_getChars_100 : decode cJ22_getChars 100 = .ok (.iload_n 0, 1) := dk_26 (dk_at dksJ22_getChars_4 8 rfl rfl)
theorem dJ22_getChars_101 : decode cJ22_getChars 101 = .ok (.ineg, 1) := dk_116 (dk_at dksJ22_getChars_4 9 rfl rfl)
theorem dJ22_getChars_102 : decode cJ22_getChars 102 = .ok (.baload, 1) := dk_51 (dk_at dksJ22_getChars_4 10 rfl rfl)
theorem dJ22_getChars_103 : decode cJ22_getChars 103 = .ok (.bastore, 1) := dk_84 (dk_at dksJ22_getChars_4 11 rfl rfl)
theorem dJ22_getChars_104 : decode cJ22_getChars 104 = .ok (.iload 6, 2) := dk_21 6 (dk_at dksJ22_getChars_4 12 rfl rfl)
theorem dJ22_getChars_106 : decode cJ22_getChars 106 = .ok (.ifCond .eq 12, 3) := dk_153 0 12 (dk_at dksJ22_getChars_4 14 rfl rfl)
theorem dJ22_getChars_109 : decode cJ22_getChars 109 = .ok (.aload_n 2, 1) := dk_44 (dk_at dksJ22_getChars_4 17 rfl rfl)
theorem dJ22_getChars_110 : decode cJ22_getChars 110 = .ok (.iinc 5 (-1), 3) := dk_132 5 255 (dk_at dksJ22_getChars_4 18 rfl rfl)
theorem dJ22_getChars_113 : decode cJ22_getChars 113 = .ok (.iload 5, 2) := dk_21 5 (dk_at dksJ22_getChars_4 21 rfl rfl)
theorem dJ22_getChars_115 : decode cJ22_getChars 115 = .ok (.bipush 45, 2) := dk_16 45 (dk_at dksJ22_getChars_5 0 rfl rfl)
theorem dJ22_getChars_117 : decode cJ22_getChars 117 = .ok (.bastore, 1) := dk_84 (dk_at dksJ22_getChars_5 2 rfl rfl)
theorem dJ22_getChars_118 : decode cJ22_getChars 118 = .ok (.iload 5, 2) := dk_21 5 (dk_at dksJ22_getChars_5 3 rfl rfl)
theorem dJ22_getChars_120 : decode cJ22_getChars 120 = .ok (.ireturn, 1) := dk_172 (dk_at dksJ22_getChars_5 5 rfl rfl)
abbrev cJ22_compare : ByteArray := prog_28_method_40_code
def yJ22_compare : MethodName := ⟨RJ22, "compare", "(II)I"⟩
def dkwJ22_compare_0 : List UInt8 := [26, 27, 162, 0, 7, 2, 167, 0, 13, 26, 27, 160, 0, 7, 3, 167, 0, 4, 4, 172]
abbrev dktJ22_compare_0 : List UInt8 := dkwJ22_compare_0 ++ []
theorem dksJ22_compare_0 : cJ22_compare.data.toList.drop 0 = dktJ22_compare_0 := by decide +kernel
theorem dJ22_compare_0 : decode cJ22_compare 0 = .ok (.iload_n 0, 1) := dk_26 (dk_at dksJ22_compare_0 0 rfl rfl)
theorem dJ22_compare_1 : decode cJ22_compare 1 = .ok (.iload_n 1, 1) := dk_27 (dk_at dksJ22_compare_0 1 rfl rfl)
theorem dJ22_compare_2 : decode cJ22_compare 2 = .ok (.if_icmp .ge 7, 3) := dk_162 0 7 (dk_at dksJ22_compare_0 2 rfl rfl)
theorem dJ22_compare_5 : decode cJ22_compare 5 = .ok (.iconst (-1), 1) := dk_2 (dk_at dksJ22_compare_0 5 rfl rfl)
theorem dJ22_compare_6 : decode cJ22_compare 6 = .ok (.goto 13, 3) := dk_167 0 13 (dk_at dksJ22_compare_0 6 rfl rfl)
theorem dJ22_compare_9 : decode cJ22_compare 9 = .ok (.iload_n 0, 1) := dk_26 (dk_at dksJ22_compare_0 9 rfl rfl)
theorem dJ22_compare_10 : decode cJ22_compare 10 = .ok (.iload_n 1, 1) := dk_27 (dk_at dksJ22_compare_0 10 rfl rfl)
theorem dJ22_compare_11 : decode cJ22_compare 11 = .ok (.if_icmp .ne 7, 3) := dk_160 0 7 (dk_at dksJ22_compare_0 11 rfl rfl)
theorem dJ22_compare_14 : decode cJ22_compare 14 = .ok (.iconst 0, 1) := dk_3 (dk_at dksJ22_compare_0 14 rfl rfl)
theorem dJ22_compare_15 : decode cJ22_compare 15 = .ok (.goto 4, 3) := dk_167 0 4 (dk_at dksJ22_compare_0 15 rfl rfl)
theorem dJ22_compare_18 : decode cJ22_compare 18 = .ok (.iconst 1, 1) := dk_4 (dk_at dksJ22_compare_0 18 rfl rfl)
theorem dJ22_compare_19 : decode cJ22_compare 19 = .ok (.ireturn, 1) := dk_172 (dk_at dksJ22_compare_0 19 rfl rfl)
abbrev cJ22_compareTo : ByteArray := prog_28_method_63_code
def yJ22_compareTo : MethodName := ⟨RJ22, "compareTo", "(Ljava/lang/Object;)I"⟩
def dkwJ22_compareTo_0 : List UInt8 := [42, 43, 192, 0, 1, 182, 1, 28, 172]
abbrev dktJ22_compareTo_0 : List UInt8 := dkwJ22_compareTo_0 ++ []
theorem dksJ22_compareTo_0 : cJ22_compareTo.data.toList.drop 0 = dktJ22_compareTo_0 := by decide +kernel
theorem dJ22_compareTo_0 : decode cJ22_compareTo 0 = .ok (.aload_n 0, 1) := dk_42 (dk_at dksJ22_compareTo_0 0 rfl rfl)
theorem dJ22_compareTo_1 : decode cJ22_compareTo 1 = .ok (.aload_n 1, 1) := dk_43 (dk_at dksJ22_compareTo_0 1 rfl rfl)
theorem dJ22_compareTo_2 : decode cJ22_compareTo 2 = .ok (.checkcast 1, 3) := dk_192 0 1 (dk_at dksJ22_compareTo_0 2 rfl rfl)
theorem dJ22_compareTo_5 : decode cJ22_compareTo 5 = .ok (.invokevirtual 284, 3) := dk_182 1 28 (dk_at dksJ22_compareTo_0 5 rfl rfl)
theorem dJ22_compareTo_8 : decode cJ22_compareTo 8 = .ok (.ireturn, 1) := dk_172 (dk_at dksJ22_compareTo_0 8 rfl rfl)
abbrev cJ22_compareTo_2 : ByteArray := prog_28_method_39_code
def yJ22_compareTo_2 : MethodName := ⟨RJ22, "compareTo", "(Ljava/lang/Integer;)I"⟩
def dkwJ22_compareTo_2_0 : List UInt8 := [42, 180, 0, 205, 43, 180, 0, 205, 184, 1, 3, 172]
abbrev dktJ22_compareTo_2_0 : List UInt8 := dkwJ22_compareTo_2_0 ++ []
theorem dksJ22_compareTo_2_0 : cJ22_compareTo_2.data.toList.drop 0 = dktJ22_compareTo_2_0 := by decide +kernel
theorem dJ22_compareTo_2_0 : decode cJ22_compareTo_2 0 = .ok (.aload_n 0, 1) := dk_42 (dk_at dksJ22_compareTo_2_0 0 rfl rfl)
theorem dJ22_compareTo_2_1 : decode cJ22_compareTo_2 1 = .ok (.getfield 205, 3) := dk_180 0 205 (dk_at dksJ22_compareTo_2_0 1 rfl rfl)
theorem dJ22_compareTo_2_4 : decode cJ22_compareTo_2 4 = .ok (.aload_n 1, 1) := dk_43 (dk_at dksJ22_compareTo_2_0 4 rfl rfl)
theorem dJ22_compareTo_2_5 : decode cJ22_compareTo_2 5 = .ok (.getfield 205, 3) := dk_180 0 205 (dk_at dksJ22_compareTo_2_0 5 rfl rfl)
theorem dJ22_compareTo_2_8 : decode cJ22_compareTo_2 8 = .ok (.invokestatic 259, 3) := dk_184 1 3 (dk_at dksJ22_compareTo_2_0 8 rfl rfl)
theorem dJ22_compareTo_2_11 : decode cJ22_compareTo_2 11 = .ok (.ireturn, 1) := dk_172 (dk_at dksJ22_compareTo_2_0 11 rfl rfl)
abbrev cJ22_numberOfLeadingZeros : ByteArray := prog_28_method_47_code
def yJ22_numberOfLeadingZeros : MethodName := ⟨RJ22, "numberOfLeadingZeros", "(I)I"⟩
def dkwJ22_numberOfLeadingZeros_3 : List UInt8 := [5, 124, 59, 27, 26, 4, 124, 100, 172]
abbrev dktJ22_numberOfLeadingZeros_3 : List UInt8 := dkwJ22_numberOfLeadingZeros_3 ++ []
def dkwJ22_numberOfLeadingZeros_2 : List UInt8 := [124, 59, 26, 16, 16, 161, 0, 10, 132, 1, 252, 26, 7, 124, 59, 26, 7, 161, 0, 10, 132, 1, 254, 26]
abbrev dktJ22_numberOfLeadingZeros_2 : List UInt8 := dkwJ22_numberOfLeadingZeros_2 ++ dktJ22_numberOfLeadingZeros_3
def dkwJ22_numberOfLeadingZeros_1 : List UInt8 := [161, 0, 11, 132, 1, 240, 26, 16, 16, 124, 59, 26, 17, 1, 0, 161, 0, 11, 132, 1, 248, 26, 16, 8]
abbrev dktJ22_numberOfLeadingZeros_1 : List UInt8 := dkwJ22_numberOfLeadingZeros_1 ++ dktJ22_numberOfLeadingZeros_2
def dkwJ22_numberOfLeadingZeros_0 : List UInt8 := [26, 157, 0, 14, 26, 154, 0, 8, 16, 32, 167, 0, 4, 3, 172, 16, 31, 60, 26, 19, 1, 8]
abbrev dktJ22_numberOfLeadingZeros_0 : List UInt8 := dkwJ22_numberOfLeadingZeros_0 ++ dktJ22_numberOfLeadingZeros_1
theorem dksJ22_numberOfLeadingZeros_0 : cJ22_numberOfLeadingZeros.data.toList.drop 0 = dktJ22_numberOfLeadingZeros_0 := by decide +kernel
theorem dksJ22_numberOfLeadingZeros_1 : cJ22_numberOfLeadingZeros.data.toList.drop 22 = dktJ22_numberOfLeadingZeros_1 := dk_seg dksJ22_numberOfLeadingZeros_0 22 rfl rfl
theorem dksJ22_numberOfLeadingZeros_2 : cJ22_numberOfLeadingZeros.data.toList.drop 46 = dktJ22_numberOfLeadingZeros_2 := dk_seg dksJ22_numberOfLeadingZeros_1 24 rfl rfl
theorem dksJ22_numberOfLeadingZeros_3 : cJ22_numberOfLeadingZeros.data.toList.drop 70 = dktJ22_numberOfLeadingZeros_3 := dk_seg dksJ22_numberOfLeadingZeros_2 24 rfl rfl
theorem dJ22_numberOfLeadingZeros_0 : decode cJ22_numberOfLeadingZeros 0 = .ok (.iload_n 0, 1) := dk_26 (dk_at dksJ22_numberOfLeadingZeros_0 0 rfl rfl)
theorem dJ22_numberOfLeadingZeros_1 : decode cJ22_numberOfLeadingZeros 1 = .ok (.ifCond .gt 14, 3) := dk_157 0 14 (dk_at dksJ22_numberOfLeadingZeros_0 1 rfl rfl)
theorem dJ22_numberOfLeadingZeros_4 : decode cJ22_numberOfLeadingZeros 4 = .ok (.iload_n 0, 1) := dk_26 (dk_at dksJ22_numberOfLeadingZeros_0 4 rfl rfl)
theorem dJ22_numberOfLeadingZeros_5 : decode cJ22_numberOfLeadingZeros 5 = .ok (.ifCond .ne 8, 3) := dk_154 0 8 (dk_at dksJ22_numberOfLeadingZeros_0 5 rfl rfl)
theorem dJ22_numberOfLeadingZeros_8 : decode cJ22_numberOfLeadingZeros 8 = .ok (.bipush 32, 2) := dk_16 32 (dk_at dksJ22_numberOfLeadingZeros_0 8 rfl rfl)
theorem dJ22_numberOfLeadingZeros_10 : decode cJ22_numberOfLeadingZeros 10 = .ok (.goto 4, 3) := dk_167 0 4 (dk_at dksJ22_numberOfLeadingZeros_0 10 rfl rfl)
theorem dJ22_numberOfLeadingZeros_13 : decode cJ22_numberOfLeadingZeros 13 = .ok (.iconst 0, 1) := dk_3 (dk_at dksJ22_numberOfLeadingZeros_0 13 rfl rfl)
theorem dJ22_numberOfLeadingZeros_14 : decode cJ22_numberOfLeadingZeros 14 = .ok (.ireturn, 1) := dk_172 (dk_at dksJ22_numberOfLeadingZeros_0 14 rfl rfl)
theorem dJ22_numberOfLeadingZeros_15 : decode cJ22_numberOfLeadingZeros 15 = .ok (.bipush 31, 2) := dk_16 31 (dk_at dksJ22_numberOfLeadingZeros_0 15 rfl rfl)
theorem dJ22_numberOfLeadingZeros_17 : decode cJ22_numberOfLeadingZeros 17 = .ok (.istore_n 1, 1) := dk_60 (dk_at dksJ22_numberOfLeadingZeros_0 17 rfl rfl)
theorem dJ22_numberOfLeadingZeros_18 : decode cJ22_numberOfLeadingZeros 18 = .ok (.iload_n 0, 1) := dk_26 (dk_at dksJ22_numberOfLeadingZeros_0 18 rfl rfl)
theorem dJ22_numberOfLeadingZeros_19 : decode cJ22_numberOfLeadingZeros 19 = .ok (.ldc_w 264, 3) := dk_19 1 8 (dk_at dksJ22_numberOfLeadingZeros_0 19 rfl rfl)
theorem dJ22_numberOfLeadingZeros_22 : decode cJ22_numberOfLeadingZeros 22 = .ok (.if_icmp .lt 11, 3) := dk_161 0 11 (dk_at dksJ22_numberOfLeadingZeros_1 0 rfl rfl)
theorem dJ22_numberOfLeadingZeros_25 : decode cJ22_numberOfLeadingZeros 25 = .ok (.iinc 1 (-16), 3) := dk_132 1 240 (dk_at dksJ22_numberOfLeadingZeros_1 3 rfl rfl)
theorem dJ22_numberOfLeadingZeros_28 : decode cJ22_numberOfLeadingZeros 28 = .ok (.iload_n 0, 1) := dk_26 (dk_at dksJ22_numberOfLeadingZeros_1 6 rfl rfl)
theorem dJ22_numberOfLeadingZeros_29 : decode cJ22_numberOfLeadingZeros 29 = .ok (.bipush 16, 2) := dk_16 16 (dk_at dksJ22_numberOfLeadingZeros_1 7 rfl rfl)
theorem dJ22_numberOfLeadingZeros_31 : decode cJ22_numberOfLeadingZeros 31 = .ok (.iushr, 1) := dk_124 (dk_at dksJ22_numberOfLeadingZeros_1 9 rfl rfl)
theorem dJ22_numberOfLeadingZeros_32 : decode cJ22_numberOfLeadingZeros 32 = .ok (.istore_n 0, 1) := dk_59 (dk_at dksJ22_numberOfLeadingZeros_1 10 rfl rfl)
theorem dJ22_numberOfLeadingZeros_33 : decode cJ22_numberOfLeadingZeros 33 = .ok (.iload_n 0, 1) := dk_26 (dk_at dksJ22_numberOfLeadingZeros_1 11 rfl rfl)
theorem dJ22_numberOfLeadingZeros_34 : decode cJ22_numberOfLeadingZeros 34 = .ok (.sipush 256, 3) := dk_17 1 0 (dk_at dksJ22_numberOfLeadingZeros_1 12 rfl rfl)
theorem dJ22_numberOfLeadingZeros_37 : decode cJ22_numberOfLeadingZeros 37 = .ok (.if_icmp .lt 11, 3) := dk_161 0 11 (dk_at dksJ22_numberOfLeadingZeros_1 15 rfl rfl)
theorem dJ22_numberOfLeadingZeros_40 : decode cJ22_numberOfLeadingZeros 40 = .ok (.iinc 1 (-8), 3) := dk_132 1 248 (dk_at dksJ22_numberOfLeadingZeros_1 18 rfl rfl)
theorem dJ22_numberOfLeadingZeros_43 : decode cJ22_numberOfLeadingZeros 43 = .ok (.iload_n 0, 1) := dk_26 (dk_at dksJ22_numberOfLeadingZeros_1 21 rfl rfl)
theorem dJ22_numberOfLeadingZeros_44 : decode cJ22_numberOfLeadingZeros 44 = .ok (.bipush 8, 2) := dk_16 8 (dk_at dksJ22_numberOfLeadingZeros_1 22 rfl rfl)
theorem dJ22_numberOfLeadingZeros_46 : decode cJ22_numberOfLeadingZeros 46 = .ok (.iushr, 1) := dk_124 (dk_at dksJ22_numberOfLeadingZeros_2 0 rfl rfl)
theorem dJ22_numberOfLeadingZeros_47 : decode cJ22_numberOfLeadingZeros 47 = .ok (.istore_n 0, 1) := dk_59 (dk_at dksJ22_numberOfLeadingZeros_2 1 rfl rfl)
theorem dJ22_numberOfLeadingZeros_48 : decode cJ22_numberOfLeadingZeros 48 = .ok (.iload_n 0, 1) := dk_26 (dk_at dksJ22_numberOfLeadingZeros_2 2 rfl rfl)
theorem dJ22_numberOfLeadingZeros_49 : decode cJ22_numberOfLeadingZeros 49 = .ok (.bipush 16, 2) := dk_16 16 (dk_at dksJ22_numberOfLeadingZeros_2 3 rfl rfl)
theorem dJ22_numberOfLeadingZeros_51 : decode cJ22_numberOfLeadingZeros 51 = .ok (.if_icmp .lt 10, 3) := dk_161 0 10 (dk_at dksJ22_numberOfLeadingZeros_2 5 rfl rfl)
theorem dJ22_numberOfLeadingZeros_54 : decode cJ22_numberOfLeadingZeros 54 = .ok (.iinc 1 (-4), 3) := dk_132 1 252 (dk_at dksJ22_numberOfLeadingZeros_2 8 rfl rfl)
theorem dJ22_numberOfLeadingZeros_57 : decode cJ22_numberOfLeadingZeros 57 = .ok (.iload_n 0, 1) := dk_26 (dk_at dksJ22_numberOfLeadingZeros_2 11 rfl rfl)
theorem dJ22_numberOfLeadingZeros_58 : decode cJ22_numberOfLeadingZeros 58 = .ok (.iconst 4, 1) := dk_7 (dk_at dksJ22_numberOfLeadingZeros_2 12 rfl rfl)
theorem dJ22_numberOfLeadingZeros_59 : decode cJ22_numberOfLeadingZeros 59 = .ok (.iushr, 1) := dk_124 (dk_at dksJ22_numberOfLeadingZeros_2 13 rfl rfl)
theorem dJ22_numberOfLeadingZeros_60 : decode cJ22_numberOfLeadingZeros 60 = .ok (.istore_n 0, 1) := dk_59 (dk_at dksJ22_numberOfLeadingZeros_2 14 rfl rfl)
theorem dJ22_numberOfLeadingZeros_61 : decode cJ22_numberOfLeadingZeros 61 = .ok (.iload_n 0, 1) := dk_26 (dk_at dksJ22_numberOfLeadingZeros_2 15 rfl rfl)
theorem dJ22_numberOfLeadingZeros_62 : decode cJ22_numberOfLeadingZeros 62 = .ok (.iconst 4, 1) := dk_7 (dk_at dksJ22_numberOfLeadingZeros_2 16 rfl rfl)
theorem dJ22_numberOfLeadingZeros_63 : decode cJ22_numberOfLeadingZeros 63 = .ok (.if_icmp .lt 10, 3) := dk_161 0 10 (dk_at dksJ22_numberOfLeadingZeros_2 17 rfl rfl)
theorem dJ22_numberOfLeadingZeros_66 : decode cJ22_numberOfLeadingZeros 66 = .ok (.iinc 1 (-2), 3) := dk_132 1 254 (dk_at dksJ22_numberOfLeadingZeros_2 20 rfl rfl)
theorem dJ22_numberOfLeadingZeros_69 : decode cJ22_numberOfLeadingZeros 69 = .ok (.iload_n 0, 1) := dk_26 (dk_at dksJ22_numberOfLeadingZeros_2 23 rfl rfl)
theorem dJ22_numberOfLeadingZeros_70 : decode cJ22_numberOfLeadingZeros 70 = .ok (.iconst 2, 1) := dk_5 (dk_at dksJ22_numberOfLeadingZeros_3 0 rfl rfl)
theorem dJ22_numberOfLeadingZeros_71 : decode cJ22_numberOfLeadingZeros 71 = .ok (.iushr, 1) := dk_124 (dk_at dksJ22_numberOfLeadingZeros_3 1 rfl rfl)
theorem dJ22_numberOfLeadingZeros_72 : decode cJ22_numberOfLeadingZeros 72 = .ok (.istore_n 0, 1) := dk_59 (dk_at dksJ22_numberOfLeadingZeros_3 2 rfl rfl)
theorem dJ22_numberOfLeadingZeros_73 : decode cJ22_numberOfLeadingZeros 73 = .ok (.iload_n 1, 1) := dk_27 (dk_at dksJ22_numberOfLeadingZeros_3 3 rfl rfl)
theorem dJ22_numberOfLeadingZeros_74 : decode cJ22_numberOfLeadingZeros 74 = .ok (.iload_n 0, 1) := dk_26 (dk_at dksJ22_numberOfLeadingZeros_3 4 rfl rfl)
theorem dJ22_numberOfLeadingZeros_75 : decode cJ22_numberOfLeadingZeros 75 = .ok (.iconst 1, 1) := dk_4 (dk_at dksJ22_numberOfLeadingZeros_3 5 rfl rfl)
theorem dJ22_numberOfLeadingZeros_76 : decode cJ22_numberOfLeadingZeros 76 = .ok (.iushr, 1) := dk_124 (dk_at dksJ22_numberOfLeadingZeros_3 6 rfl rfl)
theorem dJ22_numberOfLeadingZeros_77 : decode cJ22_numberOfLeadingZeros 77 = .ok (.isub, 1) := dk_100 (dk_at dksJ22_numberOfLeadingZeros_3 7 rfl rfl)
theorem dJ22_numberOfLeadingZeros_78 : decode cJ22_numberOfLeadingZeros 78 = .ok (.ireturn, 1) := dk_172 (dk_at dksJ22_numberOfLeadingZeros_3 8 rfl rfl)
abbrev cJ22_numberOfTrailingZeros : ByteArray := prog_28_method_48_code
def yJ22_numberOfTrailingZeros : MethodName := ⟨RJ22, "numberOfTrailingZeros", "(I)I"⟩
def dkwJ22_numberOfTrailingZeros_3 : List UInt8 := [5, 124, 59, 27, 26, 4, 124, 96, 172]
abbrev dktJ22_numberOfTrailingZeros_3 : List UInt8 := dkwJ22_numberOfTrailingZeros_3 ++ []
def dkwJ22_numberOfTrailingZeros_2 : List UInt8 := [124, 59, 26, 16, 16, 164, 0, 10, 132, 1, 4, 26, 7, 124, 59, 26, 7, 164, 0, 10, 132, 1, 2, 26]
abbrev dktJ22_numberOfTrailingZeros_2 : List UInt8 := dkwJ22_numberOfTrailingZeros_2 ++ dktJ22_numberOfTrailingZeros_3
def dkwJ22_numberOfTrailingZeros_1 : List UInt8 := [164, 0, 11, 132, 1, 16, 26, 16, 16, 124, 59, 26, 17, 1, 0, 164, 0, 11, 132, 1, 8, 26, 16, 8]
abbrev dktJ22_numberOfTrailingZeros_1 : List UInt8 := dkwJ22_numberOfTrailingZeros_1 ++ dktJ22_numberOfTrailingZeros_2
def dkwJ22_numberOfTrailingZeros_0 : List UInt8 := [26, 2, 130, 26, 4, 100, 126, 59, 26, 157, 0, 8, 26, 16, 32, 126, 172, 4, 60, 26, 19, 1, 8]
abbrev dktJ22_numberOfTrailingZeros_0 : List UInt8 := dkwJ22_numberOfTrailingZeros_0 ++ dktJ22_numberOfTrailingZeros_1
theorem dksJ22_numberOfTrailingZeros_0 : cJ22_numberOfTrailingZeros.data.toList.drop 0 = dktJ22_numberOfTrailingZeros_0 := by decide +kernel
theorem dksJ22_numberOfTrailingZeros_1 : cJ22_numberOfTrailingZeros.data.toList.drop 23 = dktJ22_numberOfTrailingZeros_1 := dk_seg dksJ22_numberOfTrailingZeros_0 23 rfl rfl
theorem dksJ22_numberOfTrailingZeros_2 : cJ22_numberOfTrailingZeros.data.toList.drop 47 = dktJ22_numberOfTrailingZeros_2 := dk_seg dksJ22_numberOfTrailingZeros_1 24 rfl rfl
theorem dksJ22_numberOfTrailingZeros_3 : cJ22_numberOfTrailingZeros.data.toList.drop 71 = dktJ22_numberOfTrailingZeros_3 := dk_seg dksJ22_numberOfTrailingZeros_2 24 rfl rfl
theorem dJ22_numberOfTrailingZeros_0 : decode cJ22_numberOfTrailingZeros 0 = .ok (.iload_n 0, 1) := dk_26 (dk_at dksJ22_numberOfTrailingZeros_0 0 rfl rfl)
theorem dJ22_numberOfTrailingZeros_1 : decode cJ22_numberOfTrailingZeros 1 = .ok (.iconst (-1), 1) := dk_2 (dk_at dksJ22_numberOfTrailingZeros_0 1 rfl rfl)
theorem dJ22_numberOfTrailingZeros_2 : decode cJ22_numberOfTrailingZeros 2 = .ok (.ixor, 1) := dk_130 (dk_at dksJ22_numberOfTrailingZeros_0 2 rfl rfl)
theorem dJ22_numberOfTrailingZeros_3 : decode cJ22_numberOfTrailingZeros 3 = .ok (.iload_n 0, 1) := dk_26 (dk_at dksJ22_numberOfTrailingZeros_0 3 rfl rfl)
theorem dJ22_numberOfTrailingZeros_4 : decode cJ22_numberOfTrailingZeros 4 = .ok (.iconst 1, 1) := dk_4 (dk_at dksJ22_numberOfTrailingZeros_0 4 rfl rfl)
theorem dJ22_numberOfTrailingZeros_5 : decode cJ22_numberOfTrailingZeros 5 = .ok (.isub, 1) := dk_100 (dk_at dksJ22_numberOfTrailingZeros_0 5 rfl rfl)
theorem dJ22_numberOfTrailingZeros_6 : decode cJ22_numberOfTrailingZeros 6 = .ok (.iand, 1) := dk_126 (dk_at dksJ22_numberOfTrailingZeros_0 6 rfl rfl)
theorem dJ22_numberOfTrailingZeros_7 : decode cJ22_numberOfTrailingZeros 7 = .ok (.istore_n 0, 1) := dk_59 (dk_at dksJ22_numberOfTrailingZeros_0 7 rfl rfl)
theorem dJ22_numberOfTrailingZeros_8 : decode cJ22_numberOfTrailingZeros 8 = .ok (.iload_n 0, 1) := dk_26 (dk_at dksJ22_numberOfTrailingZeros_0 8 rfl rfl)
theorem dJ22_numberOfTrailingZeros_9 : decode cJ22_numberOfTrailingZeros 9 = .ok (.ifCond .gt 8, 3) := dk_157 0 8 (dk_at dksJ22_numberOfTrailingZeros_0 9 rfl rfl)
theorem dJ22_numberOfTrailingZeros_12 : decode cJ22_numberOfTrailingZeros 12 = .ok (.iload_n 0, 1) := dk_26 (dk_at dksJ22_numberOfTrailingZeros_0 12 rfl rfl)
theorem dJ22_numberOfTrailingZeros_13 : decode cJ22_numberOfTrailingZeros 13 = .ok (.bipush 32, 2) := dk_16 32 (dk_at dksJ22_numberOfTrailingZeros_0 13 rfl rfl)
theorem dJ22_numberOfTrailingZeros_15 : decode cJ22_numberOfTrailingZeros 15 = .ok (.iand, 1) := dk_126 (dk_at dksJ22_numberOfTrailingZeros_0 15 rfl rfl)
theorem dJ22_numberOfTrailingZeros_16 : decode cJ22_numberOfTrailingZeros 16 = .ok (.ireturn, 1) := dk_172 (dk_at dksJ22_numberOfTrailingZeros_0 16 rfl rfl)
theorem dJ22_numberOfTrailingZeros_17 : decode cJ22_numberOfTrailingZeros 17 = .ok (.iconst 1, 1) := dk_4 (dk_at dksJ22_numberOfTrailingZeros_0 17 rfl rfl)
theorem dJ22_numberOfTrailingZeros_18 : decode cJ22_numberOfTrailingZeros 18 = .ok (.istore_n 1, 1) := dk_60 (dk_at dksJ22_numberOfTrailingZeros_0 18 rfl rfl)
theorem dJ22_numberOfTrailingZeros_19 : decode cJ22_numberOfTrailingZeros 19 = .ok (.iload_n 0, 1) := dk_26 (dk_at dksJ22_numberOfTrailingZeros_0 19 rfl rfl)
theorem dJ22_numberOfTrailingZeros_20 : decode cJ22_numberOfTrailingZeros 20 = .ok (.ldc_w 264, 3) := dk_19 1 8 (dk_at dksJ22_numberOfTrailingZeros_0 20 rfl rfl)
theorem dJ22_numberOfTrailingZeros_23 : decode cJ22_numberOfTrailingZeros 23 = .ok (.if_icmp .le 11, 3) := dk_164 0 11 (dk_at dksJ22_numberOfTrailingZeros_1 0 rfl rfl)
theorem dJ22_numberOfTrailingZeros_26 : decode cJ22_numberOfTrailingZeros 26 = .ok (.iinc 1 16, 3) := dk_132 1 16 (dk_at dksJ22_numberOfTrailingZeros_1 3 rfl rfl)
theorem dJ22_numberOfTrailingZeros_29 : decode cJ22_numberOfTrailingZeros 29 = .ok (.iload_n 0, 1) := dk_26 (dk_at dksJ22_numberOfTrailingZeros_1 6 rfl rfl)
theorem dJ22_numberOfTrailingZeros_30 : decode cJ22_numberOfTrailingZeros 30 = .ok (.bipush 16, 2) := dk_16 16 (dk_at dksJ22_numberOfTrailingZeros_1 7 rfl rfl)
theorem dJ22_numberOfTrailingZeros_32 : decode cJ22_numberOfTrailingZeros 32 = .ok (.iushr, 1) := dk_124 (dk_at dksJ22_numberOfTrailingZeros_1 9 rfl rfl)
theorem dJ22_numberOfTrailingZeros_33 : decode cJ22_numberOfTrailingZeros 33 = .ok (.istore_n 0, 1) := dk_59 (dk_at dksJ22_numberOfTrailingZeros_1 10 rfl rfl)
theorem dJ22_numberOfTrailingZeros_34 : decode cJ22_numberOfTrailingZeros 34 = .ok (.iload_n 0, 1) := dk_26 (dk_at dksJ22_numberOfTrailingZeros_1 11 rfl rfl)
theorem dJ22_numberOfTrailingZeros_35 : decode cJ22_numberOfTrailingZeros 35 = .ok (.sipush 256, 3) := dk_17 1 0 (dk_at dksJ22_numberOfTrailingZeros_1 12 rfl rfl)
theorem dJ22_numberOfTrailingZeros_38 : decode cJ22_numberOfTrailingZeros 38 = .ok (.if_icmp .le 11, 3) := dk_164 0 11 (dk_at dksJ22_numberOfTrailingZeros_1 15 rfl rfl)
theorem dJ22_numberOfTrailingZeros_41 : decode cJ22_numberOfTrailingZeros 41 = .ok (.iinc 1 8, 3) := dk_132 1 8 (dk_at dksJ22_numberOfTrailingZeros_1 18 rfl rfl)
theorem dJ22_numberOfTrailingZeros_44 : decode cJ22_numberOfTrailingZeros 44 = .ok (.iload_n 0, 1) := dk_26 (dk_at dksJ22_numberOfTrailingZeros_1 21 rfl rfl)
theorem dJ22_numberOfTrailingZeros_45 : decode cJ22_numberOfTrailingZeros 45 = .ok (.bipush 8, 2) := dk_16 8 (dk_at dksJ22_numberOfTrailingZeros_1 22 rfl rfl)
theorem dJ22_numberOfTrailingZeros_47 : decode cJ22_numberOfTrailingZeros 47 = .ok (.iushr, 1) := dk_124 (dk_at dksJ22_numberOfTrailingZeros_2 0 rfl rfl)
theorem dJ22_numberOfTrailingZeros_48 : decode cJ22_numberOfTrailingZeros 48 = .ok (.istore_n 0, 1) := dk_59 (dk_at dksJ22_numberOfTrailingZeros_2 1 rfl rfl)
theorem dJ22_numberOfTrailingZeros_49 : decode cJ22_numberOfTrailingZeros 49 = .ok (.iload_n 0, 1) := dk_26 (dk_at dksJ22_numberOfTrailingZeros_2 2 rfl rfl)
theorem dJ22_numberOfTrailingZeros_50 : decode cJ22_numberOfTrailingZeros 50 = .ok (.bipush 16, 2) := dk_16 16 (dk_at dksJ22_numberOfTrailingZeros_2 3 rfl rfl)
theorem dJ22_numberOfTrailingZeros_52 : decode cJ22_numberOfTrailingZeros 52 = .ok (.if_icmp .le 10, 3) := dk_164 0 10 (dk_at dksJ22_numberOfTrailingZeros_2 5 rfl rfl)
theorem dJ22_numberOfTrailingZeros_55 : decode cJ22_numberOfTrailingZeros 55 = .ok (.iinc 1 4, 3) := dk_132 1 4 (dk_at dksJ22_numberOfTrailingZeros_2 8 rfl rfl)
theorem dJ22_numberOfTrailingZeros_58 : decode cJ22_numberOfTrailingZeros 58 = .ok (.iload_n 0, 1) := dk_26 (dk_at dksJ22_numberOfTrailingZeros_2 11 rfl rfl)
theorem dJ22_numberOfTrailingZeros_59 : decode cJ22_numberOfTrailingZeros 59 = .ok (.iconst 4, 1) := dk_7 (dk_at dksJ22_numberOfTrailingZeros_2 12 rfl rfl)
theorem dJ22_numberOfTrailingZeros_60 : decode cJ22_numberOfTrailingZeros 60 = .ok (.iushr, 1) := dk_124 (dk_at dksJ22_numberOfTrailingZeros_2 13 rfl rfl)
theorem dJ22_numberOfTrailingZeros_61 : decode cJ22_numberOfTrailingZeros 61 = .ok (.istore_n 0, 1) := dk_59 (dk_at dksJ22_numberOfTrailingZeros_2 14 rfl rfl)
theorem dJ22_numberOfTrailingZeros_62 : decode cJ22_numberOfTrailingZeros 62 = .ok (.iload_n 0, 1) := dk_26 (dk_at dksJ22_numberOfTrailingZeros_2 15 rfl rfl)
theorem dJ22_numberOfTrailingZeros_63 : decode cJ22_numberOfTrailingZeros 63 = .ok (.iconst 4, 1) := dk_7 (dk_at dksJ22_numberOfTrailingZeros_2 16 rfl rfl)
theorem dJ22_numberOfTrailingZeros_64 : decode cJ22_numberOfTrailingZeros 64 = .ok (.if_icmp .le 10, 3) := dk_164 0 10 (dk_at dksJ22_numberOfTrailingZeros_2 17 rfl rfl)
theorem dJ22_numberOfTrailingZeros_67 : decode cJ22_numberOfTrailingZeros 67 = .ok (.iinc 1 2, 3) := dk_132 1 2 (dk_at dksJ22_numberOfTrailingZeros_2 20 rfl rfl)
theorem dJ22_numberOfTrailingZeros_70 : decode cJ22_numberOfTrailingZeros 70 = .ok (.iload_n 0, 1) := dk_26 (dk_at dksJ22_numberOfTrailingZeros_2 23 rfl rfl)
theorem dJ22_numberOfTrailingZeros_71 : decode cJ22_numberOfTrailingZeros 71 = .ok (.iconst 2, 1) := dk_5 (dk_at dksJ22_numberOfTrailingZeros_3 0 rfl rfl)
theorem dJ22_numberOfTrailingZeros_72 : decode cJ22_numberOfTrailingZeros 72 = .ok (.iushr, 1) := dk_124 (dk_at dksJ22_numberOfTrailingZeros_3 1 rfl rfl)
theorem dJ22_numberOfTrailingZeros_73 : decode cJ22_numberOfTrailingZeros 73 = .ok (.istore_n 0, 1) := dk_59 (dk_at dksJ22_numberOfTrailingZeros_3 2 rfl rfl)
theorem dJ22_numberOfTrailingZeros_74 : decode cJ22_numberOfTrailingZeros 74 = .ok (.iload_n 1, 1) := dk_27 (dk_at dksJ22_numberOfTrailingZeros_3 3 rfl rfl)
theorem dJ22_numberOfTrailingZeros_75 : decode cJ22_numberOfTrailingZeros 75 = .ok (.iload_n 0, 1) := dk_26 (dk_at dksJ22_numberOfTrailingZeros_3 4 rfl rfl)
theorem dJ22_numberOfTrailingZeros_76 : decode cJ22_numberOfTrailingZeros 76 = .ok (.iconst 1, 1) := dk_4 (dk_at dksJ22_numberOfTrailingZeros_3 5 rfl rfl)
theorem dJ22_numberOfTrailingZeros_77 : decode cJ22_numberOfTrailingZeros 77 = .ok (.iushr, 1) := dk_124 (dk_at dksJ22_numberOfTrailingZeros_3 6 rfl rfl)
theorem dJ22_numberOfTrailingZeros_78 : decode cJ22_numberOfTrailingZeros 78 = .ok (.iadd, 1) := dk_96 (dk_at dksJ22_numberOfTrailingZeros_3 7 rfl rfl)
theorem dJ22_numberOfTrailingZeros_79 : decode cJ22_numberOfTrailingZeros 79 = .ok (.ireturn, 1) := dk_172 (dk_at dksJ22_numberOfTrailingZeros_3 8 rfl rfl)
abbrev cJ22_valueOf : ByteArray := prog_28_method_22_code
def yJ22_valueOf : MethodName := ⟨RJ22, "valueOf", "(I)Ljava/lang/Integer;"⟩
def dkwJ22_valueOf_1 : List UInt8 := [187, 0, 1, 89, 26, 183, 0, 199, 176]
abbrev dktJ22_valueOf_1 : List UInt8 := dkwJ22_valueOf_1 ++ []
def dkwJ22_valueOf_0 : List UInt8 := [26, 16, 128, 161, 0, 20, 26, 178, 0, 191, 163, 0, 13, 178, 0, 195, 26, 17, 0, 128, 96, 50, 176]
abbrev dktJ22_valueOf_0 : List UInt8 := dkwJ22_valueOf_0 ++ dktJ22_valueOf_1
theorem dksJ22_valueOf_0 : cJ22_valueOf.data.toList.drop 0 = dktJ22_valueOf_0 := by decide +kernel
theorem dksJ22_valueOf_1 : cJ22_valueOf.data.toList.drop 23 = dktJ22_valueOf_1 := dk_seg dksJ22_valueOf_0 23 rfl rfl
theorem dJ22_valueOf_0 : decode cJ22_valueOf 0 = .ok (.iload_n 0, 1) := dk_26 (dk_at dksJ22_valueOf_0 0 rfl rfl)
theorem dJ22_valueOf_1 : decode cJ22_valueOf 1 = .ok (.bipush (-128), 2) := dk_16 128 (dk_at dksJ22_valueOf_0 1 rfl rfl)
theorem dJ22_valueOf_3 : decode cJ22_valueOf 3 = .ok (.if_icmp .lt 20, 3) := dk_161 0 20 (dk_at dksJ22_valueOf_0 3 rfl rfl)
theorem dJ22_valueOf_6 : decode cJ22_valueOf 6 = .ok (.iload_n 0, 1) := dk_26 (dk_at dksJ22_valueOf_0 6 rfl rfl)
theorem dJ22_valueOf_7 : decode cJ22_valueOf 7 = .ok (.getstatic 191, 3) := dk_178 0 191 (dk_at dksJ22_valueOf_0 7 rfl rfl)
theorem dJ22_valueOf_10 : decode cJ22_valueOf 10 = .ok (.if_icmp .gt 13, 3) := dk_163 0 13 (dk_at dksJ22_valueOf_0 10 rfl rfl)
theorem dJ22_valueOf_13 : decode cJ22_valueOf 13 = .ok (.getstatic 195, 3) := dk_178 0 195 (dk_at dksJ22_valueOf_0 13 rfl rfl)
theorem dJ22_valueOf_16 : decode cJ22_valueOf 16 = .ok (.iload_n 0, 1) := dk_26 (dk_at dksJ22_valueOf_0 16 rfl rfl)
theorem dJ22_valueOf_17 : decode cJ22_valueOf 17 = .ok (.sipush 128, 3) := dk_17 0 128 (dk_at dksJ22_valueOf_0 17 rfl rfl)
theorem dJ22_valueOf_20 : decode cJ22_valueOf 20 = .ok (.iadd, 1) := dk_96 (dk_at dksJ22_valueOf_0 20 rfl rfl)
theorem dJ22_valueOf_21 : decode cJ22_valueOf 21 = .ok (.aaload, 1) := dk_50 (dk_at dksJ22_valueOf_0 21 rfl rfl)
theorem dJ22_valueOf_22 : decode cJ22_valueOf 22 = .ok (.areturn, 1) := dk_176 (dk_at dksJ22_valueOf_0 22 rfl rfl)
theorem dJ22_valueOf_23 : decode cJ22_valueOf 23 = .ok (.new 1, 3) := dk_187 0 1 (dk_at dksJ22_valueOf_1 0 rfl rfl)
theorem dJ22_valueOf_26 : decode cJ22_valueOf 26 = .ok (.dup, 1) := dk_89 (dk_at dksJ22_valueOf_1 3 rfl rfl)
theorem dJ22_valueOf_27 : decode cJ22_valueOf 27 = .ok (.iload_n 0, 1) := dk_26 (dk_at dksJ22_valueOf_1 4 rfl rfl)
theorem dJ22_valueOf_28 : decode cJ22_valueOf 28 = .ok (.invokespecial 199, 3) := dk_183 0 199 (dk_at dksJ22_valueOf_1 5 rfl rfl)
theorem dJ22_valueOf_31 : decode cJ22_valueOf 31 = .ok (.areturn, 1) := dk_176 (dk_at dksJ22_valueOf_1 8 rfl rfl)
abbrev cJ22_init : ByteArray := prog_28_method_23_code
def yJ22_init : MethodName := ⟨RJ22, "<init>", "(I)V"⟩
def dkwJ22_init_0 : List UInt8 := [42, 183, 0, 202, 42, 27, 181, 0, 205, 177]
abbrev dktJ22_init_0 : List UInt8 := dkwJ22_init_0 ++ []
theorem dksJ22_init_0 : cJ22_init.data.toList.drop 0 = dktJ22_init_0 := by decide +kernel
theorem dJ22_init_0 : decode cJ22_init 0 = .ok (.aload_n 0, 1) := dk_42 (dk_at dksJ22_init_0 0 rfl rfl)
theorem dJ22_init_1 : decode cJ22_init 1 = .ok (.invokespecial 202, 3) := dk_183 0 202 (dk_at dksJ22_init_0 1 rfl rfl)
theorem dJ22_init_4 : decode cJ22_init 4 = .ok (.aload_n 0, 1) := dk_42 (dk_at dksJ22_init_0 4 rfl rfl)
theorem dJ22_init_5 : decode cJ22_init 5 = .ok (.iload_n 1, 1) := dk_27 (dk_at dksJ22_init_0 5 rfl rfl)
theorem dJ22_init_6 : decode cJ22_init 6 = .ok (.putfield 205, 3) := dk_181 0 205 (dk_at dksJ22_init_0 6 rfl rfl)
theorem dJ22_init_9 : decode cJ22_init 9 = .ok (.return_, 1) := dk_177 (dk_at dksJ22_init_0 9 rfl rfl)
abbrev cJ22_intValue : ByteArray := prog_28_method_27_code
def yJ22_intValue : MethodName := ⟨RJ22, "intValue", "()I"⟩
theorem dJ22_intValue_0 : decode cJ22_intValue 0 = .ok (.aload_n 0, 1) := by decide +kernel
theorem dJ22_intValue_1 : decode cJ22_intValue 1 = .ok (.getfield 205, 3) := by decide +kernel
theorem dJ22_intValue_4 : decode cJ22_intValue 4 = .ok (.ireturn, 1) := by decide +kernel
abbrev cJ22_bitCount : ByteArray := prog_28_method_49_code
def yJ22_bitCount : MethodName := ⟨RJ22, "bitCount", "(I)I"⟩
def dkwJ22_bitCount_2 : List UInt8 := [26, 16, 63, 126, 172]
abbrev dktJ22_bitCount_2 : List UInt8 := dkwJ22_bitCount_2 ++ []
def dkwJ22_bitCount_1 : List UInt8 := [26, 26, 7, 124, 96, 19, 1, 11, 126, 59, 26, 26, 16, 8, 124, 96, 59, 26, 26, 16, 16, 124, 96, 59]
abbrev dktJ22_bitCount_1 : List UInt8 := dkwJ22_bitCount_1 ++ dktJ22_bitCount_2
def dkwJ22_bitCount_0 : List UInt8 := [26, 26, 4, 124, 19, 1, 9, 126, 100, 59, 26, 19, 1, 10, 126, 26, 5, 124, 19, 1, 10, 126, 96, 59]
abbrev dktJ22_bitCount_0 : List UInt8 := dkwJ22_bitCount_0 ++ dktJ22_bitCount_1
theorem dksJ22_bitCount_0 : cJ22_bitCount.data.toList.drop 0 = dktJ22_bitCount_0 := by decide +kernel
theorem dksJ22_bitCount_1 : cJ22_bitCount.data.toList.drop 24 = dktJ22_bitCount_1 := dk_seg dksJ22_bitCount_0 24 rfl rfl
theorem dksJ22_bitCount_2 : cJ22_bitCount.data.toList.drop 48 = dktJ22_bitCount_2 := dk_seg dksJ22_bitCount_1 24 rfl rfl
theorem dJ22_bitCount_0 : decode cJ22_bitCount 0 = .ok (.iload_n 0, 1) := dk_26 (dk_at dksJ22_bitCount_0 0 rfl rfl)
theorem dJ22_bitCount_1 : decode cJ22_bitCount 1 = .ok (.iload_n 0, 1) := dk_26 (dk_at dksJ22_bitCount_0 1 rfl rfl)
theorem dJ22_bitCount_2 : decode cJ22_bitCount 2 = .ok (.iconst 1, 1) := dk_4 (dk_at dksJ22_bitCount_0 2 rfl rfl)
theorem dJ22_bitCount_3 : decode cJ22_bitCount 3 = .ok (.iushr, 1) := dk_124 (dk_at dksJ22_bitCount_0 3 rfl rfl)
theorem dJ22_bitCount_4 : decode cJ22_bitCount 4 = .ok (.ldc_w 265, 3) := dk_19 1 9 (dk_at dksJ22_bitCount_0 4 rfl rfl)
theorem dJ22_bitCount_7 : decode cJ22_bitCount 7 = .ok (.iand, 1) := dk_126 (dk_at dksJ22_bitCount_0 7 rfl rfl)
theorem dJ22_bitCount_8 : decode cJ22_bitCount 8 = .ok (.isub, 1) := dk_100 (dk_at dksJ22_bitCount_0 8 rfl rfl)
theorem dJ22_bitCount_9 : decode cJ22_bitCount 9 = .ok (.istore_n 0, 1) := dk_59 (dk_at dksJ22_bitCount_0 9 rfl rfl)
theorem dJ22_bitCount_10 : decode cJ22_bitCount 10 = .ok (.iload_n 0, 1) := dk_26 (dk_at dksJ22_bitCount_0 10 rfl rfl)
theorem dJ22_bitCount_11 : decode cJ22_bitCount 11 = .ok (.ldc_w 266, 3) := dk_19 1 10 (dk_at dksJ22_bitCount_0 11 rfl rfl)
theorem dJ22_bitCount_14 : decode cJ22_bitCount 14 = .ok (.iand, 1) := dk_126 (dk_at dksJ22_bitCount_0 14 rfl rfl)
theorem dJ22_bitCount_15 : decode cJ22_bitCount 15 = .ok (.iload_n 0, 1) := dk_26 (dk_at dksJ22_bitCount_0 15 rfl rfl)
theorem dJ22_bitCount_16 : decode cJ22_bitCount 16 = .ok (.iconst 2, 1) := dk_5 (dk_at dksJ22_bitCount_0 16 rfl rfl)
theorem dJ22_bitCount_17 : decode cJ22_bitCount 17 = .ok (.iushr, 1) := dk_124 (dk_at dksJ22_bitCount_0 17 rfl rfl)
theorem dJ22_bitCount_18 : decode cJ22_bitCount 18 = .ok (.ldc_w 266, 3) := dk_19 1 10 (dk_at dksJ22_bitCount_0 18 rfl rfl)
theorem dJ22_bitCount_21 : decode cJ22_bitCount 21 = .ok (.iand, 1) := dk_126 (dk_at dksJ22_bitCount_0 21 rfl rfl)
theorem dJ22_bitCount_22 : decode cJ22_bitCount 22 = .ok (.iadd, 1) := dk_96 (dk_at dksJ22_bitCount_0 22 rfl rfl)
theorem dJ22_bitCount_23 : decode cJ22_bitCount 23 = .ok (.istore_n 0, 1) := dk_59 (dk_at dksJ22_bitCount_0 23 rfl rfl)
theorem dJ22_bitCount_24 : decode cJ22_bitCount 24 = .ok (.iload_n 0, 1) := dk_26 (dk_at dksJ22_bitCount_1 0 rfl rfl)
theorem dJ22_bitCount_25 : decode cJ22_bitCount 25 = .ok (.iload_n 0, 1) := dk_26 (dk_at dksJ22_bitCount_1 1 rfl rfl)
theorem dJ22_bitCount_26 : decode cJ22_bitCount 26 = .ok (.iconst 4, 1) := dk_7 (dk_at dksJ22_bitCount_1 2 rfl rfl)
theorem dJ22_bitCount_27 : decode cJ22_bitCount 27 = .ok (.iushr, 1) := dk_124 (dk_at dksJ22_bitCount_1 3 rfl rfl)
theorem dJ22_bitCount_28 : decode cJ22_bitCount 28 = .ok (.iadd, 1) := dk_96 (dk_at dksJ22_bitCount_1 4 rfl rfl)
theorem dJ22_bitCount_29 : decode cJ22_bitCount 29 = .ok (.ldc_w 267, 3) := dk_19 1 11 (dk_at dksJ22_bitCount_1 5 rfl rfl)
theorem dJ22_bitCount_32 : decode cJ22_bitCount 32 = .ok (.iand, 1) := dk_126 (dk_at dksJ22_bitCount_1 8 rfl rfl)
theorem dJ22_bitCount_33 : decode cJ22_bitCount 33 = .ok (.istore_n 0, 1) := dk_59 (dk_at dksJ22_bitCount_1 9 rfl rfl)
theorem dJ22_bitCount_34 : decode cJ22_bitCount 34 = .ok (.iload_n 0, 1) := dk_26 (dk_at dksJ22_bitCount_1 10 rfl rfl)
theorem dJ22_bitCount_35 : decode cJ22_bitCount 35 = .ok (.iload_n 0, 1) := dk_26 (dk_at dksJ22_bitCount_1 11 rfl rfl)
theorem dJ22_bitCount_36 : decode cJ22_bitCount 36 = .ok (.bipush 8, 2) := dk_16 8 (dk_at dksJ22_bitCount_1 12 rfl rfl)
theorem dJ22_bitCount_38 : decode cJ22_bitCount 38 = .ok (.iushr, 1) := dk_124 (dk_at dksJ22_bitCount_1 14 rfl rfl)
theorem dJ22_bitCount_39 : decode cJ22_bitCount 39 = .ok (.iadd, 1) := dk_96 (dk_at dksJ22_bitCount_1 15 rfl rfl)
theorem dJ22_bitCount_40 : decode cJ22_bitCount 40 = .ok (.istore_n 0, 1) := dk_59 (dk_at dksJ22_bitCount_1 16 rfl rfl)
theorem dJ22_bitCount_41 : decode cJ22_bitCount 41 = .ok (.iload_n 0, 1) := dk_26 (dk_at dksJ22_bitCount_1 17 rfl rfl)
theorem dJ22_bitCount_42 : decode cJ22_bitCount 42 = .ok (.iload_n 0, 1) := dk_26 (dk_at dksJ22_bitCount_1 18 rfl rfl)
theorem dJ22_bitCount_43 : decode cJ22_bitCount 43 = .ok (.bipush 16, 2) := dk_16 16 (dk_at dksJ22_bitCount_1 19 rfl rfl)
theorem dJ22_bitCount_45 : decode cJ22_bitCount 45 = .ok (.iushr, 1) := dk_124 (dk_at dksJ22_bitCount_1 21 rfl rfl)
theorem dJ22_bitCount_46 : decode cJ22_bitCount 46 = .ok (.iadd, 1) := dk_96 (dk_at dksJ22_bitCount_1 22 rfl rfl)
theorem dJ22_bitCount_47 : decode cJ22_bitCount 47 = .ok (.istore_n 0, 1) := dk_59 (dk_at dksJ22_bitCount_1 23 rfl rfl)
theorem dJ22_bitCount_48 : decode cJ22_bitCount 48 = .ok (.iload_n 0, 1) := dk_26 (dk_at dksJ22_bitCount_2 0 rfl rfl)
theorem dJ22_bitCount_49 : decode cJ22_bitCount 49 = .ok (.bipush 63, 2) := dk_16 63 (dk_at dksJ22_bitCount_2 1 rfl rfl)
theorem dJ22_bitCount_51 : decode cJ22_bitCount 51 = .ok (.iand, 1) := dk_126 (dk_at dksJ22_bitCount_2 3 rfl rfl)
theorem dJ22_bitCount_52 : decode cJ22_bitCount 52 = .ok (.ireturn, 1) := dk_172 (dk_at dksJ22_bitCount_2 4 rfl rfl)
abbrev cJ23_getLongUnaligned : ByteArray := prog_69_method_334_code
def yJ23_getLongUnaligned : MethodName := ⟨RJ23, "getLongUnaligned", "(Ljava/lang/Object;J)J"⟩
def dkwJ23_getLongUnaligned_7 : List UInt8 := [182, 0, 39, 184, 2, 197, 173]
abbrev dktJ23_getLongUnaligned_7 : List UInt8 := dkwJ23_getLongUnaligned_7 ++ []
def dkwJ23_getLongUnaligned_6 : List UInt8 := [20, 2, 195, 97, 182, 0, 39, 42, 43, 32, 20, 2, 190, 97, 182, 0, 39, 42, 43, 32, 20, 2, 184, 97]
abbrev dktJ23_getLongUnaligned_6 : List UInt8 := dkwJ23_getLongUnaligned_6 ++ dktJ23_getLongUnaligned_7
def dkwJ23_getLongUnaligned_5 : List UInt8 := [43, 32, 20, 1, 93, 97, 182, 0, 39, 42, 43, 32, 20, 0, 205, 97, 182, 0, 39, 42, 43, 32]
abbrev dktJ23_getLongUnaligned_5 : List UInt8 := dkwJ23_getLongUnaligned_5 ++ dktJ23_getLongUnaligned_6
def dkwJ23_getLongUnaligned_4 : List UInt8 := [43, 32, 182, 0, 39, 42, 43, 32, 10, 97, 182, 0, 39, 42, 43, 32, 20, 0, 203, 97, 182, 0, 39, 42]
abbrev dktJ23_getLongUnaligned_4 : List UInt8 := dkwJ23_getLongUnaligned_4 ++ dktJ23_getLongUnaligned_5
def dkwJ23_getLongUnaligned_3 : List UInt8 := [43, 32, 20, 0, 205, 97, 182, 0, 47, 42, 43, 32, 20, 2, 190, 97, 182, 0, 47, 184, 2, 192, 173, 42]
abbrev dktJ23_getLongUnaligned_3 : List UInt8 := dkwJ23_getLongUnaligned_3 ++ dktJ23_getLongUnaligned_4
def dkwJ23_getLongUnaligned_2 : List UInt8 := [10, 127, 9, 148, 154, 0, 43, 42, 43, 32, 182, 0, 47, 42, 43, 32, 20, 0, 203, 97, 182, 0, 47, 42]
abbrev dktJ23_getLongUnaligned_2 : List UInt8 := dkwJ23_getLongUnaligned_2 ++ dktJ23_getLongUnaligned_3
def dkwJ23_getLongUnaligned_1 : List UInt8 := [154, 0, 23, 42, 43, 32, 182, 0, 17, 42, 43, 32, 20, 0, 205, 97, 182, 0, 17, 184, 2, 186, 173, 32]
abbrev dktJ23_getLongUnaligned_1 : List UInt8 := dkwJ23_getLongUnaligned_1 ++ dktJ23_getLongUnaligned_2
def dkwJ23_getLongUnaligned_0 : List UInt8 := [32, 20, 2, 184, 127, 9, 148, 154, 0, 10, 42, 43, 32, 182, 0, 27, 173, 32, 20, 1, 93, 127, 9, 148]
abbrev dktJ23_getLongUnaligned_0 : List UInt8 := dkwJ23_getLongUnaligned_0 ++ dktJ23_getLongUnaligned_1
theorem dksJ23_getLongUnaligned_0 : cJ23_getLongUnaligned.data.toList.drop 0 = dktJ23_getLongUnaligned_0 := by decide +kernel
theorem dksJ23_getLongUnaligned_1 : cJ23_getLongUnaligned.data.toList.drop 24 = dktJ23_getLongUnaligned_1 := dk_seg dksJ23_getLongUnaligned_0 24 rfl rfl
theorem dksJ23_getLongUnaligned_2 : cJ23_getLongUnaligned.data.toList.drop 48 = dktJ23_getLongUnaligned_2 := dk_seg dksJ23_getLongUnaligned_1 24 rfl rfl
theorem dksJ23_getLongUnaligned_3 : cJ23_getLongUnaligned.data.toList.drop 72 = dktJ23_getLongUnaligned_3 := dk_seg dksJ23_getLongUnaligned_2 24 rfl rfl
theorem dksJ23_getLongUnaligned_4 : cJ23_getLongUnaligned.data.toList.drop 96 = dktJ23_getLongUnaligned_4 := dk_seg dksJ23_getLongUnaligned_3 24 rfl rfl
theorem dksJ23_getLongUnaligned_5 : cJ23_getLongUnaligned.data.toList.drop 120 = dktJ23_getLongUnaligned_5 := dk_seg dksJ23_getLongUnaligned_4 24 rfl rfl
theorem dksJ23_getLongUnaligned_6 : cJ23_getLongUnaligned.data.toList.drop 142 = dktJ23_getLongUnaligned_6 := dk_seg dksJ23_getLongUnaligned_5 22 rfl rfl
theorem dksJ23_getLongUnaligned_7 : cJ23_getLongUnaligned.data.toList.drop 166 = dktJ23_getLongUnaligned_7 := dk_seg dksJ23_getLongUnaligned_6 24 rfl rfl
theorem dJ23_getLongUnaligned_0 : decode cJ23_getLongUnaligned 0 = .ok (.lload_n 2, 1) := dk_32 (dk_at dksJ23_getLongUnaligned_0 0 rfl rfl)
theorem dJ23_getLongUnaligned_1 : decode cJ23_getLongUnaligned 1 = .ok (.ldc2_w 696, 3) := dk_20 2 184 (dk_at dksJ23_getLongUnaligned_0 1 rfl rfl)
theorem dJ23_getLongUnaligned_4 : decode cJ23_getLongUnaligned 4 = .ok (.land, 1) := dk_127 (dk_at dksJ23_getLongUnaligned_0 4 rfl rfl)
theorem dJ23_getLongUnaligned_5 : decode cJ23_getLongUnaligned 5 = .ok (.lconst 0, 1) := dk_9 (dk_at dksJ23_getLongUnaligned_0 5 rfl rfl)
theorem dJ23_getLongUnaligned_6 : decode cJ23_getLongUnaligned 6 = .ok (.lcmp, 1) := dk_148 (dk_at dksJ23_getLongUnaligned_0 6 rfl rfl)
theorem dJ23_getLongUnaligned_7 : decode cJ23_getLongUnaligned 7 = .ok (.ifCond .ne 10, 3) := dk_154 0 10 (dk_at dksJ23_getLongUnaligned_0 7 rfl rfl)
theorem dJ23_getLongUnaligned_10 : decode cJ23_getLongUnaligned 10 = .ok (.aload_n 0, 1) := dk_42 (dk_at dksJ23_getLongUnaligned_0 10 rfl rfl)
theorem dJ23_getLongUnaligned_11 : decode cJ23_getLongUnaligned 11 = .ok (.aload_n 1, 1) := dk_43 (dk_at dksJ23_getLongUnaligned_0 11 rfl rfl)
theorem dJ23_getLongUnaligned_12 : decode cJ23_getLongUnaligned 12 = .ok (.lload_n 2, 1) := dk_32 (dk_at dksJ23_getLongUnaligned_0 12 rfl rfl)
theorem dJ23_getLongUnaligned_13 : decode cJ23_getLongUnaligned 13 = .ok (.invokevirtual 27, 3) := dk_182 0 27 (dk_at dksJ23_getLongUnaligned_0 13 rfl rfl)
theorem dJ23_getLongUnaligned_16 : decode cJ23_getLongUnaligned 16 = .ok (.lreturn, 1) := dk_173 (dk_at dksJ23_getLongUnaligned_0 16 rfl rfl)
theorem dJ23_getLongUnaligned_17 : decode cJ23_getLongUnaligned 17 = .ok (.lload_n 2, 1) := dk_32 (dk_at dksJ23_getLongUnaligned_0 17 rfl rfl)
theorem dJ23_getLongUnaligned_18 : decode cJ23_getLongUnaligned 18 = .ok (.ldc2_w 349, 3) := dk_20 1 93 (dk_at dksJ23_getLongUnaligned_0 18 rfl rfl)
theorem dJ23_getLongUnaligned_21 : decode cJ23_getLongUnaligned 21 = .ok (.land, 1) := dk_127 (dk_at dksJ23_getLongUnaligned_0 21 rfl rfl)
theorem dJ23_getLongUnaligned_22 : decode cJ23_getLongUnaligned 22 = .ok (.lconst 0, 1) := dk_9 (dk_at dksJ23_getLongUnaligned_0 22 rfl rfl)
theorem dJ23_getLongUnaligned_23 : decode cJ23_getLongUnaligned 23 = .ok (.lcmp, 1) := dk_148 (dk_at dksJ23_getLongUnaligned_0 23 rfl rfl)
theorem dJ23_getLongUnaligned_24 : decode cJ23_getLongUnaligned 24 = .ok (.ifCond .ne 23, 3) := dk_154 0 23 (dk_at dksJ23_getLongUnaligned_1 0 rfl rfl)
theorem dJ23_getLongUnaligned_27 : decode cJ23_getLongUnaligned 27 = .ok (.aload_n 0, 1) := dk_42 (dk_at dksJ23_getLongUnaligned_1 3 rfl rfl)
theorem dJ23_getLongUnaligned_28 : decode cJ23_getLongUnaligned 28 = .ok (.aload_n 1, 1) := dk_43 (dk_at dksJ23_getLongUnaligned_1 4 rfl rfl)
theorem dJ23_getLongUnaligned_29 : decode cJ23_getLongUnaligned 29 = .ok (.lload_n 2, 1) := dk_32 (dk_at dksJ23_getLongUnaligned_1 5 rfl rfl)
theorem dJ23_getLongUnaligned_30 : decode cJ23_getLongUnaligned 30 = .ok (.invokevirtual 17, 3) := dk_182 0 17 (dk_at dksJ23_getLongUnaligned_1 6 rfl rfl)
theorem dJ23_getLongUnaligned_33 : decode cJ23_getLongUnaligned 33 = .ok (.aload_n 0, 1) := dk_42 (dk_at dksJ23_getLongUnaligned_1 9 rfl rfl)
theorem dJ23_getLongUnaligned_34 : decode cJ23_getLongUnaligned 34 = .ok (.aload_n 1, 1) := dk_43 (dk_at dksJ23_getLongUnaligned_1 10 rfl rfl)
theorem dJ23_getLongUnaligned_35 : decode cJ23_getLongUnaligned 35 = .ok (.lload_n 2, 1) := dk_32 (dk_at dksJ23_getLongUnaligned_1 11 rfl rfl)
theorem dJ23_getLongUnaligned_36 : decode cJ23_getLongUnaligned 36 = .ok (.ldc2_w 205, 3) := dk_20 0 205 (dk_at dksJ23_getLongUnaligned_1 12 rfl rfl)
theorem dJ23_getLongUnaligned_39 : decode cJ23_getLongUnaligned 39 = .ok (.ladd, 1) := dk_97 (dk_at dksJ23_getLongUnaligned_1 15 rfl rfl)
theorem dJ23_getLongUnaligned_40 : decode cJ23_getLongUnaligned 40 = .ok (.invokevirtual 17, 3) := dk_182 0 17 (dk_at dksJ23_getLongUnaligned_1 16 rfl rfl)
theorem dJ23_getLongUnaligned_43 : decode cJ23_getLongUnaligned 43 = .ok (.invokestatic 698, 3) := dk_184 2 186 (dk_at dksJ23_getLongUnaligned_1 19 rfl rfl)
theorem dJ23_getLongUnaligned_46 : decode cJ23_getLongUnaligned 46 = .ok (.lreturn, 1) := dk_173 (dk_at dksJ23_getLongUnaligned_1 22 rfl rfl)
theorem dJ23_getLongUnaligned_47 : decode cJ23_getLongUnaligned 47 = .ok (.lload_n 2, 1) := dk_32 (dk_at dksJ23_getLongUnaligned_1 23 rfl rfl)
theorem dJ23_getLongUnaligned_48 : decode cJ23_getLongUnaligned 48 = .ok (.lconst 1, 1) := dk_10 (dk_at dksJ23_getLongUnaligned_2 0 rfl rfl)
theorem dJ23_getLongUnaligned_49 : decode cJ23_getLongUnaligned 49 = .ok (.land, 1) := dk_127 (dk_at dksJ23_getLongUnaligned_2 1 rfl rfl)
theorem dJ23_getLongUnaligned_50 : decode cJ23_getLongUnaligned 50 = .ok (.lconst 0, 1) := dk_9 (dk_at dksJ23_getLongUnaligned_2 2 rfl rfl)
theorem dJ23_getLongUnaligned_51 : decode cJ23_getLongUnaligned 51 = .ok (.lcmp, 1) := dk_148 (dk_at dksJ23_getLongUnaligned_2 3 rfl rfl)
theorem dJ23_getLongUnaligned_52 : decode cJ23_getLongUnaligned 52 = .ok (.ifCond .ne 43, 3) := dk_154 0 43 (dk_at dksJ23_getLongUnaligned_2 4 rfl rfl)
theorem dJ23_getLongUnaligned_55 : decode cJ23_getLongUnaligned 55 = .ok (.aload_n 0, 1) := dk_42 (dk_at dksJ23_getLongUnaligned_2 7 rfl rfl)
theorem dJ23_getLongUnaligned_56 : decode cJ23_getLongUnaligned 56 = .ok (.aload_n 1, 1) := dk_43 (dk_at dksJ23_getLongUnaligned_2 8 rfl rfl)
theorem dJ23_getLongUnaligned_57 : decode cJ23_getLongUnaligned 57 = .ok (.lload_n 2, 1) := dk_32 (dk_at dksJ23_getLongUnaligned_2 9 rfl rfl)
theorem dJ23_getLongUnaligned_58 : decode cJ23_getLongUnaligned 58 = .ok (.invokevirtual 47, 3) := dk_182 0 47 (dk_at dksJ23_getLongUnaligned_2 10 rfl rfl)
theorem dJ23_getLongUnaligned_61 : decode cJ23_getLongUnaligned 61 = .ok (.aload_n 0, 1) := dk_42 (dk_at dksJ23_getLongUnaligned_2 13 rfl rfl)
theorem dJ23_getLongUnaligned_62 : decode cJ23_getLongUnaligned 62 = .ok (.aload_n 1, 1) := dk_43 (dk_at dksJ23_getLongUnaligned_2 14 rfl rfl)
theorem dJ23_getLongUnaligned_63 : decode cJ23_getLongUnaligned 63 = .ok (.lload_n 2, 1) := dk_32 (dk_at dksJ23_getLongUnaligned_2 15 rfl rfl)
theorem dJ23_getLongUnaligned_64 : decode cJ23_getLongUnaligned 64 = .ok (.ldc2_w 203, 3) := dk_20 0 203 (dk_at dksJ23_getLongUnaligned_2 16 rfl rfl)
theorem dJ23_getLongUnaligned_67 : decode cJ23_getLongUnaligned 67 = .ok (.ladd, 1) := dk_97 (dk_at dksJ23_getLongUnaligned_2 19 rfl rfl)
theorem dJ23_getLongUnaligned_68 : decode cJ23_getLongUnaligned 68 = .ok (.invokevirtual 47, 3) := dk_182 0 47 (dk_at dksJ23_getLongUnaligned_2 20 rfl rfl)
theorem dJ23_getLongUnaligned_71 : decode cJ23_getLongUnaligned 71 = .ok (.aload_n 0, 1) := dk_42 (dk_at dksJ23_getLongUnaligned_2 23 rfl rfl)
theorem dJ23_getLongUnaligned_72 : decode cJ23_getLongUnaligned 72 = .ok (.aload_n 1, 1) := dk_43 (dk_at dksJ23_getLongUnaligned_3 0 rfl rfl)
theorem dJ23_getLongUnaligned_73 : decode cJ23_getLongUnaligned 73 = .ok (.lload_n 2, 1) := dk_32 (dk_at dksJ23_getLongUnaligned_3 1 rfl rfl)
theorem dJ23_getLongUnaligned_74 : decode cJ23_getLongUnaligned 74 = .ok (.ldc2_w 205, 3) := dk_20 0 205 (dk_at dksJ23_getLongUnaligned_3 2 rfl rfl)
theorem dJ23_getLongUnaligned_77 : decode cJ23_getLongUnaligned 77 = .ok (.ladd, 1) := dk_97 (dk_at dksJ23_getLongUnaligned_3 5 rfl rfl)
theorem dJ23_getLongUnaligned_78 : decode cJ23_getLongUnaligned 78 = .ok (.invokevirtual 47, 3) := dk_182 0 47 (dk_at dksJ23_getLongUnaligned_3 6 rfl rfl)
theorem dJ23_getLongUnaligned_81 : decode cJ23_getLongUnaligned 81 = .ok (.aload_n 0, 1) := dk_42 (dk_at dksJ23_getLongUnaligned_3 9 rfl rfl)
theorem dJ23_getLongUnaligned_82 : decode cJ23_getLongUnaligned 82 = .ok (.aload_n 1, 1) := dk_43 (dk_at dksJ23_getLongUnaligned_3 10 rfl rfl)
theorem dJ23_getLongUnaligned_83 : decode cJ23_getLongUnaligned 83 = .ok (.lload_n 2, 1) := dk_32 (dk_at dksJ23_getLongUnaligned_3 11 rfl rfl)
theorem dJ23_getLongUnaligned_84 : decode cJ23_getLongUnaligned 84 = .ok (.ldc2_w 702, 3) := dk_20 2 190 (dk_at dksJ23_getLongUnaligned_3 12 rfl rfl)
theorem dJ23_getLongUnaligned_87 : decode cJ23_getLongUnaligned 87 = .ok (.ladd, 1) := dk_97 (dk_at dksJ23_getLongUnaligned_3 15 rfl rfl)
theorem dJ23_getLongUnaligned_88 : decode cJ23_getLongUnaligned 88 = .ok (.invokevirtual 47, 3) := dk_182 0 47 (dk_at dksJ23_getLongUnaligned_3 16 rfl rfl)
theorem dJ23_getLongUnaligned_91 : decode cJ23_getLongUnaligned 91 = .ok (.invokestatic 704, 3) := dk_184 2 192 (dk_at dksJ23_getLongUnaligned_3 19 rfl rfl)
theorem dJ23_getLongUnaligned_94 : decode cJ23_getLongUnaligned 94 = .ok (.lreturn, 1) := dk_173 (dk_at dksJ23_getLongUnaligned_3 22 rfl rfl)
theorem dJ23_getLongUnaligned_95 : decode cJ23_getLongUnaligned 95 = .ok (.aload_n 0, 1) := dk_42 (dk_at dksJ23_getLongUnaligned_3 23 rfl rfl)
theorem dJ23_getLongUnaligned_96 : decode cJ23_getLongUnaligned 96 = .ok (.aload_n 1, 1) := dk_43 (dk_at dksJ23_getLongUnaligned_4 0 rfl rfl)
theorem dJ23_getLongUnaligned_97 : decode cJ23_getLongUnaligned 97 = .ok (.lload_n 2, 1) := dk_32 (dk_at dksJ23_getLongUnaligned_4 1 rfl rfl)
theorem dJ23_getLongUnaligned_98 : decode cJ23_getLongUnaligned 98 = .ok (.invokevirtual 39, 3) := dk_182 0 39 (dk_at dksJ23_getLongUnaligned_4 2 rfl rfl)
theorem dJ23_getLongUnaligned_101 : decode cJ23_getLongUnaligned 101 = .ok (.aload_n 0, 1) := dk_42 (dk_at dksJ23_getLongUnaligned_4 5 rfl rfl)
theorem dJ23_getLongUnaligned_102 : decode cJ23_getLongUnaligned 102 = .ok (.aload_n 1, 1) := dk_43 (dk_at dksJ23_getLongUnaligned_4 6 rfl rfl)
theorem dJ23_getLongUnaligned_103 : decode cJ23_getLongUnaligned 103 = .ok (.lload_n 2, 1) := dk_32 (dk_at dksJ23_getLongUnaligned_4 7 rfl rfl)
theorem dJ23_getLongUnaligned_104 : decode cJ23_getLongUnaligned 104 = .ok (.lconst 1, 1) := dk_10 (dk_at dksJ23_getLongUnaligned_4 8 rfl rfl)
theorem dJ23_getLongUnaligned_105 : decode cJ23_getLongUnaligned 105 = .ok (.ladd, 1) := dk_97 (dk_at dksJ23_getLongUnaligned_4 9 rfl rfl)
theorem dJ23_getLongUnaligned_106 : decode cJ23_getLongUnaligned 106 = .ok (.invokevirtual 39, 3) := dk_182 0 39 (dk_at dksJ23_getLongUnaligned_4 10 rfl rfl)
theorem dJ23_getLongUnaligned_109 : decode cJ23_getLongUnaligned 109 = .ok (.aload_n 0, 1) := dk_42 (dk_at dksJ23_getLongUnaligned_4 13 rfl rfl)
theorem dJ23_getLongUnaligned_110 : decode cJ23_getLongUnaligned 110 = .ok (.aload_n 1, 1) := dk_43 (dk_at dksJ23_getLongUnaligned_4 14 rfl rfl)
theorem dJ23_getLongUnaligned_111 : decode cJ23_getLongUnaligned 111 = .ok (.lload_n 2, 1) := dk_32 (dk_at dksJ23_getLongUnaligned_4 15 rfl rfl)
theorem dJ23_getLongUnaligned_112 : decode cJ23_getLongUnaligned 112 = .ok (.ldc2_w 203, 3) := dk_20 0 203 (dk_at dksJ23_getLongUnaligned_4 16 rfl rfl)
theorem dJ23_getLongUnaligned_115 : decode cJ23_getLongUnaligned 115 = .ok (.ladd, 1) := dk_97 (dk_at dksJ23_getLongUnaligned_4 19 rfl rfl)
theorem dJ23_getLongUnaligned_116 : decode cJ23_getLongUnaligned 116 = .ok (.invokevirtual 39, 3) := dk_182 0 39 (dk_at dksJ23_getLongUnaligned_4 20 rfl rfl)
theorem dJ23_getLongUnaligned_119 : decode cJ23_getLongUnaligned 119 = .ok (.aload_n 0, 1) := dk_42 (dk_at dksJ23_getLongUnaligned_4 23 rfl rfl)
theorem dJ23_getLongUnaligned_120 : decode cJ23_getLongUnaligned 120 = .ok (.aload_n 1, 1) := dk_43 (dk_at dksJ23_getLongUnaligned_5 0 rfl rfl)
theorem dJ23_getLongUnaligned_121 : decode cJ23_getLongUnaligned 121 = .ok (.lload_n 2, 1) := dk_32 (dk_at dksJ23_getLongUnaligned_5 1 rfl rfl)
theorem dJ23_getLongUnaligned_122 : decode cJ23_getLongUnaligned 122 = .ok (.ldc2_w 349, 3) := dk_20 1 93 (dk_at dksJ23_getLongUnaligned_5 2 rfl rfl)
theorem dJ23_getLongUnaligned_125 : decode cJ23_getLongUnaligned 125 = .ok (.ladd, 1) := dk_97 (dk_at dksJ23_getLongUnaligned_5 5 rfl rfl)
theorem dJ23_getLongUnaligned_126 : decode cJ23_getLongUnaligned 126 = .ok (.invokevirtual 39, 3) := dk_182 0 39 (dk_at dksJ23_getLongUnaligned_5 6 rfl rfl)
theorem dJ23_getLongUnaligned_129 : decode cJ23_getLongUnaligned 129 = .ok (.aload_n 0, 1) := dk_42 (dk_at dksJ23_getLongUnaligned_5 9 rfl rfl)
theorem dJ23_getLongUnaligned_130 : decode cJ23_getLongUnaligned 130 = .ok (.aload_n 1, 1) := dk_43 (dk_at dksJ23_getLongUnaligned_5 10 rfl rfl)
theorem dJ23_getLongUnaligned_131 : decode cJ23_getLongUnaligned 131 = .ok (.lload_n 2, 1) := dk_32 (dk_at dksJ23_getLongUnaligned_5 11 rfl rfl)
theorem dJ23_getLongUnaligned_132 : decode cJ23_getLongUnaligned 132 = .ok (.ldc2_w 205, 3) := dk_20 0 205 (dk_at dksJ23_getLongUnaligned_5 12 rfl rfl)
theorem dJ23_getLongUnaligned_135 : decode cJ23_getLongUnaligned 135 = .ok (.ladd, 1) := dk_97 (dk_at dksJ23_getLongUnaligned_5 15 rfl rfl)
theorem dJ23_getLongUnaligned_136 : decode cJ23_getLongUnaligned 136 = .ok (.invokevirtual 39, 3) := dk_182 0 39 (dk_at dksJ23_getLongUnaligned_5 16 rfl rfl)
theorem dJ23_getLongUnaligned_139 : decode cJ23_getLongUnaligned 139 = .ok (.aload_n 0, 1) := dk_42 (dk_at dksJ23_getLongUnaligned_5 19 rfl rfl)
theorem dJ23_getLongUnaligned_140 : decode cJ23_getLongUnaligned 140 = .ok (.aload_n 1, 1) := dk_43 (dk_at dksJ23_getLongUnaligned_5 20 rfl rfl)
theorem dJ23_getLongUnaligned_141 : decode cJ23_getLongUnaligned 141 = .ok (.lload_n 2, 1) := dk_32 (dk_at dksJ23_getLongUnaligned_5 21 rfl rfl)
theorem dJ23_getLongUnaligned_142 : decode cJ23_getLongUnaligned 142 = .ok (.ldc2_w 707, 3) := dk_20 2 195 (dk_at dksJ23_getLongUnaligned_6 0 rfl rfl)
theorem dJ23_getLongUnaligned_145 : decode cJ23_getLongUnaligned 145 = .ok (.ladd, 1) := dk_97 (dk_at dksJ23_getLongUnaligned_6 3 rfl rfl)
theorem dJ23_getLongUnaligned_146 : decode cJ23_getLongUnaligned 146 = .ok (.invokevirtual 39, 3) := dk_182 0 39 (dk_at dksJ23_getLongUnaligned_6 4 rfl rfl)
theorem dJ23_getLongUnaligned_149 : decode cJ23_getLongUnaligned 149 = .ok (.aload_n 0, 1) := dk_42 (dk_at dksJ23_getLongUnaligned_6 7 rfl rfl)
theorem dJ23_getLongUnaligned_150 : decode cJ23_getLongUnaligned 150 = .ok (.aload_n 1, 1) := dk_43 (dk_at dksJ23_getLongUnaligned_6 8 rfl rfl)
theorem dJ23_getLongUnaligned_151 : decode cJ23_getLongUnaligned 151 = .ok (.lload_n 2, 1) := dk_32 (dk_at dksJ23_getLongUnaligned_6 9 rfl rfl)
theorem dJ23_getLongUnaligned_152 : decode cJ23_getLongUnaligned 152 = .ok (.ldc2_w 702, 3) := dk_20 2 190 (dk_at dksJ23_getLongUnaligned_6 10 rfl rfl)
theorem dJ23_getLongUnaligned_155 : decode cJ23_getLongUnaligned 155 = .ok (.ladd, 1) := dk_97 (dk_at dksJ23_getLongUnaligned_6 13 rfl rfl)
theorem dJ23_getLongUnaligned_156 : decode cJ23_getLongUnaligned 156 = .ok (.invokevirtual 39, 3) := dk_182 0 39 (dk_at dksJ23_getLongUnaligned_6 14 rfl rfl)
theorem dJ23_getLongUnaligned_159 : decode cJ23_getLongUnaligned 159 = .ok (.aload_n 0, 1) := dk_42 (dk_at dksJ23_getLongUnaligned_6 17 rfl rfl)
theorem dJ23_getLongUnaligned_160 : decode cJ23_getLongUnaligned 160 = .ok (.aload_n 1, 1) := dk_43 (dk_at dksJ23_getLongUnaligned_6 18 rfl rfl)
theorem dJ23_getLongUnaligned_161 : decode cJ23_getLongUnaligned 161 = .ok (.lload_n 2, 1) := dk_32 (dk_at dksJ23_getLongUnaligned_6 19 rfl rfl)
theorem dJ23_getLongUnaligned_162 : decode cJ23_getLongUnaligned 162 = .ok (.ldc2_w 696, 3) := dk_20 2 184 (dk_at dksJ23_getLongUnaligned_6 20 rfl rfl)
theorem dJ23_getLongUnaligned_165 : decode cJ23_getLongUnaligned 165 = .ok (.ladd, 1) := dk_97 (dk_at dksJ23_getLongUnaligned_6 23 rfl rfl)
theorem dJ23_getLongUnaligned_166 : decode cJ23_getLongUnaligned 166 = .ok (.invokevirtual 39, 3) := dk_182 0 39 (dk_at dksJ23_getLongUnaligned_7 0 rfl rfl)
theorem dJ23_getLongUnaligned_169 : decode cJ23_getLongUnaligned 169 = .ok (.invokestatic 709, 3) := dk_184 2 197 (dk_at dksJ23_getLongUnaligned_7 3 rfl rfl)
theorem dJ23_getLongUnaligned_172 : decode cJ23_getLongUnaligned 172 = .ok (.lreturn, 1) := dk_173 (dk_at dksJ23_getLongUnaligned_7 6 rfl rfl)
abbrev cJ23_makeLong : ByteArray := prog_69_method_353_code
def yJ23_makeLong : MethodName := ⟨RJ23, "makeLong", "(II)J"⟩
def dkwJ23_makeLong_1 : List UInt8 := [173]
abbrev dktJ23_makeLong_1 : List UInt8 := dkwJ23_makeLong_1 ++ []
def dkwJ23_makeLong_0 : List UInt8 := [26, 184, 3, 23, 16, 32, 3, 184, 3, 16, 121, 27, 184, 3, 23, 16, 32, 16, 32, 184, 3, 16, 121, 129]
abbrev dktJ23_makeLong_0 : List UInt8 := dkwJ23_makeLong_0 ++ dktJ23_makeLong_1
theorem dksJ23_makeLong_0 : cJ23_makeLong.data.toList.drop 0 = dktJ23_makeLong_0 := by decide +kernel
theorem dksJ23_makeLong_1 : cJ23_makeLong.data.toList.drop 24 = dktJ23_makeLong_1 := dk_seg dksJ23_makeLong_0 24 rfl rfl
theorem dJ23_makeLong_0 : decode cJ23_makeLong 0 = .ok (.iload_n 0, 1) := dk_26 (dk_at dksJ23_makeLong_0 0 rfl rfl)
theorem dJ23_makeLong_1 : decode cJ23_makeLong 1 = .ok (.invokestatic 791, 3) := dk_184 3 23 (dk_at dksJ23_makeLong_0 1 rfl rfl)
theorem dJ23_makeLong_4 : decode cJ23_makeLong 4 = .ok (.bipush 32, 2) := dk_16 32 (dk_at dksJ23_makeLong_0 4 rfl rfl)
theorem dJ23_makeLong_6 : decode cJ23_makeLong 6 = .ok (.iconst 0, 1) := dk_3 (dk_at dksJ23_makeLong_0 6 rfl rfl)
theorem dJ23_makeLong_7 : decode cJ23_makeLong 7 = .ok (.invokestatic 784, 3) := dk_184 3 16 (dk_at dksJ23_makeLong_0 7 rfl rfl)
theorem dJ23_makeLong_10 : decode cJ23_makeLong 10 = .ok (.lshl, 1) := dk_121 (dk_at dksJ23_makeLong_0 10 rfl rfl)
theorem dJ23_makeLong_11 : decode cJ23_makeLong 11 = .ok (.iload_n 1, 1) := dk_27 (dk_at dksJ23_makeLong_0 11 rfl rfl)
theorem dJ23_makeLong_12 : decode cJ23_makeLong 12 = .ok (.invokestatic 791, 3) := dk_184 3 23 (dk_at dksJ23_makeLong_0 12 rfl rfl)
theorem dJ23_makeLong_15 : decode cJ23_makeLong 15 = .ok (.bipush 32, 2) := dk_16 32 (dk_at dksJ23_makeLong_0 15 rfl rfl)
theorem dJ23_makeLong_17 : decode cJ23_makeLong 17 = .ok (.bipush 32, 2) := dk_16 32 (dk_at dksJ23_makeLong_0 17 rfl rfl)
theorem dJ23_makeLong_19 : decode cJ23_makeLong 19 = .ok (.invokestatic 784, 3) := dk_184 3 16 (dk_at dksJ23_makeLong_0 19 rfl rfl)
theorem dJ23_makeLong_22 : decode cJ23_makeLong 22 = .ok (.lshl, 1) := dk_121 (dk_at dksJ23_makeLong_0 22 rfl rfl)
theorem dJ23_makeLong_23 : decode cJ23_makeLong 23 = .ok (.lor, 1) := dk_129 (dk_at dksJ23_makeLong_0 23 rfl rfl)
theorem dJ23_makeLong_24 : decode cJ23_makeLong 24 = .ok (.lreturn, 1) := dk_173 (dk_at dksJ23_makeLong_1 0 rfl rfl)
abbrev cJ23_toUnsignedLong : ByteArray := prog_69_method_370_code
def yJ23_toUnsignedLong : MethodName := ⟨RJ23, "toUnsignedLong", "(I)J"⟩
def dkwJ23_toUnsignedLong_0 : List UInt8 := [26, 133, 20, 3, 44, 127, 173]
abbrev dktJ23_toUnsignedLong_0 : List UInt8 := dkwJ23_toUnsignedLong_0 ++ []
theorem dksJ23_toUnsignedLong_0 : cJ23_toUnsignedLong.data.toList.drop 0 = dktJ23_toUnsignedLong_0 := by decide +kernel
theorem dJ23_toUnsignedLong_0 : decode cJ23_toUnsignedLong 0 = .ok (.iload_n 0, 1) := dk_26 (dk_at dksJ23_toUnsignedLong_0 0 rfl rfl)
theorem dJ23_toUnsignedLong_1 : decode cJ23_toUnsignedLong 1 = .ok (.i2l, 1) := dk_133 (dk_at dksJ23_toUnsignedLong_0 1 rfl rfl)
theorem dJ23_toUnsignedLong_2 : decode cJ23_toUnsignedLong 2 = .ok (.ldc2_w 812, 3) := dk_20 3 44 (dk_at dksJ23_toUnsignedLong_0 2 rfl rfl)
theorem dJ23_toUnsignedLong_5 : decode cJ23_toUnsignedLong 5 = .ok (.land, 1) := dk_127 (dk_at dksJ23_toUnsignedLong_0 5 rfl rfl)
theorem dJ23_toUnsignedLong_6 : decode cJ23_toUnsignedLong 6 = .ok (.lreturn, 1) := dk_173 (dk_at dksJ23_toUnsignedLong_0 6 rfl rfl)
abbrev cJ23_pickPos : ByteArray := prog_69_method_350_code
def yJ23_pickPos : MethodName := ⟨RJ23, "pickPos", "(II)I"⟩
def dkwJ23_pickPos_0 : List UInt8 := [178, 1, 95, 153, 0, 9, 26, 27, 100, 167, 0, 4, 27, 172]
abbrev dktJ23_pickPos_0 : List UInt8 := dkwJ23_pickPos_0 ++ []
theorem dksJ23_pickPos_0 : cJ23_pickPos.data.toList.drop 0 = dktJ23_pickPos_0 := by decide +kernel
theorem dJ23_pickPos_0 : decode cJ23_pickPos 0 = .ok (.getstatic 351, 3) := dk_178 1 95 (dk_at dksJ23_pickPos_0 0 rfl rfl)
theorem dJ23_pickPos_3 : decode cJ23_pickPos 3 = .ok (.ifCond .eq 9, 3) := dk_153 0 9 (dk_at dksJ23_pickPos_0 3 rfl rfl)
theorem dJ23_pickPos_6 : decode cJ23_pickPos 6 = .ok (.iload_n 0, 1) := dk_26 (dk_at dksJ23_pickPos_0 6 rfl rfl)
theorem dJ23_pickPos_7 : decode cJ23_pickPos 7 = .ok (.iload_n 1, 1) := dk_27 (dk_at dksJ23_pickPos_0 7 rfl rfl)
theorem dJ23_pickPos_8 : decode cJ23_pickPos 8 = .ok (.isub, 1) := dk_100 (dk_at dksJ23_pickPos_0 8 rfl rfl)
theorem dJ23_pickPos_9 : decode cJ23_pickPos 9 = .ok (.goto 4, 3) := dk_167 0 4 (dk_at dksJ23_pickPos_0 9 rfl rfl)
theorem dJ23_pickPos_12 : decode cJ23_pickPos 12 = .ok (.iload_n 1, 1) := dk_27 (dk_at dksJ23_pickPos_0 12 rfl rfl)
theorem dJ23_pickPos_13 : decode cJ23_pickPos 13 = .ok (.ireturn, 1) := dk_172 (dk_at dksJ23_pickPos_0 13 rfl rfl)
abbrev cJ23_makeLong_2 : ByteArray := prog_69_method_352_code
def yJ23_makeLong_2 : MethodName := ⟨RJ23, "makeLong", "(SSSS)J"⟩
def dkwJ23_makeLong_2_2 : List UInt8 := [121, 129, 173]
abbrev dktJ23_makeLong_2_2 : List UInt8 := dkwJ23_makeLong_2_2 ++ []
def dkwJ23_makeLong_2_1 : List UInt8 := [28, 184, 3, 20, 16, 48, 16, 32, 184, 3, 16, 121, 129, 29, 184, 3, 20, 16, 48, 16, 48, 184, 3, 16]
abbrev dktJ23_makeLong_2_1 : List UInt8 := dkwJ23_makeLong_2_1 ++ dktJ23_makeLong_2_2
def dkwJ23_makeLong_2_0 : List UInt8 := [26, 184, 3, 20, 16, 48, 3, 184, 3, 16, 121, 27, 184, 3, 20, 16, 48, 16, 16, 184, 3, 16, 121, 129]
abbrev dktJ23_makeLong_2_0 : List UInt8 := dkwJ23_makeLong_2_0 ++ dktJ23_makeLong_2_1
theorem dksJ23_makeLong_2_0 : cJ23_makeLong_2.data.toList.drop 0 = dktJ23_makeLong_2_0 := by decide +kernel
theorem dksJ23_makeLong_2_1 : cJ23_makeLong_2.data.toList.drop 24 = dktJ23_makeLong_2_1 := dk_seg dksJ23_makeLong_2_0 24 rfl rfl
theorem dksJ23_makeLong_2_2 : cJ23_makeLong_2.data.toList.drop 48 = dktJ23_makeLong_2_2 := dk_seg dksJ23_makeLong_2_1 24 rfl rfl
theorem dJ23_makeLong_2_0 : decode cJ23_makeLong_2 0 = .ok (.iload_n 0, 1) := dk_26 (dk_at dksJ23_makeLong_2_0 0 rfl rfl)
theorem dJ23_makeLong_2_1 : decode cJ23_makeLong_2 1 = .ok (.invokestatic 788, 3) := dk_184 3 20 (dk_at dksJ23_makeLong_2_0 1 rfl rfl)
theorem dJ23_makeLong_2_4 : decode cJ23_makeLong_2 4 = .ok (.bipush 48, 2) := dk_16 48 (dk_at dksJ23_makeLong_2_0 4 rfl rfl)
theorem dJ23_makeLong_2_6 : decode cJ23_makeLong_2 6 = .ok (.iconst 0, 1) := dk_3 (dk_at dksJ23_makeLong_2_0 6 rfl rfl)
theorem dJ23_makeLong_2_7 : decode cJ23_makeLong_2 7 = .ok (.invokestatic 784, 3) := dk_184 3 16 (dk_at dksJ23_makeLong_2_0 7 rfl rfl)
theorem dJ23_makeLong_2_10 : decode cJ23_makeLong_2 10 = .ok (.lshl, 1) := dk_121 (dk_at dksJ23_makeLong_2_0 10 rfl rfl)
theorem dJ23_makeLong_2_11 : decode cJ23_makeLong_2 11 = .ok (.iload_n 1, 1) := dk_27 (dk_at dksJ23_makeLong_2_0 11 rfl rfl)
theorem dJ23_makeLong_2_12 : decode cJ23_makeLong_2 12 = .ok (.invokestatic 788, 3) := dk_184 3 20 (dk_at dksJ23_makeLong_2_0 12 rfl rfl)
theorem dJ23_makeLong_2_15 : decode cJ23_makeLong_2 15 = .ok (.bipush 48, 2) := dk_16 48 (dk_at dksJ23_makeLong_2_0 15 rfl rfl)
theorem dJ23_makeLong_2_17 : decode cJ23_makeLong_2 17 = .ok (.bipush 16, 2) := dk_16 16 (dk_at dksJ23_makeLong_2_0 17 rfl rfl)
theorem dJ23_makeLong_2_19 : decode cJ23_makeLong_2 19 = .ok (.invokestatic 784, 3) := dk_184 3 16 (dk_at dksJ23_makeLong_2_0 19 rfl rfl)
theorem dJ23_makeLong_2_22 : decode cJ23_makeLong_2 22 = .ok (.lshl, 1) := dk_121 (dk_at dksJ23_makeLong_2_0 22 rfl rfl)
theorem dJ23_makeLong_2_23 : decode cJ23_makeLong_2 23 = .ok (.lor, 1) := dk_129 (dk_at dksJ23_makeLong_2_0 23 rfl rfl)
theorem dJ23_makeLong_2_24 : decode cJ23_makeLong_2 24 = .ok (.iload_n 2, 1) := dk_28 (dk_at dksJ23_makeLong_2_1 0 rfl rfl)
theorem dJ23_makeLong_2_25 : decode cJ23_makeLong_2 25 = .ok (.invokestatic 788, 3) := dk_184 3 20 (dk_at dksJ23_makeLong_2_1 1 rfl rfl)
theorem dJ23_makeLong_2_28 : decode cJ23_makeLong_2 28 = .ok (.bipush 48, 2) := dk_16 48 (dk_at dksJ23_makeLong_2_1 4 rfl rfl)
theorem dJ23_makeLong_2_30 : decode cJ23_makeLong_2 30 = .ok (.bipush 32, 2) := dk_16 32 (dk_at dksJ23_makeLong_2_1 6 rfl rfl)
theorem dJ23_makeLong_2_32 : decode cJ23_makeLong_2 32 = .ok (.invokestatic 784, 3) := dk_184 3 16 (dk_at dksJ23_makeLong_2_1 8 rfl rfl)
theorem dJ23_makeLong_2_35 : decode cJ23_makeLong_2 35 = .ok (.lshl, 1) := dk_121 (dk_at dksJ23_makeLong_2_1 11 rfl rfl)
theorem dJ23_makeLong_2_36 : decode cJ23_makeLong_2 36 = .ok (.lor, 1) := dk_129 (dk_at dksJ23_makeLong_2_1 12 rfl rfl)
theorem dJ23_makeLong_2_37 : decode cJ23_makeLong_2 37 = .ok (.iload_n 3, 1) := dk_29 (dk_at dksJ23_makeLong_2_1 13 rfl rfl)
theorem dJ23_makeLong_2_38 : decode cJ23_makeLong_2 38 = .ok (.invokestatic 788, 3) := dk_184 3 20 (dk_at dksJ23_makeLong_2_1 14 rfl rfl)
theorem dJ23_makeLong_2_41 : decode cJ23_makeLong_2 41 = .ok (.bipush 48, 2) := dk_16 48 (dk_at dksJ23_makeLong_2_1 17 rfl rfl)
theorem dJ23_makeLong_2_43 : decode cJ23_makeLong_2 43 = .ok (.bipush 48, 2) := dk_16 48 (dk_at dksJ23_makeLong_2_1 19 rfl rfl)
theorem dJ23_makeLong_2_45 : decode cJ23_makeLong_2 45 = .ok (.invokestatic 784, 3) := dk_184 3 16 (dk_at dksJ23_makeLong_2_1 21 rfl rfl)
theorem dJ23_makeLong_2_48 : decode cJ23_makeLong_2 48 = .ok (.lshl, 1) := dk_121 (dk_at dksJ23_makeLong_2_2 0 rfl rfl)
theorem dJ23_makeLong_2_49 : decode cJ23_makeLong_2 49 = .ok (.lor, 1) := dk_129 (dk_at dksJ23_makeLong_2_2 1 rfl rfl)
theorem dJ23_makeLong_2_50 : decode cJ23_makeLong_2 50 = .ok (.lreturn, 1) := dk_173 (dk_at dksJ23_makeLong_2_2 2 rfl rfl)
abbrev cJ23_toUnsignedLong_2 : ByteArray := prog_69_method_369_code
def yJ23_toUnsignedLong_2 : MethodName := ⟨RJ23, "toUnsignedLong", "(S)J"⟩
def dkwJ23_toUnsignedLong_2_0 : List UInt8 := [26, 133, 20, 3, 42, 127, 173]
abbrev dktJ23_toUnsignedLong_2_0 : List UInt8 := dkwJ23_toUnsignedLong_2_0 ++ []
theorem dksJ23_toUnsignedLong_2_0 : cJ23_toUnsignedLong_2.data.toList.drop 0 = dktJ23_toUnsignedLong_2_0 := by decide +kernel
theorem dJ23_toUnsignedLong_2_0 : decode cJ23_toUnsignedLong_2 0 = .ok (.iload_n 0, 1) := dk_26 (dk_at dksJ23_toUnsignedLong_2_0 0 rfl rfl)
theorem dJ23_toUnsignedLong_2_1 : decode cJ23_toUnsignedLong_2 1 = .ok (.i2l, 1) := dk_133 (dk_at dksJ23_toUnsignedLong_2_0 1 rfl rfl)
theorem dJ23_toUnsignedLong_2_2 : decode cJ23_toUnsignedLong_2 2 = .ok (.ldc2_w 810, 3) := dk_20 3 42 (dk_at dksJ23_toUnsignedLong_2_0 2 rfl rfl)
theorem dJ23_toUnsignedLong_2_5 : decode cJ23_toUnsignedLong_2 5 = .ok (.land, 1) := dk_127 (dk_at dksJ23_toUnsignedLong_2_0 5 rfl rfl)
theorem dJ23_toUnsignedLong_2_6 : decode cJ23_toUnsignedLong_2 6 = .ok (.lreturn, 1) := dk_173 (dk_at dksJ23_toUnsignedLong_2_0 6 rfl rfl)
abbrev cJ23_makeLong_3 : ByteArray := prog_69_method_351_code
def yJ23_makeLong_3 : MethodName := ⟨RJ23, "makeLong", "(BBBBBBBB)J"⟩
def dkwJ23_makeLong_3_4 : List UInt8 := [184, 3, 13, 16, 56, 16, 56, 184, 3, 16, 121, 129, 173]
abbrev dktJ23_makeLong_3_4 : List UInt8 := dkwJ23_makeLong_3_4 ++ []
def dkwJ23_makeLong_3_3 : List UInt8 := [16, 40, 184, 3, 16, 121, 129, 21, 6, 184, 3, 13, 16, 56, 16, 48, 184, 3, 16, 121, 129, 21, 7]
abbrev dktJ23_makeLong_3_3 : List UInt8 := dkwJ23_makeLong_3_3 ++ dktJ23_makeLong_3_4
def dkwJ23_makeLong_3_2 : List UInt8 := [121, 129, 21, 4, 184, 3, 13, 16, 56, 16, 32, 184, 3, 16, 121, 129, 21, 5, 184, 3, 13, 16, 56]
abbrev dktJ23_makeLong_3_2 : List UInt8 := dkwJ23_makeLong_3_2 ++ dktJ23_makeLong_3_3
def dkwJ23_makeLong_3_1 : List UInt8 := [28, 184, 3, 13, 16, 56, 16, 16, 184, 3, 16, 121, 129, 29, 184, 3, 13, 16, 56, 16, 24, 184, 3, 16]
abbrev dktJ23_makeLong_3_1 : List UInt8 := dkwJ23_makeLong_3_1 ++ dktJ23_makeLong_3_2
def dkwJ23_makeLong_3_0 : List UInt8 := [26, 184, 3, 13, 16, 56, 3, 184, 3, 16, 121, 27, 184, 3, 13, 16, 56, 16, 8, 184, 3, 16, 121, 129]
abbrev dktJ23_makeLong_3_0 : List UInt8 := dkwJ23_makeLong_3_0 ++ dktJ23_makeLong_3_1
theorem dksJ23_makeLong_3_0 : cJ23_makeLong_3.data.toList.drop 0 = dktJ23_makeLong_3_0 := by decide +kernel
theorem dksJ23_makeLong_3_1 : cJ23_makeLong_3.data.toList.drop 24 = dktJ23_makeLong_3_1 := dk_seg dksJ23_makeLong_3_0 24 rfl rfl
theorem dksJ23_makeLong_3_2 : cJ23_makeLong_3.data.toList.drop 48 = dktJ23_makeLong_3_2 := dk_seg dksJ23_makeLong_3_1 24 rfl rfl
theorem dksJ23_makeLong_3_3 : cJ23_makeLong_3.data.toList.drop 71 = dktJ23_makeLong_3_3 := dk_seg dksJ23_makeLong_3_2 23 rfl rfl
theorem dksJ23_makeLong_3_4 : cJ23_makeLong_3.data.toList.drop 94 = dktJ23_makeLong_3_4 := dk_seg dksJ23_makeLong_3_3 23 rfl rfl
theorem dJ23_makeLong_3_0 : decode cJ23_makeLong_3 0 = .ok (.iload_n 0, 1) := dk_26 (dk_at dksJ23_makeLong_3_0 0 rfl rfl)
theorem dJ23_makeLong_3_1 : decode cJ23_makeLong_3 1 = .ok (.invokestatic 781, 3) := dk_184 3 13 (dk_at dksJ23_makeLong_3_0 1 rfl rfl)
theorem dJ23_makeLong_3_4 : decode cJ23_makeLong_3 4 = .ok (.bipush 56, 2) := dk_16 56 (dk_at dksJ23_makeLong_3_0 4 rfl rfl)
theorem dJ23_makeLong_3_6 : decode cJ23_makeLong_3 6 = .ok (.iconst 0, 1) := dk_3 (dk_at dksJ23_makeLong_3_0 6 rfl rfl)
theorem dJ23_makeLong_3_7 : decode cJ23_makeLong_3 7 = .ok (.invokestatic 784, 3) := dk_184 3 16 (dk_at dksJ23_makeLong_3_0 7 rfl rfl)
theorem dJ23_makeLong_3_10 : decode cJ23_makeLong_3 10 = .ok (.lshl, 1) := dk_121 (dk_at dksJ23_makeLong_3_0 10 rfl rfl)
theorem dJ23_makeLong_3_11 : decode cJ23_makeLong_3 11 = .ok (.iload_n 1, 1) := dk_27 (dk_at dksJ23_makeLong_3_0 11 rfl rfl)
theorem dJ23_makeLong_3_12 : decode cJ23_makeLong_3 12 = .ok (.invokestatic 781, 3) := dk_184 3 13 (dk_at dksJ23_makeLong_3_0 12 rfl rfl)
theorem dJ23_makeLong_3_15 : decode cJ23_makeLong_3 15 = .ok (.bipush 56, 2) := dk_16 56 (dk_at dksJ23_makeLong_3_0 15 rfl rfl)
theorem dJ23_makeLong_3_17 : decode cJ23_makeLong_3 17 = .ok (.bipush 8, 2) := dk_16 8 (dk_at dksJ23_makeLong_3_0 17 rfl rfl)
theorem dJ23_makeLong_3_19 : decode cJ23_makeLong_3 19 = .ok (.invokestatic 784, 3) := dk_184 3 16 (dk_at dksJ23_makeLong_3_0 19 rfl rfl)
theorem dJ23_makeLong_3_22 : decode cJ23_makeLong_3 22 = .ok (.lshl, 1) := dk_121 (dk_at dksJ23_makeLong_3_0 22 rfl rfl)
theorem dJ23_makeLong_3_23 : decode cJ23_makeLong_3 23 = .ok (.lor, 1) := dk_129 (dk_at dksJ23_makeLong_3_0 23 rfl rfl)
theorem dJ23_makeLong_3_24 : decode cJ23_makeLong_3 24 = .ok (.iload_n 2, 1) := dk_28 (dk_at dksJ23_makeLong_3_1 0 rfl rfl)
theorem dJ23_makeLong_3_25 : decode cJ23_makeLong_3 25 = .ok (.invokestatic 781, 3) := dk_184 3 13 (dk_at dksJ23_makeLong_3_1 1 rfl rfl)
theorem dJ23_makeLong_3_28 : decode cJ23_makeLong_3 28 = .ok (.bipush 56, 2) := dk_16 56 (dk_at dksJ23_makeLong_3_1 4 rfl rfl)
theorem dJ23_makeLong_3_30 : decode cJ23_makeLong_3 30 = .ok (.bipush 16, 2) := dk_16 16 (dk_at dksJ23_makeLong_3_1 6 rfl rfl)
theorem dJ23_makeLong_3_32 : decode cJ23_makeLong_3 32 = .ok (.invokestatic 784, 3) := dk_184 3 16 (dk_at dksJ23_makeLong_3_1 8 rfl rfl)
theorem dJ23_makeLong_3_35 : decode cJ23_makeLong_3 35 = .ok (.lshl, 1) := dk_121 (dk_at dksJ23_makeLong_3_1 11 rfl rfl)
theorem dJ23_makeLong_3_36 : decode cJ23_makeLong_3 36 = .ok (.lor, 1) := dk_129 (dk_at dksJ23_makeLong_3_1 12 rfl rfl)
theorem dJ23_makeLong_3_37 : decode cJ23_makeLong_3 37 = .ok (.iload_n 3, 1) := dk_29 (dk_at dksJ23_makeLong_3_1 13 rfl rfl)
theorem dJ23_makeLong_3_38 : decode cJ23_makeLong_3 38 = .ok (.invokestatic 781, 3) := dk_184 3 13 (dk_at dksJ23_makeLong_3_1 14 rfl rfl)
theorem dJ23_makeLong_3_41 : decode cJ23_makeLong_3 41 = .ok (.bipush 56, 2) := dk_16 56 (dk_at dksJ23_makeLong_3_1 17 rfl rfl)
theorem dJ23_makeLong_3_43 : decode cJ23_makeLong_3 43 = .ok (.bipush 24, 2) := dk_16 24 (dk_at dksJ23_makeLong_3_1 19 rfl rfl)
theorem dJ23_makeLong_3_45 : decode cJ23_makeLong_3 45 = .ok (.invokestatic 784, 3) := dk_184 3 16 (dk_at dksJ23_makeLong_3_1 21 rfl rfl)
theorem dJ23_makeLong_3_48 : decode cJ23_makeLong_3 48 = .ok (.lshl, 1) := dk_121 (dk_at dksJ23_makeLong_3_2 0 rfl rfl)
theorem dJ23_makeLong_3_49 : decode cJ23_makeLong_3 49 = .ok (.lor, 1) := dk_129 (dk_at dksJ23_makeLong_3_2 1 rfl rfl)
theorem dJ23_makeLong_3_50 : decode cJ23_makeLong_3 50 = .ok (.iload 4, 2) := dk_21 4 (dk_at dksJ23_makeLong_3_2 2 rfl rfl)
theorem dJ23_makeLong_3_52 : decode cJ23_makeLong_3 52 = .ok (.invokestatic 781, 3) := dk_184 3 13 (dk_at dksJ23_makeLong_3_2 4 rfl rfl)
theorem dJ23_makeLong_3_55 : decode cJ23_makeLong_3 55 = .ok (.bipush 56, 2) := dk_16 56 (dk_at dksJ23_makeLong_3_2 7 rfl rfl)
theorem dJ23_makeLong_3_57 : decode cJ23_makeLong_3 57 = .ok (.bipush 32, 2) := dk_16 32 (dk_at dksJ23_makeLong_3_2 9 rfl rfl)
theorem dJ23_makeLong_3_59 : decode cJ23_makeLong_3 59 = .ok (.invokestatic 784, 3) := dk_184 3 16 (dk_at dksJ23_makeLong_3_2 11 rfl rfl)
theorem dJ23_makeLong_3_62 : decode cJ23_makeLong_3 62 = .ok (.lshl, 1) := dk_121 (dk_at dksJ23_makeLong_3_2 14 rfl rfl)
theorem dJ23_makeLong_3_63 : decode cJ23_makeLong_3 63 = .ok (.lor, 1) := dk_129 (dk_at dksJ23_makeLong_3_2 15 rfl rfl)
theorem dJ23_makeLong_3_64 : decode cJ23_makeLong_3 64 = .ok (.iload 5, 2) := dk_21 5 (dk_at dksJ23_makeLong_3_2 16 rfl rfl)
theorem dJ23_makeLong_3_66 : decode cJ23_makeLong_3 66 = .ok (.invokestatic 781, 3) := dk_184 3 13 (dk_at dksJ23_makeLong_3_2 18 rfl rfl)
theorem dJ23_makeLong_3_69 : decode cJ23_makeLong_3 69 = .ok (.bipush 56, 2) := dk_16 56 (dk_at dksJ23_makeLong_3_2 21 rfl rfl)
theorem dJ23_makeLong_3_71 : decode cJ23_makeLong_3 71 = .ok (.bipush 40, 2) := dk_16 40 (dk_at dksJ23_makeLong_3_3 0 rfl rfl)
theorem dJ23_makeLong_3_73 : decode cJ23_makeLong_3 73 = .ok (.invokestatic 784, 3) := dk_184 3 16 (dk_at dksJ23_makeLong_3_3 2 rfl rfl)
theorem dJ23_makeLong_3_76 : decode cJ23_makeLong_3 76 = .ok (.lshl, 1) := dk_121 (dk_at dksJ23_makeLong_3_3 5 rfl rfl)
theorem dJ23_makeLong_3_77 : decode cJ23_makeLong_3 77 = .ok (.lor, 1) := dk_129 (dk_at dksJ23_makeLong_3_3 6 rfl rfl)
theorem dJ23_makeLong_3_78 : decode cJ23_makeLong_3 78 = .ok (.iload 6, 2) := dk_21 6 (dk_at dksJ23_makeLong_3_3 7 rfl rfl)
theorem dJ23_makeLong_3_80 : decode cJ23_makeLong_3 80 = .ok (.invokestatic 781, 3) := dk_184 3 13 (dk_at dksJ23_makeLong_3_3 9 rfl rfl)
theorem dJ23_makeLong_3_83 : decode cJ23_makeLong_3 83 = .ok (.bipush 56, 2) := dk_16 56 (dk_at dksJ23_makeLong_3_3 12 rfl rfl)
theorem dJ23_makeLong_3_85 : decode cJ23_makeLong_3 85 = .ok (.bipush 48, 2) := dk_16 48 (dk_at dksJ23_makeLong_3_3 14 rfl rfl)
theorem dJ23_makeLong_3_87 : decode cJ23_makeLong_3 87 = .ok (.invokestatic 784, 3) := dk_184 3 16 (dk_at dksJ23_makeLong_3_3 16 rfl rfl)
theorem dJ23_makeLong_3_90 : decode cJ23_makeLong_3 90 = .ok (.lshl, 1) := dk_121 (dk_at dksJ23_makeLong_3_3 19 rfl rfl)
theorem dJ23_makeLong_3_91 : decode cJ23_makeLong_3 91 = .ok (.lor, 1) := dk_129 (dk_at dksJ23_makeLong_3_3 20 rfl rfl)
theorem dJ23_makeLong_3_92 : decode cJ23_makeLong_3 92 = .ok (.iload 7, 2) := dk_21 7 (dk_at dksJ23_makeLong_3_3 21 rfl rfl)
theorem dJ23_makeLong_3_94 : decode cJ23_makeLong_3 94 = .ok (.invokestatic 781, 3) := dk_184 3 13 (dk_at dksJ23_makeLong_3_4 0 rfl rfl)
theorem dJ23_makeLong_3_97 : decode cJ23_makeLong_3 97 = .ok (.bipush 56, 2) := dk_16 56 (dk_at dksJ23_makeLong_3_4 3 rfl rfl)
theorem dJ23_makeLong_3_99 : decode cJ23_makeLong_3 99 = .ok (.bipush 56, 2) := dk_16 56 (dk_at dksJ23_makeLong_3_4 5 rfl rfl)
theorem dJ23_makeLong_3_101 : decode cJ23_makeLong_3 101 = .ok (.invokestatic 784, 3) := dk_184 3 16 (dk_at dksJ23_makeLong_3_4 7 rfl rfl)
theorem dJ23_makeLong_3_104 : decode cJ23_makeLong_3 104 = .ok (.lshl, 1) := dk_121 (dk_at dksJ23_makeLong_3_4 10 rfl rfl)
theorem dJ23_makeLong_3_105 : decode cJ23_makeLong_3 105 = .ok (.lor, 1) := dk_129 (dk_at dksJ23_makeLong_3_4 11 rfl rfl)
theorem dJ23_makeLong_3_106 : decode cJ23_makeLong_3 106 = .ok (.lreturn, 1) := dk_173 (dk_at dksJ23_makeLong_3_4 12 rfl rfl)
abbrev cJ23_toUnsignedLong_3 : ByteArray := prog_69_method_368_code
def yJ23_toUnsignedLong_3 : MethodName := ⟨RJ23, "toUnsignedLong", "(B)J"⟩
def dkwJ23_toUnsignedLong_3_0 : List UInt8 := [26, 133, 20, 3, 40, 127, 173]
abbrev dktJ23_toUnsignedLong_3_0 : List UInt8 := dkwJ23_toUnsignedLong_3_0 ++ []
theorem dksJ23_toUnsignedLong_3_0 : cJ23_toUnsignedLong_3.data.toList.drop 0 = dktJ23_toUnsignedLong_3_0 := by decide +kernel
theorem dJ23_toUnsignedLong_3_0 : decode cJ23_toUnsignedLong_3 0 = .ok (.iload_n 0, 1) := dk_26 (dk_at dksJ23_toUnsignedLong_3_0 0 rfl rfl)
theorem dJ23_toUnsignedLong_3_1 : decode cJ23_toUnsignedLong_3 1 = .ok (.i2l, 1) := dk_133 (dk_at dksJ23_toUnsignedLong_3_0 1 rfl rfl)
theorem dJ23_toUnsignedLong_3_2 : decode cJ23_toUnsignedLong_3 2 = .ok (.ldc2_w 808, 3) := dk_20 3 40 (dk_at dksJ23_toUnsignedLong_3_0 2 rfl rfl)
theorem dJ23_toUnsignedLong_3_5 : decode cJ23_toUnsignedLong_3 5 = .ok (.land, 1) := dk_127 (dk_at dksJ23_toUnsignedLong_3_0 5 rfl rfl)
theorem dJ23_toUnsignedLong_3_6 : decode cJ23_toUnsignedLong_3 6 = .ok (.lreturn, 1) := dk_173 (dk_at dksJ23_toUnsignedLong_3_0 6 rfl rfl)
abbrev cJ23_getIntUnaligned : ByteArray := prog_69_method_336_code
def yJ23_getIntUnaligned : MethodName := ⟨RJ23, "getIntUnaligned", "(Ljava/lang/Object;J)I"⟩
def dkwJ23_getIntUnaligned_3 : List UInt8 := [43, 32, 20, 1, 93, 97, 182, 0, 39, 184, 2, 211, 172]
abbrev dktJ23_getIntUnaligned_3 : List UInt8 := dkwJ23_getIntUnaligned_3 ++ []
def dkwJ23_getIntUnaligned_2 : List UInt8 := [43, 32, 182, 0, 39, 42, 43, 32, 10, 97, 182, 0, 39, 42, 43, 32, 20, 0, 203, 97, 182, 0, 39, 42]
abbrev dktJ23_getIntUnaligned_2 : List UInt8 := dkwJ23_getIntUnaligned_2 ++ dktJ23_getIntUnaligned_3
def dkwJ23_getIntUnaligned_1 : List UInt8 := [154, 0, 23, 42, 43, 32, 182, 0, 47, 42, 43, 32, 20, 0, 203, 97, 182, 0, 47, 184, 2, 207, 172, 42]
abbrev dktJ23_getIntUnaligned_1 : List UInt8 := dkwJ23_getIntUnaligned_1 ++ dktJ23_getIntUnaligned_2
def dkwJ23_getIntUnaligned_0 : List UInt8 := [32, 20, 1, 93, 127, 9, 148, 154, 0, 10, 42, 43, 32, 182, 0, 17, 172, 32, 10, 127, 9, 148]
abbrev dktJ23_getIntUnaligned_0 : List UInt8 := dkwJ23_getIntUnaligned_0 ++ dktJ23_getIntUnaligned_1
theorem dksJ23_getIntUnaligned_0 : cJ23_getIntUnaligned.data.toList.drop 0 = dktJ23_getIntUnaligned_0 := by decide +kernel
theorem dksJ23_getIntUnaligned_1 : cJ23_getIntUnaligned.data.toList.drop 22 = dktJ23_getIntUnaligned_1 := dk_seg dksJ23_getIntUnaligned_0 22 rfl rfl
theorem dksJ23_getIntUnaligned_2 : cJ23_getIntUnaligned.data.toList.drop 46 = dktJ23_getIntUnaligned_2 := dk_seg dksJ23_getIntUnaligned_1 24 rfl rfl
theorem dksJ23_getIntUnaligned_3 : cJ23_getIntUnaligned.data.toList.drop 70 = dktJ23_getIntUnaligned_3 := dk_seg dksJ23_getIntUnaligned_2 24 rfl rfl
theorem dJ23_getIntUnaligned_0 : decode cJ23_getIntUnaligned 0 = .ok (.lload_n 2, 1) := dk_32 (dk_at dksJ23_getIntUnaligned_0 0 rfl rfl)
theorem dJ23_getIntUnaligned_1 : decode cJ23_getIntUnaligned 1 = .ok (.ldc2_w 349, 3) := dk_20 1 93 (dk_at dksJ23_getIntUnaligned_0 1 rfl rfl)
theorem dJ23_getIntUnaligned_4 : decode cJ23_getIntUnaligned 4 = .ok (.land, 1) := dk_127 (dk_at dksJ23_getIntUnaligned_0 4 rfl rfl)
theorem dJ23_getIntUnaligned_5 : decode cJ23_getIntUnaligned 5 = .ok (.lconst 0, 1) := dk_9 (dk_at dksJ23_getIntUnaligned_0 5 rfl rfl)
theorem dJ23_getIntUnaligned_6 : decode cJ23_getIntUnaligned 6 = .ok (.lcmp, 1) := dk_148 (dk_at dksJ23_getIntUnaligned_0 6 rfl rfl)
theorem dJ23_getIntUnaligned_7 : decode cJ23_getIntUnaligned 7 = .ok (.ifCond .ne 10, 3) := dk_154 0 10 (dk_at dksJ23_getIntUnaligned_0 7 rfl rfl)
theorem dJ23_getIntUnaligned_10 : decode cJ23_getIntUnaligned 10 = .ok (.aload_n 0, 1) := dk_42 (dk_at dksJ23_getIntUnaligned_0 10 rfl rfl)
theorem dJ23_getIntUnaligned_11 : decode cJ23_getIntUnaligned 11 = .ok (.aload_n 1, 1) := dk_43 (dk_at dksJ23_getIntUnaligned_0 11 rfl rfl)
theorem dJ23_getIntUnaligned_12 : decode cJ23_getIntUnaligned 12 = .ok (.lload_n 2, 1) := dk_32 (dk_at dksJ23_getIntUnaligned_0 12 rfl rfl)
theorem dJ23_getIntUnaligned_13 : decode cJ23_getIntUnaligned 13 = .ok (.invokevirtual 17, 3) := dk_182 0 17 (dk_at dksJ23_getIntUnaligned_0 13 rfl rfl)
theorem dJ23_getIntUnaligned_16 : decode cJ23_getIntUnaligned 16 = .ok (.ireturn, 1) := dk_172 (dk_at dksJ23_getIntUnaligned_0 16 rfl rfl)
theorem dJ23_getIntUnaligned_17 : decode cJ23_getIntUnaligned 17 = .ok (.lload_n 2, 1) := dk_32 (dk_at dksJ23_getIntUnaligned_0 17 rfl rfl)
theorem dJ23_getIntUnaligned_18 : decode cJ23_getIntUnaligned 18 = .ok (.lconst 1, 1) := dk_10 (dk_at dksJ23_getIntUnaligned_0 18 rfl rfl)
theorem dJ23_getIntUnaligned_19 : decode cJ23_getIntUnaligned 19 = .ok (.land, 1) := dk_127 (dk_at dksJ23_getIntUnaligned_0 19 rfl rfl)
theorem dJ23_getIntUnaligned_20 : decode cJ23_getIntUnaligned 20 = .ok (.lconst 0, 1) := dk_9 (dk_at dksJ23_getIntUnaligned_0 20 rfl rfl)
theorem dJ23_getIntUnaligned_21 : decode cJ23_getIntUnaligned 21 = .ok (.lcmp, 1) := dk_148 (dk_at dksJ23_getIntUnaligned_0 21 rfl rfl)
theorem dJ23_getIntUnaligned_22 : decode cJ23_getIntUnaligned 22 = .ok (.ifCond .ne 23, 3) := dk_154 0 23 (dk_at dksJ23_getIntUnaligned_1 0 rfl rfl)
theorem dJ23_getIntUnaligned_25 : decode cJ23_getIntUnaligned 25 = .ok (.aload_n 0, 1) := dk_42 (dk_at dksJ23_getIntUnaligned_1 3 rfl rfl)
theorem dJ23_getIntUnaligned_26 : decode cJ23_getIntUnaligned 26 = .ok (.aload_n 1, 1) := dk_43 (dk_at dksJ23_getIntUnaligned_1 4 rfl rfl)
theorem dJ23_getIntUnaligned_27 : decode cJ23_getIntUnaligned 27 = .ok (.lload_n 2, 1) := dk_32 (dk_at dksJ23_getIntUnaligned_1 5 rfl rfl)
theorem dJ23_getIntUnaligned_28 : decode cJ23_getIntUnaligned 28 = .ok (.invokevirtual 47, 3) := dk_182 0 47 (dk_at dksJ23_getIntUnaligned_1 6 rfl rfl)
theorem dJ23_getIntUnaligned_31 : decode cJ23_getIntUnaligned 31 = .ok (.aload_n 0, 1) := dk_42 (dk_at dksJ23_getIntUnaligned_1 9 rfl rfl)
theorem dJ23_getIntUnaligned_32 : decode cJ23_getIntUnaligned 32 = .ok (.aload_n 1, 1) := dk_43 (dk_at dksJ23_getIntUnaligned_1 10 rfl rfl)
theorem dJ23_getIntUnaligned_33 : decode cJ23_getIntUnaligned 33 = .ok (.lload_n 2, 1) := dk_32 (dk_at dksJ23_getIntUnaligned_1 11 rfl rfl)
theorem dJ23_getIntUnaligned_34 : decode cJ23_getIntUnaligned 34 = .ok (.ldc2_w 203, 3) := dk_20 0 203 (dk_at dksJ23_getIntUnaligned_1 12 rfl rfl)
theorem dJ23_getIntUnaligned_37 : decode cJ23_getIntUnaligned 37 = .ok (.ladd, 1) := dk_97 (dk_at dksJ23_getIntUnaligned_1 15 rfl rfl)
theorem dJ23_getIntUnaligned_38 : decode cJ23_getIntUnaligned 38 = .ok (.invokevirtual 47, 3) := dk_182 0 47 (dk_at dksJ23_getIntUnaligned_1 16 rfl rfl)
theorem dJ23_getIntUnaligned_41 : decode cJ23_getIntUnaligned 41 = .ok (.invokestatic 719, 3) := dk_184 2 207 (dk_at dksJ23_getIntUnaligned_1 19 rfl rfl)
theorem dJ23_getIntUnaligned_44 : decode cJ23_getIntUnaligned 44 = .ok (.ireturn, 1) := dk_172 (dk_at dksJ23_getIntUnaligned_1 22 rfl rfl)
theorem dJ23_getIntUnaligned_45 : decode cJ23_getIntUnaligned 45 = .ok (.aload_n 0, 1) := dk_42 (dk_at dksJ23_getIntUnaligned_1 23 rfl rfl)
theorem dJ23_getIntUnaligned_46 : decode cJ23_getIntUnaligned 46 = .ok (.aload_n 1, 1) := dk_43 (dk_at dksJ23_getIntUnaligned_2 0 rfl rfl)
theorem dJ23_getIntUnaligned_47 : decode cJ23_getIntUnaligned 47 = .ok (.lload_n 2, 1) := dk_32 (dk_at dksJ23_getIntUnaligned_2 1 rfl rfl)
theorem dJ23_getIntUnaligned_48 : decode cJ23_getIntUnaligned 48 = .ok (.invokevirtual 39, 3) := dk_182 0 39 (dk_at dksJ23_getIntUnaligned_2 2 rfl rfl)
theorem dJ23_getIntUnaligned_51 : decode cJ23_getIntUnaligned 51 = .ok (.aload_n 0, 1) := dk_42 (dk_at dksJ23_getIntUnaligned_2 5 rfl rfl)
theorem dJ23_getIntUnaligned_52 : decode cJ23_getIntUnaligned 52 = .ok (.aload_n 1, 1) := dk_43 (dk_at dksJ23_getIntUnaligned_2 6 rfl rfl)
theorem dJ23_getIntUnaligned_53 : decode cJ23_getIntUnaligned 53 = .ok (.lload_n 2, 1) := dk_32 (dk_at dksJ23_getIntUnaligned_2 7 rfl rfl)
theorem dJ23_getIntUnaligned_54 : decode cJ23_getIntUnaligned 54 = .ok (.lconst 1, 1) := dk_10 (dk_at dksJ23_getIntUnaligned_2 8 rfl rfl)
theorem dJ23_getIntUnaligned_55 : decode cJ23_getIntUnaligned 55 = .ok (.ladd, 1) := dk_97 (dk_at dksJ23_getIntUnaligned_2 9 rfl rfl)
theorem dJ23_getIntUnaligned_56 : decode cJ23_getIntUnaligned 56 = .ok (.invokevirtual 39, 3) := dk_182 0 39 (dk_at dksJ23_getIntUnaligned_2 10 rfl rfl)
theorem dJ23_getIntUnaligned_59 : decode cJ23_getIntUnaligned 59 = .ok (.aload_n 0, 1) := dk_42 (dk_at dksJ23_getIntUnaligned_2 13 rfl rfl)
theorem dJ23_getIntUnaligned_60 : decode cJ23_getIntUnaligned 60 = .ok (.aload_n 1, 1) := dk_43 (dk_at dksJ23_getIntUnaligned_2 14 rfl rfl)
theorem dJ23_getIntUnaligned_61 : decode cJ23_getIntUnaligned 61 = .ok (.lload_n 2, 1) := dk_32 (dk_at dksJ23_getIntUnaligned_2 15 rfl rfl)
theorem dJ23_getIntUnaligned_62 : decode cJ23_getIntUnaligned 62 = .ok (.ldc2_w 203, 3) := dk_20 0 203 (dk_at dksJ23_getIntUnaligned_2 16 rfl rfl)
theorem dJ23_getIntUnaligned_65 : decode cJ23_getIntUnaligned 65 = .ok (.ladd, 1) := dk_97 (dk_at dksJ23_getIntUnaligned_2 19 rfl rfl)
theorem dJ23_getIntUnaligned_66 : decode cJ23_getIntUnaligned 66 = .ok (.invokevirtual 39, 3) := dk_182 0 39 (dk_at dksJ23_getIntUnaligned_2 20 rfl rfl)
theorem dJ23_getIntUnaligned_69 : decode cJ23_getIntUnaligned 69 = .ok (.aload_n 0, 1) := dk_42 (dk_at dksJ23_getIntUnaligned_2 23 rfl rfl)
theorem dJ23_getIntUnaligned_70 : decode cJ23_getIntUnaligned 70 = .ok (.aload_n 1, 1) := dk_43 (dk_at dksJ23_getIntUnaligned_3 0 rfl rfl)
theorem dJ23_getIntUnaligned_71 : decode cJ23_getIntUnaligned 71 = .ok (.lload_n 2, 1) := dk_32 (dk_at dksJ23_getIntUnaligned_3 1 rfl rfl)
theorem dJ23_getIntUnaligned_72 : decode cJ23_getIntUnaligned 72 = .ok (.ldc2_w 349, 3) := dk_20 1 93 (dk_at dksJ23_getIntUnaligned_3 2 rfl rfl)
theorem dJ23_getIntUnaligned_75 : decode cJ23_getIntUnaligned 75 = .ok (.ladd, 1) := dk_97 (dk_at dksJ23_getIntUnaligned_3 5 rfl rfl)
theorem dJ23_getIntUnaligned_76 : decode cJ23_getIntUnaligned 76 = .ok (.invokevirtual 39, 3) := dk_182 0 39 (dk_at dksJ23_getIntUnaligned_3 6 rfl rfl)
theorem dJ23_getIntUnaligned_79 : decode cJ23_getIntUnaligned 79 = .ok (.invokestatic 723, 3) := dk_184 2 211 (dk_at dksJ23_getIntUnaligned_3 9 rfl rfl)
theorem dJ23_getIntUnaligned_82 : decode cJ23_getIntUnaligned 82 = .ok (.ireturn, 1) := dk_172 (dk_at dksJ23_getIntUnaligned_3 12 rfl rfl)
abbrev cJ23_makeInt : ByteArray := prog_69_method_354_code
def yJ23_makeInt : MethodName := ⟨RJ23, "makeInt", "(SS)I"⟩
def dkwJ23_makeInt_1 : List UInt8 := [172]
abbrev dktJ23_makeInt_1 : List UInt8 := dkwJ23_makeInt_1 ++ []
def dkwJ23_makeInt_0 : List UInt8 := [26, 184, 3, 24, 16, 16, 3, 184, 3, 16, 120, 27, 184, 3, 24, 16, 16, 16, 16, 184, 3, 16, 120, 128]
abbrev dktJ23_makeInt_0 : List UInt8 := dkwJ23_makeInt_0 ++ dktJ23_makeInt_1
theorem dksJ23_makeInt_0 : cJ23_makeInt.data.toList.drop 0 = dktJ23_makeInt_0 := by decide +kernel
theorem dksJ23_makeInt_1 : cJ23_makeInt.data.toList.drop 24 = dktJ23_makeInt_1 := dk_seg dksJ23_makeInt_0 24 rfl rfl
theorem dJ23_makeInt_0 : decode cJ23_makeInt 0 = .ok (.iload_n 0, 1) := dk_26 (dk_at dksJ23_makeInt_0 0 rfl rfl)
theorem dJ23_makeInt_1 : decode cJ23_makeInt 1 = .ok (.invokestatic 792, 3) := dk_184 3 24 (dk_at dksJ23_makeInt_0 1 rfl rfl)
theorem dJ23_makeInt_4 : decode cJ23_makeInt 4 = .ok (.bipush 16, 2) := dk_16 16 (dk_at dksJ23_makeInt_0 4 rfl rfl)
theorem dJ23_makeInt_6 : decode cJ23_makeInt 6 = .ok (.iconst 0, 1) := dk_3 (dk_at dksJ23_makeInt_0 6 rfl rfl)
theorem dJ23_makeInt_7 : decode cJ23_makeInt 7 = .ok (.invokestatic 784, 3) := dk_184 3 16 (dk_at dksJ23_makeInt_0 7 rfl rfl)
theorem dJ23_makeInt_10 : decode cJ23_makeInt 10 = .ok (.ishl, 1) := dk_120 (dk_at dksJ23_makeInt_0 10 rfl rfl)
theorem dJ23_makeInt_11 : decode cJ23_makeInt 11 = .ok (.iload_n 1, 1) := dk_27 (dk_at dksJ23_makeInt_0 11 rfl rfl)
theorem dJ23_makeInt_12 : decode cJ23_makeInt 12 = .ok (.invokestatic 792, 3) := dk_184 3 24 (dk_at dksJ23_makeInt_0 12 rfl rfl)
theorem dJ23_makeInt_15 : decode cJ23_makeInt 15 = .ok (.bipush 16, 2) := dk_16 16 (dk_at dksJ23_makeInt_0 15 rfl rfl)
theorem dJ23_makeInt_17 : decode cJ23_makeInt 17 = .ok (.bipush 16, 2) := dk_16 16 (dk_at dksJ23_makeInt_0 17 rfl rfl)
theorem dJ23_makeInt_19 : decode cJ23_makeInt 19 = .ok (.invokestatic 784, 3) := dk_184 3 16 (dk_at dksJ23_makeInt_0 19 rfl rfl)
theorem dJ23_makeInt_22 : decode cJ23_makeInt 22 = .ok (.ishl, 1) := dk_120 (dk_at dksJ23_makeInt_0 22 rfl rfl)
theorem dJ23_makeInt_23 : decode cJ23_makeInt 23 = .ok (.ior, 1) := dk_128 (dk_at dksJ23_makeInt_0 23 rfl rfl)
theorem dJ23_makeInt_24 : decode cJ23_makeInt 24 = .ok (.ireturn, 1) := dk_172 (dk_at dksJ23_makeInt_1 0 rfl rfl)
abbrev cJ23_toUnsignedInt : ByteArray := prog_69_method_367_code
def yJ23_toUnsignedInt : MethodName := ⟨RJ23, "toUnsignedInt", "(S)I"⟩
def dkwJ23_toUnsignedInt_0 : List UInt8 := [26, 19, 1, 118, 126, 172]
abbrev dktJ23_toUnsignedInt_0 : List UInt8 := dkwJ23_toUnsignedInt_0 ++ []
theorem dksJ23_toUnsignedInt_0 : cJ23_toUnsignedInt.data.toList.drop 0 = dktJ23_toUnsignedInt_0 := by decide +kernel
theorem dJ23_toUnsignedInt_0 : decode cJ23_toUnsignedInt 0 = .ok (.iload_n 0, 1) := dk_26 (dk_at dksJ23_toUnsignedInt_0 0 rfl rfl)
theorem dJ23_toUnsignedInt_1 : decode cJ23_toUnsignedInt 1 = .ok (.ldc_w 374, 3) := dk_19 1 118 (dk_at dksJ23_toUnsignedInt_0 1 rfl rfl)
theorem dJ23_toUnsignedInt_4 : decode cJ23_toUnsignedInt 4 = .ok (.iand, 1) := dk_126 (dk_at dksJ23_toUnsignedInt_0 4 rfl rfl)
theorem dJ23_toUnsignedInt_5 : decode cJ23_toUnsignedInt 5 = .ok (.ireturn, 1) := dk_172 (dk_at dksJ23_toUnsignedInt_0 5 rfl rfl)
abbrev cJ23_makeInt_2 : ByteArray := prog_69_method_355_code
def yJ23_makeInt_2 : MethodName := ⟨RJ23, "makeInt", "(BBBB)I"⟩
def dkwJ23_makeInt_2_2 : List UInt8 := [120, 128, 172]
abbrev dktJ23_makeInt_2_2 : List UInt8 := dkwJ23_makeInt_2_2 ++ []
def dkwJ23_makeInt_2_1 : List UInt8 := [28, 184, 3, 28, 16, 24, 16, 16, 184, 3, 16, 120, 128, 29, 184, 3, 28, 16, 24, 16, 24, 184, 3, 16]
abbrev dktJ23_makeInt_2_1 : List UInt8 := dkwJ23_makeInt_2_1 ++ dktJ23_makeInt_2_2
def dkwJ23_makeInt_2_0 : List UInt8 := [26, 184, 3, 28, 16, 24, 3, 184, 3, 16, 120, 27, 184, 3, 28, 16, 24, 16, 8, 184, 3, 16, 120, 128]
abbrev dktJ23_makeInt_2_0 : List UInt8 := dkwJ23_makeInt_2_0 ++ dktJ23_makeInt_2_1
theorem dksJ23_makeInt_2_0 : cJ23_makeInt_2.data.toList.drop 0 = dktJ23_makeInt_2_0 := by decide +kernel
theorem dksJ23_makeInt_2_1 : cJ23_makeInt_2.data.toList.drop 24 = dktJ23_makeInt_2_1 := dk_seg dksJ23_makeInt_2_0 24 rfl rfl
theorem dksJ23_makeInt_2_2 : cJ23_makeInt_2.data.toList.drop 48 = dktJ23_makeInt_2_2 := dk_seg dksJ23_makeInt_2_1 24 rfl rfl
theorem dJ23_makeInt_2_0 : decode cJ23_makeInt_2 0 = .ok (.iload_n 0, 1) := dk_26 (dk_at dksJ23_makeInt_2_0 0 rfl rfl)
theorem dJ23_makeInt_2_1 : decode cJ23_makeInt_2 1 = .ok (.invokestatic 796, 3) := dk_184 3 28 (dk_at dksJ23_makeInt_2_0 1 rfl rfl)
theorem dJ23_makeInt_2_4 : decode cJ23_makeInt_2 4 = .ok (.bipush 24, 2) := dk_16 24 (dk_at dksJ23_makeInt_2_0 4 rfl rfl)
theorem dJ23_makeInt_2_6 : decode cJ23_makeInt_2 6 = .ok (.iconst 0, 1) := dk_3 (dk_at dksJ23_makeInt_2_0 6 rfl rfl)
theorem dJ23_makeInt_2_7 : decode cJ23_makeInt_2 7 = .ok (.invokestatic 784, 3) := dk_184 3 16 (dk_at dksJ23_makeInt_2_0 7 rfl rfl)
theorem dJ23_makeInt_2_10 : decode cJ23_makeInt_2 10 = .ok (.ishl, 1) := dk_120 (dk_at dksJ23_makeInt_2_0 10 rfl rfl)
theorem dJ23_makeInt_2_11 : decode cJ23_makeInt_2 11 = .ok (.iload_n 1, 1) := dk_27 (dk_at dksJ23_makeInt_2_0 11 rfl rfl)
theorem dJ23_makeInt_2_12 : decode cJ23_makeInt_2 12 = .ok (.invokestatic 796, 3) := dk_184 3 28 (dk_at dksJ23_makeInt_2_0 12 rfl rfl)
theorem dJ23_makeInt_2_15 : decode cJ23_makeInt_2 15 = .ok (.bipush 24, 2) := dk_16 24 (dk_at dksJ23_makeInt_2_0 15 rfl rfl)
theorem dJ23_makeInt_2_17 : decode cJ23_makeInt_2 17 = .ok (.bipush 8, 2) := dk_16 8 (dk_at dksJ23_makeInt_2_0 17 rfl rfl)
theorem dJ23_makeInt_2_19 : decode cJ23_makeInt_2 19 = .ok (.invokestatic 784, 3) := dk_184 3 16 (dk_at dksJ23_makeInt_2_0 19 rfl rfl)
theorem dJ23_makeInt_2_22 : decode cJ23_makeInt_2 22 = .ok (.ishl, 1) := dk_120 (dk_at dksJ23_makeInt_2_0 22 rfl rfl)
theorem dJ23_makeInt_2_23 : decode cJ23_makeInt_2 23 = .ok (.ior, 1) := dk_128 (dk_at dksJ23_makeInt_2_0 23 rfl rfl)
theorem dJ23_makeInt_2_24 : decode cJ23_makeInt_2 24 = .ok (.iload_n 2, 1) := dk_28 (dk_at dksJ23_makeInt_2_1 0 rfl rfl)
theorem dJ23_makeInt_2_25 : decode cJ23_makeInt_2 25 = .ok (.invokestatic 796, 3) := dk_184 3 28 (dk_at dksJ23_makeInt_2_1 1 rfl rfl)
theorem dJ23_makeInt_2_28 : decode cJ23_makeInt_2 28 = .ok (.bipush 24, 2) := dk_16 24 (dk_at dksJ23_makeInt_2_1 4 rfl rfl)
theorem dJ23_makeInt_2_30 : decode cJ23_makeInt_2 30 = .ok (.bipush 16, 2) := dk_16 16 (dk_at dksJ23_makeInt_2_1 6 rfl rfl)
theorem dJ23_makeInt_2_32 : decode cJ23_makeInt_2 32 = .ok (.invokestatic 784, 3) := dk_184 3 16 (dk_at dksJ23_makeInt_2_1 8 rfl rfl)
theorem dJ23_makeInt_2_35 : decode cJ23_makeInt_2 35 = .ok (.ishl, 1) := dk_120 (dk_at dksJ23_makeInt_2_1 11 rfl rfl)
theorem dJ23_makeInt_2_36 : decode cJ23_makeInt_2 36 = .ok (.ior, 1) := dk_128 (dk_at dksJ23_makeInt_2_1 12 rfl rfl)
theorem dJ23_makeInt_2_37 : decode cJ23_makeInt_2 37 = .ok (.iload_n 3, 1) := dk_29 (dk_at dksJ23_makeInt_2_1 13 rfl rfl)
theorem dJ23_makeInt_2_38 : decode cJ23_makeInt_2 38 = .ok (.invokestatic 796, 3) := dk_184 3 28 (dk_at dksJ23_makeInt_2_1 14 rfl rfl)
theorem dJ23_makeInt_2_41 : decode cJ23_makeInt_2 41 = .ok (.bipush 24, 2) := dk_16 24 (dk_at dksJ23_makeInt_2_1 17 rfl rfl)
theorem dJ23_makeInt_2_43 : decode cJ23_makeInt_2 43 = .ok (.bipush 24, 2) := dk_16 24 (dk_at dksJ23_makeInt_2_1 19 rfl rfl)
theorem dJ23_makeInt_2_45 : decode cJ23_makeInt_2 45 = .ok (.invokestatic 784, 3) := dk_184 3 16 (dk_at dksJ23_makeInt_2_1 21 rfl rfl)
theorem dJ23_makeInt_2_48 : decode cJ23_makeInt_2 48 = .ok (.ishl, 1) := dk_120 (dk_at dksJ23_makeInt_2_2 0 rfl rfl)
theorem dJ23_makeInt_2_49 : decode cJ23_makeInt_2 49 = .ok (.ior, 1) := dk_128 (dk_at dksJ23_makeInt_2_2 1 rfl rfl)
theorem dJ23_makeInt_2_50 : decode cJ23_makeInt_2 50 = .ok (.ireturn, 1) := dk_172 (dk_at dksJ23_makeInt_2_2 2 rfl rfl)
abbrev cJ23_toUnsignedInt_2 : ByteArray := prog_69_method_366_code
def yJ23_toUnsignedInt_2 : MethodName := ⟨RJ23, "toUnsignedInt", "(B)I"⟩
def dkwJ23_toUnsignedInt_2_0 : List UInt8 := [26, 17, 0, 255, 126, 172]
abbrev dktJ23_toUnsignedInt_2_0 : List UInt8 := dkwJ23_toUnsignedInt_2_0 ++ []
theorem dksJ23_toUnsignedInt_2_0 : cJ23_toUnsignedInt_2.data.toList.drop 0 = dktJ23_toUnsignedInt_2_0 := by decide +kernel
theorem dJ23_toUnsignedInt_2_0 : decode cJ23_toUnsignedInt_2 0 = .ok (.iload_n 0, 1) := dk_26 (dk_at dksJ23_toUnsignedInt_2_0 0 rfl rfl)
theorem dJ23_toUnsignedInt_2_1 : decode cJ23_toUnsignedInt_2 1 = .ok (.sipush 255, 3) := dk_17 0 255 (dk_at dksJ23_toUnsignedInt_2_0 1 rfl rfl)
theorem dJ23_toUnsignedInt_2_4 : decode cJ23_toUnsignedInt_2 4 = .ok (.iand, 1) := dk_126 (dk_at dksJ23_toUnsignedInt_2_0 4 rfl rfl)
theorem dJ23_toUnsignedInt_2_5 : decode cJ23_toUnsignedInt_2 5 = .ok (.ireturn, 1) := dk_172 (dk_at dksJ23_toUnsignedInt_2_0 5 rfl rfl)
abbrev cJ25_requireNonNull : ByteArray := prog_59_method_10_code
def yJ25_requireNonNull : MethodName := ⟨RJ25, "requireNonNull", "(Ljava/lang/Object;)Ljava/lang/Object;"⟩
def dkwJ25_requireNonNull_0 : List UInt8 := [42, 199, 0, 11, 187, 0, 84, 89, 183, 0, 86, 191, 42, 176]
abbrev dktJ25_requireNonNull_0 : List UInt8 := dkwJ25_requireNonNull_0 ++ []
theorem dksJ25_requireNonNull_0 : cJ25_requireNonNull.data.toList.drop 0 = dktJ25_requireNonNull_0 := by decide +kernel
theorem dJ25_requireNonNull_0 : decode cJ25_requireNonNull 0 = .ok (.aload_n 0, 1) := dk_42 (dk_at dksJ25_requireNonNull_0 0 rfl rfl)
theorem dJ25_requireNonNull_1 : decode cJ25_requireNonNull 1 = .ok (.ifnonnull 11, 3) := dk_199 0 11 (dk_at dksJ25_requireNonNull_0 1 rfl rfl)
theorem dJ25_requireNonNull_4 : decode cJ25_requireNonNull 4 = .ok (.new 84, 3) := dk_187 0 84 (dk_at dksJ25_requireNonNull_0 4 rfl rfl)
theorem dJ25_requireNonNull_7 : decode cJ25_requireNonNull 7 = .ok (.dup, 1) := dk_89 (dk_at dksJ25_requireNonNull_0 7 rfl rfl)
theorem dJ25_requireNonNull_8 : decode cJ25_requireNonNull 8 = .ok (.invokespecial 86, 3) := dk_183 0 86 (dk_at dksJ25_requireNonNull_0 8 rfl rfl)
theorem dJ25_requireNonNull_11 : decode cJ25_requireNonNull 11 = .ok (.athrow, 1) := dk_191 (dk_at dksJ25_requireNonNull_0 11 rfl rfl)
theorem dJ25_requireNonNull_12 : decode cJ25_requireNonNull 12 = .ok (.aload_n 0, 1) := dk_42 (dk_at dksJ25_requireNonNull_0 12 rfl rfl)
theorem dJ25_requireNonNull_13 : decode cJ25_requireNonNull 13 = .ok (.areturn, 1) := dk_176 (dk_at dksJ25_requireNonNull_0 13 rfl rfl)
abbrev cJ25_checkIndex : ByteArray := prog_59_method_17_code
def yJ25_checkIndex : MethodName := ⟨RJ25, "checkIndex", "(II)I"⟩
def dkwJ25_checkIndex_0 : List UInt8 := [26, 27, 1, 184, 0, 105, 172]
abbrev dktJ25_checkIndex_0 : List UInt8 := dkwJ25_checkIndex_0 ++ []
theorem dksJ25_checkIndex_0 : cJ25_checkIndex.data.toList.drop 0 = dktJ25_checkIndex_0 := by decide +kernel
theorem dJ25_checkIndex_0 : decode cJ25_checkIndex 0 = .ok (.iload_n 0, 1) := dk_26 (dk_at dksJ25_checkIndex_0 0 rfl rfl)
theorem dJ25_checkIndex_1 : decode cJ25_checkIndex 1 = .ok (.iload_n 1, 1) := dk_27 (dk_at dksJ25_checkIndex_0 1 rfl rfl)
theorem dJ25_checkIndex_2 : decode cJ25_checkIndex 2 = .ok (.aconst_null, 1) := dk_1 (dk_at dksJ25_checkIndex_0 2 rfl rfl)
theorem dJ25_checkIndex_3 : decode cJ25_checkIndex 3 = .ok (.invokestatic 105, 3) := dk_184 0 105 (dk_at dksJ25_checkIndex_0 3 rfl rfl)
theorem dJ25_checkIndex_6 : decode cJ25_checkIndex 6 = .ok (.ireturn, 1) := dk_172 (dk_at dksJ25_checkIndex_0 6 rfl rfl)
abbrev cJ26_init : ByteArray := prog_67_method_1_code
def yJ26_init : MethodName := ⟨RJ26, "<init>", "(Ljava/lang/Object;Ljava/lang/Object;Ljava/util/TreeMap$Entry;)V"⟩
def dkwJ26_init_1 : List UInt8 := [177]
abbrev dktJ26_init_1 : List UInt8 := dkwJ26_init_1 ++ []
def dkwJ26_init_0 : List UInt8 := [42, 183, 0, 3, 42, 4, 181, 0, 9, 42, 43, 181, 0, 15, 42, 44, 181, 0, 19, 42, 45, 181, 0, 22]
abbrev dktJ26_init_0 : List UInt8 := dkwJ26_init_0 ++ dktJ26_init_1
theorem dksJ26_init_0 : cJ26_init.data.toList.drop 0 = dktJ26_init_0 := by decide +kernel
theorem dksJ26_init_1 : cJ26_init.data.toList.drop 24 = dktJ26_init_1 := dk_seg dksJ26_init_0 24 rfl rfl
theorem dJ26_init_0 : decode cJ26_init 0 = .ok (.aload_n 0, 1) := dk_42 (dk_at dksJ26_init_0 0 rfl rfl)
theorem dJ26_init_1 : decode cJ26_init 1 = .ok (.invokespecial 3, 3) := dk_183 0 3 (dk_at dksJ26_init_0 1 rfl rfl)
theorem dJ26_init_4 : decode cJ26_init 4 = .ok (.aload_n 0, 1) := dk_42 (dk_at dksJ26_init_0 4 rfl rfl)
theorem dJ26_init_5 : decode cJ26_init 5 = .ok (.iconst 1, 1) := dk_4 (dk_at dksJ26_init_0 5 rfl rfl)
theorem dJ26_init_6 : decode cJ26_init 6 = .ok (.putfield 9, 3) := dk_181 0 9 (dk_at dksJ26_init_0 6 rfl rfl)
theorem dJ26_init_9 : decode cJ26_init 9 = .ok (.aload_n 0, 1) := dk_42 (dk_at dksJ26_init_0 9 rfl rfl)
theorem dJ26_init_10 : decode cJ26_init 10 = .ok (.aload_n 1, 1) := dk_43 (dk_at dksJ26_init_0 10 rfl rfl)
theorem dJ26_init_11 : decode cJ26_init 11 = .ok (.putfield 15, 3) := dk_181 0 15 (dk_at dksJ26_init_0 11 rfl rfl)
theorem dJ26_init_14 : decode cJ26_init 14 = .ok (.aload_n 0, 1) := dk_42 (dk_at dksJ26_init_0 14 rfl rfl)
theorem dJ26_init_15 : decode cJ26_init 15 = .ok (.aload_n 2, 1) := dk_44 (dk_at dksJ26_init_0 15 rfl rfl)
theorem dJ26_init_16 : decode cJ26_init 16 = .ok (.putfield 19, 3) := dk_181 0 19 (dk_at dksJ26_init_0 16 rfl rfl)
theorem dJ26_init_19 : decode cJ26_init 19 = .ok (.aload_n 0, 1) := dk_42 (dk_at dksJ26_init_0 19 rfl rfl)
theorem dJ26_init_20 : decode cJ26_init 20 = .ok (.aload_n 3, 1) := dk_45 (dk_at dksJ26_init_0 20 rfl rfl)
theorem dJ26_init_21 : decode cJ26_init 21 = .ok (.putfield 22, 3) := dk_181 0 22 (dk_at dksJ26_init_0 21 rfl rfl)
theorem dJ26_init_24 : decode cJ26_init 24 = .ok (.return_, 1) := dk_177 (dk_at dksJ26_init_1 0 rfl rfl)
abbrev cJ28_init : ByteArray := prog_48_method_1_code
def yJ28_init : MethodName := ⟨RJ28, "<init>", "()V"⟩
theorem dJ28_init_0 : decode cJ28_init 0 = .ok (.aload_n 0, 1) := by decide +kernel
theorem dJ28_init_1 : decode cJ28_init 1 = .ok (.invokespecial 1, 3) := by decide +kernel
theorem dJ28_init_4 : decode cJ28_init 4 = .ok (.return_, 1) := by decide +kernel
abbrev cJ29_toArray : ByteArray := prog_60_method_20_code
def yJ29_toArray : MethodName := ⟨RJ29, "toArray", "()[Ljava/lang/Object;"⟩
def dkwJ29_toArray_0 : List UInt8 := [42, 180, 0, 17, 42, 180, 0, 58, 184, 0, 86, 176]
abbrev dktJ29_toArray_0 : List UInt8 := dkwJ29_toArray_0 ++ []
theorem dksJ29_toArray_0 : cJ29_toArray.data.toList.drop 0 = dktJ29_toArray_0 := by decide +kernel
theorem dJ29_toArray_0 : decode cJ29_toArray 0 = .ok (.aload_n 0, 1) := dk_42 (dk_at dksJ29_toArray_0 0 rfl rfl)
theorem dJ29_toArray_1 : decode cJ29_toArray 1 = .ok (.getfield 17, 3) := dk_180 0 17 (dk_at dksJ29_toArray_0 1 rfl rfl)
theorem dJ29_toArray_4 : decode cJ29_toArray 4 = .ok (.aload_n 0, 1) := dk_42 (dk_at dksJ29_toArray_0 4 rfl rfl)
theorem dJ29_toArray_5 : decode cJ29_toArray 5 = .ok (.getfield 58, 3) := dk_180 0 58 (dk_at dksJ29_toArray_0 5 rfl rfl)
theorem dJ29_toArray_8 : decode cJ29_toArray 8 = .ok (.invokestatic 86, 3) := dk_184 0 86 (dk_at dksJ29_toArray_0 8 rfl rfl)
theorem dJ29_toArray_11 : decode cJ29_toArray 11 = .ok (.areturn, 1) := dk_176 (dk_at dksJ29_toArray_0 11 rfl rfl)
abbrev cJ29_init : ByteArray := prog_60_method_3_code
def yJ29_init : MethodName := ⟨RJ29, "<init>", "(Ljava/util/Comparator;)V"⟩
def dkwJ29_init_0 : List UInt8 := [42, 16, 11, 43, 183, 0, 3, 177]
abbrev dktJ29_init_0 : List UInt8 := dkwJ29_init_0 ++ []
theorem dksJ29_init_0 : cJ29_init.data.toList.drop 0 = dktJ29_init_0 := by decide +kernel
theorem dJ29_init_0 : decode cJ29_init 0 = .ok (.aload_n 0, 1) := dk_42 (dk_at dksJ29_init_0 0 rfl rfl)
theorem dJ29_init_1 : decode cJ29_init 1 = .ok (.bipush 11, 2) := dk_16 11 (dk_at dksJ29_init_0 1 rfl rfl)
theorem dJ29_init_3 : decode cJ29_init 3 = .ok (.aload_n 1, 1) := dk_43 (dk_at dksJ29_init_0 3 rfl rfl)
theorem dJ29_init_4 : decode cJ29_init 4 = .ok (.invokespecial 3, 3) := dk_183 0 3 (dk_at dksJ29_init_0 4 rfl rfl)
theorem dJ29_init_7 : decode cJ29_init 7 = .ok (.return_, 1) := dk_177 (dk_at dksJ29_init_0 7 rfl rfl)
abbrev cJ29_init_2 : ByteArray := prog_60_method_4_code
def yJ29_init_2 : MethodName := ⟨RJ29, "<init>", "(ILjava/util/Comparator;)V"⟩
def dkwJ29_init_2_1 : List UInt8 := [181, 0, 17, 42, 44, 181, 0, 21, 177]
abbrev dktJ29_init_2_1 : List UInt8 := dkwJ29_init_2_1 ++ []
def dkwJ29_init_2_0 : List UInt8 := [42, 183, 0, 7, 27, 4, 162, 0, 11, 187, 0, 12, 89, 183, 0, 14, 191, 42, 27, 189, 0, 15]
abbrev dktJ29_init_2_0 : List UInt8 := dkwJ29_init_2_0 ++ dktJ29_init_2_1
theorem dksJ29_init_2_0 : cJ29_init_2.data.toList.drop 0 = dktJ29_init_2_0 := by decide +kernel
theorem dksJ29_init_2_1 : cJ29_init_2.data.toList.drop 22 = dktJ29_init_2_1 := dk_seg dksJ29_init_2_0 22 rfl rfl
theorem dJ29_init_2_0 : decode cJ29_init_2 0 = .ok (.aload_n 0, 1) := dk_42 (dk_at dksJ29_init_2_0 0 rfl rfl)
theorem dJ29_init_2_1 : decode cJ29_init_2 1 = .ok (.invokespecial 7, 3) := dk_183 0 7 (dk_at dksJ29_init_2_0 1 rfl rfl)
theorem dJ29_init_2_4 : decode cJ29_init_2 4 = .ok (.iload_n 1, 1) := dk_27 (dk_at dksJ29_init_2_0 4 rfl rfl)
theorem dJ29_init_2_5 : decode cJ29_init_2 5 = .ok (.iconst 1, 1) := dk_4 (dk_at dksJ29_init_2_0 5 rfl rfl)
theorem dJ29_init_2_6 : decode cJ29_init_2 6 = .ok (.if_icmp .ge 11, 3) := dk_162 0 11 (dk_at dksJ29_init_2_0 6 rfl rfl)
theorem dJ29_init_2_9 : decode cJ29_init_2 9 = .ok (.new 12, 3) := dk_187 0 12 (dk_at dksJ29_init_2_0 9 rfl rfl)
theorem dJ29_init_2_12 : decode cJ29_init_2 12 = .ok (.dup, 1) := dk_89 (dk_at dksJ29_init_2_0 12 rfl rfl)
theorem dJ29_init_2_13 : decode cJ29_init_2 13 = .ok (.invokespecial 14, 3) := dk_183 0 14 (dk_at dksJ29_init_2_0 13 rfl rfl)
theorem dJ29_init_2_16 : decode cJ29_init_2 16 = .ok (.athrow, 1) := dk_191 (dk_at dksJ29_init_2_0 16 rfl rfl)
theorem dJ29_init_2_17 : decode cJ29_init_2 17 = .ok (.aload_n 0, 1) := dk_42 (dk_at dksJ29_init_2_0 17 rfl rfl)
theorem dJ29_init_2_18 : decode cJ29_init_2 18 = .ok (.iload_n 1, 1) := dk_27 (dk_at dksJ29_init_2_0 18 rfl rfl)
theorem dJ29_init_2_19 : decode cJ29_init_2 19 = .ok (.anewarray 15, 3) := dk_189 0 15 (dk_at dksJ29_init_2_0 19 rfl rfl)
theorem dJ29_init_2_22 : decode cJ29_init_2 22 = .ok (.putfield 17, 3) := dk_181 0 17 (dk_at dksJ29_init_2_1 0 rfl rfl)
theorem dJ29_init_2_25 : decode cJ29_init_2 25 = .ok (.aload_n 0, 1) := dk_42 (dk_at dksJ29_init_2_1 3 rfl rfl)
theorem dJ29_init_2_26 : decode cJ29_init_2 26 = .ok (.aload_n 2, 1) := dk_44 (dk_at dksJ29_init_2_1 4 rfl rfl)
theorem dJ29_init_2_27 : decode cJ29_init_2 27 = .ok (.putfield 21, 3) := dk_181 0 21 (dk_at dksJ29_init_2_1 5 rfl rfl)
theorem dJ29_init_2_30 : decode cJ29_init_2 30 = .ok (.return_, 1) := dk_177 (dk_at dksJ29_init_2_1 8 rfl rfl)
abbrev cJ29_add : ByteArray := prog_60_method_13_code
def yJ29_add : MethodName := ⟨RJ29, "add", "(Ljava/lang/Object;)Z"⟩
def dkwJ29_add_0 : List UInt8 := [42, 43, 182, 0, 89, 172]
abbrev dktJ29_add_0 : List UInt8 := dkwJ29_add_0 ++ []
theorem dksJ29_add_0 : cJ29_add.data.toList.drop 0 = dktJ29_add_0 := by decide +kernel
theorem dJ29_add_0 : decode cJ29_add 0 = .ok (.aload_n 0, 1) := dk_42 (dk_at dksJ29_add_0 0 rfl rfl)
theorem dJ29_add_1 : decode cJ29_add 1 = .ok (.aload_n 1, 1) := dk_43 (dk_at dksJ29_add_0 1 rfl rfl)
theorem dJ29_add_2 : decode cJ29_add 2 = .ok (.invokevirtual 89, 3) := dk_182 0 89 (dk_at dksJ29_add_0 2 rfl rfl)
theorem dJ29_add_5 : decode cJ29_add 5 = .ok (.ireturn, 1) := dk_172 (dk_at dksJ29_add_0 5 rfl rfl)
abbrev cJ29_offer : ByteArray := prog_60_method_14_code
def yJ29_offer : MethodName := ⟨RJ29, "offer", "(Ljava/lang/Object;)Z"⟩
def dkwJ29_offer_2 : List UInt8 := [182, 0, 100, 42, 28, 4, 96, 181, 0, 58, 4, 172]
abbrev dktJ29_offer_2 : List UInt8 := dkwJ29_offer_2 ++ []
def dkwJ29_offer_1 : List UInt8 := [180, 0, 58, 61, 28, 42, 180, 0, 17, 190, 161, 0, 10, 42, 28, 4, 96, 182, 0, 96, 42, 28, 43]
abbrev dktJ29_offer_1 : List UInt8 := dkwJ29_offer_1 ++ dktJ29_offer_2
def dkwJ29_offer_0 : List UInt8 := [43, 199, 0, 11, 187, 0, 74, 89, 183, 0, 76, 191, 42, 89, 180, 0, 93, 4, 96, 181, 0, 93, 42]
abbrev dktJ29_offer_0 : List UInt8 := dkwJ29_offer_0 ++ dktJ29_offer_1
theorem dksJ29_offer_0 : cJ29_offer.data.toList.drop 0 = dktJ29_offer_0 := by decide +kernel
theorem dksJ29_offer_1 : cJ29_offer.data.toList.drop 23 = dktJ29_offer_1 := dk_seg dksJ29_offer_0 23 rfl rfl
theorem dksJ29_offer_2 : cJ29_offer.data.toList.drop 46 = dktJ29_offer_2 := dk_seg dksJ29_offer_1 23 rfl rfl
theorem dJ29_offer_0 : decode cJ29_offer 0 = .ok (.aload_n 1, 1) := dk_43 (dk_at dksJ29_offer_0 0 rfl rfl)
theorem dJ29_offer_1 : decode cJ29_offer 1 = .ok (.ifnonnull 11, 3) := dk_199 0 11 (dk_at dksJ29_offer_0 1 rfl rfl)
theorem dJ29_offer_4 : decode cJ29_offer 4 = .ok (.new 74, 3) := dk_187 0 74 (dk_at dksJ29_offer_0 4 rfl rfl)
theorem dJ29_offer_7 : decode cJ29_offer 7 = .ok (.dup, 1) := dk_89 (dk_at dksJ29_offer_0 7 rfl rfl)
theorem dJ29_offer_8 : decode cJ29_offer 8 = .ok (.invokespecial 76, 3) := dk_183 0 76 (dk_at dksJ29_offer_0 8 rfl rfl)
theorem dJ29_offer_11 : decode cJ29_offer 11 = .ok (.athrow, 1) := dk_191 (dk_at dksJ29_offer_0 11 rfl rfl)
theorem dJ29_offer_12 : decode cJ29_offer 12 = .ok (.aload_n 0, 1) := dk_42 (dk_at dksJ29_offer_0 12 rfl rfl)
theorem dJ29_offer_13 : decode cJ29_offer 13 = .ok (.dup, 1) := dk_89 (dk_at dksJ29_offer_0 13 rfl rfl)
theorem dJ29_offer_14 : decode cJ29_offer 14 = .ok (.getfield 93, 3) := dk_180 0 93 (dk_at dksJ29_offer_0 14 rfl rfl)
theorem dJ29_offer_17 : decode cJ29_offer 17 = .ok (.iconst 1, 1) := dk_4 (dk_at dksJ29_offer_0 17 rfl rfl)
theorem dJ29_offer_18 : decode cJ29_offer 18 = .ok (.iadd, 1) := dk_96 (dk_at dksJ29_offer_0 18 rfl rfl)
theorem dJ29_offer_19 : decode cJ29_offer 19 = .ok (.putfield 93, 3) := dk_181 0 93 (dk_at dksJ29_offer_0 19 rfl rfl)
theorem dJ29_offer_22 : decode cJ29_offer 22 = .ok (.aload_n 0, 1) := dk_42 (dk_at dksJ29_offer_0 22 rfl rfl)
theorem dJ29_offer_23 : decode cJ29_offer 23 = .ok (.getfield 58, 3) := dk_180 0 58 (dk_at dksJ29_offer_1 0 rfl rfl)
theorem dJ29_offer_26 : decode cJ29_offer 26 = .ok (.istore_n 2, 1) := dk_61 (dk_at dksJ29_offer_1 3 rfl rfl)
theorem dJ29_offer_27 : decode cJ29_offer 27 = .ok (.iload_n 2, 1) := dk_28 (dk_at dksJ29_offer_1 4 rfl rfl)
theorem dJ29_offer_28 : decode cJ29_offer 28 = .ok (.aload_n 0, 1) := dk_42 (dk_at dksJ29_offer_1 5 rfl rfl)
theorem dJ29_offer_29 : decode cJ29_offer 29 = .ok (.getfield 17, 3) := dk_180 0 17 (dk_at dksJ29_offer_1 6 rfl rfl)
theorem dJ29_offer_32 : decode cJ29_offer 32 = .ok (.arraylength, 1) := dk_190 (dk_at dksJ29_offer_1 9 rfl rfl)
theorem dJ29_offer_33 : decode cJ29_offer 33 = .ok (.if_icmp .lt 10, 3) := dk_161 0 10 (dk_at dksJ29_offer_1 10 rfl rfl)
theorem dJ29_offer_36 : decode cJ29_offer 36 = .ok (.aload_n 0, 1) := dk_42 (dk_at dksJ29_offer_1 13 rfl rfl)
theorem dJ29_offer_37 : decode cJ29_offer 37 = .ok (.iload_n 2, 1) := dk_28 (dk_at dksJ29_offer_1 14 rfl rfl)
theorem dJ29_offer_38 : decode cJ29_offer 38 = .ok (.iconst 1, 1) := dk_4 (dk_at dksJ29_offer_1 15 rfl rfl)
theorem dJ29_offer_39 : decode cJ29_offer 39 = .ok (.iadd, 1) := dk_96 (dk_at dksJ29_offer_1 16 rfl rfl)
theorem dJ29_offer_40 : decode cJ29_offer 40 = .ok (.invokevirtual 96, 3) := dk_182 0 96 (dk_at dksJ29_offer_1 17 rfl rfl)
theorem dJ29_offer_43 : decode cJ29_offer 43 = .ok (.aload_n 0, 1) := dk_42 (dk_at dksJ29_offer_1 20 rfl rfl)
theorem dJ29_offer_44 : decode cJ29_offer 44 = .ok (.iload_n 2, 1) := dk_28 (dk_at dksJ29_offer_1 21 rfl rfl)
theorem dJ29_offer_45 : decode cJ29_offer 45 = .ok (.aload_n 1, 1) := dk_43 (dk_at dksJ29_offer_1 22 rfl rfl)
theorem dJ29_offer_46 : decode cJ29_offer 46 = .ok (.invokevirtual 100, 3) := dk_182 0 100 (dk_at dksJ29_offer_2 0 rfl rfl)
theorem dJ29_offer_49 : decode cJ29_offer 49 = .ok (.aload_n 0, 1) := dk_42 (dk_at dksJ29_offer_2 3 rfl rfl)
theorem dJ29_offer_50 : decode cJ29_offer 50 = .ok (.iload_n 2, 1) := dk_28 (dk_at dksJ29_offer_2 4 rfl rfl)
theorem dJ29_offer_51 : decode cJ29_offer 51 = .ok (.iconst 1, 1) := dk_4 (dk_at dksJ29_offer_2 5 rfl rfl)
theorem dJ29_offer_52 : decode cJ29_offer 52 = .ok (.iadd, 1) := dk_96 (dk_at dksJ29_offer_2 6 rfl rfl)
theorem dJ29_offer_53 : decode cJ29_offer 53 = .ok (.putfield 58, 3) := dk_181 0 58 (dk_at dksJ29_offer_2 7 rfl rfl)
theorem dJ29_offer_56 : decode cJ29_offer 56 = .ok (.iconst 1, 1) := dk_4 (dk_at dksJ29_offer_2 10 rfl rfl)
theorem dJ29_offer_57 : decode cJ29_offer 57 = .ok (.ireturn, 1) := dk_172 (dk_at dksJ29_offer_2 11 rfl rfl)
abbrev cJ29_grow : ByteArray := prog_60_method_12_code
def yJ29_grow : MethodName := ⟨RJ29, "grow", "(I)V"⟩
def dkwJ29_grow_1 : List UInt8 := [122, 184, 0, 80, 62, 42, 42, 180, 0, 17, 29, 184, 0, 86, 181, 0, 17, 177]
abbrev dktJ29_grow_1 : List UInt8 := dkwJ29_grow_1 ++ []
def dkwJ29_grow_0 : List UInt8 := [42, 180, 0, 17, 190, 61, 28, 27, 28, 100, 28, 16, 64, 162, 0, 9, 28, 5, 96, 167, 0, 6, 28, 4]
abbrev dktJ29_grow_0 : List UInt8 := dkwJ29_grow_0 ++ dktJ29_grow_1
theorem dksJ29_grow_0 : cJ29_grow.data.toList.drop 0 = dktJ29_grow_0 := by decide +kernel
theorem dksJ29_grow_1 : cJ29_grow.data.toList.drop 24 = dktJ29_grow_1 := dk_seg dksJ29_grow_0 24 rfl rfl
theorem dJ29_grow_0 : decode cJ29_grow 0 = .ok (.aload_n 0, 1) := dk_42 (dk_at dksJ29_grow_0 0 rfl rfl)
theorem dJ29_grow_1 : decode cJ29_grow 1 = .ok (.getfield 17, 3) := dk_180 0 17 (dk_at dksJ29_grow_0 1 rfl rfl)
theorem dJ29_grow_4 : decode cJ29_grow 4 = .ok (.arraylength, 1) := dk_190 (dk_at dksJ29_grow_0 4 rfl rfl)
theorem dJ29_grow_5 : decode cJ29_grow 5 = .ok (.istore_n 2, 1) := dk_61 (dk_at dksJ29_grow_0 5 rfl rfl)
theorem dJ29_grow_6 : decode cJ29_grow 6 = .ok (.iload_n 2, 1) := dk_28 (dk_at dksJ29_grow_0 6 rfl rfl)
theorem dJ29_grow_7 : decode cJ29_grow 7 = .ok (.iload_n 1, 1) := dk_27 (dk_at dksJ29_grow_0 7 rfl rfl)
theorem dJ29_grow_8 : decode cJ29_grow 8 = .ok (.iload_n 2, 1) := dk_28 (dk_at dksJ29_grow_0 8 rfl rfl)
theorem dJ29_grow_9 : decode cJ29_grow 9 = .ok (.isub, 1) := dk_100 (dk_at dksJ29_grow_0 9 rfl rfl)
theorem dJ29_grow_10 : decode cJ29_grow 10 = .ok (.iload_n 2, 1) := dk_28 (dk_at dksJ29_grow_0 10 rfl rfl)
theorem dJ29_grow_11 : decode cJ29_grow 11 = .ok (.bipush 64, 2) := dk_16 64 (dk_at dksJ29_grow_0 11 rfl rfl)
theorem dJ29_grow_13 : decode cJ29_grow 13 = .ok (.if_icmp .ge 9, 3) := dk_162 0 9 (dk_at dksJ29_grow_0 13 rfl rfl)
theorem dJ29_grow_16 : decode cJ29_grow 16 = .ok (.iload_n 2, 1) := dk_28 (dk_at dksJ29_grow_0 16 rfl rfl)
theorem dJ29_grow_17 : decode cJ29_grow 17 = .ok (.iconst 2, 1) := dk_5 (dk_at dksJ29_grow_0 17 rfl rfl)
theorem dJ29_grow_18 : decode cJ29_grow 18 = .ok (.iadd, 1) := dk_96 (dk_at dksJ29_grow_0 18 rfl rfl)
theorem dJ29_grow_19 : decode cJ29_grow 19 = .ok (.goto 6, 3) := dk_167 0 6 (dk_at dksJ29_grow_0 19 rfl rfl)
theorem dJ29_grow_22 : decode cJ29_grow 22 = .ok (.iload_n 2, 1) := dk_28 (dk_at dksJ29_grow_0 22 rfl rfl)
theorem dJ29_grow_23 : decode cJ29_grow 23 = .ok (.iconst 1, 1) := dk_4 (dk_at dksJ29_grow_0 23 rfl rfl)
theorem dJ29_grow_24 : decode cJ29_grow 24 = .ok (.ishr, 1) := dk_122 (dk_at dksJ29_grow_1 0 rfl rfl)
theorem dJ29_grow_25 : decode cJ29_grow 25 = .ok (.invokestatic 80, 3) := dk_184 0 80 (dk_at dksJ29_grow_1 1 rfl rfl)
theorem dJ29_grow_28 : decode cJ29_grow 28 = .ok (.istore_n 3, 1) := dk_62 (dk_at dksJ29_grow_1 4 rfl rfl)
theorem dJ29_grow_29 : decode cJ29_grow 29 = .ok (.aload_n 0, 1) := dk_42 (dk_at dksJ29_grow_1 5 rfl rfl)
theorem dJ29_grow_30 : decode cJ29_grow 30 = .ok (.aload_n 0, 1) := dk_42 (dk_at dksJ29_grow_1 6 rfl rfl)
theorem dJ29_grow_31 : decode cJ29_grow 31 = .ok (.getfield 17, 3) := dk_180 0 17 (dk_at dksJ29_grow_1 7 rfl rfl)
theorem dJ29_grow_34 : decode cJ29_grow 34 = .ok (.iload_n 3, 1) := dk_29 (dk_at dksJ29_grow_1 10 rfl rfl)
theorem dJ29_grow_35 : decode cJ29_grow 35 = .ok (.invokestatic 86, 3) := dk_184 0 86 (dk_at dksJ29_grow_1 11 rfl rfl)
theorem dJ29_grow_38 : decode cJ29_grow 38 = .ok (.putfield 17, 3) := dk_181 0 17 (dk_at dksJ29_grow_1 14 rfl rfl)
theorem dJ29_grow_41 : decode cJ29_grow 41 = .ok (.return_, 1) := dk_177 (dk_at dksJ29_grow_1 17 rfl rfl)
abbrev cJ29_siftUp : ByteArray := prog_60_method_27_code
def yJ29_siftUp : MethodName := ⟨RJ29, "siftUp", "(ILjava/lang/Object;)V"⟩
def dkwJ29_siftUp_1 : List UInt8 := [44, 42, 180, 0, 17, 184, 0, 140, 177]
abbrev dktJ29_siftUp_1 : List UInt8 := dkwJ29_siftUp_1 ++ []
def dkwJ29_siftUp_0 : List UInt8 := [42, 180, 0, 21, 198, 0, 19, 27, 44, 42, 180, 0, 17, 42, 180, 0, 21, 184, 0, 136, 167, 0, 12, 27]
abbrev dktJ29_siftUp_0 : List UInt8 := dkwJ29_siftUp_0 ++ dktJ29_siftUp_1
theorem dksJ29_siftUp_0 : cJ29_siftUp.data.toList.drop 0 = dktJ29_siftUp_0 := by decide +kernel
theorem dksJ29_siftUp_1 : cJ29_siftUp.data.toList.drop 24 = dktJ29_siftUp_1 := dk_seg dksJ29_siftUp_0 24 rfl rfl
theorem dJ29_siftUp_0 : decode cJ29_siftUp 0 = .ok (.aload_n 0, 1) := dk_42 (dk_at dksJ29_siftUp_0 0 rfl rfl)
theorem dJ29_siftUp_1 : decode cJ29_siftUp 1 = .ok (.getfield 21, 3) := dk_180 0 21 (dk_at dksJ29_siftUp_0 1 rfl rfl)
theorem dJ29_siftUp_4 : decode cJ29_siftUp 4 = .ok (.ifnull 19, 3) := dk_198 0 19 (dk_at dksJ29_siftUp_0 4 rfl rfl)
theorem dJ29_siftUp_7 : decode cJ29_siftUp 7 = .ok (.iload_n 1, 1) := dk_27 (dk_at dksJ29_siftUp_0 7 rfl rfl)
theorem dJ29_siftUp_8 : decode cJ29_siftUp 8 = .ok (.aload_n 2, 1) := dk_44 (dk_at dksJ29_siftUp_0 8 rfl rfl)
theorem dJ29_siftUp_9 : decode cJ29_siftUp 9 = .ok (.aload_n 0, 1) := dk_42 (dk_at dksJ29_siftUp_0 9 rfl rfl)
theorem dJ29_siftUp_10 : decode cJ29_siftUp 10 = .ok (.getfield 17, 3) := dk_180 0 17 (dk_at dksJ29_siftUp_0 10 rfl rfl)
theorem dJ29_siftUp_13 : decode cJ29_siftUp 13 = .ok (.aload_n 0, 1) := dk_42 (dk_at dksJ29_siftUp_0 13 rfl rfl)
theorem dJ29_siftUp_14 : decode cJ29_siftUp 14 = .ok (.getfield 21, 3) := dk_180 0 21 (dk_at dksJ29_siftUp_0 14 rfl rfl)
theorem dJ29_siftUp_17 : decode cJ29_siftUp 17 = .ok (.invokestatic 136, 3) := dk_184 0 136 (dk_at dksJ29_siftUp_0 17 rfl rfl)
theorem dJ29_siftUp_20 : decode cJ29_siftUp 20 = .ok (.goto 12, 3) := dk_167 0 12 (dk_at dksJ29_siftUp_0 20 rfl rfl)
theorem dJ29_siftUp_23 : decode cJ29_siftUp 23 = .ok (.iload_n 1, 1) := dk_27 (dk_at dksJ29_siftUp_0 23 rfl rfl)
theorem dJ29_siftUp_24 : decode cJ29_siftUp 24 = .ok (.aload_n 2, 1) := dk_44 (dk_at dksJ29_siftUp_1 0 rfl rfl)
theorem dJ29_siftUp_25 : decode cJ29_siftUp 25 = .ok (.aload_n 0, 1) := dk_42 (dk_at dksJ29_siftUp_1 1 rfl rfl)
theorem dJ29_siftUp_26 : decode cJ29_siftUp 26 = .ok (.getfield 17, 3) := dk_180 0 17 (dk_at dksJ29_siftUp_1 2 rfl rfl)
theorem dJ29_siftUp_29 : decode cJ29_siftUp 29 = .ok (.invokestatic 140, 3) := dk_184 0 140 (dk_at dksJ29_siftUp_1 5 rfl rfl)
theorem dJ29_siftUp_32 : decode cJ29_siftUp 32 = .ok (.return_, 1) := dk_177 (dk_at dksJ29_siftUp_1 8 rfl rfl)
abbrev cJ29_siftUpUsingComparator : ByteArray := prog_60_method_29_code
def yJ29_siftUpUsingComparator : MethodName := ⟨RJ29, "siftUpUsingComparator", "(ILjava/lang/Object;[Ljava/lang/Object;Ljava/util/Comparator;)V"⟩
def dkwJ29_siftUpUsingComparator_2 : List UInt8 := [43, 83, 177]
abbrev dktJ29_siftUpUsingComparator_2 : List UInt8 := dkwJ29_siftUpUsingComparator_2 ++ []
def dkwJ29_siftUpUsingComparator_1 : List UInt8 := [185, 0, 149, 3, 0, 155, 0, 6, 167, 0, 14, 44, 26, 25, 5, 83, 21, 4, 59, 167, 255, 216, 44, 26]
abbrev dktJ29_siftUpUsingComparator_1 : List UInt8 := dkwJ29_siftUpUsingComparator_1 ++ dktJ29_siftUpUsingComparator_2
def dkwJ29_siftUpUsingComparator_0 : List UInt8 := [26, 158, 0, 42, 26, 4, 100, 4, 124, 54, 4, 44, 21, 4, 50, 58, 5, 45, 43, 25, 5]
abbrev dktJ29_siftUpUsingComparator_0 : List UInt8 := dkwJ29_siftUpUsingComparator_0 ++ dktJ29_siftUpUsingComparator_1
theorem dksJ29_siftUpUsingComparator_0 : cJ29_siftUpUsingComparator.data.toList.drop 0 = dktJ29_siftUpUsingComparator_0 := by decide +kernel
theorem dksJ29_siftUpUsingComparator_1 : cJ29_siftUpUsingComparator.data.toList.drop 21 = dktJ29_siftUpUsingComparator_1 := dk_seg dksJ29_siftUpUsingComparator_0 21 rfl rfl
theorem dksJ29_siftUpUsingComparator_2 : cJ29_siftUpUsingComparator.data.toList.drop 45 = dktJ29_siftUpUsingComparator_2 := dk_seg dksJ29_siftUpUsingComparator_1 24 rfl rfl
theorem dJ29_siftUpUsingComparator_0 : decode cJ29_siftUpUsingComparator 0 = .ok (.iload_n 0, 1) := dk_26 (dk_at dksJ29_siftUpUsingComparator_0 0 rfl rfl)
theorem dJ29_siftUpUsingComparator_1 : decode cJ29_siftUpUsingComparator 1 = .ok (.ifCond .le 42, 3) := dk_158 0 42 (dk_at dksJ29_siftUpUsingComparator_0 1 rfl rfl)
theorem dJ29_siftUpUsingComparator_4 : decode cJ29_siftUpUsingComparator 4 = .ok (.iload_n 0, 1) := dk_26 (dk_at dksJ29_siftUpUsingComparator_0 4 rfl rfl)
theorem dJ29_siftUpUsingComparator_5 : decode cJ29_siftUpUsingComparator 5 = .ok (.iconst 1, 1) := dk_4 (dk_at dksJ29_siftUpUsingComparator_0 5 rfl rfl)
theorem dJ29_siftUpUsingComparator_6 : decode cJ29_siftUpUsingComparator 6 = .ok (.isub, 1) := dk_100 (dk_at dksJ29_siftUpUsingComparator_0 6 rfl rfl)
theorem dJ29_siftUpUsingComparator_7 : decode cJ29_siftUpUsingComparator 7 = .ok (.iconst 1, 1) := dk_4 (dk_at dksJ29_siftUpUsingComparator_0 7 rfl rfl)
theorem dJ29_siftUpUsingComparator_8 : decode cJ29_siftUpUsingComparator 8 = .ok (.iushr, 1) := dk_124 (dk_at dksJ29_siftUpUsingComparator_0 8 rfl rfl)
theorem dJ29_siftUpUsingComparator_9 : decode cJ29_siftUpUsingComparator 9 = .ok (.istore 4, 2) := dk_54 4 (dk_at dksJ29_siftUpUsingComparator_0 9 rfl rfl)
theorem dJ29_siftUpUsingComparator_11 : decode cJ29_siftUpUsingComparator 11 = .ok (.aload_n 2, 1) := dk_44 (dk_at dksJ29_siftUpUsingComparator_0 11 rfl rfl)
theorem dJ29_siftUpUsingComparator_12 : decode cJ29_siftUpUsingComparator 12 = .ok (.iload 4, 2) := dk_21 4 (dk_at dksJ29_siftUpUsingComparator_0 12 rfl rfl)
theorem dJ29_siftUpUsingComparator_14 : decode cJ29_siftUpUsingComparator 14 = .ok (.aaload, 1) := dk_50 (dk_at dksJ29_siftUpUsingComparator_0 14 rfl rfl)
theorem dJ29_siftUpUsingComparator_15 : decode cJ29_siftUpUsingComparator 15 = .ok (.astore 5, 2) := dk_58 5 (dk_at dksJ29_siftUpUsingComparator_0 15 rfl rfl)
theorem dJ29_siftUpUsingComparator_17 : decode cJ29_siftUpUsingComparator 17 = .ok (.aload_n 3, 1) := dk_45 (dk_at dksJ29_siftUpUsingComparator_0 17 rfl rfl)
theorem dJ29_siftUpUsingComparator_18 : decode cJ29_siftUpUsingComparator 18 = .ok (.aload_n 1, 1) := dk_43 (dk_at dksJ29_siftUpUsingComparator_0 18 rfl rfl)
theorem dJ29_siftUpUsingComparator_19 : decode cJ29_siftUpUsingComparator 19 = .ok (.aload 5, 2) := dk_25 5 (dk_at dksJ29_siftUpUsingComparator_0 19 rfl rfl)
theorem dJ29_siftUpUsingComparator_21 : decode cJ29_siftUpUsingComparator 21 = .ok (.invokeinterface 149 3, 5) := by decide +kernel
theorem dJ29_siftUpUsingComparator_26 : decode cJ29_siftUpUsingComparator 26 = .ok (.ifCond .lt 6, 3) := dk_155 0 6 (dk_at dksJ29_siftUpUsingComparator_1 5 rfl rfl)
theorem dJ29_siftUpUsingComparator_29 : decode cJ29_siftUpUsingComparator 29 = .ok (.goto 14, 3) := dk_167 0 14 (dk_at dksJ29_siftUpUsingComparator_1 8 rfl rfl)
theorem dJ29_siftUpUsingComparator_32 : decode cJ29_siftUpUsingComparator 32 = .ok (.aload_n 2, 1) := dk_44 (dk_at dksJ29_siftUpUsingComparator_1 11 rfl rfl)
theorem dJ29_siftUpUsingComparator_33 : decode cJ29_siftUpUsingComparator 33 = .ok (.iload_n 0, 1) := dk_26 (dk_at dksJ29_siftUpUsingComparator_1 12 rfl rfl)
theorem dJ29_siftUpUsingComparator_34 : decode cJ29_siftUpUsingComparator 34 = .ok (.aload 5, 2) := dk_25 5 (dk_at dksJ29_siftUpUsingComparator_1 13 rfl rfl)
theorem dJ29_siftUpUsingComparator_36 : decode cJ29_siftUpUsingComparator 36 = .ok (.aastore, 1) := dk_83 (dk_at dksJ29_siftUpUsingComparator_1 15 rfl rfl)
theorem dJ29_siftUpUsingComparator_37 : decode cJ29_siftUpUsingComparator 37 = .ok (.iload 4, 2) := dk_21 4 (dk_at dksJ29_siftUpUsingComparator_1 16 rfl rfl)
theorem dJ29_siftUpUsingComparator_39 : decode cJ29_siftUpUsingComparator 39 = .ok (.istore_n 0, 1) := dk_59 (dk_at dksJ29_siftUpUsingComparator_1 18 rfl rfl)
theorem dJ29_siftUpUsingComparator_40 : decode cJ29_siftUpUsingComparator 40 = .ok (.goto (-40), 3) := dk_167 255 216 (dk_at dksJ29_siftUpUsingComparator_1 19 rfl rfl)
theorem dJ29_siftUpUsingComparator_43 : decode cJ29_siftUpUsingComparator 43 = .ok (.aload_n 2, 1) := dk_44 (dk_at dksJ29_siftUpUsingComparator_1 22 rfl rfl)
theorem dJ29_siftUpUsingComparator_44 : decode cJ29_siftUpUsingComparator 44 = .ok (.iload_n 0, 1) := dk_26 (dk_at dksJ29_siftUpUsingComparator_1 23 rfl rfl)
theorem dJ29_siftUpUsingComparator_45 : decode cJ29_siftUpUsingComparator 45 = .ok (.aload_n 1, 1) := dk_43 (dk_at dksJ29_siftUpUsingComparator_2 0 rfl rfl)
theorem dJ29_siftUpUsingComparator_46 : decode cJ29_siftUpUsingComparator 46 = .ok (.aastore, 1) := dk_83 (dk_at dksJ29_siftUpUsingComparator_2 1 rfl rfl)
theorem dJ29_siftUpUsingComparator_47 : decode cJ29_siftUpUsingComparator 47 = .ok (.return_, 1) := dk_177 (dk_at dksJ29_siftUpUsingComparator_2 2 rfl rfl)
abbrev cJ29_siftUpComparable : ByteArray := prog_60_method_28_code
def yJ29_siftUpComparable : MethodName := ⟨RJ29, "siftUpComparable", "(ILjava/lang/Object;[Ljava/lang/Object;)V"⟩
def dkwJ29_siftUpComparable_2 : List UInt8 := [44, 26, 45, 83, 177]
abbrev dktJ29_siftUpComparable_2 : List UInt8 := dkwJ29_siftUpComparable_2 ++ []
def dkwJ29_siftUpComparable_1 : List UInt8 := [25, 5, 185, 0, 146, 2, 0, 155, 0, 6, 167, 0, 14, 44, 26, 25, 5, 83, 21, 4, 59, 167, 255, 217]
abbrev dktJ29_siftUpComparable_1 : List UInt8 := dkwJ29_siftUpComparable_1 ++ dktJ29_siftUpComparable_2
def dkwJ29_siftUpComparable_0 : List UInt8 := [43, 192, 0, 144, 78, 26, 158, 0, 41, 26, 4, 100, 4, 124, 54, 4, 44, 21, 4, 50, 58, 5, 45]
abbrev dktJ29_siftUpComparable_0 : List UInt8 := dkwJ29_siftUpComparable_0 ++ dktJ29_siftUpComparable_1
theorem dksJ29_siftUpComparable_0 : cJ29_siftUpComparable.data.toList.drop 0 = dktJ29_siftUpComparable_0 := by decide +kernel
theorem dksJ29_siftUpComparable_1 : cJ29_siftUpComparable.data.toList.drop 23 = dktJ29_siftUpComparable_1 := dk_seg dksJ29_siftUpComparable_0 23 rfl rfl
theorem dksJ29_siftUpComparable_2 : cJ29_siftUpComparable.data.toList.drop 47 = dktJ29_siftUpComparable_2 := dk_seg dksJ29_siftUpComparable_1 24 rfl rfl
theorem dJ29_siftUpComparable_0 : decode cJ29_siftUpComparable 0 = .ok (.aload_n 1, 1) := dk_43 (dk_at dksJ29_siftUpComparable_0 0 rfl rfl)
theorem dJ29_siftUpComparable_1 : decode cJ29_siftUpComparable 1 = .ok (.checkcast 144, 3) := dk_192 0 144 (dk_at dksJ29_siftUpComparable_0 1 rfl rfl)
theorem dJ29_siftUpComparable_4 : decode cJ29_siftUpComparable 4 = .ok (.astore_n 3, 1) := dk_78 (dk_at dksJ29_siftUpComparable_0 4 rfl rfl)
theorem dJ29_siftUpComparable_5 : decode cJ29_siftUpComparable 5 = .ok (.iload_n 0, 1) := dk_26 (dk_at dksJ29_siftUpComparable_0 5 rfl rfl)
theorem dJ29_siftUpComparable_6 : decode cJ29_siftUpComparable 6 = .ok (.ifCond .le 41, 3) := dk_158 0 41 (dk_at dksJ29_siftUpComparable_0 6 rfl rfl)
theorem dJ29_siftUpComparable_9 : decode cJ29_siftUpComparable 9 = .ok (.iload_n 0, 1) := dk_26 (dk_at dksJ29_siftUpComparable_0 9 rfl rfl)
theorem dJ29_siftUpComparable_10 : decode cJ29_siftUpComparable 10 = .ok (.iconst 1, 1) := dk_4 (dk_at dksJ29_siftUpComparable_0 10 rfl rfl)
theorem dJ29_siftUpComparable_11 : decode cJ29_siftUpComparable 11 = .ok (.isub, 1) := dk_100 (dk_at dksJ29_siftUpComparable_0 11 rfl rfl)
theorem dJ29_siftUpComparable_12 : decode cJ29_siftUpComparable 12 = .ok (.iconst 1, 1) := dk_4 (dk_at dksJ29_siftUpComparable_0 12 rfl rfl)
theorem dJ29_siftUpComparable_13 : decode cJ29_siftUpComparable 13 = .ok (.iushr, 1) := dk_124 (dk_at dksJ29_siftUpComparable_0 13 rfl rfl)
theorem dJ29_siftUpComparable_14 : decode cJ29_siftUpComparable 14 = .ok (.istore 4, 2) := dk_54 4 (dk_at dksJ29_siftUpComparable_0 14 rfl rfl)
theorem dJ29_siftUpComparable_16 : decode cJ29_siftUpComparable 16 = .ok (.aload_n 2, 1) := dk_44 (dk_at dksJ29_siftUpComparable_0 16 rfl rfl)
theorem dJ29_siftUpComparable_17 : decode cJ29_siftUpComparable 17 = .ok (.iload 4, 2) := dk_21 4 (dk_at dksJ29_siftUpComparable_0 17 rfl rfl)
theorem dJ29_siftUpComparable_19 : decode cJ29_siftUpComparable 19 = .ok (.aaload, 1) := dk_50 (dk_at dksJ29_siftUpComparable_0 19 rfl rfl)
theorem dJ29_siftUpComparable_20 : decode cJ29_siftUpComparable 20 = .ok (.astore 5, 2) := dk_58 5 (dk_at dksJ29_siftUpComparable_0 20 rfl rfl)
theorem dJ29_siftUpComparable_22 : decode cJ29_siftUpComparable 22 = .ok (.aload_n 3, 1) := dk_45 (dk_at dksJ29_siftUpComparable_0 22 rfl rfl)
theorem dJ29_siftUpComparable_23 : decode cJ29_siftUpComparable 23 = .ok (.aload 5, 2) := dk_25 5 (dk_at dksJ29_siftUpComparable_1 0 rfl rfl)
theorem dJ29_siftUpComparable_25 : decode cJ29_siftUpComparable 25 = .ok (.invokeinterface 146 2, 5) := by decide +kernel
theorem dJ29_siftUpComparable_30 : decode cJ29_siftUpComparable 30 = .ok (.ifCond .lt 6, 3) := dk_155 0 6 (dk_at dksJ29_siftUpComparable_1 7 rfl rfl)
theorem dJ29_siftUpComparable_33 : decode cJ29_siftUpComparable 33 = .ok (.goto 14, 3) := dk_167 0 14 (dk_at dksJ29_siftUpComparable_1 10 rfl rfl)
theorem dJ29_siftUpComparable_36 : decode cJ29_siftUpComparable 36 = .ok (.aload_n 2, 1) := dk_44 (dk_at dksJ29_siftUpComparable_1 13 rfl rfl)
theorem dJ29_siftUpComparable_37 : decode cJ29_siftUpComparable 37 = .ok (.iload_n 0, 1) := dk_26 (dk_at dksJ29_siftUpComparable_1 14 rfl rfl)
theorem dJ29_siftUpComparable_38 : decode cJ29_siftUpComparable 38 = .ok (.aload 5, 2) := dk_25 5 (dk_at dksJ29_siftUpComparable_1 15 rfl rfl)
theorem dJ29_siftUpComparable_40 : decode cJ29_siftUpComparable 40 = .ok (.aastore, 1) := dk_83 (dk_at dksJ29_siftUpComparable_1 17 rfl rfl)
theorem dJ29_siftUpComparable_41 : decode cJ29_siftUpComparable 41 = .ok (.iload 4, 2) := dk_21 4 (dk_at dksJ29_siftUpComparable_1 18 rfl rfl)
theorem dJ29_siftUpComparable_43 : decode cJ29_siftUpComparable 43 = .ok (.istore_n 0, 1) := dk_59 (dk_at dksJ29_siftUpComparable_1 20 rfl rfl)
theorem dJ29_siftUpComparable_44 : decode cJ29_siftUpComparable 44 = .ok (.goto (-39), 3) := dk_167 255 217 (dk_at dksJ29_siftUpComparable_1 21 rfl rfl)
theorem dJ29_siftUpComparable_47 : decode cJ29_siftUpComparable 47 = .ok (.aload_n 2, 1) := dk_44 (dk_at dksJ29_siftUpComparable_2 0 rfl rfl)
theorem dJ29_siftUpComparable_48 : decode cJ29_siftUpComparable 48 = .ok (.iload_n 0, 1) := dk_26 (dk_at dksJ29_siftUpComparable_2 1 rfl rfl)
theorem dJ29_siftUpComparable_49 : decode cJ29_siftUpComparable 49 = .ok (.aload_n 3, 1) := dk_45 (dk_at dksJ29_siftUpComparable_2 2 rfl rfl)
theorem dJ29_siftUpComparable_50 : decode cJ29_siftUpComparable 50 = .ok (.aastore, 1) := dk_83 (dk_at dksJ29_siftUpComparable_2 3 rfl rfl)
theorem dJ29_siftUpComparable_51 : decode cJ29_siftUpComparable 51 = .ok (.return_, 1) := dk_177 (dk_at dksJ29_siftUpComparable_2 4 rfl rfl)
abbrev cJ29_poll : ByteArray := prog_60_method_25_code
def yJ29_poll : MethodName := ⟨RJ29, "poll", "()Ljava/lang/Object;"⟩
def dkwJ29_poll_3 : List UInt8 := [43, 29, 25, 5, 184, 0, 129, 44, 176]
abbrev dktJ29_poll_3 : List UInt8 := dkwJ29_poll_3 ++ []
def dkwJ29_poll_2 : List UInt8 := [42, 180, 0, 21, 89, 58, 5, 199, 0, 14, 3, 25, 4, 43, 29, 184, 0, 125, 167, 0, 13, 3, 25, 4]
abbrev dktJ29_poll_2 : List UInt8 := dkwJ29_poll_2 ++ dktJ29_poll_3
def dkwJ29_poll_1 : List UInt8 := [42, 89, 180, 0, 58, 4, 100, 90, 181, 0, 58, 89, 62, 50, 58, 4, 43, 29, 1, 83, 29, 158, 0, 34]
abbrev dktJ29_poll_1 : List UInt8 := dkwJ29_poll_1 ++ dktJ29_poll_2
def dkwJ29_poll_0 : List UInt8 := [42, 180, 0, 17, 89, 76, 3, 50, 89, 77, 198, 0, 69, 42, 89, 180, 0, 93, 4, 96, 181, 0, 93, 43]
abbrev dktJ29_poll_0 : List UInt8 := dkwJ29_poll_0 ++ dktJ29_poll_1
theorem dksJ29_poll_0 : cJ29_poll.data.toList.drop 0 = dktJ29_poll_0 := by decide +kernel
theorem dksJ29_poll_1 : cJ29_poll.data.toList.drop 24 = dktJ29_poll_1 := dk_seg dksJ29_poll_0 24 rfl rfl
theorem dksJ29_poll_2 : cJ29_poll.data.toList.drop 48 = dktJ29_poll_2 := dk_seg dksJ29_poll_1 24 rfl rfl
theorem dksJ29_poll_3 : cJ29_poll.data.toList.drop 72 = dktJ29_poll_3 := dk_seg dksJ29_poll_2 24 rfl rfl
theorem dJ29_poll_0 : decode cJ29_poll 0 = .ok (.aload_n 0, 1) := dk_42 (dk_at dksJ29_poll_0 0 rfl rfl)
theorem dJ29_poll_1 : decode cJ29_poll 1 = .ok (.getfield 17, 3) := dk_180 0 17 (dk_at dksJ29_poll_0 1 rfl rfl)
theorem dJ29_poll_4 : decode cJ29_poll 4 = .ok (.dup, 1) := dk_89 (dk_at dksJ29_poll_0 4 rfl rfl)
theorem dJ29_poll_5 : decode cJ29_poll 5 = .ok (.astore_n 1, 1) := dk_76 (dk_at dksJ29_poll_0 5 rfl rfl)
theorem dJ29_poll_6 : decode cJ29_poll 6 = .ok (.iconst 0, 1) := dk_3 (dk_at dksJ29_poll_0 6 rfl rfl)
theorem dJ29_poll_7 : decode cJ29_poll 7 = .ok (.aaload, 1) := dk_50 (dk_at dksJ29_poll_0 7 rfl rfl)
theorem dJ29_poll_8 : decode cJ29_poll 8 = .ok (.dup, 1) := dk_89 (dk_at dksJ29_poll_0 8 rfl rfl)
theorem dJ29_poll_9 : decode cJ29_poll 9 = .ok (.astore_n 2, 1) := dk_77 (dk_at dksJ29_poll_0 9 rfl rfl)
theorem dJ29_poll_10 : decode cJ29_poll 10 = .ok (.ifnull 69, 3) := dk_198 0 69 (dk_at dksJ29_poll_0 10 rfl rfl)
theorem dJ29_poll_13 : decode cJ29_poll 13 = .ok (.aload_n 0, 1) := dk_42 (dk_at dksJ29_poll_0 13 rfl rfl)
theorem dJ29_poll_14 : decode cJ29_poll 14 = .ok (.dup, 1) := dk_89 (dk_at dksJ29_poll_0 14 rfl rfl)
theorem dJ29_poll_15 : decode cJ29_poll 15 = .ok (.getfield 93, 3) := dk_180 0 93 (dk_at dksJ29_poll_0 15 rfl rfl)
theorem dJ29_poll_18 : decode cJ29_poll 18 = .ok (.iconst 1, 1) := dk_4 (dk_at dksJ29_poll_0 18 rfl rfl)
theorem dJ29_poll_19 : decode cJ29_poll 19 = .ok (.iadd, 1) := dk_96 (dk_at dksJ29_poll_0 19 rfl rfl)
theorem dJ29_poll_20 : decode cJ29_poll 20 = .ok (.putfield 93, 3) := dk_181 0 93 (dk_at dksJ29_poll_0 20 rfl rfl)
theorem dJ29_poll_23 : decode cJ29_poll 23 = .ok (.aload_n 1, 1) := dk_43 (dk_at dksJ29_poll_0 23 rfl rfl)
theorem dJ29_poll_24 : decode cJ29_poll 24 = .ok (.aload_n 0, 1) := dk_42 (dk_at dksJ29_poll_1 0 rfl rfl)
theorem dJ29_poll_25 : decode cJ29_poll 25 = .ok (.dup, 1) := dk_89 (dk_at dksJ29_poll_1 1 rfl rfl)
theorem dJ29_poll_26 : decode cJ29_poll 26 = .ok (.getfield 58, 3) := dk_180 0 58 (dk_at dksJ29_poll_1 2 rfl rfl)
theorem dJ29_poll_29 : decode cJ29_poll 29 = .ok (.iconst 1, 1) := dk_4 (dk_at dksJ29_poll_1 5 rfl rfl)
theorem dJ29_poll_30 : decode cJ29_poll 30 = .ok (.isub, 1) := dk_100 (dk_at dksJ29_poll_1 6 rfl rfl)
theorem dJ29_poll_31 : decode cJ29_poll 31 = .ok (.dup_x1, 1) := dk_90 (dk_at dksJ29_poll_1 7 rfl rfl)
theorem dJ29_poll_32 : decode cJ29_poll 32 = .ok (.putfield 58, 3) := dk_181 0 58 (dk_at dksJ29_poll_1 8 rfl rfl)
theorem dJ29_poll_35 : decode cJ29_poll 35 = .ok (.dup, 1) := dk_89 (dk_at dksJ29_poll_1 11 rfl rfl)
theorem dJ29_poll_36 : decode cJ29_poll 36 = .ok (.istore_n 3, 1) := dk_62 (dk_at dksJ29_poll_1 12 rfl rfl)
theorem dJ29_poll_37 : decode cJ29_poll 37 = .ok (.aaload, 1) := dk_50 (dk_at dksJ29_poll_1 13 rfl rfl)
theorem dJ29_poll_38 : decode cJ29_poll 38 = .ok (.astore 4, 2) := dk_58 4 (dk_at dksJ29_poll_1 14 rfl rfl)
theorem dJ29_poll_40 : decode cJ29_poll 40 = .ok (.aload_n 1, 1) := dk_43 (dk_at dksJ29_poll_1 16 rfl rfl)
theorem dJ29_poll_41 : decode cJ29_poll 41 = .ok (.iload_n 3, 1) := dk_29 (dk_at dksJ29_poll_1 17 rfl rfl)
theorem dJ29_poll_42 : decode cJ29_poll 42 = .ok (.aconst_null, 1) := dk_1 (dk_at dksJ29_poll_1 18 rfl rfl)
theorem dJ29_poll_43 : decode cJ29_poll 43 = .ok (.aastore, 1) := dk_83 (dk_at dksJ29_poll_1 19 rfl rfl)
theorem dJ29_poll_44 : decode cJ29_poll 44 = .ok (.iload_n 3, 1) := dk_29 (dk_at dksJ29_poll_1 20 rfl rfl)
theorem dJ29_poll_45 : decode cJ29_poll 45 = .ok (.ifCond .le 34, 3) := dk_158 0 34 (dk_at dksJ29_poll_1 21 rfl rfl)
theorem dJ29_poll_48 : decode cJ29_poll 48 = .ok (.aload_n 0, 1) := dk_42 (dk_at dksJ29_poll_2 0 rfl rfl)
theorem dJ29_poll_49 : decode cJ29_poll 49 = .ok (.getfield 21, 3) := dk_180 0 21 (dk_at dksJ29_poll_2 1 rfl rfl)
theorem dJ29_poll_52 : decode cJ29_poll 52 = .ok (.dup, 1) := dk_89 (dk_at dksJ29_poll_2 4 rfl rfl)
theorem dJ29_poll_53 : decode cJ29_poll 53 = .ok (.astore 5, 2) := dk_58 5 (dk_at dksJ29_poll_2 5 rfl rfl)
theorem dJ29_poll_55 : decode cJ29_poll 55 = .ok (.ifnonnull 14, 3) := dk_199 0 14 (dk_at dksJ29_poll_2 7 rfl rfl)
theorem dJ29_poll_58 : decode cJ29_poll 58 = .ok (.iconst 0, 1) := dk_3 (dk_at dksJ29_poll_2 10 rfl rfl)
theorem dJ29_poll_59 : decode cJ29_poll 59 = .ok (.aload 4, 2) := dk_25 4 (dk_at dksJ29_poll_2 11 rfl rfl)
theorem dJ29_poll_61 : decode cJ29_poll 61 = .ok (.aload_n 1, 1) := dk_43 (dk_at dksJ29_poll_2 13 rfl rfl)
theorem dJ29_poll_62 : decode cJ29_poll 62 = .ok (.iload_n 3, 1) := dk_29 (dk_at dksJ29_poll_2 14 rfl rfl)
theorem dJ29_poll_63 : decode cJ29_poll 63 = .ok (.invokestatic 125, 3) := dk_184 0 125 (dk_at dksJ29_poll_2 15 rfl rfl)
theorem dJ29_poll_66 : decode cJ29_poll 66 = .ok (.goto 13, 3) := dk_167 0 13 (dk_at dksJ29_poll_2 18 rfl rfl)
theorem dJ29_poll_69 : decode cJ29_poll 69 = .ok (.iconst 0, 1) := dk_3 (dk_at dksJ29_poll_2 21 rfl rfl)
theorem dJ29_poll_70 : decode cJ29_poll 70 = .ok (.aload 4, 2) := dk_25 4 (dk_at dksJ29_poll_2 22 rfl rfl)
theorem dJ29_poll_72 : decode cJ29_poll 72 = .ok (.aload_n 1, 1) := dk_43 (dk_at dksJ29_poll_3 0 rfl rfl)
theorem dJ29_poll_73 : decode cJ29_poll 73 = .ok (.iload_n 3, 1) := dk_29 (dk_at dksJ29_poll_3 1 rfl rfl)
theorem dJ29_poll_74 : decode cJ29_poll 74 = .ok (.aload 5, 2) := dk_25 5 (dk_at dksJ29_poll_3 2 rfl rfl)
theorem dJ29_poll_76 : decode cJ29_poll 76 = .ok (.invokestatic 129, 3) := dk_184 0 129 (dk_at dksJ29_poll_3 4 rfl rfl)
theorem dJ29_poll_79 : decode cJ29_poll 79 = .ok (.aload_n 2, 1) := dk_44 (dk_at dksJ29_poll_3 7 rfl rfl)
theorem dJ29_poll_80 : decode cJ29_poll 80 = .ok (.areturn, 1) := dk_176 (dk_at dksJ29_poll_3 8 rfl rfl)
abbrev cJ29_siftDownComparable : ByteArray := prog_60_method_31_code
def yJ29_siftDownComparable : MethodName := ⟨RJ29, "siftDownComparable", "(ILjava/lang/Object;[Ljava/lang/Object;I)V"⟩
def dkwJ29_siftDownComparable_4 : List UInt8 := [25, 4, 83, 177]
abbrev dktJ29_siftDownComparable_4 : List UInt8 := dkwJ29_siftDownComparable_4 ++ []
def dkwJ29_siftDownComparable_3 : List UInt8 := [185, 0, 146, 2, 0, 157, 0, 6, 167, 0, 14, 44, 26, 25, 7, 83, 21, 6, 59, 167, 255, 176, 44, 26]
abbrev dktJ29_siftDownComparable_3 : List UInt8 := dkwJ29_siftDownComparable_3 ++ dktJ29_siftDownComparable_4
def dkwJ29_siftDownComparable_2 : List UInt8 := [21, 8, 50, 185, 0, 146, 2, 0, 158, 0, 12, 44, 21, 8, 89, 54, 6, 50, 58, 7, 25, 4, 25, 7]
abbrev dktJ29_siftDownComparable_2 : List UInt8 := dkwJ29_siftDownComparable_2 ++ dktJ29_siftDownComparable_3
def dkwJ29_siftDownComparable_1 : List UInt8 := [44, 21, 6, 50, 58, 7, 21, 6, 4, 96, 54, 8, 21, 8, 29, 162, 0, 29, 25, 7, 192, 0, 144, 44]
abbrev dktJ29_siftDownComparable_1 : List UInt8 := dkwJ29_siftDownComparable_1 ++ dktJ29_siftDownComparable_2
def dkwJ29_siftDownComparable_0 : List UInt8 := [43, 192, 0, 144, 58, 4, 29, 4, 124, 54, 5, 26, 21, 5, 162, 0, 80, 26, 4, 120, 4, 96, 54, 6]
abbrev dktJ29_siftDownComparable_0 : List UInt8 := dkwJ29_siftDownComparable_0 ++ dktJ29_siftDownComparable_1
theorem dksJ29_siftDownComparable_0 : cJ29_siftDownComparable.data.toList.drop 0 = dktJ29_siftDownComparable_0 := by decide +kernel
theorem dksJ29_siftDownComparable_1 : cJ29_siftDownComparable.data.toList.drop 24 = dktJ29_siftDownComparable_1 := dk_seg dksJ29_siftDownComparable_0 24 rfl rfl
theorem dksJ29_siftDownComparable_2 : cJ29_siftDownComparable.data.toList.drop 48 = dktJ29_siftDownComparable_2 := dk_seg dksJ29_siftDownComparable_1 24 rfl rfl
theorem dksJ29_siftDownComparable_3 : cJ29_siftDownComparable.data.toList.drop 72 = dktJ29_siftDownComparable_3 := dk_seg dksJ29_siftDownComparable_2 24 rfl rfl
theorem dksJ29_siftDownComparable_4 : cJ29_siftDownComparable.data.toList.drop 96 = dktJ29_siftDownComparable_4 := dk_seg dksJ29_siftDownComparable_3 24 rfl rfl
theorem dJ29_siftDownComparable_0 : decode cJ29_siftDownComparable 0 = .ok (.aload_n 1, 1) := dk_43 (dk_at dksJ29_siftDownComparable_0 0 rfl rfl)
theorem dJ29_siftDownComparable_1 : decode cJ29_siftDownComparable 1 = .ok (.checkcast 144, 3) := dk_192 0 144 (dk_at dksJ29_siftDownComparable_0 1 rfl rfl)
theorem dJ29_siftDownComparable_4 : decode cJ29_siftDownComparable 4 = .ok (.astore 4, 2) := dk_58 4 (dk_at dksJ29_siftDownComparable_0 4 rfl rfl)
theorem dJ29_siftDownComparable_6 : decode cJ29_siftDownComparable 6 = .ok (.iload_n 3, 1) := dk_29 (dk_at dksJ29_siftDownComparable_0 6 rfl rfl)
theorem dJ29_siftDownComparable_7 : decode cJ29_siftDownComparable 7 = .ok (.iconst 1, 1) := dk_4 (dk_at dksJ29_siftDownComparable_0 7 rfl rfl)
theorem dJ29_siftDownComparable_8 : decode cJ29_siftDownComparable 8 = .ok (.iushr, 1) := dk_124 (dk_at dksJ29_siftDownComparable_0 8 rfl rfl)
theorem dJ29_siftDownComparable_9 : decode cJ29_siftDownComparable 9 = .ok (.istore 5, 2) := dk_54 5 (dk_at dksJ29_siftDownComparable_0 9 rfl rfl)
theorem dJ29_siftDownComparable_11 : decode cJ29_siftDownComparable 11 = .ok (.iload_n 0, 1) := dk_26 (dk_at dksJ29_siftDownComparable_0 11 rfl rfl)
theorem dJ29_siftDownComparable_12 : decode cJ29_siftDownComparable 12 = .ok (.iload 5, 2) := dk_21 5 (dk_at dksJ29_siftDownComparable_0 12 rfl rfl)
theorem dJ29_siftDownComparable_14 : decode cJ29_siftDownComparable 14 = .ok (.if_icmp .ge 80, 3) := dk_162 0 80 (dk_at dksJ29_siftDownComparable_0 14 rfl rfl)
theorem dJ29_siftDownComparable_17 : decode cJ29_siftDownComparable 17 = .ok (.iload_n 0, 1) := dk_26 (dk_at dksJ29_siftDownComparable_0 17 rfl rfl)
theorem dJ29_siftDownComparable_18 : decode cJ29_siftDownComparable 18 = .ok (.iconst 1, 1) := dk_4 (dk_at dksJ29_siftDownComparable_0 18 rfl rfl)
theorem dJ29_siftDownComparable_19 : decode cJ29_siftDownComparable 19 = .ok (.ishl, 1) := dk_120 (dk_at dksJ29_siftDownComparable_0 19 rfl rfl)
theorem dJ29_siftDownComparable_20 : decode cJ29_siftDownComparable 20 = .ok (.iconst 1, 1) := dk_4 (dk_at dksJ29_siftDownComparable_0 20 rfl rfl)
theorem dJ29_siftDownComparable_21 : decode cJ29_siftDownComparable 21 = .ok (.iadd, 1) := dk_96 (dk_at dksJ29_siftDownComparable_0 21 rfl rfl)
theorem dJ29_siftDownComparable_22 : decode cJ29_siftDownComparable 22 = .ok (.istore 6, 2) := dk_54 6 (dk_at dksJ29_siftDownComparable_0 22 rfl rfl)
theorem dJ29_siftDownComparable_24 : decode cJ29_siftDownComparable 24 = .ok (.aload_n 2, 1) := dk_44 (dk_at dksJ29_siftDownComparable_1 0 rfl rfl)
theorem dJ29_siftDownComparable_25 : decode cJ29_siftDownComparable 25 = .ok (.iload 6, 2) := dk_21 6 (dk_at dksJ29_siftDownComparable_1 1 rfl rfl)
theorem dJ29_siftDownComparable_27 : decode cJ29_siftDownComparable 27 = .ok (.aaload, 1) := dk_50 (dk_at dksJ29_siftDownComparable_1 3 rfl rfl)
theorem dJ29_siftDownComparable_28 : decode cJ29_siftDownComparable 28 = .ok (.astore 7, 2) := dk_58 7 (dk_at dksJ29_siftDownComparable_1 4 rfl rfl)
theorem dJ29_siftDownComparable_30 : decode cJ29_siftDownComparable 30 = .ok (.iload 6, 2) := dk_21 6 (dk_at dksJ29_siftDownComparable_1 6 rfl rfl)
theorem dJ29_siftDownComparable_32 : decode cJ29_siftDownComparable 32 = .ok (.iconst 1, 1) := dk_4 (dk_at dksJ29_siftDownComparable_1 8 rfl rfl)
theorem dJ29_siftDownComparable_33 : decode cJ29_siftDownComparable 33 = .ok (.iadd, 1) := dk_96 (dk_at dksJ29_siftDownComparable_1 9 rfl rfl)
theorem dJ29_siftDownComparable_34 : decode cJ29_siftDownComparable 34 = .ok (.istore 8, 2) := dk_54 8 (dk_at dksJ29_siftDownComparable_1 10 rfl rfl)
theorem dJ29_siftDownComparable_36 : decode cJ29_siftDownComparable 36 = .ok (.iload 8, 2) := dk_21 8 (dk_at dksJ29_siftDownComparable_1 12 rfl rfl)
theorem dJ29_siftDownComparable_38 : decode cJ29_siftDownComparable 38 = .ok (.iload_n 3, 1) := dk_29 (dk_at dksJ29_siftDownComparable_1 14 rfl rfl)
theorem dJ29_siftDownComparable_39 : decode cJ29_siftDownComparable 39 = .ok (.if_icmp .ge 29, 3) := dk_162 0 29 (dk_at dksJ29_siftDownComparable_1 15 rfl rfl)
theorem dJ29_siftDownComparable_42 : decode cJ29_siftDownComparable 42 = .ok (.aload 7, 2) := dk_25 7 (dk_at dksJ29_siftDownComparable_1 18 rfl rfl)
theorem dJ29_siftDownComparable_44 : decode cJ29_siftDownComparable 44 = .ok (.checkcast 144, 3) := dk_192 0 144 (dk_at dksJ29_siftDownComparable_1 20 rfl rfl)
theorem dJ29_siftDownComparable_47 : decode cJ29_siftDownComparable 47 = .ok (.aload_n 2, 1) := dk_44 (dk_at dksJ29_siftDownComparable_1 23 rfl rfl)
theorem dJ29_siftDownComparable_48 : decode cJ29_siftDownComparable 48 = .ok (.iload 8, 2) := dk_21 8 (dk_at dksJ29_siftDownComparable_2 0 rfl rfl)
theorem dJ29_siftDownComparable_50 : decode cJ29_siftDownComparable 50 = .ok (.aaload, 1) := dk_50 (dk_at dksJ29_siftDownComparable_2 2 rfl rfl)
theorem dJ29_siftDownComparable_51 : decode cJ29_siftDownComparable 51 = .ok (.invokeinterface 146 2, 5) := by decide +kernel
theorem dJ29_siftDownComparable_56 : decode cJ29_siftDownComparable 56 = .ok (.ifCond .le 12, 3) := dk_158 0 12 (dk_at dksJ29_siftDownComparable_2 8 rfl rfl)
theorem dJ29_siftDownComparable_59 : decode cJ29_siftDownComparable 59 = .ok (.aload_n 2, 1) := dk_44 (dk_at dksJ29_siftDownComparable_2 11 rfl rfl)
theorem dJ29_siftDownComparable_60 : decode cJ29_siftDownComparable 60 = .ok (.iload 8, 2) := dk_21 8 (dk_at dksJ29_siftDownComparable_2 12 rfl rfl)
theorem dJ29_siftDownComparable_62 : decode cJ29_siftDownComparable 62 = .ok (.dup, 1) := dk_89 (dk_at dksJ29_siftDownComparable_2 14 rfl rfl)
theorem dJ29_siftDownComparable_63 : decode cJ29_siftDownComparable 63 = .ok (.istore 6, 2) := dk_54 6 (dk_at dksJ29_siftDownComparable_2 15 rfl rfl)
theorem dJ29_siftDownComparable_65 : decode cJ29_siftDownComparable 65 = .ok (.aaload, 1) := dk_50 (dk_at dksJ29_siftDownComparable_2 17 rfl rfl)
theorem dJ29_siftDownComparable_66 : decode cJ29_siftDownComparable 66 = .ok (.astore 7, 2) := dk_58 7 (dk_at dksJ29_siftDownComparable_2 18 rfl rfl)
theorem dJ29_siftDownComparable_68 : decode cJ29_siftDownComparable 68 = .ok (.aload 4, 2) := dk_25 4 (dk_at dksJ29_siftDownComparable_2 20 rfl rfl)
theorem dJ29_siftDownComparable_70 : decode cJ29_siftDownComparable 70 = .ok (.aload 7, 2) := dk_25 7 (dk_at dksJ29_siftDownComparable_2 22 rfl rfl)
theorem dJ29_siftDownComparable_72 : decode cJ29_siftDownComparable 72 = .ok (.invokeinterface 146 2, 5) := by decide +kernel
theorem dJ29_siftDownComparable_77 : decode cJ29_siftDownComparable 77 = .ok (.ifCond .gt 6, 3) := dk_157 0 6 (dk_at dksJ29_siftDownComparable_3 5 rfl rfl)
theorem dJ29_siftDownComparable_80 : decode cJ29_siftDownComparable 80 = .ok (.goto 14, 3) := dk_167 0 14 (dk_at dksJ29_siftDownComparable_3 8 rfl rfl)
theorem dJ29_siftDownComparable_83 : decode cJ29_siftDownComparable 83 = .ok (.aload_n 2, 1) := dk_44 (dk_at dksJ29_siftDownComparable_3 11 rfl rfl)
theorem dJ29_siftDownComparable_84 : decode cJ29_siftDownComparable 84 = .ok (.iload_n 0, 1) := dk_26 (dk_at dksJ29_siftDownComparable_3 12 rfl rfl)
theorem dJ29_siftDownComparable_85 : decode cJ29_siftDownComparable 85 = .ok (.aload 7, 2) := dk_25 7 (dk_at dksJ29_siftDownComparable_3 13 rfl rfl)
theorem dJ29_siftDownComparable_87 : decode cJ29_siftDownComparable 87 = .ok (.aastore, 1) := dk_83 (dk_at dksJ29_siftDownComparable_3 15 rfl rfl)
theorem dJ29_siftDownComparable_88 : decode cJ29_siftDownComparable 88 = .ok (.iload 6, 2) := dk_21 6 (dk_at dksJ29_siftDownComparable_3 16 rfl rfl)
theorem dJ29_siftDownComparable_90 : decode cJ29_siftDownComparable 90 = .ok (.istore_n 0, 1) := dk_59 (dk_at dksJ29_siftDownComparable_3 18 rfl rfl)
theorem dJ29_siftDownComparable_91 : decode cJ29_siftDownComparable 91 = .ok (.goto (-80), 3) := dk_167 255 176 (dk_at dksJ29_siftDownComparable_3 19 rfl rfl)
theorem dJ29_siftDownComparable_94 : decode cJ29_siftDownComparable 94 = .ok (.aload_n 2, 1) := dk_44 (dk_at dksJ29_siftDownComparable_3 22 rfl rfl)
theorem dJ29_siftDownComparable_95 : decode cJ29_siftDownComparable 95 = .ok (.iload_n 0, 1) := dk_26 (dk_at dksJ29_siftDownComparable_3 23 rfl rfl)
theorem dJ29_siftDownComparable_96 : decode cJ29_siftDownComparable 96 = .ok (.aload 4, 2) := dk_25 4 (dk_at dksJ29_siftDownComparable_4 0 rfl rfl)
theorem dJ29_siftDownComparable_98 : decode cJ29_siftDownComparable 98 = .ok (.aastore, 1) := dk_83 (dk_at dksJ29_siftDownComparable_4 2 rfl rfl)
theorem dJ29_siftDownComparable_99 : decode cJ29_siftDownComparable 99 = .ok (.return_, 1) := dk_177 (dk_at dksJ29_siftDownComparable_4 3 rfl rfl)
abbrev cJ29_siftDownUsingComparator : ByteArray := prog_60_method_32_code
def yJ29_siftDownUsingComparator : MethodName := ⟨RJ29, "siftDownUsingComparator", "(ILjava/lang/Object;[Ljava/lang/Object;ILjava/util/Comparator;)V"⟩
def dkwJ29_siftDownUsingComparator_4 : List UInt8 := [43, 83, 177]
abbrev dktJ29_siftDownUsingComparator_4 : List UInt8 := dkwJ29_siftDownUsingComparator_4 ++ []
def dkwJ29_siftDownUsingComparator_3 : List UInt8 := [185, 0, 149, 3, 0, 157, 0, 6, 167, 0, 14, 44, 26, 25, 7, 83, 21, 6, 59, 167, 255, 176, 44, 26]
abbrev dktJ29_siftDownUsingComparator_3 : List UInt8 := dkwJ29_siftDownUsingComparator_3 ++ dktJ29_siftDownUsingComparator_4
def dkwJ29_siftDownUsingComparator_2 : List UInt8 := [185, 0, 149, 3, 0, 158, 0, 12, 44, 21, 8, 89, 54, 6, 50, 58, 7, 25, 4, 43, 25, 7]
abbrev dktJ29_siftDownUsingComparator_2 : List UInt8 := dkwJ29_siftDownUsingComparator_2 ++ dktJ29_siftDownUsingComparator_3
def dkwJ29_siftDownUsingComparator_1 : List UInt8 := [21, 6, 4, 96, 54, 8, 21, 8, 29, 162, 0, 28, 25, 4, 25, 7, 44, 21, 8, 50]
abbrev dktJ29_siftDownUsingComparator_1 : List UInt8 := dkwJ29_siftDownUsingComparator_1 ++ dktJ29_siftDownUsingComparator_2
def dkwJ29_siftDownUsingComparator_0 : List UInt8 := [29, 4, 124, 54, 5, 26, 21, 5, 162, 0, 80, 26, 4, 120, 4, 96, 54, 6, 44, 21, 6, 50, 58, 7]
abbrev dktJ29_siftDownUsingComparator_0 : List UInt8 := dkwJ29_siftDownUsingComparator_0 ++ dktJ29_siftDownUsingComparator_1
theorem dksJ29_siftDownUsingComparator_0 : cJ29_siftDownUsingComparator.data.toList.drop 0 = dktJ29_siftDownUsingComparator_0 := by decide +kernel
theorem dksJ29_siftDownUsingComparator_1 : cJ29_siftDownUsingComparator.data.toList.drop 24 = dktJ29_siftDownUsingComparator_1 := dk_seg dksJ29_siftDownUsingComparator_0 24 rfl rfl
theorem dksJ29_siftDownUsingComparator_2 : cJ29_siftDownUsingComparator.data.toList.drop 44 = dktJ29_siftDownUsingComparator_2 := dk_seg dksJ29_siftDownUsingComparator_1 20 rfl rfl
theorem dksJ29_siftDownUsingComparator_3 : cJ29_siftDownUsingComparator.data.toList.drop 66 = dktJ29_siftDownUsingComparator_3 := dk_seg dksJ29_siftDownUsingComparator_2 22 rfl rfl
theorem dksJ29_siftDownUsingComparator_4 : cJ29_siftDownUsingComparator.data.toList.drop 90 = dktJ29_siftDownUsingComparator_4 := dk_seg dksJ29_siftDownUsingComparator_3 24 rfl rfl
theorem dJ29_siftDownUsingComparator_0 : decode cJ29_siftDownUsingComparator 0 = .ok (.iload_n 3, 1) := dk_29 (dk_at dksJ29_siftDownUsingComparator_0 0 rfl rfl)
theorem dJ29_siftDownUsingComparator_1 : decode cJ29_siftDownUsingComparator 1 = .ok (.iconst 1, 1) := dk_4 (dk_at dksJ29_siftDownUsingComparator_0 1 rfl rfl)
theorem dJ29_siftDownUsingComparator_2 : decode cJ29_siftDownUsingComparator 2 = .ok (.iushr, 1) := dk_124 (dk_at dksJ29_siftDownUsingComparator_0 2 rfl rfl)
theorem dJ29_siftDownUsingComparator_3 : decode cJ29_siftDownUsingComparator 3 = .ok (.istore 5, 2) := dk_54 5 (dk_at dksJ29_siftDownUsingComparator_0 3 rfl rfl)
theorem dJ29_siftDownUsingComparator_5 : decode cJ29_siftDownUsingComparator 5 = .ok (.iload_n 0, 1) := dk_26 (dk_at dksJ29_siftDownUsingComparator_0 5 rfl rfl)
theorem dJ29_siftDownUsingComparator_6 : decode cJ29_siftDownUsingComparator 6 = .ok (.iload 5, 2) := dk_21 5 (dk_at dksJ29_siftDownUsingComparator_0 6 rfl rfl)
theorem dJ29_siftDownUsingComparator_8 : decode cJ29_siftDownUsingComparator 8 = .ok (.if_icmp .ge 80, 3) := dk_162 0 80 (dk_at dksJ29_siftDownUsingComparator_0 8 rfl rfl)
theorem dJ29_siftDownUsingComparator_11 : decode cJ29_siftDownUsingComparator 11 = .ok (.iload_n 0, 1) := dk_26 (dk_at dksJ29_siftDownUsingComparator_0 11 rfl rfl)
theorem dJ29_siftDownUsingComparator_12 : decode cJ29_siftDownUsingComparator 12 = .ok (.iconst 1, 1) := dk_4 (dk_at dksJ29_siftDownUsingComparator_0 12 rfl rfl)
theorem dJ29_siftDownUsingComparator_13 : decode cJ29_siftDownUsingComparator 13 = .ok (.ishl, 1) := dk_120 (dk_at dksJ29_siftDownUsingComparator_0 13 rfl rfl)
theorem dJ29_siftDownUsingComparator_14 : decode cJ29_siftDownUsingComparator 14 = .ok (.iconst 1, 1) := dk_4 (dk_at dksJ29_siftDownUsingComparator_0 14 rfl rfl)
theorem dJ29_siftDownUsingComparator_15 : decode cJ29_siftDownUsingComparator 15 = .ok (.iadd, 1) := dk_96 (dk_at dksJ29_siftDownUsingComparator_0 15 rfl rfl)
theorem dJ29_siftDownUsingComparator_16 : decode cJ29_siftDownUsingComparator 16 = .ok (.istore 6, 2) := dk_54 6 (dk_at dksJ29_siftDownUsingComparator_0 16 rfl rfl)
theorem dJ29_siftDownUsingComparator_18 : decode cJ29_siftDownUsingComparator 18 = .ok (.aload_n 2, 1) := dk_44 (dk_at dksJ29_siftDownUsingComparator_0 18 rfl rfl)
theorem dJ29_siftDownUsingComparator_19 : decode cJ29_siftDownUsingComparator 19 = .ok (.iload 6, 2) := dk_21 6 (dk_at dksJ29_siftDownUsingComparator_0 19 rfl rfl)
theorem dJ29_siftDownUsingComparator_21 : decode cJ29_siftDownUsingComparator 21 = .ok (.aaload, 1) := dk_50 (dk_at dksJ29_siftDownUsingComparator_0 21 rfl rfl)
theorem dJ29_siftDownUsingComparator_22 : decode cJ29_siftDownUsingComparator 22 = .ok (.astore 7, 2) := dk_58 7 (dk_at dksJ29_siftDownUsingComparator_0 22 rfl rfl)
theorem dJ29_siftDownUsingComparator_24 : decode cJ29_siftDownUsingComparator 24 = .ok (.iload 6, 2) := dk_21 6 (dk_at dksJ29_siftDownUsingComparator_1 0 rfl rfl)
theorem dJ29_siftDownUsingComparator_26 : decode cJ29_siftDownUsingComparator 26 = .ok (.iconst 1, 1) := dk_4 (dk_at dksJ29_siftDownUsingComparator_1 2 rfl rfl)
theorem dJ29_siftDownUsingComparator_27 : decode cJ29_siftDownUsingComparator 27 = .ok (.iadd, 1) := dk_96 (dk_at dksJ29_siftDownUsingComparator_1 3 rfl rfl)
theorem dJ29_siftDownUsingComparator_28 : decode cJ29_siftDownUsingComparator 28 = .ok (.istore 8, 2) := dk_54 8 (dk_at dksJ29_siftDownUsingComparator_1 4 rfl rfl)
theorem dJ29_siftDownUsingComparator_30 : decode cJ29_siftDownUsingComparator 30 = .ok (.iload 8, 2) := dk_21 8 (dk_at dksJ29_siftDownUsingComparator_1 6 rfl rfl)
theorem dJ29_siftDownUsingComparator_32 : decode cJ29_siftDownUsingComparator 32 = .ok (.iload_n 3, 1) := dk_29 (dk_at dksJ29_siftDownUsingComparator_1 8 rfl rfl)
theorem dJ29_siftDownUsingComparator_33 : decode cJ29_siftDownUsingComparator 33 = .ok (.if_icmp .ge 28, 3) := dk_162 0 28 (dk_at dksJ29_siftDownUsingComparator_1 9 rfl rfl)
theorem dJ29_siftDownUsingComparator_36 : decode cJ29_siftDownUsingComparator 36 = .ok (.aload 4, 2) := dk_25 4 (dk_at dksJ29_siftDownUsingComparator_1 12 rfl rfl)
theorem dJ29_siftDownUsingComparator_38 : decode cJ29_siftDownUsingComparator 38 = .ok (.aload 7, 2) := dk_25 7 (dk_at dksJ29_siftDownUsingComparator_1 14 rfl rfl)
theorem dJ29_siftDownUsingComparator_40 : decode cJ29_siftDownUsingComparator 40 = .ok (.aload_n 2, 1) := dk_44 (dk_at dksJ29_siftDownUsingComparator_1 16 rfl rfl)
theorem dJ29_siftDownUsingComparator_41 : decode cJ29_siftDownUsingComparator 41 = .ok (.iload 8, 2) := dk_21 8 (dk_at dksJ29_siftDownUsingComparator_1 17 rfl rfl)
theorem dJ29_siftDownUsingComparator_43 : decode cJ29_siftDownUsingComparator 43 = .ok (.aaload, 1) := dk_50 (dk_at dksJ29_siftDownUsingComparator_1 19 rfl rfl)
theorem dJ29_siftDownUsingComparator_44 : decode cJ29_siftDownUsingComparator 44 = .ok (.invokeinterface 149 3, 5) := by decide +kernel
theorem dJ29_siftDownUsingComparator_49 : decode cJ29_siftDownUsingComparator 49 = .ok (.ifCond .le 12, 3) := dk_158 0 12 (dk_at dksJ29_siftDownUsingComparator_2 5 rfl rfl)
theorem dJ29_siftDownUsingComparator_52 : decode cJ29_siftDownUsingComparator 52 = .ok (.aload_n 2, 1) := dk_44 (dk_at dksJ29_siftDownUsingComparator_2 8 rfl rfl)
theorem dJ29_siftDownUsingComparator_53 : decode cJ29_siftDownUsingComparator 53 = .ok (.iload 8, 2) := dk_21 8 (dk_at dksJ29_siftDownUsingComparator_2 9 rfl rfl)
theorem dJ29_siftDownUsingComparator_55 : decode cJ29_siftDownUsingComparator 55 = .ok (.dup, 1) := dk_89 (dk_at dksJ29_siftDownUsingComparator_2 11 rfl rfl)
theorem dJ29_siftDownUsingComparator_56 : decode cJ29_siftDownUsingComparator 56 = .ok (.istore 6, 2) := dk_54 6 (dk_at dksJ29_siftDownUsingComparator_2 12 rfl rfl)
theorem dJ29_siftDownUsingComparator_58 : decode cJ29_siftDownUsingComparator 58 = .ok (.aaload, 1) := dk_50 (dk_at dksJ29_siftDownUsingComparator_2 14 rfl rfl)
theorem dJ29_siftDownUsingComparator_59 : decode cJ29_siftDownUsingComparator 59 = .ok (.astore 7, 2) := dk_58 7 (dk_at dksJ29_siftDownUsingComparator_2 15 rfl rfl)
theorem dJ29_siftDownUsingComparator_61 : decode cJ29_siftDownUsingComparator 61 = .ok (.aload 4, 2) := dk_25 4 (dk_at dksJ29_siftDownUsingComparator_2 17 rfl rfl)
theorem dJ29_siftDownUsingComparator_63 : decode cJ29_siftDownUsingComparator 63 = .ok (.aload_n 1, 1) := dk_43 (dk_at dksJ29_siftDownUsingComparator_2 19 rfl rfl)
theorem dJ29_siftDownUsingComparator_64 : decode cJ29_siftDownUsingComparator 64 = .ok (.aload 7, 2) := dk_25 7 (dk_at dksJ29_siftDownUsingComparator_2 20 rfl rfl)
theorem dJ29_siftDownUsingComparator_66 : decode cJ29_siftDownUsingComparator 66 = .ok (.invokeinterface 149 3, 5) := by decide +kernel
theorem dJ29_siftDownUsingComparator_71 : decode cJ29_siftDownUsingComparator 71 = .ok (.ifCond .gt 6, 3) := dk_157 0 6 (dk_at dksJ29_siftDownUsingComparator_3 5 rfl rfl)
theorem dJ29_siftDownUsingComparator_74 : decode cJ29_siftDownUsingComparator 74 = .ok (.goto 14, 3) := dk_167 0 14 (dk_at dksJ29_siftDownUsingComparator_3 8 rfl rfl)
theorem dJ29_siftDownUsingComparator_77 : decode cJ29_siftDownUsingComparator 77 = .ok (.aload_n 2, 1) := dk_44 (dk_at dksJ29_siftDownUsingComparator_3 11 rfl rfl)
theorem dJ29_siftDownUsingComparator_78 : decode cJ29_siftDownUsingComparator 78 = .ok (.iload_n 0, 1) := dk_26 (dk_at dksJ29_siftDownUsingComparator_3 12 rfl rfl)
theorem dJ29_siftDownUsingComparator_79 : decode cJ29_siftDownUsingComparator 79 = .ok (.aload 7, 2) := dk_25 7 (dk_at dksJ29_siftDownUsingComparator_3 13 rfl rfl)
theorem dJ29_siftDownUsingComparator_81 : decode cJ29_siftDownUsingComparator 81 = .ok (.aastore, 1) := dk_83 (dk_at dksJ29_siftDownUsingComparator_3 15 rfl rfl)
theorem dJ29_siftDownUsingComparator_82 : decode cJ29_siftDownUsingComparator 82 = .ok (.iload 6, 2) := dk_21 6 (dk_at dksJ29_siftDownUsingComparator_3 16 rfl rfl)
theorem dJ29_siftDownUsingComparator_84 : decode cJ29_siftDownUsingComparator 84 = .ok (.istore_n 0, 1) := dk_59 (dk_at dksJ29_siftDownUsingComparator_3 18 rfl rfl)
theorem dJ29_siftDownUsingComparator_85 : decode cJ29_siftDownUsingComparator 85 = .ok (.goto (-80), 3) := dk_167 255 176 (dk_at dksJ29_siftDownUsingComparator_3 19 rfl rfl)
theorem dJ29_siftDownUsingComparator_88 : decode cJ29_siftDownUsingComparator 88 = .ok (.aload_n 2, 1) := dk_44 (dk_at dksJ29_siftDownUsingComparator_3 22 rfl rfl)
theorem dJ29_siftDownUsingComparator_89 : decode cJ29_siftDownUsingComparator 89 = .ok (.iload_n 0, 1) := dk_26 (dk_at dksJ29_siftDownUsingComparator_3 23 rfl rfl)
theorem dJ29_siftDownUsingComparator_90 : decode cJ29_siftDownUsingComparator 90 = .ok (.aload_n 1, 1) := dk_43 (dk_at dksJ29_siftDownUsingComparator_4 0 rfl rfl)
theorem dJ29_siftDownUsingComparator_91 : decode cJ29_siftDownUsingComparator 91 = .ok (.aastore, 1) := dk_83 (dk_at dksJ29_siftDownUsingComparator_4 1 rfl rfl)
theorem dJ29_siftDownUsingComparator_92 : decode cJ29_siftDownUsingComparator 92 = .ok (.return_, 1) := dk_177 (dk_at dksJ29_siftDownUsingComparator_4 2 rfl rfl)
abbrev cJ31_init : ByteArray := object_method_1_code
def yJ31_init : MethodName := ⟨RJ31, "<init>", "()V"⟩
theorem dJ31_init_0 : decode cJ31_init 0 = .ok (.return_, 1) := by decide +kernel
