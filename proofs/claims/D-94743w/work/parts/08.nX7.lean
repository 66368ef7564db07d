set_option maxRecDepth 100000
abbrev cX7_init : ByteArray := prog_17_method_1_code
def yX7_init : MethodName := ⟨RX7, "<init>", "(LMinistryDesks;I)V"⟩
def dkwX7_init_1 : List UInt8 := [181, 0, 22, 177]
abbrev dktX7_init_1 : List UInt8 := dkwX7_init_1 ++ []
def dkwX7_init_0 : List UInt8 := [42, 43, 181, 0, 3, 42, 183, 0, 9, 42, 187, 0, 15, 89, 183, 0, 17, 181, 0, 18, 42, 28]
abbrev dktX7_init_0 : List UInt8 := dkwX7_init_0 ++ dktX7_init_1
theorem dksX7_init_0 : cX7_init.data.toList.drop 0 = dktX7_init_0 := by decide +kernel
theorem dksX7_init_1 : cX7_init.data.toList.drop 22 = dktX7_init_1 := dk_seg dksX7_init_0 22 rfl rfl
theorem dX7_init_0 : decode cX7_init 0 = .ok (.aload_n 0, 1) := dk_42 (dk_at dksX7_init_0 0 rfl rfl)
theorem dX7_init_1 : decode cX7_init 1 = .ok (.aload_n 1, 1) := dk_43 (dk_at dksX7_init_0 1 rfl rfl)
theorem dX7_init_2 : decode cX7_init 2 = .ok (.putfield 3, 3) := dk_181 0 3 (dk_at dksX7_init_0 2 rfl rfl)
theorem dX7_init_5 : decode cX7_init 5 = .ok (.aload_n 0, 1) := dk_42 (dk_at dksX7_init_0 5 rfl rfl)
theorem dX7_init_6 : decode cX7_init 6 = .ok (.invokespecial 9, 3) := dk_183 0 9 (dk_at dksX7_init_0 6 rfl rfl)
theorem dX7_init_9 : decode cX7_init 9 = .ok (.aload_n 0, 1) := dk_42 (dk_at dksX7_init_0 9 rfl rfl)
theorem dX7_init_10 : decode cX7_init 10 = .ok (.new 15, 3) := dk_187 0 15 (dk_at dksX7_init_0 10 rfl rfl)
theorem dX7_init_13 : decode cX7_init 13 = .ok (.dup, 1) := dk_89 (dk_at dksX7_init_0 13 rfl rfl)
theorem dX7_init_14 : decode cX7_init 14 = .ok (.invokespecial 17, 3) := dk_183 0 17 (dk_at dksX7_init_0 14 rfl rfl)
theorem dX7_init_17 : decode cX7_init 17 = .ok (.putfield 18, 3) := dk_181 0 18 (dk_at dksX7_init_0 17 rfl rfl)
theorem dX7_init_20 : decode cX7_init 20 = .ok (.aload_n 0, 1) := dk_42 (dk_at dksX7_init_0 20 rfl rfl)
theorem dX7_init_21 : decode cX7_init 21 = .ok (.iload_n 2, 1) := dk_28 (dk_at dksX7_init_0 21 rfl rfl)
theorem dX7_init_22 : decode cX7_init 22 = .ok (.putfield 22, 3) := dk_181 0 22 (dk_at dksX7_init_1 0 rfl rfl)
theorem dX7_init_25 : decode cX7_init 25 = .ok (.return_, 1) := dk_177 (dk_at dksX7_init_1 3 rfl rfl)
abbrev cX7_text : ByteArray := prog_17_method_19_code
def yX7_text : MethodName := ⟨RX7, "text", "()LMinistryDesks$House;"⟩
def dkwX7_text_3 : List UInt8 := [42, 180, 0, 18, 176]
abbrev dktX7_text_3 : List UInt8 := dkwX7_text_3 ++ []
def dkwX7_text_2 : List UInt8 := [182, 0, 99, 191, 42, 182, 0, 107, 42, 180, 0, 18, 89, 180, 0, 119, 4, 96, 181, 0, 119, 167, 255, 192]
abbrev dktX7_text_2 : List UInt8 := dkwX7_text_2 ++ dktX7_text_3
def dkwX7_text_1 : List UInt8 := [16, 8, 164, 0, 8, 42, 182, 0, 99, 191, 42, 182, 0, 113, 42, 16, 59, 182, 0, 116, 154, 0, 8, 42]
abbrev dktX7_text_1 : List UInt8 := dkwX7_text_1 ++ dktX7_text_2
def dkwX7_text_0 : List UInt8 := [42, 182, 0, 107, 42, 180, 0, 44, 153, 0, 63, 42, 180, 0, 44, 4, 160, 0, 12, 42, 180, 0, 66]
abbrev dktX7_text_0 : List UInt8 := dkwX7_text_0 ++ dktX7_text_1
theorem dksX7_text_0 : cX7_text.data.toList.drop 0 = dktX7_text_0 := by decide +kernel
theorem dksX7_text_1 : cX7_text.data.toList.drop 23 = dktX7_text_1 := dk_seg dksX7_text_0 23 rfl rfl
theorem dksX7_text_2 : cX7_text.data.toList.drop 47 = dktX7_text_2 := dk_seg dksX7_text_1 24 rfl rfl
theorem dksX7_text_3 : cX7_text.data.toList.drop 71 = dktX7_text_3 := dk_seg dksX7_text_2 24 rfl rfl
theorem dX7_text_0 : decode cX7_text 0 = .ok (.aload_n 0, 1) := dk_42 (dk_at dksX7_text_0 0 rfl rfl)
theorem dX7_text_1 : decode cX7_text 1 = .ok (.invokevirtual 107, 3) := dk_182 0 107 (dk_at dksX7_text_0 1 rfl rfl)
theorem dX7_text_4 : decode cX7_text 4 = .ok (.aload_n 0, 1) := dk_42 (dk_at dksX7_text_0 4 rfl rfl)
theorem dX7_text_5 : decode cX7_text 5 = .ok (.getfield 44, 3) := dk_180 0 44 (dk_at dksX7_text_0 5 rfl rfl)
theorem dX7_text_8 : decode cX7_text 8 = .ok (.ifCond .eq 63, 3) := dk_153 0 63 (dk_at dksX7_text_0 8 rfl rfl)
theorem dX7_text_11 : decode cX7_text 11 = .ok (.aload_n 0, 1) := dk_42 (dk_at dksX7_text_0 11 rfl rfl)
theorem dX7_text_12 : decode cX7_text 12 = .ok (.getfield 44, 3) := dk_180 0 44 (dk_at dksX7_text_0 12 rfl rfl)
theorem dX7_text_15 : decode cX7_text 15 = .ok (.iconst 1, 1) := dk_4 (dk_at dksX7_text_0 15 rfl rfl)
theorem dX7_text_16 : decode cX7_text 16 = .ok (.if_icmp .ne 12, 3) := dk_160 0 12 (dk_at dksX7_text_0 16 rfl rfl)
theorem dX7_text_19 : decode cX7_text 19 = .ok (.aload_n 0, 1) := dk_42 (dk_at dksX7_text_0 19 rfl rfl)
theorem dX7_text_20 : decode cX7_text 20 = .ok (.getfield 66, 3) := dk_180 0 66 (dk_at dksX7_text_0 20 rfl rfl)
theorem dX7_text_23 : decode cX7_text 23 = .ok (.bipush 8, 2) := dk_16 8 (dk_at dksX7_text_1 0 rfl rfl)
theorem dX7_text_25 : decode cX7_text 25 = .ok (.if_icmp .le 8, 3) := dk_164 0 8 (dk_at dksX7_text_1 2 rfl rfl)
theorem dX7_text_28 : decode cX7_text 28 = .ok (.aload_n 0, 1) := dk_42 (dk_at dksX7_text_1 5 rfl rfl)
theorem dX7_text_29 : decode cX7_text 29 = .ok (.invokevirtual 99, 3) := dk_182 0 99 (dk_at dksX7_text_1 6 rfl rfl)
theorem dX7_text_32 : decode cX7_text 32 = .ok (.athrow, 1) := dk_191 (dk_at dksX7_text_1 9 rfl rfl)
theorem dX7_text_33 : decode cX7_text 33 = .ok (.aload_n 0, 1) := dk_42 (dk_at dksX7_text_1 10 rfl rfl)
theorem dX7_text_34 : decode cX7_text 34 = .ok (.invokevirtual 113, 3) := dk_182 0 113 (dk_at dksX7_text_1 11 rfl rfl)
theorem dX7_text_37 : decode cX7_text 37 = .ok (.aload_n 0, 1) := dk_42 (dk_at dksX7_text_1 14 rfl rfl)
theorem dX7_text_38 : decode cX7_text 38 = .ok (.bipush 59, 2) := dk_16 59 (dk_at dksX7_text_1 15 rfl rfl)
theorem dX7_text_40 : decode cX7_text 40 = .ok (.invokevirtual 116, 3) := dk_182 0 116 (dk_at dksX7_text_1 17 rfl rfl)
theorem dX7_text_43 : decode cX7_text 43 = .ok (.ifCond .ne 8, 3) := dk_154 0 8 (dk_at dksX7_text_1 20 rfl rfl)
theorem dX7_text_46 : decode cX7_text 46 = .ok (.aload_n 0, 1) := dk_42 (dk_at dksX7_text_1 23 rfl rfl)
theorem dX7_text_47 : decode cX7_text 47 = .ok (.invokevirtual 99, 3) := dk_182 0 99 (dk_at dksX7_text_2 0 rfl rfl)
theorem dX7_text_50 : decode cX7_text 50 = .ok (.athrow, 1) := dk_191 (dk_at dksX7_text_2 3 rfl rfl)
theorem dX7_text_51 : decode cX7_text 51 = .ok (.aload_n 0, 1) := dk_42 (dk_at dksX7_text_2 4 rfl rfl)
theorem dX7_text_52 : decode cX7_text 52 = .ok (.invokevirtual 107, 3) := dk_182 0 107 (dk_at dksX7_text_2 5 rfl rfl)
theorem dX7_text_55 : decode cX7_text 55 = .ok (.aload_n 0, 1) := dk_42 (dk_at dksX7_text_2 8 rfl rfl)
theorem dX7_text_56 : decode cX7_text 56 = .ok (.getfield 18, 3) := dk_180 0 18 (dk_at dksX7_text_2 9 rfl rfl)
theorem dX7_text_59 : decode cX7_text 59 = .ok (.dup, 1) := dk_89 (dk_at dksX7_text_2 12 rfl rfl)
theorem dX7_text_60 : decode cX7_text 60 = .ok (.getfield 119, 3) := dk_180 0 119 (dk_at dksX7_text_2 13 rfl rfl)
theorem dX7_text_63 : decode cX7_text 63 = .ok (.iconst 1, 1) := dk_4 (dk_at dksX7_text_2 16 rfl rfl)
theorem dX7_text_64 : decode cX7_text 64 = .ok (.iadd, 1) := dk_96 (dk_at dksX7_text_2 17 rfl rfl)
theorem dX7_text_65 : decode cX7_text 65 = .ok (.putfield 119, 3) := dk_181 0 119 (dk_at dksX7_text_2 18 rfl rfl)
theorem dX7_text_68 : decode cX7_text 68 = .ok (.goto (-64), 3) := dk_167 255 192 (dk_at dksX7_text_2 21 rfl rfl)
theorem dX7_text_71 : decode cX7_text 71 = .ok (.aload_n 0, 1) := dk_42 (dk_at dksX7_text_3 0 rfl rfl)
theorem dX7_text_72 : decode cX7_text 72 = .ok (.getfield 18, 3) := dk_180 0 18 (dk_at dksX7_text_3 1 rfl rfl)
theorem dX7_text_75 : decode cX7_text 75 = .ok (.areturn, 1) := dk_176 (dk_at dksX7_text_3 4 rfl rfl)
abbrev cX7_take : ByteArray := prog_17_method_5_code
def yX7_take : MethodName := ⟨RX7, "take", "()V"⟩
def dkwX7_take_4 : List UInt8 := [42, 182, 0, 57, 167, 0, 7, 42, 182, 0, 60, 177]
abbrev dktX7_take_4 : List UInt8 := dkwX7_take_4 ++ []
def dkwX7_take_3 : List UInt8 := [182, 0, 47, 153, 0, 10, 42, 182, 0, 51, 167, 0, 25, 42, 42, 180, 0, 38, 182, 0, 54, 153, 0, 10]
abbrev dktX7_take_3 : List UInt8 := dkwX7_take_3 ++ dktX7_take_4
def dkwX7_take_2 : List UInt8 := [42, 180, 0, 38, 42, 180, 0, 22, 161, 0, 11, 42, 3, 181, 0, 44, 167, 0, 43, 42, 42, 180, 0, 38]
abbrev dktX7_take_2 : List UInt8 := dkwX7_take_2 ++ dktX7_take_3
def dkwX7_take_1 : List UInt8 := [160, 0, 16, 42, 89, 180, 0, 38, 4, 96, 181, 0, 38, 167, 255, 220, 42, 42, 180, 0, 38, 181, 0, 41]
abbrev dktX7_take_1 : List UInt8 := dkwX7_take_1 ++ dktX7_take_2
def dkwX7_take_0 : List UInt8 := [42, 42, 180, 0, 38, 182, 0, 30, 16, 10, 159, 0, 16, 42, 42, 180, 0, 38, 182, 0, 30, 16, 32]
abbrev dktX7_take_0 : List UInt8 := dkwX7_take_0 ++ dktX7_take_1
theorem dksX7_take_0 : cX7_take.data.toList.drop 0 = dktX7_take_0 := by decide +kernel
theorem dksX7_take_1 : cX7_take.data.toList.drop 23 = dktX7_take_1 := dk_seg dksX7_take_0 23 rfl rfl
theorem dksX7_take_2 : cX7_take.data.toList.drop 47 = dktX7_take_2 := dk_seg dksX7_take_1 24 rfl rfl
theorem dksX7_take_3 : cX7_take.data.toList.drop 71 = dktX7_take_3 := dk_seg dksX7_take_2 24 rfl rfl
theorem dksX7_take_4 : cX7_take.data.toList.drop 95 = dktX7_take_4 := dk_seg dksX7_take_3 24 rfl rfl
theorem dX7_take_0 : decode cX7_take 0 = .ok (.aload_n 0, 1) := dk_42 (dk_at dksX7_take_0 0 rfl rfl)
theorem dX7_take_1 : decode cX7_take 1 = .ok (.aload_n 0, 1) := dk_42 (dk_at dksX7_take_0 1 rfl rfl)
theorem dX7_take_2 : decode cX7_take 2 = .ok (.getfield 38, 3) := dk_180 0 38 (dk_at dksX7_take_0 2 rfl rfl)
theorem dX7_take_5 : decode cX7_take 5 = .ok (.invokevirtual 30, 3) := dk_182 0 30 (dk_at dksX7_take_0 5 rfl rfl)
theorem dX7_take_8 : decode cX7_take 8 = .ok (.bipush 10, 2) := dk_16 10 (dk_at dksX7_take_0 8 rfl rfl)
theorem dX7_take_10 : decode cX7_take 10 = .ok (.if_icmp .eq 16, 3) := dk_159 0 16 (dk_at dksX7_take_0 10 rfl rfl)
theorem dX7_take_13 : decode cX7_take 13 = .ok (.aload_n 0, 1) := dk_42 (dk_at dksX7_take_0 13 rfl rfl)
theorem dX7_take_14 : decode cX7_take 14 = .ok (.aload_n 0, 1) := dk_42 (dk_at dksX7_take_0 14 rfl rfl)
theorem dX7_take_15 : decode cX7_take 15 = .ok (.getfield 38, 3) := dk_180 0 38 (dk_at dksX7_take_0 15 rfl rfl)
theorem dX7_take_18 : decode cX7_take 18 = .ok (.invokevirtual 30, 3) := dk_182 0 30 (dk_at dksX7_take_0 18 rfl rfl)
theorem dX7_take_21 : decode cX7_take 21 = .ok (.bipush 32, 2) := dk_16 32 (dk_at dksX7_take_0 21 rfl rfl)
theorem dX7_take_23 : decode cX7_take 23 = .ok (.if_icmp .ne 16, 3) := dk_160 0 16 (dk_at dksX7_take_1 0 rfl rfl)
theorem dX7_take_26 : decode cX7_take 26 = .ok (.aload_n 0, 1) := dk_42 (dk_at dksX7_take_1 3 rfl rfl)
theorem dX7_take_27 : decode cX7_take 27 = .ok (.dup, 1) := dk_89 (dk_at dksX7_take_1 4 rfl rfl)
theorem dX7_take_28 : decode cX7_take 28 = .ok (.getfield 38, 3) := dk_180 0 38 (dk_at dksX7_take_1 5 rfl rfl)
theorem dX7_take_31 : decode cX7_take 31 = .ok (.iconst 1, 1) := dk_4 (dk_at dksX7_take_1 8 rfl rfl)
theorem dX7_take_32 : decode cX7_take 32 = .ok (.iadd, 1) := dk_96 (dk_at dksX7_take_1 9 rfl rfl)
theorem dX7_take_33 : decode cX7_take 33 = .ok (.putfield 38, 3) := dk_181 0 38 (dk_at dksX7_take_1 10 rfl rfl)
theorem dX7_take_36 : decode cX7_take 36 = .ok (.goto (-36), 3) := dk_167 255 220 (dk_at dksX7_take_1 13 rfl rfl)
theorem dX7_take_39 : decode cX7_take 39 = .ok (.aload_n 0, 1) := dk_42 (dk_at dksX7_take_1 16 rfl rfl)
theorem dX7_take_40 : decode cX7_take 40 = .ok (.aload_n 0, 1) := dk_42 (dk_at dksX7_take_1 17 rfl rfl)
theorem dX7_take_41 : decode cX7_take 41 = .ok (.getfield 38, 3) := dk_180 0 38 (dk_at dksX7_take_1 18 rfl rfl)
theorem dX7_take_44 : decode cX7_take 44 = .ok (.putfield 41, 3) := dk_181 0 41 (dk_at dksX7_take_1 21 rfl rfl)
theorem dX7_take_47 : decode cX7_take 47 = .ok (.aload_n 0, 1) := dk_42 (dk_at dksX7_take_2 0 rfl rfl)
theorem dX7_take_48 : decode cX7_take 48 = .ok (.getfield 38, 3) := dk_180 0 38 (dk_at dksX7_take_2 1 rfl rfl)
theorem dX7_take_51 : decode cX7_take 51 = .ok (.aload_n 0, 1) := dk_42 (dk_at dksX7_take_2 4 rfl rfl)
theorem dX7_take_52 : decode cX7_take 52 = .ok (.getfield 22, 3) := dk_180 0 22 (dk_at dksX7_take_2 5 rfl rfl)
theorem dX7_take_55 : decode cX7_take 55 = .ok (.if_icmp .lt 11, 3) := dk_161 0 11 (dk_at dksX7_take_2 8 rfl rfl)
theorem dX7_take_58 : decode cX7_take 58 = .ok (.aload_n 0, 1) := dk_42 (dk_at dksX7_take_2 11 rfl rfl)
theorem dX7_take_59 : decode cX7_take 59 = .ok (.iconst 0, 1) := dk_3 (dk_at dksX7_take_2 12 rfl rfl)
theorem dX7_take_60 : decode cX7_take 60 = .ok (.putfield 44, 3) := dk_181 0 44 (dk_at dksX7_take_2 13 rfl rfl)
theorem dX7_take_63 : decode cX7_take 63 = .ok (.goto 43, 3) := dk_167 0 43 (dk_at dksX7_take_2 16 rfl rfl)
theorem dX7_take_66 : decode cX7_take 66 = .ok (.aload_n 0, 1) := dk_42 (dk_at dksX7_take_2 19 rfl rfl)
theorem dX7_take_67 : decode cX7_take 67 = .ok (.aload_n 0, 1) := dk_42 (dk_at dksX7_take_2 20 rfl rfl)
theorem dX7_take_68 : decode cX7_take 68 = .ok (.getfield 38, 3) := dk_180 0 38 (dk_at dksX7_take_2 21 rfl rfl)
theorem dX7_take_71 : decode cX7_take 71 = .ok (.invokevirtual 47, 3) := dk_182 0 47 (dk_at dksX7_take_3 0 rfl rfl)
theorem dX7_take_74 : decode cX7_take 74 = .ok (.ifCond .eq 10, 3) := dk_153 0 10 (dk_at dksX7_take_3 3 rfl rfl)
theorem dX7_take_77 : decode cX7_take 77 = .ok (.aload_n 0, 1) := dk_42 (dk_at dksX7_take_3 6 rfl rfl)
theorem dX7_take_78 : decode cX7_take 78 = .ok (.invokevirtual 51, 3) := dk_182 0 51 (dk_at dksX7_take_3 7 rfl rfl)
theorem dX7_take_81 : decode cX7_take 81 = .ok (.goto 25, 3) := dk_167 0 25 (dk_at dksX7_take_3 10 rfl rfl)
theorem dX7_take_84 : decode cX7_take 84 = .ok (.aload_n 0, 1) := dk_42 (dk_at dksX7_take_3 13 rfl rfl)
theorem dX7_take_85 : decode cX7_take 85 = .ok (.aload_n 0, 1) := dk_42 (dk_at dksX7_take_3 14 rfl rfl)
theorem dX7_take_86 : decode cX7_take 86 = .ok (.getfield 38, 3) := dk_180 0 38 (dk_at dksX7_take_3 15 rfl rfl)
theorem dX7_take_89 : decode cX7_take 89 = .ok (.invokevirtual 54, 3) := dk_182 0 54 (dk_at dksX7_take_3 18 rfl rfl)
theorem dX7_take_92 : decode cX7_take 92 = .ok (.ifCond .eq 10, 3) := dk_153 0 10 (dk_at dksX7_take_3 21 rfl rfl)
theorem dX7_take_95 : decode cX7_take 95 = .ok (.aload_n 0, 1) := dk_42 (dk_at dksX7_take_4 0 rfl rfl)
theorem dX7_take_96 : decode cX7_take 96 = .ok (.invokevirtual 57, 3) := dk_182 0 57 (dk_at dksX7_take_4 1 rfl rfl)
theorem dX7_take_99 : decode cX7_take 99 = .ok (.goto 7, 3) := dk_167 0 7 (dk_at dksX7_take_4 4 rfl rfl)
theorem dX7_take_102 : decode cX7_take 102 = .ok (.aload_n 0, 1) := dk_42 (dk_at dksX7_take_4 7 rfl rfl)
theorem dX7_take_103 : decode cX7_take 103 = .ok (.invokevirtual 60, 3) := dk_182 0 60 (dk_at dksX7_take_4 8 rfl rfl)
theorem dX7_take_106 : decode cX7_take 106 = .ok (.return_, 1) := dk_177 (dk_at dksX7_take_4 11 rfl rfl)
abbrev cX7_see : ByteArray := prog_17_method_2_code
def yX7_see : MethodName := ⟨RX7, "see", "(I)I"⟩
def dkwX7_see_1 : List UInt8 := [2, 172]
abbrev dktX7_see_1 : List UInt8 := dkwX7_see_1 ++ []
def dkwX7_see_0 : List UInt8 := [27, 42, 180, 0, 22, 162, 0, 19, 42, 180, 0, 3, 180, 0, 26, 27, 51, 17, 0, 255, 126, 167, 0, 4]
abbrev dktX7_see_0 : List UInt8 := dkwX7_see_0 ++ dktX7_see_1
theorem dksX7_see_0 : cX7_see.data.toList.drop 0 = dktX7_see_0 := by decide +kernel
theorem dksX7_see_1 : cX7_see.data.toList.drop 24 = dktX7_see_1 := dk_seg dksX7_see_0 24 rfl rfl
theorem dX7_see_0 : decode cX7_see 0 = .ok (.iload_n 1, 1) := dk_27 (dk_at dksX7_see_0 0 rfl rfl)
theorem dX7_see_1 : decode cX7_see 1 = .ok (.aload_n 0, 1) := dk_42 (dk_at dksX7_see_0 1 rfl rfl)
theorem dX7_see_2 : decode cX7_see 2 = .ok (.getfield 22, 3) := dk_180 0 22 (dk_at dksX7_see_0 2 rfl rfl)
theorem dX7_see_5 : decode cX7_see 5 = .ok (.if_icmp .ge 19, 3) := dk_162 0 19 (dk_at dksX7_see_0 5 rfl rfl)
theorem dX7_see_8 : decode cX7_see 8 = .ok (.aload_n 0, 1) := dk_42 (dk_at dksX7_see_0 8 rfl rfl)
theorem dX7_see_9 : decode cX7_see 9 = .ok (.getfield 3, 3) := dk_180 0 3 (dk_at dksX7_see_0 9 rfl rfl)
theorem dX7_see_12 : decode cX7_see 12 = .ok (.getfield 26, 3) := dk_180 0 26 (dk_at dksX7_see_0 12 rfl rfl)
theorem dX7_see_15 : decode cX7_see 15 = .ok (.iload_n 1, 1) := dk_27 (dk_at dksX7_see_0 15 rfl rfl)
theorem dX7_see_16 : decode cX7_see 16 = .ok (.baload, 1) := dk_51 (dk_at dksX7_see_0 16 rfl rfl)
theorem dX7_see_17 : decode cX7_see 17 = .ok (.sipush 255, 3) := dk_17 0 255 (dk_at dksX7_see_0 17 rfl rfl)
theorem dX7_see_20 : decode cX7_see 20 = .ok (.iand, 1) := dk_126 (dk_at dksX7_see_0 20 rfl rfl)
theorem dX7_see_21 : decode cX7_see 21 = .ok (.goto 4, 3) := dk_167 0 4 (dk_at dksX7_see_0 21 rfl rfl)
theorem dX7_see_24 : decode cX7_see 24 = .ok (.iconst (-1), 1) := dk_2 (dk_at dksX7_see_1 0 rfl rfl)
theorem dX7_see_25 : decode cX7_see 25 = .ok (.ireturn, 1) := dk_172 (dk_at dksX7_see_1 1 rfl rfl)
abbrev cX7_isSmall : ByteArray := prog_17_method_3_code
def yX7_isSmall : MethodName := ⟨RX7, "isSmall", "(I)Z"⟩
def dkwX7_isSmall_0 : List UInt8 := [42, 27, 182, 0, 30, 16, 97, 16, 122, 184, 0, 34, 172]
abbrev dktX7_isSmall_0 : List UInt8 := dkwX7_isSmall_0 ++ []
theorem dksX7_isSmall_0 : cX7_isSmall.data.toList.drop 0 = dktX7_isSmall_0 := by decide +kernel
theorem dX7_isSmall_0 : decode cX7_isSmall 0 = .ok (.aload_n 0, 1) := dk_42 (dk_at dksX7_isSmall_0 0 rfl rfl)
theorem dX7_isSmall_1 : decode cX7_isSmall 1 = .ok (.iload_n 1, 1) := dk_27 (dk_at dksX7_isSmall_0 1 rfl rfl)
theorem dX7_isSmall_2 : decode cX7_isSmall 2 = .ok (.invokevirtual 30, 3) := dk_182 0 30 (dk_at dksX7_isSmall_0 2 rfl rfl)
theorem dX7_isSmall_5 : decode cX7_isSmall 5 = .ok (.bipush 97, 2) := dk_16 97 (dk_at dksX7_isSmall_0 5 rfl rfl)
theorem dX7_isSmall_7 : decode cX7_isSmall 7 = .ok (.bipush 122, 2) := dk_16 122 (dk_at dksX7_isSmall_0 7 rfl rfl)
theorem dX7_isSmall_9 : decode cX7_isSmall 9 = .ok (.invokestatic 34, 3) := dk_184 0 34 (dk_at dksX7_isSmall_0 9 rfl rfl)
theorem dX7_isSmall_12 : decode cX7_isSmall 12 = .ok (.ireturn, 1) := dk_172 (dk_at dksX7_isSmall_0 12 rfl rfl)
abbrev cX7_takeWord : ByteArray := prog_17_method_6_code
def yX7_takeWord : MethodName := ⟨RX7, "takeWord", "()V"⟩
def dkwX7_takeWord_5 : List UInt8 := [182, 0, 30, 16, 96, 100, 167, 0, 4, 3, 128, 181, 0, 66, 132, 1, 1, 167, 255, 211, 177]
abbrev dktX7_takeWord_5 : List UInt8 := dkwX7_takeWord_5 ++ []
def dkwX7_takeWord_4 : List UInt8 := [16, 6, 96, 162, 0, 40, 42, 42, 180, 0, 66, 8, 120, 27, 42, 180, 0, 38, 162, 0, 14, 42, 27]
abbrev dktX7_takeWord_4 : List UInt8 := dkwX7_takeWord_4 ++ dktX7_takeWord_5
def dkwX7_takeWord_3 : List UInt8 := [180, 0, 44, 5, 159, 0, 4, 177, 42, 3, 181, 0, 66, 42, 180, 0, 41, 60, 27, 42, 180, 0, 41]
abbrev dktX7_takeWord_3 : List UInt8 := dkwX7_takeWord_3 ++ dktX7_takeWord_4
def dkwX7_takeWord_2 : List UInt8 := [42, 180, 0, 38, 42, 180, 0, 41, 100, 16, 6, 164, 0, 8, 16, 6, 167, 0, 4, 5, 181, 0, 44, 42]
abbrev dktX7_takeWord_2 : List UInt8 := dkwX7_takeWord_2 ++ dktX7_takeWord_3
def dkwX7_takeWord_1 : List UInt8 := [42, 42, 42, 180, 0, 41, 182, 0, 63, 181, 0, 66, 42, 42, 180, 0, 66, 155, 0, 7, 4, 167, 0, 23]
abbrev dktX7_takeWord_1 : List UInt8 := dkwX7_takeWord_1 ++ dktX7_takeWord_2
def dkwX7_takeWord_0 : List UInt8 := [42, 42, 180, 0, 38, 182, 0, 47, 153, 0, 16, 42, 89, 180, 0, 38, 4, 96, 181, 0, 38, 167, 255, 235]
abbrev dktX7_takeWord_0 : List UInt8 := dkwX7_takeWord_0 ++ dktX7_takeWord_1
theorem dksX7_takeWord_0 : cX7_takeWord.data.toList.drop 0 = dktX7_takeWord_0 := by decide +kernel
theorem dksX7_takeWord_1 : cX7_takeWord.data.toList.drop 24 = dktX7_takeWord_1 := dk_seg dksX7_takeWord_0 24 rfl rfl
theorem dksX7_takeWord_2 : cX7_takeWord.data.toList.drop 48 = dktX7_takeWord_2 := dk_seg dksX7_takeWord_1 24 rfl rfl
theorem dksX7_takeWord_3 : cX7_takeWord.data.toList.drop 72 = dktX7_takeWord_3 := dk_seg dksX7_takeWord_2 24 rfl rfl
theorem dksX7_takeWord_4 : cX7_takeWord.data.toList.drop 95 = dktX7_takeWord_4 := dk_seg dksX7_takeWord_3 23 rfl rfl
theorem dksX7_takeWord_5 : cX7_takeWord.data.toList.drop 118 = dktX7_takeWord_5 := dk_seg dksX7_takeWord_4 23 rfl rfl
theorem dX7_takeWord_0 : decode cX7_takeWord 0 = .ok (.aload_n 0, 1) := dk_42 (dk_at dksX7_takeWord_0 0 rfl rfl)
theorem dX7_takeWord_1 : decode cX7_takeWord 1 = .ok (.aload_n 0, 1) := dk_42 (dk_at dksX7_takeWord_0 1 rfl rfl)
theorem dX7_takeWord_2 : decode cX7_takeWord 2 = .ok (.getfield 38, 3) := dk_180 0 38 (dk_at dksX7_takeWord_0 2 rfl rfl)
theorem dX7_takeWord_5 : decode cX7_takeWord 5 = .ok (.invokevirtual 47, 3) := dk_182 0 47 (dk_at dksX7_takeWord_0 5 rfl rfl)
theorem dX7_takeWord_8 : decode cX7_takeWord 8 = .ok (.ifCond .eq 16, 3) := dk_153 0 16 (dk_at dksX7_takeWord_0 8 rfl rfl)
theorem dX7_takeWord_11 : decode cX7_takeWord 11 = .ok (.aload_n 0, 1) := dk_42 (dk_at dksX7_takeWord_0 11 rfl rfl)
theorem dX7_takeWord_12 : decode cX7_takeWord 12 = .ok (.dup, 1) := dk_89 (dk_at dksX7_takeWord_0 12 rfl rfl)
theorem dX7_takeWord_13 : decode cX7_takeWord 13 = .ok (.getfield 38, 3) := dk_180 0 38 (dk_at dksX7_takeWord_0 13 rfl rfl)
theorem dX7_takeWord_16 : decode cX7_takeWord 16 = .ok (.iconst 1, 1) := dk_4 (dk_at dksX7_takeWord_0 16 rfl rfl)
theorem dX7_takeWord_17 : decode cX7_takeWord 17 = .ok (.iadd, 1) := dk_96 (dk_at dksX7_takeWord_0 17 rfl rfl)
theorem dX7_takeWord_18 : decode cX7_takeWord 18 = .ok (.putfield 38, 3) := dk_181 0 38 (dk_at dksX7_takeWord_0 18 rfl rfl)
theorem dX7_takeWord_21 : decode cX7_takeWord 21 = .ok (.goto (-21), 3) := dk_167 255 235 (dk_at dksX7_takeWord_0 21 rfl rfl)
theorem dX7_takeWord_24 : decode cX7_takeWord 24 = .ok (.aload_n 0, 1) := dk_42 (dk_at dksX7_takeWord_1 0 rfl rfl)
theorem dX7_takeWord_25 : decode cX7_takeWord 25 = .ok (.aload_n 0, 1) := dk_42 (dk_at dksX7_takeWord_1 1 rfl rfl)
theorem dX7_takeWord_26 : decode cX7_takeWord 26 = .ok (.aload_n 0, 1) := dk_42 (dk_at dksX7_takeWord_1 2 rfl rfl)
theorem dX7_takeWord_27 : decode cX7_takeWord 27 = .ok (.getfield 41, 3) := dk_180 0 41 (dk_at dksX7_takeWord_1 3 rfl rfl)
theorem dX7_takeWord_30 : decode cX7_takeWord 30 = .ok (.invokevirtual 63, 3) := dk_182 0 63 (dk_at dksX7_takeWord_1 6 rfl rfl)
theorem dX7_takeWord_33 : decode cX7_takeWord 33 = .ok (.putfield 66, 3) := dk_181 0 66 (dk_at dksX7_takeWord_1 9 rfl rfl)
theorem dX7_takeWord_36 : decode cX7_takeWord 36 = .ok (.aload_n 0, 1) := dk_42 (dk_at dksX7_takeWord_1 12 rfl rfl)
theorem dX7_takeWord_37 : decode cX7_takeWord 37 = .ok (.aload_n 0, 1) := dk_42 (dk_at dksX7_takeWord_1 13 rfl rfl)
theorem dX7_takeWord_38 : decode cX7_takeWord 38 = .ok (.getfield 66, 3) := dk_180 0 66 (dk_at dksX7_takeWord_1 14 rfl rfl)
theorem dX7_takeWord_41 : decode cX7_takeWord 41 = .ok (.ifCond .lt 7, 3) := dk_155 0 7 (dk_at dksX7_takeWord_1 17 rfl rfl)
theorem dX7_takeWord_44 : decode cX7_takeWord 44 = .ok (.iconst 1, 1) := dk_4 (dk_at dksX7_takeWord_1 20 rfl rfl)
theorem dX7_takeWord_45 : decode cX7_takeWord 45 = .ok (.goto 23, 3) := dk_167 0 23 (dk_at dksX7_takeWord_1 21 rfl rfl)
theorem dX7_takeWord_48 : decode cX7_takeWord 48 = .ok (.aload_n 0, 1) := dk_42 (dk_at dksX7_takeWord_2 0 rfl rfl)
theorem dX7_takeWord_49 : decode cX7_takeWord 49 = .ok (.getfield 38, 3) := dk_180 0 38 (dk_at dksX7_takeWord_2 1 rfl rfl)
theorem dX7_takeWord_52 : decode cX7_takeWord 52 = .ok (.aload_n 0, 1) := dk_42 (dk_at dksX7_takeWord_2 4 rfl rfl)
theorem dX7_takeWord_53 : decode cX7_takeWord 53 = .ok (.getfield 41, 3) := dk_180 0 41 (dk_at dksX7_takeWord_2 5 rfl rfl)
theorem dX7_takeWord_56 : decode cX7_takeWord 56 = .ok (.isub, 1) := dk_100 (dk_at dksX7_takeWord_2 8 rfl rfl)
theorem dX7_takeWord_57 : decode cX7_takeWord 57 = .ok (.bipush 6, 2) := dk_16 6 (dk_at dksX7_takeWord_2 9 rfl rfl)
theorem dX7_takeWord_59 : decode cX7_takeWord 59 = .ok (.if_icmp .le 8, 3) := dk_164 0 8 (dk_at dksX7_takeWord_2 11 rfl rfl)
theorem dX7_takeWord_62 : decode cX7_takeWord 62 = .ok (.bipush 6, 2) := dk_16 6 (dk_at dksX7_takeWord_2 14 rfl rfl)
theorem dX7_takeWord_64 : decode cX7_takeWord 64 = .ok (.goto 4, 3) := dk_167 0 4 (dk_at dksX7_takeWord_2 16 rfl rfl)
theorem dX7_takeWord_67 : decode cX7_takeWord 67 = .ok (.iconst 2, 1) := dk_5 (dk_at dksX7_takeWord_2 19 rfl rfl)
theorem dX7_takeWord_68 : decode cX7_takeWord 68 = .ok (.putfield 44, 3) := dk_181 0 44 (dk_at dksX7_takeWord_2 20 rfl rfl)
theorem dX7_takeWord_71 : decode cX7_takeWord 71 = .ok (.aload_n 0, 1) := dk_42 (dk_at dksX7_takeWord_2 23 rfl rfl)
theorem dX7_takeWord_72 : decode cX7_takeWord 72 = .ok (.getfield 44, 3) := dk_180 0 44 (dk_at dksX7_takeWord_3 0 rfl rfl)
theorem dX7_takeWord_75 : decode cX7_takeWord 75 = .ok (.iconst 2, 1) := dk_5 (dk_at dksX7_takeWord_3 3 rfl rfl)
theorem dX7_takeWord_76 : decode cX7_takeWord 76 = .ok (.if_icmp .eq 4, 3) := dk_159 0 4 (dk_at dksX7_takeWord_3 4 rfl rfl)
theorem dX7_takeWord_79 : decode cX7_takeWord 79 = .ok (.return_, 1) := dk_177 (dk_at dksX7_takeWord_3 7 rfl rfl)
theorem dX7_takeWord_80 : decode cX7_takeWord 80 = .ok (.aload_n 0, 1) := dk_42 (dk_at dksX7_takeWord_3 8 rfl rfl)
theorem dX7_takeWord_81 : decode cX7_takeWord 81 = .ok (.iconst 0, 1) := dk_3 (dk_at dksX7_takeWord_3 9 rfl rfl)
theorem dX7_takeWord_82 : decode cX7_takeWord 82 = .ok (.putfield 66, 3) := dk_181 0 66 (dk_at dksX7_takeWord_3 10 rfl rfl)
theorem dX7_takeWord_85 : decode cX7_takeWord 85 = .ok (.aload_n 0, 1) := dk_42 (dk_at dksX7_takeWord_3 13 rfl rfl)
theorem dX7_takeWord_86 : decode cX7_takeWord 86 = .ok (.getfield 41, 3) := dk_180 0 41 (dk_at dksX7_takeWord_3 14 rfl rfl)
theorem dX7_takeWord_89 : decode cX7_takeWord 89 = .ok (.istore_n 1, 1) := dk_60 (dk_at dksX7_takeWord_3 17 rfl rfl)
theorem dX7_takeWord_90 : decode cX7_takeWord 90 = .ok (.iload_n 1, 1) := dk_27 (dk_at dksX7_takeWord_3 18 rfl rfl)
theorem dX7_takeWord_91 : decode cX7_takeWord 91 = .ok (.aload_n 0, 1) := dk_42 (dk_at dksX7_takeWord_3 19 rfl rfl)
theorem dX7_takeWord_92 : decode cX7_takeWord 92 = .ok (.getfield 41, 3) := dk_180 0 41 (dk_at dksX7_takeWord_3 20 rfl rfl)
theorem dX7_takeWord_95 : decode cX7_takeWord 95 = .ok (.bipush 6, 2) := dk_16 6 (dk_at dksX7_takeWord_4 0 rfl rfl)
theorem dX7_takeWord_97 : decode cX7_takeWord 97 = .ok (.iadd, 1) := dk_96 (dk_at dksX7_takeWord_4 2 rfl rfl)
theorem dX7_takeWord_98 : decode cX7_takeWord 98 = .ok (.if_icmp .ge 40, 3) := dk_162 0 40 (dk_at dksX7_takeWord_4 3 rfl rfl)
theorem dX7_takeWord_101 : decode cX7_takeWord 101 = .ok (.aload_n 0, 1) := dk_42 (dk_at dksX7_takeWord_4 6 rfl rfl)
theorem dX7_takeWord_102 : decode cX7_takeWord 102 = .ok (.aload_n 0, 1) := dk_42 (dk_at dksX7_takeWord_4 7 rfl rfl)
theorem dX7_takeWord_103 : decode cX7_takeWord 103 = .ok (.getfield 66, 3) := dk_180 0 66 (dk_at dksX7_takeWord_4 8 rfl rfl)
theorem dX7_takeWord_106 : decode cX7_takeWord 106 = .ok (.iconst 5, 1) := dk_8 (dk_at dksX7_takeWord_4 11 rfl rfl)
theorem dX7_takeWord_107 : decode cX7_takeWord 107 = .ok (.ishl, 1) := dk_120 (dk_at dksX7_takeWord_4 12 rfl rfl)
theorem dX7_takeWord_108 : decode cX7_takeWord 108 = .ok (.iload_n 1, 1) := dk_27 (dk_at dksX7_takeWord_4 13 rfl rfl)
theorem dX7_takeWord_109 : decode cX7_takeWord 109 = .ok (.aload_n 0, 1) := dk_42 (dk_at dksX7_takeWord_4 14 rfl rfl)
theorem dX7_takeWord_110 : decode cX7_takeWord 110 = .ok (.getfield 38, 3) := dk_180 0 38 (dk_at dksX7_takeWord_4 15 rfl rfl)
theorem dX7_takeWord_113 : decode cX7_takeWord 113 = .ok (.if_icmp .ge 14, 3) := dk_162 0 14 (dk_at dksX7_takeWord_4 18 rfl rfl)
theorem dX7_takeWord_116 : decode cX7_takeWord 116 = .ok (.aload_n 0, 1) := dk_42 (dk_at dksX7_takeWord_4 21 rfl rfl)
theorem dX7_takeWord_117 : decode cX7_takeWord 117 = .ok (.iload_n 1, 1) := dk_27 (dk_at dksX7_takeWord_4 22 rfl rfl)
theorem dX7_takeWord_118 : decode cX7_takeWord 118 = .ok (.invokevirtual 30, 3) := dk_182 0 30 (dk_at dksX7_takeWord_5 0 rfl rfl)
theorem dX7_takeWord_121 : decode cX7_takeWord 121 = .ok (.bipush 96, 2) := dk_16 96 (dk_at dksX7_takeWord_5 3 rfl rfl)
theorem dX7_takeWord_123 : decode cX7_takeWord 123 = .ok (.isub, 1) := dk_100 (dk_at dksX7_takeWord_5 5 rfl rfl)
theorem dX7_takeWord_124 : decode cX7_takeWord 124 = .ok (.goto 4, 3) := dk_167 0 4 (dk_at dksX7_takeWord_5 6 rfl rfl)
theorem dX7_takeWord_127 : decode cX7_takeWord 127 = .ok (.iconst 0, 1) := dk_3 (dk_at dksX7_takeWord_5 9 rfl rfl)
theorem dX7_takeWord_128 : decode cX7_takeWord 128 = .ok (.ior, 1) := dk_128 (dk_at dksX7_takeWord_5 10 rfl rfl)
theorem dX7_takeWord_129 : decode cX7_takeWord 129 = .ok (.putfield 66, 3) := dk_181 0 66 (dk_at dksX7_takeWord_5 11 rfl rfl)
theorem dX7_takeWord_132 : decode cX7_takeWord 132 = .ok (.iinc 1 1, 3) := dk_132 1 1 (dk_at dksX7_takeWord_5 14 rfl rfl)
theorem dX7_takeWord_135 : decode cX7_takeWord 135 = .ok (.goto (-45), 3) := dk_167 255 211 (dk_at dksX7_takeWord_5 17 rfl rfl)
theorem dX7_takeWord_138 : decode cX7_takeWord 138 = .ok (.return_, 1) := dk_177 (dk_at dksX7_takeWord_5 20 rfl rfl)
abbrev cX7_key : ByteArray := prog_17_method_7_code
def yX7_key : MethodName := ⟨RX7, "key", "(I)I"⟩
def dkwX7_key_5 : List UInt8 := [132, 3, 1, 167, 255, 140, 2, 172]
abbrev dktX7_key_5 : List UInt8 := dkwX7_key_5 ++ []
def dkwX7_key_4 : List UInt8 := [167, 0, 4, 3, 54, 5, 132, 6, 1, 167, 255, 212, 21, 5, 153, 0, 5, 29, 172, 21, 4, 4, 96, 61]
abbrev dktX7_key_4 : List UInt8 := dkwX7_key_4 ++ dktX7_key_5
def dkwX7_key_3 : List UInt8 := [153, 0, 36, 18, 69, 28, 21, 6, 96, 182, 0, 81, 42, 27, 21, 6, 96, 182, 0, 30, 160, 0, 7, 4]
abbrev dktX7_key_3 : List UInt8 := dkwX7_key_3 ++ dktX7_key_4
def dkwX7_key_2 : List UInt8 := [160, 0, 7, 4, 167, 0, 4, 3, 54, 5, 3, 54, 6, 21, 6, 21, 4, 28, 100, 162, 0, 41, 21, 5]
abbrev dktX7_key_2 : List UInt8 := dkwX7_key_2 ++ dktX7_key_3
def dkwX7_key_1 : List UInt8 := [21, 4, 156, 0, 10, 18, 69, 182, 0, 71, 54, 4, 21, 4, 28, 100, 42, 180, 0, 38, 27, 100]
abbrev dktX7_key_1 : List UInt8 := dkwX7_key_1 ++ dktX7_key_2
def dkwX7_key_0 : List UInt8 := [3, 61, 3, 62, 28, 18, 69, 182, 0, 71, 162, 0, 113, 18, 69, 16, 32, 28, 182, 0, 77, 54, 4]
abbrev dktX7_key_0 : List UInt8 := dkwX7_key_0 ++ dktX7_key_1
theorem dksX7_key_0 : cX7_key.data.toList.drop 0 = dktX7_key_0 := by decide +kernel
theorem dksX7_key_1 : cX7_key.data.toList.drop 23 = dktX7_key_1 := dk_seg dksX7_key_0 23 rfl rfl
theorem dksX7_key_2 : cX7_key.data.toList.drop 45 = dktX7_key_2 := dk_seg dksX7_key_1 22 rfl rfl
theorem dksX7_key_3 : cX7_key.data.toList.drop 69 = dktX7_key_3 := dk_seg dksX7_key_2 24 rfl rfl
theorem dksX7_key_4 : cX7_key.data.toList.drop 93 = dktX7_key_4 := dk_seg dksX7_key_3 24 rfl rfl
theorem dksX7_key_5 : cX7_key.data.toList.drop 117 = dktX7_key_5 := dk_seg dksX7_key_4 24 rfl rfl
theorem dX7_key_0 : decode cX7_key 0 = .ok (.iconst 0, 1) := dk_3 (dk_at dksX7_key_0 0 rfl rfl)
theorem dX7_key_1 : decode cX7_key 1 = .ok (.istore_n 2, 1) := dk_61 (dk_at dksX7_key_0 1 rfl rfl)
theorem dX7_key_2 : decode cX7_key 2 = .ok (.iconst 0, 1) := dk_3 (dk_at dksX7_key_0 2 rfl rfl)
theorem dX7_key_3 : decode cX7_key 3 = .ok (.istore_n 3, 1) := dk_62 (dk_at dksX7_key_0 3 rfl rfl)
theorem dX7_key_4 : decode cX7_key 4 = .ok (.iload_n 2, 1) := dk_28 (dk_at dksX7_key_0 4 rfl rfl)
theorem dX7_key_5 : decode cX7_key 5 = .ok (.ldc 69, 2) := dk_18 69 (dk_at dksX7_key_0 5 rfl rfl)
theorem dX7_key_7 : decode cX7_key 7 = .ok (.invokevirtual 71, 3) := dk_182 0 71 (dk_at dksX7_key_0 7 rfl rfl)
theorem dX7_key_10 : decode cX7_key 10 = .ok (.if_icmp .ge 113, 3) := dk_162 0 113 (dk_at dksX7_key_0 10 rfl rfl)
theorem dX7_key_13 : decode cX7_key 13 = .ok (.ldc 69, 2) := dk_18 69 (dk_at dksX7_key_0 13 rfl rfl)
theorem dX7_key_15 : decode cX7_key 15 = .ok (.bipush 32, 2) := dk_16 32 (dk_at dksX7_key_0 15 rfl rfl)
theorem dX7_key_17 : decode cX7_key 17 = .ok (.iload_n 2, 1) := dk_28 (dk_at dksX7_key_0 17 rfl rfl)
theorem dX7_key_18 : decode cX7_key 18 = .ok (.invokevirtual 77, 3) := dk_182 0 77 (dk_at dksX7_key_0 18 rfl rfl)
theorem dX7_key_21 : decode cX7_key 21 = .ok (.istore 4, 2) := dk_54 4 (dk_at dksX7_key_0 21 rfl rfl)
theorem dX7_key_23 : decode cX7_key 23 = .ok (.iload 4, 2) := dk_21 4 (dk_at dksX7_key_1 0 rfl rfl)
theorem dX7_key_25 : decode cX7_key 25 = .ok (.ifCond .ge 10, 3) := dk_156 0 10 (dk_at dksX7_key_1 2 rfl rfl)
theorem dX7_key_28 : decode cX7_key 28 = .ok (.ldc 69, 2) := dk_18 69 (dk_at dksX7_key_1 5 rfl rfl)
theorem dX7_key_30 : decode cX7_key 30 = .ok (.invokevirtual 71, 3) := dk_182 0 71 (dk_at dksX7_key_1 7 rfl rfl)
theorem dX7_key_33 : decode cX7_key 33 = .ok (.istore 4, 2) := dk_54 4 (dk_at dksX7_key_1 10 rfl rfl)
theorem dX7_key_35 : decode cX7_key 35 = .ok (.iload 4, 2) := dk_21 4 (dk_at dksX7_key_1 12 rfl rfl)
theorem dX7_key_37 : decode cX7_key 37 = .ok (.iload_n 2, 1) := dk_28 (dk_at dksX7_key_1 14 rfl rfl)
theorem dX7_key_38 : decode cX7_key 38 = .ok (.isub, 1) := dk_100 (dk_at dksX7_key_1 15 rfl rfl)
theorem dX7_key_39 : decode cX7_key 39 = .ok (.aload_n 0, 1) := dk_42 (dk_at dksX7_key_1 16 rfl rfl)
theorem dX7_key_40 : decode cX7_key 40 = .ok (.getfield 38, 3) := dk_180 0 38 (dk_at dksX7_key_1 17 rfl rfl)
theorem dX7_key_43 : decode cX7_key 43 = .ok (.iload_n 1, 1) := dk_27 (dk_at dksX7_key_1 20 rfl rfl)
theorem dX7_key_44 : decode cX7_key 44 = .ok (.isub, 1) := dk_100 (dk_at dksX7_key_1 21 rfl rfl)
theorem dX7_key_45 : decode cX7_key 45 = .ok (.if_icmp .ne 7, 3) := dk_160 0 7 (dk_at dksX7_key_2 0 rfl rfl)
theorem dX7_key_48 : decode cX7_key 48 = .ok (.iconst 1, 1) := dk_4 (dk_at dksX7_key_2 3 rfl rfl)
theorem dX7_key_49 : decode cX7_key 49 = .ok (.goto 4, 3) := dk_167 0 4 (dk_at dksX7_key_2 4 rfl rfl)
theorem dX7_key_52 : decode cX7_key 52 = .ok (.iconst 0, 1) := dk_3 (dk_at dksX7_key_2 7 rfl rfl)
theorem dX7_key_53 : decode cX7_key 53 = .ok (.istore 5, 2) := dk_54 5 (dk_at dksX7_key_2 8 rfl rfl)
theorem dX7_key_55 : decode cX7_key 55 = .ok (.iconst 0, 1) := dk_3 (dk_at dksX7_key_2 10 rfl rfl)
theorem dX7_key_56 : decode cX7_key 56 = .ok (.istore 6, 2) := dk_54 6 (dk_at dksX7_key_2 11 rfl rfl)
theorem dX7_key_58 : decode cX7_key 58 = .ok (.iload 6, 2) := dk_21 6 (dk_at dksX7_key_2 13 rfl rfl)
theorem dX7_key_60 : decode cX7_key 60 = .ok (.iload 4, 2) := dk_21 4 (dk_at dksX7_key_2 15 rfl rfl)
theorem dX7_key_62 : decode cX7_key 62 = .ok (.iload_n 2, 1) := dk_28 (dk_at dksX7_key_2 17 rfl rfl)
theorem dX7_key_63 : decode cX7_key 63 = .ok (.isub, 1) := dk_100 (dk_at dksX7_key_2 18 rfl rfl)
theorem dX7_key_64 : decode cX7_key 64 = .ok (.if_icmp .ge 41, 3) := dk_162 0 41 (dk_at dksX7_key_2 19 rfl rfl)
theorem dX7_key_67 : decode cX7_key 67 = .ok (.iload 5, 2) := dk_21 5 (dk_at dksX7_key_2 22 rfl rfl)
theorem dX7_key_69 : decode cX7_key 69 = .ok (.ifCond .eq 36, 3) := dk_153 0 36 (dk_at dksX7_key_3 0 rfl rfl)
theorem dX7_key_72 : decode cX7_key 72 = .ok (.ldc 69, 2) := dk_18 69 (dk_at dksX7_key_3 3 rfl rfl)
theorem dX7_key_74 : decode cX7_key 74 = .ok (.iload_n 2, 1) := dk_28 (dk_at dksX7_key_3 5 rfl rfl)
theorem dX7_key_75 : decode cX7_key 75 = .ok (.iload 6, 2) := dk_21 6 (dk_at dksX7_key_3 6 rfl rfl)
theorem dX7_key_77 : decode cX7_key 77 = .ok (.iadd, 1) := dk_96 (dk_at dksX7_key_3 8 rfl rfl)
theorem dX7_key_78 : decode cX7_key 78 = .ok (.invokevirtual 81, 3) := dk_182 0 81 (dk_at dksX7_key_3 9 rfl rfl)
theorem dX7_key_81 : decode cX7_key 81 = .ok (.aload_n 0, 1) := dk_42 (dk_at dksX7_key_3 12 rfl rfl)
theorem dX7_key_82 : decode cX7_key 82 = .ok (.iload_n 1, 1) := dk_27 (dk_at dksX7_key_3 13 rfl rfl)
theorem dX7_key_83 : decode cX7_key 83 = .ok (.iload 6, 2) := dk_21 6 (dk_at dksX7_key_3 14 rfl rfl)
theorem dX7_key_85 : decode cX7_key 85 = .ok (.iadd, 1) := dk_96 (dk_at dksX7_key_3 16 rfl rfl)
theorem dX7_key_86 : decode cX7_key 86 = .ok (.invokevirtual 30, 3) := dk_182 0 30 (dk_at dksX7_key_3 17 rfl rfl)
theorem dX7_key_89 : decode cX7_key 89 = .ok (.if_icmp .ne 7, 3) := dk_160 0 7 (dk_at dksX7_key_3 20 rfl rfl)
theorem dX7_key_92 : decode cX7_key 92 = .ok (.iconst 1, 1) := dk_4 (dk_at dksX7_key_3 23 rfl rfl)
theorem dX7_key_93 : decode cX7_key 93 = .ok (.goto 4, 3) := dk_167 0 4 (dk_at dksX7_key_4 0 rfl rfl)
theorem dX7_key_96 : decode cX7_key 96 = .ok (.iconst 0, 1) := dk_3 (dk_at dksX7_key_4 3 rfl rfl)
theorem dX7_key_97 : decode cX7_key 97 = .ok (.istore 5, 2) := dk_54 5 (dk_at dksX7_key_4 4 rfl rfl)
theorem dX7_key_99 : decode cX7_key 99 = .ok (.iinc 6 1, 3) := dk_132 6 1 (dk_at dksX7_key_4 6 rfl rfl)
theorem dX7_key_102 : decode cX7_key 102 = .ok (.goto (-44), 3) := dk_167 255 212 (dk_at dksX7_key_4 9 rfl rfl)
theorem dX7_key_105 : decode cX7_key 105 = .ok (.iload 5, 2) := dk_21 5 (dk_at dksX7_key_4 12 rfl rfl)
theorem dX7_key_107 : decode cX7_key 107 = .ok (.ifCond .eq 5, 3) := dk_153 0 5 (dk_at dksX7_key_4 14 rfl rfl)
theorem dX7_key_110 : decode cX7_key 110 = .ok (.iload_n 3, 1) := dk_29 (dk_at dksX7_key_4 17 rfl rfl)
theorem dX7_key_111 : decode cX7_key 111 = .ok (.ireturn, 1) := dk_172 (dk_at dksX7_key_4 18 rfl rfl)
theorem dX7_key_112 : decode cX7_key 112 = .ok (.iload 4, 2) := dk_21 4 (dk_at dksX7_key_4 19 rfl rfl)
theorem dX7_key_114 : decode cX7_key 114 = .ok (.iconst 1, 1) := dk_4 (dk_at dksX7_key_4 21 rfl rfl)
theorem dX7_key_115 : decode cX7_key 115 = .ok (.iadd, 1) := dk_96 (dk_at dksX7_key_4 22 rfl rfl)
theorem dX7_key_116 : decode cX7_key 116 = .ok (.istore_n 2, 1) := dk_61 (dk_at dksX7_key_4 23 rfl rfl)
theorem dX7_key_117 : decode cX7_key 117 = .ok (.iinc 3 1, 3) := dk_132 3 1 (dk_at dksX7_key_5 0 rfl rfl)
theorem dX7_key_120 : decode cX7_key 120 = .ok (.goto (-116), 3) := dk_167 255 140 (dk_at dksX7_key_5 3 rfl rfl)
theorem dX7_key_123 : decode cX7_key 123 = .ok (.iconst (-1), 1) := dk_2 (dk_at dksX7_key_5 6 rfl rfl)
theorem dX7_key_124 : decode cX7_key 124 = .ok (.ireturn, 1) := dk_172 (dk_at dksX7_key_5 7 rfl rfl)
abbrev cX7_isDigit : ByteArray := prog_17_method_4_code
def yX7_isDigit : MethodName := ⟨RX7, "isDigit", "(I)Z"⟩
def dkwX7_isDigit_0 : List UInt8 := [42, 27, 182, 0, 30, 16, 48, 16, 57, 184, 0, 34, 172]
abbrev dktX7_isDigit_0 : List UInt8 := dkwX7_isDigit_0 ++ []
theorem dksX7_isDigit_0 : cX7_isDigit.data.toList.drop 0 = dktX7_isDigit_0 := by decide +kernel
theorem dX7_isDigit_0 : decode cX7_isDigit 0 = .ok (.aload_n 0, 1) := dk_42 (dk_at dksX7_isDigit_0 0 rfl rfl)
theorem dX7_isDigit_1 : decode cX7_isDigit 1 = .ok (.iload_n 1, 1) := dk_27 (dk_at dksX7_isDigit_0 1 rfl rfl)
theorem dX7_isDigit_2 : decode cX7_isDigit 2 = .ok (.invokevirtual 30, 3) := dk_182 0 30 (dk_at dksX7_isDigit_0 2 rfl rfl)
theorem dX7_isDigit_5 : decode cX7_isDigit 5 = .ok (.bipush 48, 2) := dk_16 48 (dk_at dksX7_isDigit_0 5 rfl rfl)
theorem dX7_isDigit_7 : decode cX7_isDigit 7 = .ok (.bipush 57, 2) := dk_16 57 (dk_at dksX7_isDigit_0 7 rfl rfl)
theorem dX7_isDigit_9 : decode cX7_isDigit 9 = .ok (.invokestatic 34, 3) := dk_184 0 34 (dk_at dksX7_isDigit_0 9 rfl rfl)
theorem dX7_isDigit_12 : decode cX7_isDigit 12 = .ok (.ireturn, 1) := dk_172 (dk_at dksX7_isDigit_0 12 rfl rfl)
abbrev cX7_takeNumber : ByteArray := prog_17_method_8_code
def yX7_takeNumber : MethodName := ⟨RX7, "takeNumber", "()V"⟩
def dkwX7_takeNumber_2 : List UInt8 := [181, 0, 66, 42, 89, 180, 0, 38, 4, 96, 181, 0, 38, 167, 255, 206, 177]
abbrev dktX7_takeNumber_2 : List UInt8 := dkwX7_takeNumber_2 ++ []
def dkwX7_takeNumber_1 : List UInt8 := [42, 180, 0, 66, 104, 42, 42, 180, 0, 38, 182, 0, 30, 96, 16, 48, 100, 17, 39, 16, 184, 0, 85]
abbrev dktX7_takeNumber_1 : List UInt8 := dkwX7_takeNumber_1 ++ dktX7_takeNumber_2
def dkwX7_takeNumber_0 : List UInt8 := [42, 6, 181, 0, 44, 42, 3, 181, 0, 66, 42, 42, 180, 0, 38, 182, 0, 54, 153, 0, 45, 42, 16, 10]
abbrev dktX7_takeNumber_0 : List UInt8 := dkwX7_takeNumber_0 ++ dktX7_takeNumber_1
theorem dksX7_takeNumber_0 : cX7_takeNumber.data.toList.drop 0 = dktX7_takeNumber_0 := by decide +kernel
theorem dksX7_takeNumber_1 : cX7_takeNumber.data.toList.drop 24 = dktX7_takeNumber_1 := dk_seg dksX7_takeNumber_0 24 rfl rfl
theorem dksX7_takeNumber_2 : cX7_takeNumber.data.toList.drop 47 = dktX7_takeNumber_2 := dk_seg dksX7_takeNumber_1 23 rfl rfl
theorem dX7_takeNumber_0 : decode cX7_takeNumber 0 = .ok (.aload_n 0, 1) := dk_42 (dk_at dksX7_takeNumber_0 0 rfl rfl)
theorem dX7_takeNumber_1 : decode cX7_takeNumber 1 = .ok (.iconst 3, 1) := dk_6 (dk_at dksX7_takeNumber_0 1 rfl rfl)
theorem dX7_takeNumber_2 : decode cX7_takeNumber 2 = .ok (.putfield 44, 3) := dk_181 0 44 (dk_at dksX7_takeNumber_0 2 rfl rfl)
theorem dX7_takeNumber_5 : decode cX7_takeNumber 5 = .ok (.aload_n 0, 1) := dk_42 (dk_at dksX7_takeNumber_0 5 rfl rfl)
theorem dX7_takeNumber_6 : decode cX7_takeNumber 6 = .ok (.iconst 0, 1) := dk_3 (dk_at dksX7_takeNumber_0 6 rfl rfl)
theorem dX7_takeNumber_7 : decode cX7_takeNumber 7 = .ok (.putfield 66, 3) := dk_181 0 66 (dk_at dksX7_takeNumber_0 7 rfl rfl)
theorem dX7_takeNumber_10 : decode cX7_takeNumber 10 = .ok (.aload_n 0, 1) := dk_42 (dk_at dksX7_takeNumber_0 10 rfl rfl)
theorem dX7_takeNumber_11 : decode cX7_takeNumber 11 = .ok (.aload_n 0, 1) := dk_42 (dk_at dksX7_takeNumber_0 11 rfl rfl)
theorem dX7_takeNumber_12 : decode cX7_takeNumber 12 = .ok (.getfield 38, 3) := dk_180 0 38 (dk_at dksX7_takeNumber_0 12 rfl rfl)
theorem dX7_takeNumber_15 : decode cX7_takeNumber 15 = .ok (.invokevirtual 54, 3) := dk_182 0 54 (dk_at dksX7_takeNumber_0 15 rfl rfl)
theorem dX7_takeNumber_18 : decode cX7_takeNumber 18 = .ok (.ifCond .eq 45, 3) := dk_153 0 45 (dk_at dksX7_takeNumber_0 18 rfl rfl)
theorem dX7_takeNumber_21 : decode cX7_takeNumber 21 = .ok (.aload_n 0, 1) := dk_42 (dk_at dksX7_takeNumber_0 21 rfl rfl)
theorem dX7_takeNumber_22 : decode cX7_takeNumber 22 = .ok (.bipush 10, 2) := dk_16 10 (dk_at dksX7_takeNumber_0 22 rfl rfl)
theorem dX7_takeNumber_24 : decode cX7_takeNumber 24 = .ok (.aload_n 0, 1) := dk_42 (dk_at dksX7_takeNumber_1 0 rfl rfl)
theorem dX7_takeNumber_25 : decode cX7_takeNumber 25 = .ok (.getfield 66, 3) := dk_180 0 66 (dk_at dksX7_takeNumber_1 1 rfl rfl)
theorem dX7_takeNumber_28 : decode cX7_takeNumber 28 = .ok (.imul, 1) := dk_104 (dk_at dksX7_takeNumber_1 4 rfl rfl)
theorem dX7_takeNumber_29 : decode cX7_takeNumber 29 = .ok (.aload_n 0, 1) := dk_42 (dk_at dksX7_takeNumber_1 5 rfl rfl)
theorem dX7_takeNumber_30 : decode cX7_takeNumber 30 = .ok (.aload_n 0, 1) := dk_42 (dk_at dksX7_takeNumber_1 6 rfl rfl)
theorem dX7_takeNumber_31 : decode cX7_takeNumber 31 = .ok (.getfield 38, 3) := dk_180 0 38 (dk_at dksX7_takeNumber_1 7 rfl rfl)
theorem dX7_takeNumber_34 : decode cX7_takeNumber 34 = .ok (.invokevirtual 30, 3) := dk_182 0 30 (dk_at dksX7_takeNumber_1 10 rfl rfl)
theorem dX7_takeNumber_37 : decode cX7_takeNumber 37 = .ok (.iadd, 1) := dk_96 (dk_at dksX7_takeNumber_1 13 rfl rfl)
theorem dX7_takeNumber_38 : decode cX7_takeNumber 38 = .ok (.bipush 48, 2) := dk_16 48 (dk_at dksX7_takeNumber_1 14 rfl rfl)
theorem dX7_takeNumber_40 : decode cX7_takeNumber 40 = .ok (.isub, 1) := dk_100 (dk_at dksX7_takeNumber_1 16 rfl rfl)
theorem dX7_takeNumber_41 : decode cX7_takeNumber 41 = .ok (.sipush 10000, 3) := dk_17 39 16 (dk_at dksX7_takeNumber_1 17 rfl rfl)
theorem dX7_takeNumber_44 : decode cX7_takeNumber 44 = .ok (.invokestatic 85, 3) := dk_184 0 85 (dk_at dksX7_takeNumber_1 20 rfl rfl)
theorem dX7_takeNumber_47 : decode cX7_takeNumber 47 = .ok (.putfield 66, 3) := dk_181 0 66 (dk_at dksX7_takeNumber_2 0 rfl rfl)
theorem dX7_takeNumber_50 : decode cX7_takeNumber 50 = .ok (.aload_n 0, 1) := dk_42 (dk_at dksX7_takeNumber_2 3 rfl rfl)
theorem dX7_takeNumber_51 : decode cX7_takeNumber 51 = .ok (.dup, 1) := dk_89 (dk_at dksX7_takeNumber_2 4 rfl rfl)
theorem dX7_takeNumber_52 : decode cX7_takeNumber 52 = .ok (.getfield 38, 3) := dk_180 0 38 (dk_at dksX7_takeNumber_2 5 rfl rfl)
theorem dX7_takeNumber_55 : decode cX7_takeNumber 55 = .ok (.iconst 1, 1) := dk_4 (dk_at dksX7_takeNumber_2 8 rfl rfl)
theorem dX7_takeNumber_56 : decode cX7_takeNumber 56 = .ok (.iadd, 1) := dk_96 (dk_at dksX7_takeNumber_2 9 rfl rfl)
theorem dX7_takeNumber_57 : decode cX7_takeNumber 57 = .ok (.putfield 38, 3) := dk_181 0 38 (dk_at dksX7_takeNumber_2 10 rfl rfl)
theorem dX7_takeNumber_60 : decode cX7_takeNumber 60 = .ok (.goto (-50), 3) := dk_167 255 206 (dk_at dksX7_takeNumber_2 13 rfl rfl)
theorem dX7_takeNumber_63 : decode cX7_takeNumber 63 = .ok (.return_, 1) := dk_177 (dk_at dksX7_takeNumber_2 16 rfl rfl)
abbrev cX7_takeSign : ByteArray := prog_17_method_9_code
def yX7_takeSign : MethodName := ⟨RX7, "takeSign", "()V"⟩
def dkwX7_takeSign_8 : List UInt8 := [182, 0, 92, 155, 0, 7, 7, 167, 0, 5, 16, 6, 181, 0, 44, 177]
abbrev dktX7_takeSign_8 : List UInt8 := dkwX7_takeSign_8 ++ []
def dkwX7_takeSign_7 : List UInt8 := [167, 0, 4, 8, 181, 0, 66, 42, 8, 181, 0, 44, 167, 0, 25, 42, 18, 90, 42, 180, 0, 66]
abbrev dktX7_takeSign_7 : List UInt8 := dkwX7_takeSign_7 ++ dktX7_takeSign_8
def dkwX7_takeSign_6 : List UInt8 := [153, 0, 7, 4, 167, 0, 24, 29, 153, 0, 7, 6, 167, 0, 16, 3, 167, 0, 12, 28, 153, 0, 7, 7]
abbrev dktX7_takeSign_6 : List UInt8 := dkwX7_takeSign_6 ++ dktX7_takeSign_7
def dkwX7_takeSign_5 : List UInt8 := [42, 42, 180, 0, 66, 16, 61, 160, 0, 7, 5, 167, 0, 41, 42, 180, 0, 66, 16, 60, 160, 0, 23, 28]
abbrev dktX7_takeSign_5 : List UInt8 := dkwX7_takeSign_5 ++ dktX7_takeSign_6
def dkwX7_takeSign_4 : List UInt8 := [4, 167, 0, 4, 3, 62, 28, 154, 0, 7, 29, 153, 0, 13, 42, 89, 180, 0, 38, 4, 96, 181, 0, 38]
abbrev dktX7_takeSign_4 : List UInt8 := dkwX7_takeSign_4 ++ dktX7_takeSign_5
def dkwX7_takeSign_3 : List UInt8 := [160, 0, 7, 4, 167, 0, 4, 3, 61, 42, 180, 0, 66, 16, 60, 160, 0, 13, 27, 16, 62, 160, 0, 7]
abbrev dktX7_takeSign_3 : List UInt8 := dkwX7_takeSign_3 ++ dktX7_takeSign_4
def dkwX7_takeSign_2 : List UInt8 := [159, 0, 12, 42, 180, 0, 66, 16, 61, 160, 0, 126, 42, 180, 0, 66, 16, 61, 159, 0, 13, 27, 16, 61]
abbrev dktX7_takeSign_2 : List UInt8 := dkwX7_takeSign_2 ++ dktX7_takeSign_3
def dkwX7_takeSign_1 : List UInt8 := [180, 0, 38, 182, 0, 30, 60, 42, 180, 0, 66, 16, 60, 159, 0, 21, 42, 180, 0, 66, 16, 62]
abbrev dktX7_takeSign_1 : List UInt8 := dkwX7_takeSign_1 ++ dktX7_takeSign_2
def dkwX7_takeSign_0 : List UInt8 := [42, 42, 42, 180, 0, 38, 182, 0, 30, 181, 0, 66, 42, 89, 180, 0, 38, 4, 96, 181, 0, 38, 42, 42]
abbrev dktX7_takeSign_0 : List UInt8 := dkwX7_takeSign_0 ++ dktX7_takeSign_1
theorem dksX7_takeSign_0 : cX7_takeSign.data.toList.drop 0 = dktX7_takeSign_0 := by decide +kernel
theorem dksX7_takeSign_1 : cX7_takeSign.data.toList.drop 24 = dktX7_takeSign_1 := dk_seg dksX7_takeSign_0 24 rfl rfl
theorem dksX7_takeSign_2 : cX7_takeSign.data.toList.drop 46 = dktX7_takeSign_2 := dk_seg dksX7_takeSign_1 22 rfl rfl
theorem dksX7_takeSign_3 : cX7_takeSign.data.toList.drop 70 = dktX7_takeSign_3 := dk_seg dksX7_takeSign_2 24 rfl rfl
theorem dksX7_takeSign_4 : cX7_takeSign.data.toList.drop 94 = dktX7_takeSign_4 := dk_seg dksX7_takeSign_3 24 rfl rfl
theorem dksX7_takeSign_5 : cX7_takeSign.data.toList.drop 118 = dktX7_takeSign_5 := dk_seg dksX7_takeSign_4 24 rfl rfl
theorem dksX7_takeSign_6 : cX7_takeSign.data.toList.drop 142 = dktX7_takeSign_6 := dk_seg dksX7_takeSign_5 24 rfl rfl
theorem dksX7_takeSign_7 : cX7_takeSign.data.toList.drop 166 = dktX7_takeSign_7 := dk_seg dksX7_takeSign_6 24 rfl rfl
theorem dksX7_takeSign_8 : cX7_takeSign.data.toList.drop 188 = dktX7_takeSign_8 := dk_seg dksX7_takeSign_7 22 rfl rfl
theorem dX7_takeSign_0 : decode cX7_takeSign 0 = .ok (.aload_n 0, 1) := dk_42 (dk_at dksX7_takeSign_0 0 rfl rfl)
theorem dX7_takeSign_1 : decode cX7_takeSign 1 = .ok (.aload_n 0, 1) := dk_42 (dk_at dksX7_takeSign_0 1 rfl rfl)
theorem dX7_takeSign_2 : decode cX7_takeSign 2 = .ok (.aload_n 0, 1) := dk_42 (dk_at dksX7_takeSign_0 2 rfl rfl)
theorem dX7_takeSign_3 : decode cX7_takeSign 3 = .ok (.getfield 38, 3) := dk_180 0 38 (dk_at dksX7_takeSign_0 3 rfl rfl)
theorem dX7_takeSign_6 : decode cX7_takeSign 6 = .ok (.invokevirtual 30, 3) := dk_182 0 30 (dk_at dksX7_takeSign_0 6 rfl rfl)
theorem dX7_takeSign_9 : decode cX7_takeSign 9 = .ok (.putfield 66, 3) := dk_181 0 66 (dk_at dksX7_takeSign_0 9 rfl rfl)
theorem dX7_takeSign_12 : decode cX7_takeSign 12 = .ok (.aload_n 0, 1) := dk_42 (dk_at dksX7_takeSign_0 12 rfl rfl)
theorem dX7_takeSign_13 : decode cX7_takeSign 13 = .ok (.dup, 1) := dk_89 (dk_at dksX7_takeSign_0 13 rfl rfl)
theorem dX7_takeSign_14 : decode cX7_takeSign 14 = .ok (.getfield 38, 3) := dk_180 0 38 (dk_at dksX7_takeSign_0 14 rfl rfl)
theorem dX7_takeSign_17 : decode cX7_takeSign 17 = .ok (.iconst 1, 1) := dk_4 (dk_at dksX7_takeSign_0 17 rfl rfl)
theorem dX7_takeSign_18 : decode cX7_takeSign 18 = .ok (.iadd, 1) := dk_96 (dk_at dksX7_takeSign_0 18 rfl rfl)
theorem dX7_takeSign_19 : decode cX7_takeSign 19 = .ok (.putfield 38, 3) := dk_181 0 38 (dk_at dksX7_takeSign_0 19 rfl rfl)
theorem dX7_takeSign_22 : decode cX7_takeSign 22 = .ok (.aload_n 0, 1) := dk_42 (dk_at dksX7_takeSign_0 22 rfl rfl)
theorem dX7_takeSign_23 : decode cX7_takeSign 23 = .ok (.aload_n 0, 1) := dk_42 (dk_at dksX7_takeSign_0 23 rfl rfl)
theorem dX7_takeSign_24 : decode cX7_takeSign 24 = .ok (.getfield 38, 3) := dk_180 0 38 (dk_at dksX7_takeSign_1 0 rfl rfl)
theorem dX7_takeSign_27 : decode cX7_takeSign 27 = .ok (.invokevirtual 30, 3) := dk_182 0 30 (dk_at dksX7_takeSign_1 3 rfl rfl)
theorem dX7_takeSign_30 : decode cX7_takeSign 30 = .ok (.istore_n 1, 1) := dk_60 (dk_at dksX7_takeSign_1 6 rfl rfl)
theorem dX7_takeSign_31 : decode cX7_takeSign 31 = .ok (.aload_n 0, 1) := dk_42 (dk_at dksX7_takeSign_1 7 rfl rfl)
theorem dX7_takeSign_32 : decode cX7_takeSign 32 = .ok (.getfield 66, 3) := dk_180 0 66 (dk_at dksX7_takeSign_1 8 rfl rfl)
theorem dX7_takeSign_35 : decode cX7_takeSign 35 = .ok (.bipush 60, 2) := dk_16 60 (dk_at dksX7_takeSign_1 11 rfl rfl)
theorem dX7_takeSign_37 : decode cX7_takeSign 37 = .ok (.if_icmp .eq 21, 3) := dk_159 0 21 (dk_at dksX7_takeSign_1 13 rfl rfl)
theorem dX7_takeSign_40 : decode cX7_takeSign 40 = .ok (.aload_n 0, 1) := dk_42 (dk_at dksX7_takeSign_1 16 rfl rfl)
theorem dX7_takeSign_41 : decode cX7_takeSign 41 = .ok (.getfield 66, 3) := dk_180 0 66 (dk_at dksX7_takeSign_1 17 rfl rfl)
theorem dX7_takeSign_44 : decode cX7_takeSign 44 = .ok (.bipush 62, 2) := dk_16 62 (dk_at dksX7_takeSign_1 20 rfl rfl)
theorem dX7_takeSign_46 : decode cX7_takeSign 46 = .ok (.if_icmp .eq 12, 3) := dk_159 0 12 (dk_at dksX7_takeSign_2 0 rfl rfl)
theorem dX7_takeSign_49 : decode cX7_takeSign 49 = .ok (.aload_n 0, 1) := dk_42 (dk_at dksX7_takeSign_2 3 rfl rfl)
theorem dX7_takeSign_50 : decode cX7_takeSign 50 = .ok (.getfield 66, 3) := dk_180 0 66 (dk_at dksX7_takeSign_2 4 rfl rfl)
theorem dX7_takeSign_53 : decode cX7_takeSign 53 = .ok (.bipush 61, 2) := dk_16 61 (dk_at dksX7_takeSign_2 7 rfl rfl)
theorem dX7_takeSign_55 : decode cX7_takeSign 55 = .ok (.if_icmp .ne 126, 3) := dk_160 0 126 (dk_at dksX7_takeSign_2 9 rfl rfl)
theorem dX7_takeSign_58 : decode cX7_takeSign 58 = .ok (.aload_n 0, 1) := dk_42 (dk_at dksX7_takeSign_2 12 rfl rfl)
theorem dX7_takeSign_59 : decode cX7_takeSign 59 = .ok (.getfield 66, 3) := dk_180 0 66 (dk_at dksX7_takeSign_2 13 rfl rfl)
theorem dX7_takeSign_62 : decode cX7_takeSign 62 = .ok (.bipush 61, 2) := dk_16 61 (dk_at dksX7_takeSign_2 16 rfl rfl)
theorem dX7_takeSign_64 : decode cX7_takeSign 64 = .ok (.if_icmp .eq 13, 3) := dk_159 0 13 (dk_at dksX7_takeSign_2 18 rfl rfl)
theorem dX7_takeSign_67 : decode cX7_takeSign 67 = .ok (.iload_n 1, 1) := dk_27 (dk_at dksX7_takeSign_2 21 rfl rfl)
theorem dX7_takeSign_68 : decode cX7_takeSign 68 = .ok (.bipush 61, 2) := dk_16 61 (dk_at dksX7_takeSign_2 22 rfl rfl)
theorem dX7_takeSign_70 : decode cX7_takeSign 70 = .ok (.if_icmp .ne 7, 3) := dk_160 0 7 (dk_at dksX7_takeSign_3 0 rfl rfl)
theorem dX7_takeSign_73 : decode cX7_takeSign 73 = .ok (.iconst 1, 1) := dk_4 (dk_at dksX7_takeSign_3 3 rfl rfl)
theorem dX7_takeSign_74 : decode cX7_takeSign 74 = .ok (.goto 4, 3) := dk_167 0 4 (dk_at dksX7_takeSign_3 4 rfl rfl)
theorem dX7_takeSign_77 : decode cX7_takeSign 77 = .ok (.iconst 0, 1) := dk_3 (dk_at dksX7_takeSign_3 7 rfl rfl)
theorem dX7_takeSign_78 : decode cX7_takeSign 78 = .ok (.istore_n 2, 1) := dk_61 (dk_at dksX7_takeSign_3 8 rfl rfl)
theorem dX7_takeSign_79 : decode cX7_takeSign 79 = .ok (.aload_n 0, 1) := dk_42 (dk_at dksX7_takeSign_3 9 rfl rfl)
theorem dX7_takeSign_80 : decode cX7_takeSign 80 = .ok (.getfield 66, 3) := dk_180 0 66 (dk_at dksX7_takeSign_3 10 rfl rfl)
theorem dX7_takeSign_83 : decode cX7_takeSign 83 = .ok (.bipush 60, 2) := dk_16 60 (dk_at dksX7_takeSign_3 13 rfl rfl)
theorem dX7_takeSign_85 : decode cX7_takeSign 85 = .ok (.if_icmp .ne 13, 3) := dk_160 0 13 (dk_at dksX7_takeSign_3 15 rfl rfl)
theorem dX7_takeSign_88 : decode cX7_takeSign 88 = .ok (.iload_n 1, 1) := dk_27 (dk_at dksX7_takeSign_3 18 rfl rfl)
theorem dX7_takeSign_89 : decode cX7_takeSign 89 = .ok (.bipush 62, 2) := dk_16 62 (dk_at dksX7_takeSign_3 19 rfl rfl)
theorem dX7_takeSign_91 : decode cX7_takeSign 91 = .ok (.if_icmp .ne 7, 3) := dk_160 0 7 (dk_at dksX7_takeSign_3 21 rfl rfl)
theorem dX7_takeSign_94 : decode cX7_takeSign 94 = .ok (.iconst 1, 1) := dk_4 (dk_at dksX7_takeSign_4 0 rfl rfl)
theorem dX7_takeSign_95 : decode cX7_takeSign 95 = .ok (.goto 4, 3) := dk_167 0 4 (dk_at dksX7_takeSign_4 1 rfl rfl)
theorem dX7_takeSign_98 : decode cX7_takeSign 98 = .ok (.iconst 0, 1) := dk_3 (dk_at dksX7_takeSign_4 4 rfl rfl)
theorem dX7_takeSign_99 : decode cX7_takeSign 99 = .ok (.istore_n 3, 1) := dk_62 (dk_at dksX7_takeSign_4 5 rfl rfl)
theorem dX7_takeSign_100 : decode cX7_takeSign 100 = .ok (.iload_n 2, 1) := dk_28 (dk_at dksX7_takeSign_4 6 rfl rfl)
theorem dX7_takeSign_101 : decode cX7_takeSign 101 = .ok (.ifCond .ne 7, 3) := dk_154 0 7 (dk_at dksX7_takeSign_4 7 rfl rfl)
theorem dX7_takeSign_104 : decode cX7_takeSign 104 = .ok (.iload_n 3, 1) := dk_29 (dk_at dksX7_takeSign_4 10 rfl rfl)
theorem dX7_takeSign_105 : decode cX7_takeSign 105 = .ok (.ifCond .eq 13, 3) := dk_153 0 13 (dk_at dksX7_takeSign_4 11 rfl rfl)
theorem dX7_takeSign_108 : decode cX7_takeSign 108 = .ok (.aload_n 0, 1) := dk_42 (dk_at dksX7_takeSign_4 14 rfl rfl)
theorem dX7_takeSign_109 : decode cX7_takeSign 109 = .ok (.dup, 1) := dk_89 (dk_at dksX7_takeSign_4 15 rfl rfl)
theorem dX7_takeSign_110 : decode cX7_takeSign 110 = .ok (.getfield 38, 3) := dk_180 0 38 (dk_at dksX7_takeSign_4 16 rfl rfl)
theorem dX7_takeSign_113 : decode cX7_takeSign 113 = .ok (.iconst 1, 1) := dk_4 (dk_at dksX7_takeSign_4 19 rfl rfl)
theorem dX7_takeSign_114 : decode cX7_takeSign 114 = .ok (.iadd, 1) := dk_96 (dk_at dksX7_takeSign_4 20 rfl rfl)
theorem dX7_takeSign_115 : decode cX7_takeSign 115 = .ok (.putfield 38, 3) := dk_181 0 38 (dk_at dksX7_takeSign_4 21 rfl rfl)
theorem dX7_takeSign_118 : decode cX7_takeSign 118 = .ok (.aload_n 0, 1) := dk_42 (dk_at dksX7_takeSign_5 0 rfl rfl)
theorem dX7_takeSign_119 : decode cX7_takeSign 119 = .ok (.aload_n 0, 1) := dk_42 (dk_at dksX7_takeSign_5 1 rfl rfl)
theorem dX7_takeSign_120 : decode cX7_takeSign 120 = .ok (.getfield 66, 3) := dk_180 0 66 (dk_at dksX7_takeSign_5 2 rfl rfl)
theorem dX7_takeSign_123 : decode cX7_takeSign 123 = .ok (.bipush 61, 2) := dk_16 61 (dk_at dksX7_takeSign_5 5 rfl rfl)
theorem dX7_takeSign_125 : decode cX7_takeSign 125 = .ok (.if_icmp .ne 7, 3) := dk_160 0 7 (dk_at dksX7_takeSign_5 7 rfl rfl)
theorem dX7_takeSign_128 : decode cX7_takeSign 128 = .ok (.iconst 2, 1) := dk_5 (dk_at dksX7_takeSign_5 10 rfl rfl)
theorem dX7_takeSign_129 : decode cX7_takeSign 129 = .ok (.goto 41, 3) := dk_167 0 41 (dk_at dksX7_takeSign_5 11 rfl rfl)
theorem dX7_takeSign_132 : decode cX7_takeSign 132 = .ok (.aload_n 0, 1) := dk_42 (dk_at dksX7_takeSign_5 14 rfl rfl)
theorem dX7_takeSign_133 : decode cX7_takeSign 133 = .ok (.getfield 66, 3) := dk_180 0 66 (dk_at dksX7_takeSign_5 15 rfl rfl)
theorem dX7_takeSign_136 : decode cX7_takeSign 136 = .ok (.bipush 60, 2) := dk_16 60 (dk_at dksX7_takeSign_5 18 rfl rfl)
theorem dX7_takeSign_138 : decode cX7_takeSign 138 = .ok (.if_icmp .ne 23, 3) := dk_160 0 23 (dk_at dksX7_takeSign_5 20 rfl rfl)
theorem dX7_takeSign_141 : decode cX7_takeSign 141 = .ok (.iload_n 2, 1) := dk_28 (dk_at dksX7_takeSign_5 23 rfl rfl)
theorem dX7_takeSign_142 : decode cX7_takeSign 142 = .ok (.ifCond .eq 7, 3) := dk_153 0 7 (dk_at dksX7_takeSign_6 0 rfl rfl)
theorem dX7_takeSign_145 : decode cX7_takeSign 145 = .ok (.iconst 1, 1) := dk_4 (dk_at dksX7_takeSign_6 3 rfl rfl)
theorem dX7_takeSign_146 : decode cX7_takeSign 146 = .ok (.goto 24, 3) := dk_167 0 24 (dk_at dksX7_takeSign_6 4 rfl rfl)
theorem dX7_takeSign_149 : decode cX7_takeSign 149 = .ok (.iload_n 3, 1) := dk_29 (dk_at dksX7_takeSign_6 7 rfl rfl)
theorem dX7_takeSign_150 : decode cX7_takeSign 150 = .ok (.ifCond .eq 7, 3) := dk_153 0 7 (dk_at dksX7_takeSign_6 8 rfl rfl)
theorem dX7_takeSign_153 : decode cX7_takeSign 153 = .ok (.iconst 3, 1) := dk_6 (dk_at dksX7_takeSign_6 11 rfl rfl)
theorem dX7_takeSign_154 : decode cX7_takeSign 154 = .ok (.goto 16, 3) := dk_167 0 16 (dk_at dksX7_takeSign_6 12 rfl rfl)
theorem dX7_takeSign_157 : decode cX7_takeSign 157 = .ok (.iconst 0, 1) := dk_3 (dk_at dksX7_takeSign_6 15 rfl rfl)
theorem dX7_takeSign_158 : decode cX7_takeSign 158 = .ok (.goto 12, 3) := dk_167 0 12 (dk_at dksX7_takeSign_6 16 rfl rfl)
theorem dX7_takeSign_161 : decode cX7_takeSign 161 = .ok (.iload_n 2, 1) := dk_28 (dk_at dksX7_takeSign_6 19 rfl rfl)
theorem dX7_takeSign_162 : decode cX7_takeSign 162 = .ok (.ifCond .eq 7, 3) := dk_153 0 7 (dk_at dksX7_takeSign_6 20 rfl rfl)
theorem dX7_takeSign_165 : decode cX7_takeSign 165 = .ok (.iconst 4, 1) := dk_7 (dk_at dksX7_takeSign_6 23 rfl rfl)
theorem dX7_takeSign_166 : decode cX7_takeSign 166 = .ok (.goto 4, 3) := dk_167 0 4 (dk_at dksX7_takeSign_7 0 rfl rfl)
theorem dX7_takeSign_169 : decode cX7_takeSign 169 = .ok (.iconst 5, 1) := dk_8 (dk_at dksX7_takeSign_7 3 rfl rfl)
theorem dX7_takeSign_170 : decode cX7_takeSign 170 = .ok (.putfield 66, 3) := dk_181 0 66 (dk_at dksX7_takeSign_7 4 rfl rfl)
theorem dX7_takeSign_173 : decode cX7_takeSign 173 = .ok (.aload_n 0, 1) := dk_42 (dk_at dksX7_takeSign_7 7 rfl rfl)
theorem dX7_takeSign_174 : decode cX7_takeSign 174 = .ok (.iconst 5, 1) := dk_8 (dk_at dksX7_takeSign_7 8 rfl rfl)
theorem dX7_takeSign_175 : decode cX7_takeSign 175 = .ok (.putfield 44, 3) := dk_181 0 44 (dk_at dksX7_takeSign_7 9 rfl rfl)
theorem dX7_takeSign_178 : decode cX7_takeSign 178 = .ok (.goto 25, 3) := dk_167 0 25 (dk_at dksX7_takeSign_7 12 rfl rfl)
theorem dX7_takeSign_181 : decode cX7_takeSign 181 = .ok (.aload_n 0, 1) := dk_42 (dk_at dksX7_takeSign_7 15 rfl rfl)
theorem dX7_takeSign_182 : decode cX7_takeSign 182 = .ok (.ldc 90, 2) := dk_18 90 (dk_at dksX7_takeSign_7 16 rfl rfl)
theorem dX7_takeSign_184 : decode cX7_takeSign 184 = .ok (.aload_n 0, 1) := dk_42 (dk_at dksX7_takeSign_7 18 rfl rfl)
theorem dX7_takeSign_185 : decode cX7_takeSign 185 = .ok (.getfield 66, 3) := dk_180 0 66 (dk_at dksX7_takeSign_7 19 rfl rfl)
theorem dX7_takeSign_188 : decode cX7_takeSign 188 = .ok (.invokevirtual 92, 3) := dk_182 0 92 (dk_at dksX7_takeSign_8 0 rfl rfl)
theorem dX7_takeSign_191 : decode cX7_takeSign 191 = .ok (.ifCond .lt 7, 3) := dk_155 0 7 (dk_at dksX7_takeSign_8 3 rfl rfl)
theorem dX7_takeSign_194 : decode cX7_takeSign 194 = .ok (.iconst 4, 1) := dk_7 (dk_at dksX7_takeSign_8 6 rfl rfl)
theorem dX7_takeSign_195 : decode cX7_takeSign 195 = .ok (.goto 5, 3) := dk_167 0 5 (dk_at dksX7_takeSign_8 7 rfl rfl)
theorem dX7_takeSign_198 : decode cX7_takeSign 198 = .ok (.bipush 6, 2) := dk_16 6 (dk_at dksX7_takeSign_8 10 rfl rfl)
theorem dX7_takeSign_200 : decode cX7_takeSign 200 = .ok (.putfield 44, 3) := dk_181 0 44 (dk_at dksX7_takeSign_8 12 rfl rfl)
theorem dX7_takeSign_203 : decode cX7_takeSign 203 = .ok (.return_, 1) := dk_177 (dk_at dksX7_takeSign_8 15 rfl rfl)
abbrev cX7_wrong : ByteArray := prog_17_method_10_code
def yX7_wrong : MethodName := ⟨RX7, "wrong", "()LMinistryDesks$Fault;"⟩
def dkwX7_wrong_0 : List UInt8 := [187, 0, 94, 89, 4, 42, 180, 0, 41, 183, 0, 96, 176]
abbrev dktX7_wrong_0 : List UInt8 := dkwX7_wrong_0 ++ []
theorem dksX7_wrong_0 : cX7_wrong.data.toList.drop 0 = dktX7_wrong_0 := by decide +kernel
theorem dX7_wrong_0 : decode cX7_wrong 0 = .ok (.new 94, 3) := dk_187 0 94 (dk_at dksX7_wrong_0 0 rfl rfl)
theorem dX7_wrong_3 : decode cX7_wrong 3 = .ok (.dup, 1) := dk_89 (dk_at dksX7_wrong_0 3 rfl rfl)
theorem dX7_wrong_4 : decode cX7_wrong 4 = .ok (.iconst 1, 1) := dk_4 (dk_at dksX7_wrong_0 4 rfl rfl)
theorem dX7_wrong_5 : decode cX7_wrong 5 = .ok (.aload_n 0, 1) := dk_42 (dk_at dksX7_wrong_0 5 rfl rfl)
theorem dX7_wrong_6 : decode cX7_wrong 6 = .ok (.getfield 41, 3) := dk_180 0 41 (dk_at dksX7_wrong_0 6 rfl rfl)
theorem dX7_wrong_9 : decode cX7_wrong 9 = .ok (.invokespecial 96, 3) := dk_183 0 96 (dk_at dksX7_wrong_0 9 rfl rfl)
theorem dX7_wrong_12 : decode cX7_wrong 12 = .ok (.areturn, 1) := dk_176 (dk_at dksX7_wrong_0 12 rfl rfl)
abbrev cX7_line : ByteArray := prog_17_method_20_code
def yX7_line : MethodName := ⟨RX7, "line", "()V"⟩
def dkwX7_line_34 : List UInt8 := [183, 0, 217, 182, 0, 145, 87, 177]
abbrev dktX7_line_34 : List UInt8 := dkwX7_line_34 ++ []
def dkwX7_line_33 : List UInt8 := [182, 0, 212, 182, 0, 136, 60, 42, 180, 0, 18, 180, 0, 209, 187, 0, 215, 89, 27, 42, 182, 0, 205]
abbrev dktX7_line_33 : List UInt8 := dkwX7_line_33 ++ dktX7_line_34
def dkwX7_line_32 : List UInt8 := [160, 0, 7, 4, 167, 0, 4, 3, 182, 0, 103, 42, 182, 0, 107, 42, 42, 180, 0, 18, 42, 182, 0, 130]
abbrev dktX7_line_32 : List UInt8 := dkwX7_line_32 ++ dktX7_line_33
def dkwX7_line_31 : List UInt8 := [180, 0, 18, 44, 181, 0, 202, 167, 0, 69, 42, 42, 180, 0, 18, 180, 0, 209, 182, 0, 126, 7]
abbrev dktX7_line_31 : List UInt8 := dkwX7_line_31 ++ dktX7_line_32
def dkwX7_line_30 : List UInt8 := [182, 0, 107, 42, 182, 0, 205, 77, 27, 153, 0, 14, 42, 180, 0, 18, 44, 181, 0, 198, 167, 0, 80, 42]
abbrev dktX7_line_30 : List UInt8 := dkwX7_line_30 ++ dktX7_line_31
def dkwX7_line_29 : List UInt8 := [167, 0, 18, 42, 180, 0, 18, 180, 0, 202, 198, 0, 7, 4, 167, 0, 4, 3, 182, 0, 110, 42]
abbrev dktX7_line_29 : List UInt8 := dkwX7_line_29 ++ dktX7_line_30
def dkwX7_line_28 : List UInt8 := [3, 60, 42, 27, 153, 0, 21, 42, 180, 0, 18, 180, 0, 198, 198, 0, 7, 4, 167, 0, 22, 3]
abbrev dktX7_line_28 : List UInt8 := dkwX7_line_28 ++ dktX7_line_29
def dkwX7_line_27 : List UInt8 := [182, 0, 195, 154, 0, 8, 42, 182, 0, 99, 191, 42, 180, 0, 66, 16, 9, 160, 0, 7, 4, 167, 0, 4]
abbrev dktX7_line_27 : List UInt8 := dkwX7_line_27 ++ dktX7_line_28
def dkwX7_line_26 : List UInt8 := [181, 0, 192, 167, 0, 187, 42, 182, 0, 107, 42, 16, 9, 182, 0, 195, 154, 0, 17, 42, 16, 10]
abbrev dktX7_line_26 : List UInt8 := dkwX7_line_26 ++ dktX7_line_27
def dkwX7_line_25 : List UInt8 := [180, 0, 18, 4, 181, 0, 188, 42, 182, 0, 107, 42, 180, 0, 18, 42, 3, 17, 3, 231, 182, 0, 141]
abbrev dktX7_line_25 : List UInt8 := dkwX7_line_25 ++ dktX7_line_26
def dkwX7_line_24 : List UInt8 := [183, 0, 187, 182, 0, 145, 87, 167, 0, 228, 42, 42, 180, 0, 18, 180, 0, 188, 182, 0, 110, 42]
abbrev dktX7_line_24 : List UInt8 := dkwX7_line_24 ++ dktX7_line_25
def dkwX7_line_23 : List UInt8 := [180, 0, 182, 187, 0, 185, 89, 27, 42, 42, 180, 0, 18, 42, 182, 0, 130, 182, 0, 133, 182, 0, 156]
abbrev dktX7_line_23 : List UInt8 := dkwX7_line_23 ++ dktX7_line_24
def dkwX7_line_22 : List UInt8 := [167, 0, 4, 3, 182, 0, 103, 42, 182, 0, 107, 42, 3, 16, 60, 182, 0, 141, 60, 42, 180, 0, 18]
abbrev dktX7_line_22 : List UInt8 := dkwX7_line_22 ++ dktX7_line_23
def dkwX7_line_21 : List UInt8 := [182, 0, 145, 87, 167, 1, 44, 42, 42, 180, 0, 18, 180, 0, 182, 182, 0, 126, 7, 160, 0, 7, 4]
abbrev dktX7_line_21 : List UInt8 := dkwX7_line_21 ++ dktX7_line_22
def dkwX7_line_20 : List UInt8 := [180, 0, 18, 180, 0, 176, 187, 0, 179, 89, 27, 28, 29, 42, 3, 16, 100, 182, 0, 141, 183, 0, 181]
abbrev dktX7_line_20 : List UInt8 := dkwX7_line_20 ++ dktX7_line_21
def dkwX7_line_19 : List UInt8 := [182, 0, 133, 182, 0, 156, 61, 42, 42, 180, 0, 18, 42, 182, 0, 130, 182, 0, 162, 182, 0, 156, 62, 42]
abbrev dktX7_line_19 : List UInt8 := dkwX7_line_19 ++ dktX7_line_20
def dkwX7_line_18 : List UInt8 := [182, 0, 103, 42, 182, 0, 107, 42, 3, 16, 60, 182, 0, 141, 60, 42, 42, 180, 0, 18, 42, 182, 0, 130]
abbrev dktX7_line_18 : List UInt8 := dkwX7_line_18 ++ dktX7_line_19
def dkwX7_line_17 : List UInt8 := [167, 1, 143, 42, 42, 180, 0, 18, 180, 0, 176, 182, 0, 126, 16, 16, 160, 0, 7, 4, 167, 0, 4, 3]
abbrev dktX7_line_17 : List UInt8 := dkwX7_line_17 ++ dktX7_line_18
def dkwX7_line_16 : List UInt8 := [180, 0, 168, 187, 0, 171, 89, 27, 28, 29, 42, 27, 16, 99, 182, 0, 141, 183, 0, 173, 182, 0, 145, 87]
abbrev dktX7_line_16 : List UInt8 := dkwX7_line_16 ++ dktX7_line_17
def dkwX7_line_15 : List UInt8 := [182, 0, 156, 61, 42, 42, 180, 0, 18, 42, 182, 0, 130, 182, 0, 162, 182, 0, 156, 62, 42, 180, 0, 18]
abbrev dktX7_line_15 : List UInt8 := dkwX7_line_15 ++ dktX7_line_16
def dkwX7_line_14 : List UInt8 := [182, 0, 107, 42, 3, 16, 60, 182, 0, 141, 60, 42, 42, 180, 0, 18, 42, 182, 0, 130, 182, 0, 133]
abbrev dktX7_line_14 : List UInt8 := dkwX7_line_14 ++ dktX7_line_15
def dkwX7_line_13 : List UInt8 := [180, 0, 18, 180, 0, 168, 182, 0, 126, 16, 16, 160, 0, 7, 4, 167, 0, 4, 3, 182, 0, 103, 42]
abbrev dktX7_line_13 : List UInt8 := dkwX7_line_13 ++ dktX7_line_14
def dkwX7_line_12 : List UInt8 := [187, 0, 165, 89, 27, 42, 3, 16, 99, 182, 0, 141, 183, 0, 167, 182, 0, 145, 87, 167, 1, 242, 42, 42]
abbrev dktX7_line_12 : List UInt8 := dkwX7_line_12 ++ dktX7_line_13
def dkwX7_line_11 : List UInt8 := [42, 180, 0, 18, 42, 182, 0, 130, 182, 0, 162, 182, 0, 136, 60, 42, 180, 0, 18, 180, 0, 159]
abbrev dktX7_line_11 : List UInt8 := dkwX7_line_11 ++ dktX7_line_12
def dkwX7_line_10 : List UInt8 := [180, 0, 159, 182, 0, 126, 16, 7, 160, 0, 7, 4, 167, 0, 4, 3, 182, 0, 103, 42, 182, 0, 107, 42]
abbrev dktX7_line_10 : List UInt8 := dkwX7_line_10 ++ dktX7_line_11
def dkwX7_line_9 : List UInt8 := [182, 0, 149, 192, 0, 139, 42, 28, 182, 0, 156, 181, 0, 153, 167, 2, 59, 42, 42, 180, 0, 18]
abbrev dktX7_line_9 : List UInt8 := dkwX7_line_9 ++ dktX7_line_10
def dkwX7_line_8 : List UInt8 := [160, 0, 16, 187, 0, 94, 89, 8, 42, 180, 0, 41, 183, 0, 96, 191, 42, 180, 0, 18, 180, 0, 122, 27]
abbrev dktX7_line_8 : List UInt8 := dkwX7_line_8 ++ dktX7_line_9
def dkwX7_line_7 : List UInt8 := [3, 182, 0, 110, 42, 27, 182, 0, 156, 87, 42, 180, 0, 18, 42, 182, 0, 130, 182, 0, 133, 61, 28, 27]
abbrev dktX7_line_7 : List UInt8 := dkwX7_line_7 ++ dktX7_line_8
def dkwX7_line_6 : List UInt8 := [42, 180, 0, 18, 180, 0, 122, 27, 182, 0, 149, 192, 0, 139, 180, 0, 153, 155, 0, 7, 4, 167, 0, 4]
abbrev dktX7_line_6 : List UInt8 := dkwX7_line_6 ++ dktX7_line_7
def dkwX7_line_5 : List UInt8 := [167, 2, 169, 42, 182, 0, 107, 42, 180, 0, 18, 42, 182, 0, 130, 182, 0, 133, 60, 42, 27, 155, 0, 27]
abbrev dktX7_line_5 : List UInt8 := dkwX7_line_5 ++ dktX7_line_6
def dkwX7_line_4 : List UInt8 := [180, 0, 122, 187, 0, 139, 89, 27, 42, 4, 16, 6, 182, 0, 141, 183, 0, 144, 182, 0, 145, 87]
abbrev dktX7_line_4 : List UInt8 := dkwX7_line_4 ++ dktX7_line_5
def dkwX7_line_3 : List UInt8 := [182, 0, 107, 42, 42, 180, 0, 18, 42, 182, 0, 130, 182, 0, 133, 182, 0, 136, 60, 42, 180, 0, 18]
abbrev dktX7_line_3 : List UInt8 := dkwX7_line_3 ++ dktX7_line_4
def dkwX7_line_2 : List UInt8 := [42, 42, 180, 0, 18, 180, 0, 122, 182, 0, 126, 7, 160, 0, 7, 4, 167, 0, 4, 3, 182, 0, 103, 42]
abbrev dktX7_line_2 : List UInt8 := dkwX7_line_2 ++ dktX7_line_3
def dkwX7_line_1 : List UInt8 := [170, 0, 0, 0, 0, 0, 2, 220, 0, 0, 0, 0, 0, 0, 0, 7, 0, 0, 0, 48, 0, 0, 0, 120, 0, 0, 0, 230, 0, 0, 1, 47, 0, 0, 1, 146, 0, 0, 1, 245, 0, 0, 2, 61, 0, 0, 2, 102]
abbrev dktX7_line_1 : List UInt8 := dkwX7_line_1 ++ dktX7_line_2
def dkwX7_line_0 : List UInt8 := [42, 180, 0, 66]
abbrev dktX7_line_0 : List UInt8 := dkwX7_line_0 ++ dktX7_line_1
theorem dksX7_line_0 : cX7_line.data.toList.drop 0 = dktX7_line_0 := by decide +kernel
theorem dksX7_line_1 : cX7_line.data.toList.drop 4 = dktX7_line_1 := dk_seg dksX7_line_0 4 rfl rfl
theorem dksX7_line_2 : cX7_line.data.toList.drop 52 = dktX7_line_2 := dk_seg dksX7_line_1 48 rfl rfl
theorem dksX7_line_3 : cX7_line.data.toList.drop 76 = dktX7_line_3 := dk_seg dksX7_line_2 24 rfl rfl
theorem dksX7_line_4 : cX7_line.data.toList.drop 99 = dktX7_line_4 := dk_seg dksX7_line_3 23 rfl rfl
theorem dksX7_line_5 : cX7_line.data.toList.drop 121 = dktX7_line_5 := dk_seg dksX7_line_4 22 rfl rfl
theorem dksX7_line_6 : cX7_line.data.toList.drop 145 = dktX7_line_6 := dk_seg dksX7_line_5 24 rfl rfl
theorem dksX7_line_7 : cX7_line.data.toList.drop 169 = dktX7_line_7 := dk_seg dksX7_line_6 24 rfl rfl
theorem dksX7_line_8 : cX7_line.data.toList.drop 193 = dktX7_line_8 := dk_seg dksX7_line_7 24 rfl rfl
theorem dksX7_line_9 : cX7_line.data.toList.drop 217 = dktX7_line_9 := dk_seg dksX7_line_8 24 rfl rfl
theorem dksX7_line_10 : cX7_line.data.toList.drop 239 = dktX7_line_10 := dk_seg dksX7_line_9 22 rfl rfl
theorem dksX7_line_11 : cX7_line.data.toList.drop 263 = dktX7_line_11 := dk_seg dksX7_line_10 24 rfl rfl
theorem dksX7_line_12 : cX7_line.data.toList.drop 285 = dktX7_line_12 := dk_seg dksX7_line_11 22 rfl rfl
theorem dksX7_line_13 : cX7_line.data.toList.drop 309 = dktX7_line_13 := dk_seg dksX7_line_12 24 rfl rfl
theorem dksX7_line_14 : cX7_line.data.toList.drop 332 = dktX7_line_14 := dk_seg dksX7_line_13 23 rfl rfl
theorem dksX7_line_15 : cX7_line.data.toList.drop 355 = dktX7_line_15 := dk_seg dksX7_line_14 23 rfl rfl
theorem dksX7_line_16 : cX7_line.data.toList.drop 379 = dktX7_line_16 := dk_seg dksX7_line_15 24 rfl rfl
theorem dksX7_line_17 : cX7_line.data.toList.drop 403 = dktX7_line_17 := dk_seg dksX7_line_16 24 rfl rfl
theorem dksX7_line_18 : cX7_line.data.toList.drop 427 = dktX7_line_18 := dk_seg dksX7_line_17 24 rfl rfl
theorem dksX7_line_19 : cX7_line.data.toList.drop 451 = dktX7_line_19 := dk_seg dksX7_line_18 24 rfl rfl
theorem dksX7_line_20 : cX7_line.data.toList.drop 475 = dktX7_line_20 := dk_seg dksX7_line_19 24 rfl rfl
theorem dksX7_line_21 : cX7_line.data.toList.drop 498 = dktX7_line_21 := dk_seg dksX7_line_20 23 rfl rfl
theorem dksX7_line_22 : cX7_line.data.toList.drop 521 = dktX7_line_22 := dk_seg dksX7_line_21 23 rfl rfl
theorem dksX7_line_23 : cX7_line.data.toList.drop 544 = dktX7_line_23 := dk_seg dksX7_line_22 23 rfl rfl
theorem dksX7_line_24 : cX7_line.data.toList.drop 567 = dktX7_line_24 := dk_seg dksX7_line_23 23 rfl rfl
theorem dksX7_line_25 : cX7_line.data.toList.drop 589 = dktX7_line_25 := dk_seg dksX7_line_24 22 rfl rfl
theorem dksX7_line_26 : cX7_line.data.toList.drop 612 = dktX7_line_26 := dk_seg dksX7_line_25 23 rfl rfl
theorem dksX7_line_27 : cX7_line.data.toList.drop 634 = dktX7_line_27 := dk_seg dksX7_line_26 22 rfl rfl
theorem dksX7_line_28 : cX7_line.data.toList.drop 658 = dktX7_line_28 := dk_seg dksX7_line_27 24 rfl rfl
theorem dksX7_line_29 : cX7_line.data.toList.drop 680 = dktX7_line_29 := dk_seg dksX7_line_28 22 rfl rfl
theorem dksX7_line_30 : cX7_line.data.toList.drop 702 = dktX7_line_30 := dk_seg dksX7_line_29 22 rfl rfl
theorem dksX7_line_31 : cX7_line.data.toList.drop 726 = dktX7_line_31 := dk_seg dksX7_line_30 24 rfl rfl
theorem dksX7_line_32 : cX7_line.data.toList.drop 748 = dktX7_line_32 := dk_seg dksX7_line_31 22 rfl rfl
theorem dksX7_line_33 : cX7_line.data.toList.drop 772 = dktX7_line_33 := dk_seg dksX7_line_32 24 rfl rfl
theorem dksX7_line_34 : cX7_line.data.toList.drop 795 = dktX7_line_34 := dk_seg dksX7_line_33 23 rfl rfl
theorem dX7_line_0 : decode cX7_line 0 = .ok (.aload_n 0, 1) := dk_42 (dk_at dksX7_line_0 0 rfl rfl)
theorem dX7_line_1 : decode cX7_line 1 = .ok (.getfield 66, 3) := dk_180 0 66 (dk_at dksX7_line_0 1 rfl rfl)
theorem dX7_line_4 : decode cX7_line 4 = .ok (.tableswitch 732 0 7 #[48, 120, 230, 303, 402, 501, 573, 614], 48) := by decide +kernel
theorem dX7_line_52 : decode cX7_line 52 = .ok (.aload_n 0, 1) := dk_42 (dk_at dksX7_line_2 0 rfl rfl)
theorem dX7_line_53 : decode cX7_line 53 = .ok (.aload_n 0, 1) := dk_42 (dk_at dksX7_line_2 1 rfl rfl)
theorem dX7_line_54 : decode cX7_line 54 = .ok (.getfield 18, 3) := dk_180 0 18 (dk_at dksX7_line_2 2 rfl rfl)
theorem dX7_line_57 : decode cX7_line 57 = .ok (.getfield 122, 3) := dk_180 0 122 (dk_at dksX7_line_2 5 rfl rfl)
theorem dX7_line_60 : decode cX7_line 60 = .ok (.invokevirtual 126, 3) := dk_182 0 126 (dk_at dksX7_line_2 8 rfl rfl)
theorem dX7_line_63 : decode cX7_line 63 = .ok (.iconst 4, 1) := dk_7 (dk_at dksX7_line_2 11 rfl rfl)
theorem dX7_line_64 : decode cX7_line 64 = .ok (.if_icmp .ne 7, 3) := dk_160 0 7 (dk_at dksX7_line_2 12 rfl rfl)
theorem dX7_line_67 : decode cX7_line 67 = .ok (.iconst 1, 1) := dk_4 (dk_at dksX7_line_2 15 rfl rfl)
theorem dX7_line_68 : decode cX7_line 68 = .ok (.goto 4, 3) := dk_167 0 4 (dk_at dksX7_line_2 16 rfl rfl)
theorem dX7_line_71 : decode cX7_line 71 = .ok (.iconst 0, 1) := dk_3 (dk_at dksX7_line_2 19 rfl rfl)
theorem dX7_line_72 : decode cX7_line 72 = .ok (.invokevirtual 103, 3) := dk_182 0 103 (dk_at dksX7_line_2 20 rfl rfl)
theorem dX7_line_75 : decode cX7_line 75 = .ok (.aload_n 0, 1) := dk_42 (dk_at dksX7_line_2 23 rfl rfl)
theorem dX7_line_76 : decode cX7_line 76 = .ok (.invokevirtual 107, 3) := dk_182 0 107 (dk_at dksX7_line_3 0 rfl rfl)
theorem dX7_line_79 : decode cX7_line 79 = .ok (.aload_n 0, 1) := dk_42 (dk_at dksX7_line_3 3 rfl rfl)
theorem dX7_line_80 : decode cX7_line 80 = .ok (.aload_n 0, 1) := dk_42 (dk_at dksX7_line_3 4 rfl rfl)
theorem dX7_line_81 : decode cX7_line 81 = .ok (.getfield 18, 3) := dk_180 0 18 (dk_at dksX7_line_3 5 rfl rfl)
theorem dX7_line_84 : decode cX7_line 84 = .ok (.aload_n 0, 1) := dk_42 (dk_at dksX7_line_3 8 rfl rfl)
theorem dX7_line_85 : decode cX7_line 85 = .ok (.invokevirtual 130, 3) := dk_182 0 130 (dk_at dksX7_line_3 9 rfl rfl)
theorem dX7_line_88 : decode cX7_line 88 = .ok (.invokevirtual 133, 3) := dk_182 0 133 (dk_at dksX7_line_3 12 rfl rfl)
theorem dX7_line_91 : decode cX7_line 91 = .ok (.invokevirtual 136, 3) := dk_182 0 136 (dk_at dksX7_line_3 15 rfl rfl)
theorem dX7_line_94 : decode cX7_line 94 = .ok (.istore_n 1, 1) := dk_60 (dk_at dksX7_line_3 18 rfl rfl)
theorem dX7_line_95 : decode cX7_line 95 = .ok (.aload_n 0, 1) := dk_42 (dk_at dksX7_line_3 19 rfl rfl)
theorem dX7_line_96 : decode cX7_line 96 = .ok (.getfield 18, 3) := dk_180 0 18 (dk_at dksX7_line_3 20 rfl rfl)
theorem dX7_line_99 : decode cX7_line 99 = .ok (.getfield 122, 3) := dk_180 0 122 (dk_at dksX7_line_4 0 rfl rfl)
theorem dX7_line_102 : decode cX7_line 102 = .ok (.new 139, 3) := dk_187 0 139 (dk_at dksX7_line_4 3 rfl rfl)
theorem dX7_line_105 : decode cX7_line 105 = .ok (.dup, 1) := dk_89 (dk_at dksX7_line_4 6 rfl rfl)
theorem dX7_line_106 : decode cX7_line 106 = .ok (.iload_n 1, 1) := dk_27 (dk_at dksX7_line_4 7 rfl rfl)
theorem dX7_line_107 : decode cX7_line 107 = .ok (.aload_n 0, 1) := dk_42 (dk_at dksX7_line_4 8 rfl rfl)
theorem dX7_line_108 : decode cX7_line 108 = .ok (.iconst 1, 1) := dk_4 (dk_at dksX7_line_4 9 rfl rfl)
theorem dX7_line_109 : decode cX7_line 109 = .ok (.bipush 6, 2) := dk_16 6 (dk_at dksX7_line_4 10 rfl rfl)
theorem dX7_line_111 : decode cX7_line 111 = .ok (.invokevirtual 141, 3) := dk_182 0 141 (dk_at dksX7_line_4 12 rfl rfl)
theorem dX7_line_114 : decode cX7_line 114 = .ok (.invokespecial 144, 3) := dk_183 0 144 (dk_at dksX7_line_4 15 rfl rfl)
theorem dX7_line_117 : decode cX7_line 117 = .ok (.invokevirtual 145, 3) := dk_182 0 145 (dk_at dksX7_line_4 18 rfl rfl)
theorem dX7_line_120 : decode cX7_line 120 = .ok (.pop, 1) := dk_87 (dk_at dksX7_line_4 21 rfl rfl)
theorem dX7_line_121 : decode cX7_line 121 = .ok (.goto 681, 3) := dk_167 2 169 (dk_at dksX7_line_5 0 rfl rfl)
theorem dX7_line_124 : decode cX7_line 124 = .ok (.aload_n 0, 1) := dk_42 (dk_at dksX7_line_5 3 rfl rfl)
theorem dX7_line_125 : decode cX7_line 125 = .ok (.invokevirtual 107, 3) := dk_182 0 107 (dk_at dksX7_line_5 4 rfl rfl)
theorem dX7_line_128 : decode cX7_line 128 = .ok (.aload_n 0, 1) := dk_42 (dk_at dksX7_line_5 7 rfl rfl)
theorem dX7_line_129 : decode cX7_line 129 = .ok (.getfield 18, 3) := dk_180 0 18 (dk_at dksX7_line_5 8 rfl rfl)
theorem dX7_line_132 : decode cX7_line 132 = .ok (.aload_n 0, 1) := dk_42 (dk_at dksX7_line_5 11 rfl rfl)
theorem dX7_line_133 : decode cX7_line 133 = .ok (.invokevirtual 130, 3) := dk_182 0 130 (dk_at dksX7_line_5 12 rfl rfl)
theorem dX7_line_136 : decode cX7_line 136 = .ok (.invokevirtual 133, 3) := dk_182 0 133 (dk_at dksX7_line_5 15 rfl rfl)
theorem dX7_line_139 : decode cX7_line 139 = .ok (.istore_n 1, 1) := dk_60 (dk_at dksX7_line_5 18 rfl rfl)
theorem dX7_line_140 : decode cX7_line 140 = .ok (.aload_n 0, 1) := dk_42 (dk_at dksX7_line_5 19 rfl rfl)
theorem dX7_line_141 : decode cX7_line 141 = .ok (.iload_n 1, 1) := dk_27 (dk_at dksX7_line_5 20 rfl rfl)
theorem dX7_line_142 : decode cX7_line 142 = .ok (.ifCond .lt 27, 3) := dk_155 0 27 (dk_at dksX7_line_5 21 rfl rfl)
theorem dX7_line_145 : decode cX7_line 145 = .ok (.aload_n 0, 1) := dk_42 (dk_at dksX7_line_6 0 rfl rfl)
theorem dX7_line_146 : decode cX7_line 146 = .ok (.getfield 18, 3) := dk_180 0 18 (dk_at dksX7_line_6 1 rfl rfl)
theorem dX7_line_149 : decode cX7_line 149 = .ok (.getfield 122, 3) := dk_180 0 122 (dk_at dksX7_line_6 4 rfl rfl)
theorem dX7_line_152 : decode cX7_line 152 = .ok (.iload_n 1, 1) := dk_27 (dk_at dksX7_line_6 7 rfl rfl)
theorem dX7_line_153 : decode cX7_line 153 = .ok (.invokevirtual 149, 3) := dk_182 0 149 (dk_at dksX7_line_6 8 rfl rfl)
theorem dX7_line_156 : decode cX7_line 156 = .ok (.checkcast 139, 3) := dk_192 0 139 (dk_at dksX7_line_6 11 rfl rfl)
theorem dX7_line_159 : decode cX7_line 159 = .ok (.getfield 153, 3) := dk_180 0 153 (dk_at dksX7_line_6 14 rfl rfl)
theorem dX7_line_162 : decode cX7_line 162 = .ok (.ifCond .lt 7, 3) := dk_155 0 7 (dk_at dksX7_line_6 17 rfl rfl)
theorem dX7_line_165 : decode cX7_line 165 = .ok (.iconst 1, 1) := dk_4 (dk_at dksX7_line_6 20 rfl rfl)
theorem dX7_line_166 : decode cX7_line 166 = .ok (.goto 4, 3) := dk_167 0 4 (dk_at dksX7_line_6 21 rfl rfl)
theorem dX7_line_169 : decode cX7_line 169 = .ok (.iconst 0, 1) := dk_3 (dk_at dksX7_line_7 0 rfl rfl)
theorem dX7_line_170 : decode cX7_line 170 = .ok (.invokevirtual 110, 3) := dk_182 0 110 (dk_at dksX7_line_7 1 rfl rfl)
theorem dX7_line_173 : decode cX7_line 173 = .ok (.aload_n 0, 1) := dk_42 (dk_at dksX7_line_7 4 rfl rfl)
theorem dX7_line_174 : decode cX7_line 174 = .ok (.iload_n 1, 1) := dk_27 (dk_at dksX7_line_7 5 rfl rfl)
theorem dX7_line_175 : decode cX7_line 175 = .ok (.invokevirtual 156, 3) := dk_182 0 156 (dk_at dksX7_line_7 6 rfl rfl)
theorem dX7_line_178 : decode cX7_line 178 = .ok (.pop, 1) := dk_87 (dk_at dksX7_line_7 9 rfl rfl)
theorem dX7_line_179 : decode cX7_line 179 = .ok (.aload_n 0, 1) := dk_42 (dk_at dksX7_line_7 10 rfl rfl)
theorem dX7_line_180 : decode cX7_line 180 = .ok (.getfield 18, 3) := dk_180 0 18 (dk_at dksX7_line_7 11 rfl rfl)
theorem dX7_line_183 : decode cX7_line 183 = .ok (.aload_n 0, 1) := dk_42 (dk_at dksX7_line_7 14 rfl rfl)
theorem dX7_line_184 : decode cX7_line 184 = .ok (.invokevirtual 130, 3) := dk_182 0 130 (dk_at dksX7_line_7 15 rfl rfl)
theorem dX7_line_187 : decode cX7_line 187 = .ok (.invokevirtual 133, 3) := dk_182 0 133 (dk_at dksX7_line_7 18 rfl rfl)
theorem dX7_line_190 : decode cX7_line 190 = .ok (.istore_n 2, 1) := dk_61 (dk_at dksX7_line_7 21 rfl rfl)
theorem dX7_line_191 : decode cX7_line 191 = .ok (.iload_n 2, 1) := dk_28 (dk_at dksX7_line_7 22 rfl rfl)
theorem dX7_line_192 : decode cX7_line 192 = .ok (.iload_n 1, 1) := dk_27 (dk_at dksX7_line_7 23 rfl rfl)
theorem dX7_line_193 : decode cX7_line 193 = .ok (.if_icmp .ne 16, 3) := dk_160 0 16 (dk_at dksX7_line_8 0 rfl rfl)
theorem dX7_line_196 : decode cX7_line 196 = .ok (.new 94, 3) := dk_187 0 94 (dk_at dksX7_line_8 3 rfl rfl)
theorem dX7_line_199 : decode cX7_line 199 = .ok (.dup, 1) := dk_89 (dk_at dksX7_line_8 6 rfl rfl)
theorem dX7_line_200 : decode cX7_line 200 = .ok (.iconst 5, 1) := dk_8 (dk_at dksX7_line_8 7 rfl rfl)
theorem dX7_line_201 : decode cX7_line 201 = .ok (.aload_n 0, 1) := dk_42 (dk_at dksX7_line_8 8 rfl rfl)
theorem dX7_line_202 : decode cX7_line 202 = .ok (.getfield 41, 3) := dk_180 0 41 (dk_at dksX7_line_8 9 rfl rfl)
theorem dX7_line_205 : decode cX7_line 205 = .ok (.invokespecial 96, 3) := dk_183 0 96 (dk_at dksX7_line_8 12 rfl rfl)
theorem dX7_line_208 : decode cX7_line 208 = .ok (.athrow, 1) := dk_191 (dk_at dksX7_line_8 15 rfl rfl)
theorem dX7_line_209 : decode cX7_line 209 = .ok (.aload_n 0, 1) := dk_42 (dk_at dksX7_line_8 16 rfl rfl)
theorem dX7_line_210 : decode cX7_line 210 = .ok (.getfield 18, 3) := dk_180 0 18 (dk_at dksX7_line_8 17 rfl rfl)
theorem dX7_line_213 : decode cX7_line 213 = .ok (.getfield 122, 3) := dk_180 0 122 (dk_at dksX7_line_8 20 rfl rfl)
theorem dX7_line_216 : decode cX7_line 216 = .ok (.iload_n 1, 1) := dk_27 (dk_at dksX7_line_8 23 rfl rfl)
theorem dX7_line_217 : decode cX7_line 217 = .ok (.invokevirtual 149, 3) := dk_182 0 149 (dk_at dksX7_line_9 0 rfl rfl)
theorem dX7_line_220 : decode cX7_line 220 = .ok (.checkcast 139, 3) := dk_192 0 139 (dk_at dksX7_line_9 3 rfl rfl)
theorem dX7_line_223 : decode cX7_line 223 = .ok (.aload_n 0, 1) := dk_42 (dk_at dksX7_line_9 6 rfl rfl)
theorem dX7_line_224 : decode cX7_line 224 = .ok (.iload_n 2, 1) := dk_28 (dk_at dksX7_line_9 7 rfl rfl)
theorem dX7_line_225 : decode cX7_line 225 = .ok (.invokevirtual 156, 3) := dk_182 0 156 (dk_at dksX7_line_9 8 rfl rfl)
theorem dX7_line_228 : decode cX7_line 228 = .ok (.putfield 153, 3) := dk_181 0 153 (dk_at dksX7_line_9 11 rfl rfl)
theorem dX7_line_231 : decode cX7_line 231 = .ok (.goto 571, 3) := dk_167 2 59 (dk_at dksX7_line_9 14 rfl rfl)
theorem dX7_line_234 : decode cX7_line 234 = .ok (.aload_n 0, 1) := dk_42 (dk_at dksX7_line_9 17 rfl rfl)
theorem dX7_line_235 : decode cX7_line 235 = .ok (.aload_n 0, 1) := dk_42 (dk_at dksX7_line_9 18 rfl rfl)
theorem dX7_line_236 : decode cX7_line 236 = .ok (.getfield 18, 3) := dk_180 0 18 (dk_at dksX7_line_9 19 rfl rfl)
theorem dX7_line_239 : decode cX7_line 239 = .ok (.getfield 159, 3) := dk_180 0 159 (dk_at dksX7_line_10 0 rfl rfl)
theorem dX7_line_242 : decode cX7_line 242 = .ok (.invokevirtual 126, 3) := dk_182 0 126 (dk_at dksX7_line_10 3 rfl rfl)
theorem dX7_line_245 : decode cX7_line 245 = .ok (.bipush 7, 2) := dk_16 7 (dk_at dksX7_line_10 6 rfl rfl)
theorem dX7_line_247 : decode cX7_line 247 = .ok (.if_icmp .ne 7, 3) := dk_160 0 7 (dk_at dksX7_line_10 8 rfl rfl)
theorem dX7_line_250 : decode cX7_line 250 = .ok (.iconst 1, 1) := dk_4 (dk_at dksX7_line_10 11 rfl rfl)
theorem dX7_line_251 : decode cX7_line 251 = .ok (.goto 4, 3) := dk_167 0 4 (dk_at dksX7_line_10 12 rfl rfl)
theorem dX7_line_254 : decode cX7_line 254 = .ok (.iconst 0, 1) := dk_3 (dk_at dksX7_line_10 15 rfl rfl)
theorem dX7_line_255 : decode cX7_line 255 = .ok (.invokevirtual 103, 3) := dk_182 0 103 (dk_at dksX7_line_10 16 rfl rfl)
theorem dX7_line_258 : decode cX7_line 258 = .ok (.aload_n 0, 1) := dk_42 (dk_at dksX7_line_10 19 rfl rfl)
theorem dX7_line_259 : decode cX7_line 259 = .ok (.invokevirtual 107, 3) := dk_182 0 107 (dk_at dksX7_line_10 20 rfl rfl)
theorem dX7_line_262 : decode cX7_line 262 = .ok (.aload_n 0, 1) := dk_42 (dk_at dksX7_line_10 23 rfl rfl)
theorem dX7_line_263 : decode cX7_line 263 = .ok (.aload_n 0, 1) := dk_42 (dk_at dksX7_line_11 0 rfl rfl)
theorem dX7_line_264 : decode cX7_line 264 = .ok (.getfield 18, 3) := dk_180 0 18 (dk_at dksX7_line_11 1 rfl rfl)
theorem dX7_line_267 : decode cX7_line 267 = .ok (.aload_n 0, 1) := dk_42 (dk_at dksX7_line_11 4 rfl rfl)
theorem dX7_line_268 : decode cX7_line 268 = .ok (.invokevirtual 130, 3) := dk_182 0 130 (dk_at dksX7_line_11 5 rfl rfl)
theorem dX7_line_271 : decode cX7_line 271 = .ok (.invokevirtual 162, 3) := dk_182 0 162 (dk_at dksX7_line_11 8 rfl rfl)
theorem dX7_line_274 : decode cX7_line 274 = .ok (.invokevirtual 136, 3) := dk_182 0 136 (dk_at dksX7_line_11 11 rfl rfl)
theorem dX7_line_277 : decode cX7_line 277 = .ok (.istore_n 1, 1) := dk_60 (dk_at dksX7_line_11 14 rfl rfl)
theorem dX7_line_278 : decode cX7_line 278 = .ok (.aload_n 0, 1) := dk_42 (dk_at dksX7_line_11 15 rfl rfl)
theorem dX7_line_279 : decode cX7_line 279 = .ok (.getfield 18, 3) := dk_180 0 18 (dk_at dksX7_line_11 16 rfl rfl)
theorem dX7_line_282 : decode cX7_line 282 = .ok (.getfield 159, 3) := dk_180 0 159 (dk_at dksX7_line_11 19 rfl rfl)
theorem dX7_line_285 : decode cX7_line 285 = .ok (.new 165, 3) := dk_187 0 165 (dk_at dksX7_line_12 0 rfl rfl)
theorem dX7_line_288 : decode cX7_line 288 = .ok (.dup, 1) := dk_89 (dk_at dksX7_line_12 3 rfl rfl)
theorem dX7_line_289 : decode cX7_line 289 = .ok (.iload_n 1, 1) := dk_27 (dk_at dksX7_line_12 4 rfl rfl)
theorem dX7_line_290 : decode cX7_line 290 = .ok (.aload_n 0, 1) := dk_42 (dk_at dksX7_line_12 5 rfl rfl)
theorem dX7_line_291 : decode cX7_line 291 = .ok (.iconst 0, 1) := dk_3 (dk_at dksX7_line_12 6 rfl rfl)
theorem dX7_line_292 : decode cX7_line 292 = .ok (.bipush 99, 2) := dk_16 99 (dk_at dksX7_line_12 7 rfl rfl)
theorem dX7_line_294 : decode cX7_line 294 = .ok (.invokevirtual 141, 3) := dk_182 0 141 (dk_at dksX7_line_12 9 rfl rfl)
theorem dX7_line_297 : decode cX7_line 297 = .ok (.invokespecial 167, 3) := dk_183 0 167 (dk_at dksX7_line_12 12 rfl rfl)
theorem dX7_line_300 : decode cX7_line 300 = .ok (.invokevirtual 145, 3) := dk_182 0 145 (dk_at dksX7_line_12 15 rfl rfl)
theorem dX7_line_303 : decode cX7_line 303 = .ok (.pop, 1) := dk_87 (dk_at dksX7_line_12 18 rfl rfl)
theorem dX7_line_304 : decode cX7_line 304 = .ok (.goto 498, 3) := dk_167 1 242 (dk_at dksX7_line_12 19 rfl rfl)
theorem dX7_line_307 : decode cX7_line 307 = .ok (.aload_n 0, 1) := dk_42 (dk_at dksX7_line_12 22 rfl rfl)
theorem dX7_line_308 : decode cX7_line 308 = .ok (.aload_n 0, 1) := dk_42 (dk_at dksX7_line_12 23 rfl rfl)
theorem dX7_line_309 : decode cX7_line 309 = .ok (.getfield 18, 3) := dk_180 0 18 (dk_at dksX7_line_13 0 rfl rfl)
theorem dX7_line_312 : decode cX7_line 312 = .ok (.getfield 168, 3) := dk_180 0 168 (dk_at dksX7_line_13 3 rfl rfl)
theorem dX7_line_315 : decode cX7_line 315 = .ok (.invokevirtual 126, 3) := dk_182 0 126 (dk_at dksX7_line_13 6 rfl rfl)
theorem dX7_line_318 : decode cX7_line 318 = .ok (.bipush 16, 2) := dk_16 16 (dk_at dksX7_line_13 9 rfl rfl)
theorem dX7_line_320 : decode cX7_line 320 = .ok (.if_icmp .ne 7, 3) := dk_160 0 7 (dk_at dksX7_line_13 11 rfl rfl)
theorem dX7_line_323 : decode cX7_line 323 = .ok (.iconst 1, 1) := dk_4 (dk_at dksX7_line_13 14 rfl rfl)
theorem dX7_line_324 : decode cX7_line 324 = .ok (.goto 4, 3) := dk_167 0 4 (dk_at dksX7_line_13 15 rfl rfl)
theorem dX7_line_327 : decode cX7_line 327 = .ok (.iconst 0, 1) := dk_3 (dk_at dksX7_line_13 18 rfl rfl)
theorem dX7_line_328 : decode cX7_line 328 = .ok (.invokevirtual 103, 3) := dk_182 0 103 (dk_at dksX7_line_13 19 rfl rfl)
theorem dX7_line_331 : decode cX7_line 331 = .ok (.aload_n 0, 1) := dk_42 (dk_at dksX7_line_13 22 rfl rfl)
theorem dX7_line_332 : decode cX7_line 332 = .ok (.invokevirtual 107, 3) := dk_182 0 107 (dk_at dksX7_line_14 0 rfl rfl)
theorem dX7_line_335 : decode cX7_line 335 = .ok (.aload_n 0, 1) := dk_42 (dk_at dksX7_line_14 3 rfl rfl)
theorem dX7_line_336 : decode cX7_line 336 = .ok (.iconst 0, 1) := dk_3 (dk_at dksX7_line_14 4 rfl rfl)
theorem dX7_line_337 : decode cX7_line 337 = .ok (.bipush 60, 2) := dk_16 60 (dk_at dksX7_line_14 5 rfl rfl)
theorem dX7_line_339 : decode cX7_line 339 = .ok (.invokevirtual 141, 3) := dk_182 0 141 (dk_at dksX7_line_14 7 rfl rfl)
theorem dX7_line_342 : decode cX7_line 342 = .ok (.istore_n 1, 1) := dk_60 (dk_at dksX7_line_14 10 rfl rfl)
theorem dX7_line_343 : decode cX7_line 343 = .ok (.aload_n 0, 1) := dk_42 (dk_at dksX7_line_14 11 rfl rfl)
theorem dX7_line_344 : decode cX7_line 344 = .ok (.aload_n 0, 1) := dk_42 (dk_at dksX7_line_14 12 rfl rfl)
theorem dX7_line_345 : decode cX7_line 345 = .ok (.getfield 18, 3) := dk_180 0 18 (dk_at dksX7_line_14 13 rfl rfl)
theorem dX7_line_348 : decode cX7_line 348 = .ok (.aload_n 0, 1) := dk_42 (dk_at dksX7_line_14 16 rfl rfl)
theorem dX7_line_349 : decode cX7_line 349 = .ok (.invokevirtual 130, 3) := dk_182 0 130 (dk_at dksX7_line_14 17 rfl rfl)
theorem dX7_line_352 : decode cX7_line 352 = .ok (.invokevirtual 133, 3) := dk_182 0 133 (dk_at dksX7_line_14 20 rfl rfl)
theorem dX7_line_355 : decode cX7_line 355 = .ok (.invokevirtual 156, 3) := dk_182 0 156 (dk_at dksX7_line_15 0 rfl rfl)
theorem dX7_line_358 : decode cX7_line 358 = .ok (.istore_n 2, 1) := dk_61 (dk_at dksX7_line_15 3 rfl rfl)
theorem dX7_line_359 : decode cX7_line 359 = .ok (.aload_n 0, 1) := dk_42 (dk_at dksX7_line_15 4 rfl rfl)
theorem dX7_line_360 : decode cX7_line 360 = .ok (.aload_n 0, 1) := dk_42 (dk_at dksX7_line_15 5 rfl rfl)
theorem dX7_line_361 : decode cX7_line 361 = .ok (.getfield 18, 3) := dk_180 0 18 (dk_at dksX7_line_15 6 rfl rfl)
theorem dX7_line_364 : decode cX7_line 364 = .ok (.aload_n 0, 1) := dk_42 (dk_at dksX7_line_15 9 rfl rfl)
theorem dX7_line_365 : decode cX7_line 365 = .ok (.invokevirtual 130, 3) := dk_182 0 130 (dk_at dksX7_line_15 10 rfl rfl)
theorem dX7_line_368 : decode cX7_line 368 = .ok (.invokevirtual 162, 3) := dk_182 0 162 (dk_at dksX7_line_15 13 rfl rfl)
theorem dX7_line_371 : decode cX7_line 371 = .ok (.invokevirtual 156, 3) := dk_182 0 156 (dk_at dksX7_line_15 16 rfl rfl)
theorem dX7_line_374 : decode cX7_line 374 = .ok (.istore_n 3, 1) := dk_62 (dk_at dksX7_line_15 19 rfl rfl)
theorem dX7_line_375 : decode cX7_line 375 = .ok (.aload_n 0, 1) := dk_42 (dk_at dksX7_line_15 20 rfl rfl)
theorem dX7_line_376 : decode cX7_line 376 = .ok (.getfield 18, 3) := dk_180 0 18 (dk_at dksX7_line_15 21 rfl rfl)
theorem dX7_line_379 : decode cX7_line 379 = .ok (.getfield 168, 3) := dk_180 0 168 (dk_at dksX7_line_16 0 rfl rfl)
theorem dX7_line_382 : decode cX7_line 382 = .ok (.new 171, 3) := dk_187 0 171 (dk_at dksX7_line_16 3 rfl rfl)
theorem dX7_line_385 : decode cX7_line 385 = .ok (.dup, 1) := dk_89 (dk_at dksX7_line_16 6 rfl rfl)
theorem dX7_line_386 : decode cX7_line 386 = .ok (.iload_n 1, 1) := dk_27 (dk_at dksX7_line_16 7 rfl rfl)
theorem dX7_line_387 : decode cX7_line 387 = .ok (.iload_n 2, 1) := dk_28 (dk_at dksX7_line_16 8 rfl rfl)
theorem dX7_line_388 : decode cX7_line 388 = .ok (.iload_n 3, 1) := dk_29 (dk_at dksX7_line_16 9 rfl rfl)
theorem dX7_line_389 : decode cX7_line 389 = .ok (.aload_n 0, 1) := dk_42 (dk_at dksX7_line_16 10 rfl rfl)
theorem dX7_line_390 : decode cX7_line 390 = .ok (.iload_n 1, 1) := dk_27 (dk_at dksX7_line_16 11 rfl rfl)
theorem dX7_line_391 : decode cX7_line 391 = .ok (.bipush 99, 2) := dk_16 99 (dk_at dksX7_line_16 12 rfl rfl)
theorem dX7_line_393 : decode cX7_line 393 = .ok (.invokevirtual 141, 3) := dk_182 0 141 (dk_at dksX7_line_16 14 rfl rfl)
theorem dX7_line_396 : decode cX7_line 396 = .ok (.invokespecial 173, 3) := dk_183 0 173 (dk_at dksX7_line_16 17 rfl rfl)
theorem dX7_line_399 : decode cX7_line 399 = .ok (.invokevirtual 145, 3) := dk_182 0 145 (dk_at dksX7_line_16 20 rfl rfl)
theorem dX7_line_402 : decode cX7_line 402 = .ok (.pop, 1) := dk_87 (dk_at dksX7_line_16 23 rfl rfl)
theorem dX7_line_403 : decode cX7_line 403 = .ok (.goto 399, 3) := dk_167 1 143 (dk_at dksX7_line_17 0 rfl rfl)
theorem dX7_line_406 : decode cX7_line 406 = .ok (.aload_n 0, 1) := dk_42 (dk_at dksX7_line_17 3 rfl rfl)
theorem dX7_line_407 : decode cX7_line 407 = .ok (.aload_n 0, 1) := dk_42 (dk_at dksX7_line_17 4 rfl rfl)
theorem dX7_line_408 : decode cX7_line 408 = .ok (.getfield 18, 3) := dk_180 0 18 (dk_at dksX7_line_17 5 rfl rfl)
theorem dX7_line_411 : decode cX7_line 411 = .ok (.getfield 176, 3) := dk_180 0 176 (dk_at dksX7_line_17 8 rfl rfl)
theorem dX7_line_414 : decode cX7_line 414 = .ok (.invokevirtual 126, 3) := dk_182 0 126 (dk_at dksX7_line_17 11 rfl rfl)
theorem dX7_line_417 : decode cX7_line 417 = .ok (.bipush 16, 2) := dk_16 16 (dk_at dksX7_line_17 14 rfl rfl)
theorem dX7_line_419 : decode cX7_line 419 = .ok (.if_icmp .ne 7, 3) := dk_160 0 7 (dk_at dksX7_line_17 16 rfl rfl)
theorem dX7_line_422 : decode cX7_line 422 = .ok (.iconst 1, 1) := dk_4 (dk_at dksX7_line_17 19 rfl rfl)
theorem dX7_line_423 : decode cX7_line 423 = .ok (.goto 4, 3) := dk_167 0 4 (dk_at dksX7_line_17 20 rfl rfl)
theorem dX7_line_426 : decode cX7_line 426 = .ok (.iconst 0, 1) := dk_3 (dk_at dksX7_line_17 23 rfl rfl)
theorem dX7_line_427 : decode cX7_line 427 = .ok (.invokevirtual 103, 3) := dk_182 0 103 (dk_at dksX7_line_18 0 rfl rfl)
theorem dX7_line_430 : decode cX7_line 430 = .ok (.aload_n 0, 1) := dk_42 (dk_at dksX7_line_18 3 rfl rfl)
theorem dX7_line_431 : decode cX7_line 431 = .ok (.invokevirtual 107, 3) := dk_182 0 107 (dk_at dksX7_line_18 4 rfl rfl)
theorem dX7_line_434 : decode cX7_line 434 = .ok (.aload_n 0, 1) := dk_42 (dk_at dksX7_line_18 7 rfl rfl)
theorem dX7_line_435 : decode cX7_line 435 = .ok (.iconst 0, 1) := dk_3 (dk_at dksX7_line_18 8 rfl rfl)
theorem dX7_line_436 : decode cX7_line 436 = .ok (.bipush 60, 2) := dk_16 60 (dk_at dksX7_line_18 9 rfl rfl)
theorem dX7_line_438 : decode cX7_line 438 = .ok (.invokevirtual 141, 3) := dk_182 0 141 (dk_at dksX7_line_18 11 rfl rfl)
theorem dX7_line_441 : decode cX7_line 441 = .ok (.istore_n 1, 1) := dk_60 (dk_at dksX7_line_18 14 rfl rfl)
theorem dX7_line_442 : decode cX7_line 442 = .ok (.aload_n 0, 1) := dk_42 (dk_at dksX7_line_18 15 rfl rfl)
theorem dX7_line_443 : decode cX7_line 443 = .ok (.aload_n 0, 1) := dk_42 (dk_at dksX7_line_18 16 rfl rfl)
theorem dX7_line_444 : decode cX7_line 444 = .ok (.getfield 18, 3) := dk_180 0 18 (dk_at dksX7_line_18 17 rfl rfl)
theorem dX7_line_447 : decode cX7_line 447 = .ok (.aload_n 0, 1) := dk_42 (dk_at dksX7_line_18 20 rfl rfl)
theorem dX7_line_448 : decode cX7_line 448 = .ok (.invokevirtual 130, 3) := dk_182 0 130 (dk_at dksX7_line_18 21 rfl rfl)
theorem dX7_line_451 : decode cX7_line 451 = .ok (.invokevirtual 133, 3) := dk_182 0 133 (dk_at dksX7_line_19 0 rfl rfl)
theorem dX7_line_454 : decode cX7_line 454 = .ok (.invokevirtual 156, 3) := dk_182 0 156 (dk_at dksX7_line_19 3 rfl rfl)
theorem dX7_line_457 : decode cX7_line 457 = .ok (.istore_n 2, 1) := dk_61 (dk_at dksX7_line_19 6 rfl rfl)
theorem dX7_line_458 : decode cX7_line 458 = .ok (.aload_n 0, 1) := dk_42 (dk_at dksX7_line_19 7 rfl rfl)
theorem dX7_line_459 : decode cX7_line 459 = .ok (.aload_n 0, 1) := dk_42 (dk_at dksX7_line_19 8 rfl rfl)
theorem dX7_line_460 : decode cX7_line 460 = .ok (.getfield 18, 3) := dk_180 0 18 (dk_at dksX7_line_19 9 rfl rfl)
theorem dX7_line_463 : decode cX7_line 463 = .ok (.aload_n 0, 1) := dk_42 (dk_at dksX7_line_19 12 rfl rfl)
theorem dX7_line_464 : decode cX7_line 464 = .ok (.invokevirtual 130, 3) := dk_182 0 130 (dk_at dksX7_line_19 13 rfl rfl)
theorem dX7_line_467 : decode cX7_line 467 = .ok (.invokevirtual 162, 3) := dk_182 0 162 (dk_at dksX7_line_19 16 rfl rfl)
theorem dX7_line_470 : decode cX7_line 470 = .ok (.invokevirtual 156, 3) := dk_182 0 156 (dk_at dksX7_line_19 19 rfl rfl)
theorem dX7_line_473 : decode cX7_line 473 = .ok (.istore_n 3, 1) := dk_62 (dk_at dksX7_line_19 22 rfl rfl)
theorem dX7_line_474 : decode cX7_line 474 = .ok (.aload_n 0, 1) := dk_42 (dk_at dksX7_line_19 23 rfl rfl)
theorem dX7_line_475 : decode cX7_line 475 = .ok (.getfield 18, 3) := dk_180 0 18 (dk_at dksX7_line_20 0 rfl rfl)
theorem dX7_line_478 : decode cX7_line 478 = .ok (.getfield 176, 3) := dk_180 0 176 (dk_at dksX7_line_20 3 rfl rfl)
theorem dX7_line_481 : decode cX7_line 481 = .ok (.new 179, 3) := dk_187 0 179 (dk_at dksX7_line_20 6 rfl rfl)
theorem dX7_line_484 : decode cX7_line 484 = .ok (.dup, 1) := dk_89 (dk_at dksX7_line_20 9 rfl rfl)
theorem dX7_line_485 : decode cX7_line 485 = .ok (.iload_n 1, 1) := dk_27 (dk_at dksX7_line_20 10 rfl rfl)
theorem dX7_line_486 : decode cX7_line 486 = .ok (.iload_n 2, 1) := dk_28 (dk_at dksX7_line_20 11 rfl rfl)
theorem dX7_line_487 : decode cX7_line 487 = .ok (.iload_n 3, 1) := dk_29 (dk_at dksX7_line_20 12 rfl rfl)
theorem dX7_line_488 : decode cX7_line 488 = .ok (.aload_n 0, 1) := dk_42 (dk_at dksX7_line_20 13 rfl rfl)
theorem dX7_line_489 : decode cX7_line 489 = .ok (.iconst 0, 1) := dk_3 (dk_at dksX7_line_20 14 rfl rfl)
theorem dX7_line_490 : decode cX7_line 490 = .ok (.bipush 100, 2) := dk_16 100 (dk_at dksX7_line_20 15 rfl rfl)
theorem dX7_line_492 : decode cX7_line 492 = .ok (.invokevirtual 141, 3) := dk_182 0 141 (dk_at dksX7_line_20 17 rfl rfl)
theorem dX7_line_495 : decode cX7_line 495 = .ok (.invokespecial 181, 3) := dk_183 0 181 (dk_at dksX7_line_20 20 rfl rfl)
theorem dX7_line_498 : decode cX7_line 498 = .ok (.invokevirtual 145, 3) := dk_182 0 145 (dk_at dksX7_line_21 0 rfl rfl)
theorem dX7_line_501 : decode cX7_line 501 = .ok (.pop, 1) := dk_87 (dk_at dksX7_line_21 3 rfl rfl)
theorem dX7_line_502 : decode cX7_line 502 = .ok (.goto 300, 3) := dk_167 1 44 (dk_at dksX7_line_21 4 rfl rfl)
theorem dX7_line_505 : decode cX7_line 505 = .ok (.aload_n 0, 1) := dk_42 (dk_at dksX7_line_21 7 rfl rfl)
theorem dX7_line_506 : decode cX7_line 506 = .ok (.aload_n 0, 1) := dk_42 (dk_at dksX7_line_21 8 rfl rfl)
theorem dX7_line_507 : decode cX7_line 507 = .ok (.getfield 18, 3) := dk_180 0 18 (dk_at dksX7_line_21 9 rfl rfl)
theorem dX7_line_510 : decode cX7_line 510 = .ok (.getfield 182, 3) := dk_180 0 182 (dk_at dksX7_line_21 12 rfl rfl)
theorem dX7_line_513 : decode cX7_line 513 = .ok (.invokevirtual 126, 3) := dk_182 0 126 (dk_at dksX7_line_21 15 rfl rfl)
theorem dX7_line_516 : decode cX7_line 516 = .ok (.iconst 4, 1) := dk_7 (dk_at dksX7_line_21 18 rfl rfl)
theorem dX7_line_517 : decode cX7_line 517 = .ok (.if_icmp .ne 7, 3) := dk_160 0 7 (dk_at dksX7_line_21 19 rfl rfl)
theorem dX7_line_520 : decode cX7_line 520 = .ok (.iconst 1, 1) := dk_4 (dk_at dksX7_line_21 22 rfl rfl)
theorem dX7_line_521 : decode cX7_line 521 = .ok (.goto 4, 3) := dk_167 0 4 (dk_at dksX7_line_22 0 rfl rfl)
theorem dX7_line_524 : decode cX7_line 524 = .ok (.iconst 0, 1) := dk_3 (dk_at dksX7_line_22 3 rfl rfl)
theorem dX7_line_525 : decode cX7_line 525 = .ok (.invokevirtual 103, 3) := dk_182 0 103 (dk_at dksX7_line_22 4 rfl rfl)
theorem dX7_line_528 : decode cX7_line 528 = .ok (.aload_n 0, 1) := dk_42 (dk_at dksX7_line_22 7 rfl rfl)
theorem dX7_line_529 : decode cX7_line 529 = .ok (.invokevirtual 107, 3) := dk_182 0 107 (dk_at dksX7_line_22 8 rfl rfl)
theorem dX7_line_532 : decode cX7_line 532 = .ok (.aload_n 0, 1) := dk_42 (dk_at dksX7_line_22 11 rfl rfl)
theorem dX7_line_533 : decode cX7_line 533 = .ok (.iconst 0, 1) := dk_3 (dk_at dksX7_line_22 12 rfl rfl)
theorem dX7_line_534 : decode cX7_line 534 = .ok (.bipush 60, 2) := dk_16 60 (dk_at dksX7_line_22 13 rfl rfl)
theorem dX7_line_536 : decode cX7_line 536 = .ok (.invokevirtual 141, 3) := dk_182 0 141 (dk_at dksX7_line_22 15 rfl rfl)
theorem dX7_line_539 : decode cX7_line 539 = .ok (.istore_n 1, 1) := dk_60 (dk_at dksX7_line_22 18 rfl rfl)
theorem dX7_line_540 : decode cX7_line 540 = .ok (.aload_n 0, 1) := dk_42 (dk_at dksX7_line_22 19 rfl rfl)
theorem dX7_line_541 : decode cX7_line 541 = .ok (.getfield 18, 3) := dk_180 0 18 (dk_at dksX7_line_22 20 rfl rfl)
theorem dX7_line_544 : decode cX7_line 544 = .ok (.getfield 182, 3) := dk_180 0 182 (dk_at dksX7_line_23 0 rfl rfl)
theorem dX7_line_547 : decode cX7_line 547 = .ok (.new 185, 3) := dk_187 0 185 (dk_at dksX7_line_23 3 rfl rfl)
theorem dX7_line_550 : decode cX7_line 550 = .ok (.dup, 1) := dk_89 (dk_at dksX7_line_23 6 rfl rfl)
theorem dX7_line_551 : decode cX7_line 551 = .ok (.iload_n 1, 1) := dk_27 (dk_at dksX7_line_23 7 rfl rfl)
theorem dX7_line_552 : decode cX7_line 552 = .ok (.aload_n 0, 1) := dk_42 (dk_at dksX7_line_23 8 rfl rfl)
theorem dX7_line_553 : decode cX7_line 553 = .ok (.aload_n 0, 1) := dk_42 (dk_at dksX7_line_23 9 rfl rfl)
theorem dX7_line_554 : decode cX7_line 554 = .ok (.getfield 18, 3) := dk_180 0 18 (dk_at dksX7_line_23 10 rfl rfl)
theorem dX7_line_557 : decode cX7_line 557 = .ok (.aload_n 0, 1) := dk_42 (dk_at dksX7_line_23 13 rfl rfl)
theorem dX7_line_558 : decode cX7_line 558 = .ok (.invokevirtual 130, 3) := dk_182 0 130 (dk_at dksX7_line_23 14 rfl rfl)
theorem dX7_line_561 : decode cX7_line 561 = .ok (.invokevirtual 133, 3) := dk_182 0 133 (dk_at dksX7_line_23 17 rfl rfl)
theorem dX7_line_564 : decode cX7_line 564 = .ok (.invokevirtual 156, 3) := dk_182 0 156 (dk_at dksX7_line_23 20 rfl rfl)
theorem dX7_line_567 : decode cX7_line 567 = .ok (.invokespecial 187, 3) := dk_183 0 187 (dk_at dksX7_line_24 0 rfl rfl)
theorem dX7_line_570 : decode cX7_line 570 = .ok (.invokevirtual 145, 3) := dk_182 0 145 (dk_at dksX7_line_24 3 rfl rfl)
theorem dX7_line_573 : decode cX7_line 573 = .ok (.pop, 1) := dk_87 (dk_at dksX7_line_24 6 rfl rfl)
theorem dX7_line_574 : decode cX7_line 574 = .ok (.goto 228, 3) := dk_167 0 228 (dk_at dksX7_line_24 7 rfl rfl)
theorem dX7_line_577 : decode cX7_line 577 = .ok (.aload_n 0, 1) := dk_42 (dk_at dksX7_line_24 10 rfl rfl)
theorem dX7_line_578 : decode cX7_line 578 = .ok (.aload_n 0, 1) := dk_42 (dk_at dksX7_line_24 11 rfl rfl)
theorem dX7_line_579 : decode cX7_line 579 = .ok (.getfield 18, 3) := dk_180 0 18 (dk_at dksX7_line_24 12 rfl rfl)
theorem dX7_line_582 : decode cX7_line 582 = .ok (.getfield 188, 3) := dk_180 0 188 (dk_at dksX7_line_24 15 rfl rfl)
theorem dX7_line_585 : decode cX7_line 585 = .ok (.invokevirtual 110, 3) := dk_182 0 110 (dk_at dksX7_line_24 18 rfl rfl)
theorem dX7_line_588 : decode cX7_line 588 = .ok (.aload_n 0, 1) := dk_42 (dk_at dksX7_line_24 21 rfl rfl)
theorem dX7_line_589 : decode cX7_line 589 = .ok (.getfield 18, 3) := dk_180 0 18 (dk_at dksX7_line_25 0 rfl rfl)
theorem dX7_line_592 : decode cX7_line 592 = .ok (.iconst 1, 1) := dk_4 (dk_at dksX7_line_25 3 rfl rfl)
theorem dX7_line_593 : decode cX7_line 593 = .ok (.putfield 188, 3) := dk_181 0 188 (dk_at dksX7_line_25 4 rfl rfl)
theorem dX7_line_596 : decode cX7_line 596 = .ok (.aload_n 0, 1) := dk_42 (dk_at dksX7_line_25 7 rfl rfl)
theorem dX7_line_597 : decode cX7_line 597 = .ok (.invokevirtual 107, 3) := dk_182 0 107 (dk_at dksX7_line_25 8 rfl rfl)
theorem dX7_line_600 : decode cX7_line 600 = .ok (.aload_n 0, 1) := dk_42 (dk_at dksX7_line_25 11 rfl rfl)
theorem dX7_line_601 : decode cX7_line 601 = .ok (.getfield 18, 3) := dk_180 0 18 (dk_at dksX7_line_25 12 rfl rfl)
theorem dX7_line_604 : decode cX7_line 604 = .ok (.aload_n 0, 1) := dk_42 (dk_at dksX7_line_25 15 rfl rfl)
theorem dX7_line_605 : decode cX7_line 605 = .ok (.iconst 0, 1) := dk_3 (dk_at dksX7_line_25 16 rfl rfl)
theorem dX7_line_606 : decode cX7_line 606 = .ok (.sipush 999, 3) := dk_17 3 231 (dk_at dksX7_line_25 17 rfl rfl)
theorem dX7_line_609 : decode cX7_line 609 = .ok (.invokevirtual 141, 3) := dk_182 0 141 (dk_at dksX7_line_25 20 rfl rfl)
theorem dX7_line_612 : decode cX7_line 612 = .ok (.putfield 192, 3) := dk_181 0 192 (dk_at dksX7_line_26 0 rfl rfl)
theorem dX7_line_615 : decode cX7_line 615 = .ok (.goto 187, 3) := dk_167 0 187 (dk_at dksX7_line_26 3 rfl rfl)
theorem dX7_line_618 : decode cX7_line 618 = .ok (.aload_n 0, 1) := dk_42 (dk_at dksX7_line_26 6 rfl rfl)
theorem dX7_line_619 : decode cX7_line 619 = .ok (.invokevirtual 107, 3) := dk_182 0 107 (dk_at dksX7_line_26 7 rfl rfl)
theorem dX7_line_622 : decode cX7_line 622 = .ok (.aload_n 0, 1) := dk_42 (dk_at dksX7_line_26 10 rfl rfl)
theorem dX7_line_623 : decode cX7_line 623 = .ok (.bipush 9, 2) := dk_16 9 (dk_at dksX7_line_26 11 rfl rfl)
theorem dX7_line_625 : decode cX7_line 625 = .ok (.invokevirtual 195, 3) := dk_182 0 195 (dk_at dksX7_line_26 13 rfl rfl)
theorem dX7_line_628 : decode cX7_line 628 = .ok (.ifCond .ne 17, 3) := dk_154 0 17 (dk_at dksX7_line_26 16 rfl rfl)
theorem dX7_line_631 : decode cX7_line 631 = .ok (.aload_n 0, 1) := dk_42 (dk_at dksX7_line_26 19 rfl rfl)
theorem dX7_line_632 : decode cX7_line 632 = .ok (.bipush 10, 2) := dk_16 10 (dk_at dksX7_line_26 20 rfl rfl)
theorem dX7_line_634 : decode cX7_line 634 = .ok (.invokevirtual 195, 3) := dk_182 0 195 (dk_at dksX7_line_27 0 rfl rfl)
theorem dX7_line_637 : decode cX7_line 637 = .ok (.ifCond .ne 8, 3) := dk_154 0 8 (dk_at dksX7_line_27 3 rfl rfl)
theorem dX7_line_640 : decode cX7_line 640 = .ok (.aload_n 0, 1) := dk_42 (dk_at dksX7_line_27 6 rfl rfl)
theorem dX7_line_641 : decode cX7_line 641 = .ok (.invokevirtual 99, 3) := dk_182 0 99 (dk_at dksX7_line_27 7 rfl rfl)
theorem dX7_line_644 : decode cX7_line 644 = .ok (.athrow, 1) := dk_191 (dk_at dksX7_line_27 10 rfl rfl)
theorem dX7_line_645 : decode cX7_line 645 = .ok (.aload_n 0, 1) := dk_42 (dk_at dksX7_line_27 11 rfl rfl)
theorem dX7_line_646 : decode cX7_line 646 = .ok (.getfield 66, 3) := dk_180 0 66 (dk_at dksX7_line_27 12 rfl rfl)
theorem dX7_line_649 : decode cX7_line 649 = .ok (.bipush 9, 2) := dk_16 9 (dk_at dksX7_line_27 15 rfl rfl)
theorem dX7_line_651 : decode cX7_line 651 = .ok (.if_icmp .ne 7, 3) := dk_160 0 7 (dk_at dksX7_line_27 17 rfl rfl)
theorem dX7_line_654 : decode cX7_line 654 = .ok (.iconst 1, 1) := dk_4 (dk_at dksX7_line_27 20 rfl rfl)
theorem dX7_line_655 : decode cX7_line 655 = .ok (.goto 4, 3) := dk_167 0 4 (dk_at dksX7_line_27 21 rfl rfl)
theorem dX7_line_658 : decode cX7_line 658 = .ok (.iconst 0, 1) := dk_3 (dk_at dksX7_line_28 0 rfl rfl)
theorem dX7_line_659 : decode cX7_line 659 = .ok (.istore_n 1, 1) := dk_60 (dk_at dksX7_line_28 1 rfl rfl)
theorem dX7_line_660 : decode cX7_line 660 = .ok (.aload_n 0, 1) := dk_42 (dk_at dksX7_line_28 2 rfl rfl)
theorem dX7_line_661 : decode cX7_line 661 = .ok (.iload_n 1, 1) := dk_27 (dk_at dksX7_line_28 3 rfl rfl)
theorem dX7_line_662 : decode cX7_line 662 = .ok (.ifCond .eq 21, 3) := dk_153 0 21 (dk_at dksX7_line_28 4 rfl rfl)
theorem dX7_line_665 : decode cX7_line 665 = .ok (.aload_n 0, 1) := dk_42 (dk_at dksX7_line_28 7 rfl rfl)
theorem dX7_line_666 : decode cX7_line 666 = .ok (.getfield 18, 3) := dk_180 0 18 (dk_at dksX7_line_28 8 rfl rfl)
theorem dX7_line_669 : decode cX7_line 669 = .ok (.getfield 198, 3) := dk_180 0 198 (dk_at dksX7_line_28 11 rfl rfl)
theorem dX7_line_672 : decode cX7_line 672 = .ok (.ifnull 7, 3) := dk_198 0 7 (dk_at dksX7_line_28 14 rfl rfl)
theorem dX7_line_675 : decode cX7_line 675 = .ok (.iconst 1, 1) := dk_4 (dk_at dksX7_line_28 17 rfl rfl)
theorem dX7_line_676 : decode cX7_line 676 = .ok (.goto 22, 3) := dk_167 0 22 (dk_at dksX7_line_28 18 rfl rfl)
theorem dX7_line_679 : decode cX7_line 679 = .ok (.iconst 0, 1) := dk_3 (dk_at dksX7_line_28 21 rfl rfl)
theorem dX7_line_680 : decode cX7_line 680 = .ok (.goto 18, 3) := dk_167 0 18 (dk_at dksX7_line_29 0 rfl rfl)
theorem dX7_line_683 : decode cX7_line 683 = .ok (.aload_n 0, 1) := dk_42 (dk_at dksX7_line_29 3 rfl rfl)
theorem dX7_line_684 : decode cX7_line 684 = .ok (.getfield 18, 3) := dk_180 0 18 (dk_at dksX7_line_29 4 rfl rfl)
theorem dX7_line_687 : decode cX7_line 687 = .ok (.getfield 202, 3) := dk_180 0 202 (dk_at dksX7_line_29 7 rfl rfl)
theorem dX7_line_690 : decode cX7_line 690 = .ok (.ifnull 7, 3) := dk_198 0 7 (dk_at dksX7_line_29 10 rfl rfl)
theorem dX7_line_693 : decode cX7_line 693 = .ok (.iconst 1, 1) := dk_4 (dk_at dksX7_line_29 13 rfl rfl)
theorem dX7_line_694 : decode cX7_line 694 = .ok (.goto 4, 3) := dk_167 0 4 (dk_at dksX7_line_29 14 rfl rfl)
theorem dX7_line_697 : decode cX7_line 697 = .ok (.iconst 0, 1) := dk_3 (dk_at dksX7_line_29 17 rfl rfl)
theorem dX7_line_698 : decode cX7_line 698 = .ok (.invokevirtual 110, 3) := dk_182 0 110 (dk_at dksX7_line_29 18 rfl rfl)
theorem dX7_line_701 : decode cX7_line 701 = .ok (.aload_n 0, 1) := dk_42 (dk_at dksX7_line_29 21 rfl rfl)
theorem dX7_line_702 : decode cX7_line 702 = .ok (.invokevirtual 107, 3) := dk_182 0 107 (dk_at dksX7_line_30 0 rfl rfl)
theorem dX7_line_705 : decode cX7_line 705 = .ok (.aload_n 0, 1) := dk_42 (dk_at dksX7_line_30 3 rfl rfl)
theorem dX7_line_706 : decode cX7_line 706 = .ok (.invokevirtual 205, 3) := dk_182 0 205 (dk_at dksX7_line_30 4 rfl rfl)
theorem dX7_line_709 : decode cX7_line 709 = .ok (.astore_n 2, 1) := dk_77 (dk_at dksX7_line_30 7 rfl rfl)
theorem dX7_line_710 : decode cX7_line 710 = .ok (.iload_n 1, 1) := dk_27 (dk_at dksX7_line_30 8 rfl rfl)
theorem dX7_line_711 : decode cX7_line 711 = .ok (.ifCond .eq 14, 3) := dk_153 0 14 (dk_at dksX7_line_30 9 rfl rfl)
theorem dX7_line_714 : decode cX7_line 714 = .ok (.aload_n 0, 1) := dk_42 (dk_at dksX7_line_30 12 rfl rfl)
theorem dX7_line_715 : decode cX7_line 715 = .ok (.getfield 18, 3) := dk_180 0 18 (dk_at dksX7_line_30 13 rfl rfl)
theorem dX7_line_718 : decode cX7_line 718 = .ok (.aload_n 2, 1) := dk_44 (dk_at dksX7_line_30 16 rfl rfl)
theorem dX7_line_719 : decode cX7_line 719 = .ok (.putfield 198, 3) := dk_181 0 198 (dk_at dksX7_line_30 17 rfl rfl)
theorem dX7_line_722 : decode cX7_line 722 = .ok (.goto 80, 3) := dk_167 0 80 (dk_at dksX7_line_30 20 rfl rfl)
theorem dX7_line_725 : decode cX7_line 725 = .ok (.aload_n 0, 1) := dk_42 (dk_at dksX7_line_30 23 rfl rfl)
theorem dX7_line_726 : decode cX7_line 726 = .ok (.getfield 18, 3) := dk_180 0 18 (dk_at dksX7_line_31 0 rfl rfl)
theorem dX7_line_729 : decode cX7_line 729 = .ok (.aload_n 2, 1) := dk_44 (dk_at dksX7_line_31 3 rfl rfl)
theorem dX7_line_730 : decode cX7_line 730 = .ok (.putfield 202, 3) := dk_181 0 202 (dk_at dksX7_line_31 4 rfl rfl)
theorem dX7_line_733 : decode cX7_line 733 = .ok (.goto 69, 3) := dk_167 0 69 (dk_at dksX7_line_31 7 rfl rfl)
theorem dX7_line_736 : decode cX7_line 736 = .ok (.aload_n 0, 1) := dk_42 (dk_at dksX7_line_31 10 rfl rfl)
theorem dX7_line_737 : decode cX7_line 737 = .ok (.aload_n 0, 1) := dk_42 (dk_at dksX7_line_31 11 rfl rfl)
theorem dX7_line_738 : decode cX7_line 738 = .ok (.getfield 18, 3) := dk_180 0 18 (dk_at dksX7_line_31 12 rfl rfl)
theorem dX7_line_741 : decode cX7_line 741 = .ok (.getfield 209, 3) := dk_180 0 209 (dk_at dksX7_line_31 15 rfl rfl)
theorem dX7_line_744 : decode cX7_line 744 = .ok (.invokevirtual 126, 3) := dk_182 0 126 (dk_at dksX7_line_31 18 rfl rfl)
theorem dX7_line_747 : decode cX7_line 747 = .ok (.iconst 4, 1) := dk_7 (dk_at dksX7_line_31 21 rfl rfl)
theorem dX7_line_748 : decode cX7_line 748 = .ok (.if_icmp .ne 7, 3) := dk_160 0 7 (dk_at dksX7_line_32 0 rfl rfl)
theorem dX7_line_751 : decode cX7_line 751 = .ok (.iconst 1, 1) := dk_4 (dk_at dksX7_line_32 3 rfl rfl)
theorem dX7_line_752 : decode cX7_line 752 = .ok (.goto 4, 3) := dk_167 0 4 (dk_at dksX7_line_32 4 rfl rfl)
theorem dX7_line_755 : decode cX7_line 755 = .ok (.iconst 0, 1) := dk_3 (dk_at dksX7_line_32 7 rfl rfl)
theorem dX7_line_756 : decode cX7_line 756 = .ok (.invokevirtual 103, 3) := dk_182 0 103 (dk_at dksX7_line_32 8 rfl rfl)
theorem dX7_line_759 : decode cX7_line 759 = .ok (.aload_n 0, 1) := dk_42 (dk_at dksX7_line_32 11 rfl rfl)
theorem dX7_line_760 : decode cX7_line 760 = .ok (.invokevirtual 107, 3) := dk_182 0 107 (dk_at dksX7_line_32 12 rfl rfl)
theorem dX7_line_763 : decode cX7_line 763 = .ok (.aload_n 0, 1) := dk_42 (dk_at dksX7_line_32 15 rfl rfl)
theorem dX7_line_764 : decode cX7_line 764 = .ok (.aload_n 0, 1) := dk_42 (dk_at dksX7_line_32 16 rfl rfl)
theorem dX7_line_765 : decode cX7_line 765 = .ok (.getfield 18, 3) := dk_180 0 18 (dk_at dksX7_line_32 17 rfl rfl)
theorem dX7_line_768 : decode cX7_line 768 = .ok (.aload_n 0, 1) := dk_42 (dk_at dksX7_line_32 20 rfl rfl)
theorem dX7_line_769 : decode cX7_line 769 = .ok (.invokevirtual 130, 3) := dk_182 0 130 (dk_at dksX7_line_32 21 rfl rfl)
theorem dX7_line_772 : decode cX7_line 772 = .ok (.invokevirtual 212, 3) := dk_182 0 212 (dk_at dksX7_line_33 0 rfl rfl)
theorem dX7_line_775 : decode cX7_line 775 = .ok (.invokevirtual 136, 3) := dk_182 0 136 (dk_at dksX7_line_33 3 rfl rfl)
theorem dX7_line_778 : decode cX7_line 778 = .ok (.istore_n 1, 1) := dk_60 (dk_at dksX7_line_33 6 rfl rfl)
theorem dX7_line_779 : decode cX7_line 779 = .ok (.aload_n 0, 1) := dk_42 (dk_at dksX7_line_33 7 rfl rfl)
theorem dX7_line_780 : decode cX7_line 780 = .ok (.getfield 18, 3) := dk_180 0 18 (dk_at dksX7_line_33 8 rfl rfl)
theorem dX7_line_783 : decode cX7_line 783 = .ok (.getfield 209, 3) := dk_180 0 209 (dk_at dksX7_line_33 11 rfl rfl)
theorem dX7_line_786 : decode cX7_line 786 = .ok (.new 215, 3) := dk_187 0 215 (dk_at dksX7_line_33 14 rfl rfl)
theorem dX7_line_789 : decode cX7_line 789 = .ok (.dup, 1) := dk_89 (dk_at dksX7_line_33 17 rfl rfl)
theorem dX7_line_790 : decode cX7_line 790 = .ok (.iload_n 1, 1) := dk_27 (dk_at dksX7_line_33 18 rfl rfl)
theorem dX7_line_791 : decode cX7_line 791 = .ok (.aload_n 0, 1) := dk_42 (dk_at dksX7_line_33 19 rfl rfl)
theorem dX7_line_792 : decode cX7_line 792 = .ok (.invokevirtual 205, 3) := dk_182 0 205 (dk_at dksX7_line_33 20 rfl rfl)
theorem dX7_line_795 : decode cX7_line 795 = .ok (.invokespecial 217, 3) := dk_183 0 217 (dk_at dksX7_line_34 0 rfl rfl)
theorem dX7_line_798 : decode cX7_line 798 = .ok (.invokevirtual 145, 3) := dk_182 0 145 (dk_at dksX7_line_34 3 rfl rfl)
theorem dX7_line_801 : decode cX7_line 801 = .ok (.pop, 1) := dk_87 (dk_at dksX7_line_34 6 rfl rfl)
theorem dX7_line_802 : decode cX7_line 802 = .ok (.return_, 1) := dk_177 (dk_at dksX7_line_34 7 rfl rfl)
abbrev cX7_much : ByteArray := prog_17_method_11_code
def yX7_much : MethodName := ⟨RX7, "much", "(Z)V"⟩
def dkwX7_much_0 : List UInt8 := [27, 153, 0, 16, 187, 0, 94, 89, 5, 42, 180, 0, 41, 183, 0, 96, 191, 177]
abbrev dktX7_much_0 : List UInt8 := dkwX7_much_0 ++ []
theorem dksX7_much_0 : cX7_much.data.toList.drop 0 = dktX7_much_0 := by decide +kernel
theorem dX7_much_0 : decode cX7_much 0 = .ok (.iload_n 1, 1) := dk_27 (dk_at dksX7_much_0 0 rfl rfl)
theorem dX7_much_1 : decode cX7_much 1 = .ok (.ifCond .eq 16, 3) := dk_153 0 16 (dk_at dksX7_much_0 1 rfl rfl)
theorem dX7_much_4 : decode cX7_much 4 = .ok (.new 94, 3) := dk_187 0 94 (dk_at dksX7_much_0 4 rfl rfl)
theorem dX7_much_7 : decode cX7_much 7 = .ok (.dup, 1) := dk_89 (dk_at dksX7_much_0 7 rfl rfl)
theorem dX7_much_8 : decode cX7_much 8 = .ok (.iconst 2, 1) := dk_5 (dk_at dksX7_much_0 8 rfl rfl)
theorem dX7_much_9 : decode cX7_much 9 = .ok (.aload_n 0, 1) := dk_42 (dk_at dksX7_much_0 9 rfl rfl)
theorem dX7_much_10 : decode cX7_much 10 = .ok (.getfield 41, 3) := dk_180 0 41 (dk_at dksX7_much_0 10 rfl rfl)
theorem dX7_much_13 : decode cX7_much 13 = .ok (.invokespecial 96, 3) := dk_183 0 96 (dk_at dksX7_much_0 13 rfl rfl)
theorem dX7_much_16 : decode cX7_much 16 = .ok (.athrow, 1) := dk_191 (dk_at dksX7_much_0 16 rfl rfl)
theorem dX7_much_17 : decode cX7_much 17 = .ok (.return_, 1) := dk_177 (dk_at dksX7_much_0 17 rfl rfl)
abbrev cX7_name : ByteArray := prog_17_method_16_code
def yX7_name : MethodName := ⟨RX7, "name", "()I"⟩
def dkwX7_name_0 : List UInt8 := [42, 180, 0, 44, 5, 159, 0, 8, 42, 182, 0, 99, 191, 42, 180, 0, 66, 172]
abbrev dktX7_name_0 : List UInt8 := dkwX7_name_0 ++ []
theorem dksX7_name_0 : cX7_name.data.toList.drop 0 = dktX7_name_0 := by decide +kernel
theorem dX7_name_0 : decode cX7_name 0 = .ok (.aload_n 0, 1) := dk_42 (dk_at dksX7_name_0 0 rfl rfl)
theorem dX7_name_1 : decode cX7_name 1 = .ok (.getfield 44, 3) := dk_180 0 44 (dk_at dksX7_name_0 1 rfl rfl)
theorem dX7_name_4 : decode cX7_name 4 = .ok (.iconst 2, 1) := dk_5 (dk_at dksX7_name_0 4 rfl rfl)
theorem dX7_name_5 : decode cX7_name 5 = .ok (.if_icmp .eq 8, 3) := dk_159 0 8 (dk_at dksX7_name_0 5 rfl rfl)
theorem dX7_name_8 : decode cX7_name 8 = .ok (.aload_n 0, 1) := dk_42 (dk_at dksX7_name_0 8 rfl rfl)
theorem dX7_name_9 : decode cX7_name 9 = .ok (.invokevirtual 99, 3) := dk_182 0 99 (dk_at dksX7_name_0 9 rfl rfl)
theorem dX7_name_12 : decode cX7_name 12 = .ok (.athrow, 1) := dk_191 (dk_at dksX7_name_0 12 rfl rfl)
theorem dX7_name_13 : decode cX7_name 13 = .ok (.aload_n 0, 1) := dk_42 (dk_at dksX7_name_0 13 rfl rfl)
theorem dX7_name_14 : decode cX7_name 14 = .ok (.getfield 66, 3) := dk_180 0 66 (dk_at dksX7_name_0 14 rfl rfl)
theorem dX7_name_17 : decode cX7_name 17 = .ok (.ireturn, 1) := dk_172 (dk_at dksX7_name_0 17 rfl rfl)
abbrev cX7_newName : ByteArray := prog_17_method_17_code
def yX7_newName : MethodName := ⟨RX7, "newName", "(I)I"⟩
def dkwX7_newName_0 : List UInt8 := [42, 27, 155, 0, 7, 4, 167, 0, 4, 3, 182, 0, 110, 42, 180, 0, 66, 61, 42, 182, 0, 107, 28, 172]
abbrev dktX7_newName_0 : List UInt8 := dkwX7_newName_0 ++ []
theorem dksX7_newName_0 : cX7_newName.data.toList.drop 0 = dktX7_newName_0 := by decide +kernel
theorem dX7_newName_0 : decode cX7_newName 0 = .ok (.aload_n 0, 1) := dk_42 (dk_at dksX7_newName_0 0 rfl rfl)
theorem dX7_newName_1 : decode cX7_newName 1 = .ok (.iload_n 1, 1) := dk_27 (dk_at dksX7_newName_0 1 rfl rfl)
theorem dX7_newName_2 : decode cX7_newName 2 = .ok (.ifCond .lt 7, 3) := dk_155 0 7 (dk_at dksX7_newName_0 2 rfl rfl)
theorem dX7_newName_5 : decode cX7_newName 5 = .ok (.iconst 1, 1) := dk_4 (dk_at dksX7_newName_0 5 rfl rfl)
theorem dX7_newName_6 : decode cX7_newName 6 = .ok (.goto 4, 3) := dk_167 0 4 (dk_at dksX7_newName_0 6 rfl rfl)
theorem dX7_newName_9 : decode cX7_newName 9 = .ok (.iconst 0, 1) := dk_3 (dk_at dksX7_newName_0 9 rfl rfl)
theorem dX7_newName_10 : decode cX7_newName 10 = .ok (.invokevirtual 110, 3) := dk_182 0 110 (dk_at dksX7_newName_0 10 rfl rfl)
theorem dX7_newName_13 : decode cX7_newName 13 = .ok (.aload_n 0, 1) := dk_42 (dk_at dksX7_newName_0 13 rfl rfl)
theorem dX7_newName_14 : decode cX7_newName 14 = .ok (.getfield 66, 3) := dk_180 0 66 (dk_at dksX7_newName_0 14 rfl rfl)
theorem dX7_newName_17 : decode cX7_newName 17 = .ok (.istore_n 2, 1) := dk_61 (dk_at dksX7_newName_0 17 rfl rfl)
theorem dX7_newName_18 : decode cX7_newName 18 = .ok (.aload_n 0, 1) := dk_42 (dk_at dksX7_newName_0 18 rfl rfl)
theorem dX7_newName_19 : decode cX7_newName 19 = .ok (.invokevirtual 107, 3) := dk_182 0 107 (dk_at dksX7_newName_0 19 rfl rfl)
theorem dX7_newName_22 : decode cX7_newName 22 = .ok (.iload_n 2, 1) := dk_28 (dk_at dksX7_newName_0 22 rfl rfl)
theorem dX7_newName_23 : decode cX7_newName 23 = .ok (.ireturn, 1) := dk_172 (dk_at dksX7_newName_0 23 rfl rfl)
abbrev cX7_told : ByteArray := prog_17_method_12_code
def yX7_told : MethodName := ⟨RX7, "told", "(Z)V"⟩
def dkwX7_told_0 : List UInt8 := [27, 153, 0, 16, 187, 0, 94, 89, 6, 42, 180, 0, 41, 183, 0, 96, 191, 177]
abbrev dktX7_told_0 : List UInt8 := dkwX7_told_0 ++ []
theorem dksX7_told_0 : cX7_told.data.toList.drop 0 = dktX7_told_0 := by decide +kernel
theorem dX7_told_0 : decode cX7_told 0 = .ok (.iload_n 1, 1) := dk_27 (dk_at dksX7_told_0 0 rfl rfl)
theorem dX7_told_1 : decode cX7_told 1 = .ok (.ifCond .eq 16, 3) := dk_153 0 16 (dk_at dksX7_told_0 1 rfl rfl)
theorem dX7_told_4 : decode cX7_told 4 = .ok (.new 94, 3) := dk_187 0 94 (dk_at dksX7_told_0 4 rfl rfl)
theorem dX7_told_7 : decode cX7_told 7 = .ok (.dup, 1) := dk_89 (dk_at dksX7_told_0 7 rfl rfl)
theorem dX7_told_8 : decode cX7_told 8 = .ok (.iconst 3, 1) := dk_6 (dk_at dksX7_told_0 8 rfl rfl)
theorem dX7_told_9 : decode cX7_told 9 = .ok (.aload_n 0, 1) := dk_42 (dk_at dksX7_told_0 9 rfl rfl)
theorem dX7_told_10 : decode cX7_told 10 = .ok (.getfield 41, 3) := dk_180 0 41 (dk_at dksX7_told_0 10 rfl rfl)
theorem dX7_told_13 : decode cX7_told 13 = .ok (.invokespecial 96, 3) := dk_183 0 96 (dk_at dksX7_told_0 13 rfl rfl)
theorem dX7_told_16 : decode cX7_told 16 = .ok (.athrow, 1) := dk_191 (dk_at dksX7_told_0 16 rfl rfl)
theorem dX7_told_17 : decode cX7_told 17 = .ok (.return_, 1) := dk_177 (dk_at dksX7_told_0 17 rfl rfl)
abbrev cX7_number : ByteArray := prog_17_method_15_code
def yX7_number : MethodName := ⟨RX7, "number", "(II)I"⟩
def dkwX7_number_1 : List UInt8 := [154, 0, 7, 4, 167, 0, 4, 3, 182, 0, 103, 42, 180, 0, 66, 62, 42, 182, 0, 107, 29, 172]
abbrev dktX7_number_1 : List UInt8 := dkwX7_number_1 ++ []
def dkwX7_number_0 : List UInt8 := [42, 180, 0, 44, 6, 159, 0, 8, 42, 182, 0, 99, 191, 42, 42, 180, 0, 66, 27, 28, 184, 0, 34]
abbrev dktX7_number_0 : List UInt8 := dkwX7_number_0 ++ dktX7_number_1
theorem dksX7_number_0 : cX7_number.data.toList.drop 0 = dktX7_number_0 := by decide +kernel
theorem dksX7_number_1 : cX7_number.data.toList.drop 23 = dktX7_number_1 := dk_seg dksX7_number_0 23 rfl rfl
theorem dX7_number_0 : decode cX7_number 0 = .ok (.aload_n 0, 1) := dk_42 (dk_at dksX7_number_0 0 rfl rfl)
theorem dX7_number_1 : decode cX7_number 1 = .ok (.getfield 44, 3) := dk_180 0 44 (dk_at dksX7_number_0 1 rfl rfl)
theorem dX7_number_4 : decode cX7_number 4 = .ok (.iconst 3, 1) := dk_6 (dk_at dksX7_number_0 4 rfl rfl)
theorem dX7_number_5 : decode cX7_number 5 = .ok (.if_icmp .eq 8, 3) := dk_159 0 8 (dk_at dksX7_number_0 5 rfl rfl)
theorem dX7_number_8 : decode cX7_number 8 = .ok (.aload_n 0, 1) := dk_42 (dk_at dksX7_number_0 8 rfl rfl)
theorem dX7_number_9 : decode cX7_number 9 = .ok (.invokevirtual 99, 3) := dk_182 0 99 (dk_at dksX7_number_0 9 rfl rfl)
theorem dX7_number_12 : decode cX7_number 12 = .ok (.athrow, 1) := dk_191 (dk_at dksX7_number_0 12 rfl rfl)
theorem dX7_number_13 : decode cX7_number 13 = .ok (.aload_n 0, 1) := dk_42 (dk_at dksX7_number_0 13 rfl rfl)
theorem dX7_number_14 : decode cX7_number 14 = .ok (.aload_n 0, 1) := dk_42 (dk_at dksX7_number_0 14 rfl rfl)
theorem dX7_number_15 : decode cX7_number 15 = .ok (.getfield 66, 3) := dk_180 0 66 (dk_at dksX7_number_0 15 rfl rfl)
theorem dX7_number_18 : decode cX7_number 18 = .ok (.iload_n 1, 1) := dk_27 (dk_at dksX7_number_0 18 rfl rfl)
theorem dX7_number_19 : decode cX7_number 19 = .ok (.iload_n 2, 1) := dk_28 (dk_at dksX7_number_0 19 rfl rfl)
theorem dX7_number_20 : decode cX7_number 20 = .ok (.invokestatic 34, 3) := dk_184 0 34 (dk_at dksX7_number_0 20 rfl rfl)
theorem dX7_number_23 : decode cX7_number 23 = .ok (.ifCond .ne 7, 3) := dk_154 0 7 (dk_at dksX7_number_1 0 rfl rfl)
theorem dX7_number_26 : decode cX7_number 26 = .ok (.iconst 1, 1) := dk_4 (dk_at dksX7_number_1 3 rfl rfl)
theorem dX7_number_27 : decode cX7_number 27 = .ok (.goto 4, 3) := dk_167 0 4 (dk_at dksX7_number_1 4 rfl rfl)
theorem dX7_number_30 : decode cX7_number 30 = .ok (.iconst 0, 1) := dk_3 (dk_at dksX7_number_1 7 rfl rfl)
theorem dX7_number_31 : decode cX7_number 31 = .ok (.invokevirtual 103, 3) := dk_182 0 103 (dk_at dksX7_number_1 8 rfl rfl)
theorem dX7_number_34 : decode cX7_number 34 = .ok (.aload_n 0, 1) := dk_42 (dk_at dksX7_number_1 11 rfl rfl)
theorem dX7_number_35 : decode cX7_number 35 = .ok (.getfield 66, 3) := dk_180 0 66 (dk_at dksX7_number_1 12 rfl rfl)
theorem dX7_number_38 : decode cX7_number 38 = .ok (.istore_n 3, 1) := dk_62 (dk_at dksX7_number_1 15 rfl rfl)
theorem dX7_number_39 : decode cX7_number 39 = .ok (.aload_n 0, 1) := dk_42 (dk_at dksX7_number_1 16 rfl rfl)
theorem dX7_number_40 : decode cX7_number 40 = .ok (.invokevirtual 107, 3) := dk_182 0 107 (dk_at dksX7_number_1 17 rfl rfl)
theorem dX7_number_43 : decode cX7_number 43 = .ok (.iload_n 3, 1) := dk_29 (dk_at dksX7_number_1 20 rfl rfl)
theorem dX7_number_44 : decode cX7_number 44 = .ok (.ireturn, 1) := dk_172 (dk_at dksX7_number_1 21 rfl rfl)
abbrev cX7_there : ByteArray := prog_17_method_18_code
def yX7_there : MethodName := ⟨RX7, "there", "(I)I"⟩
def dkwX7_there_0 : List UInt8 := [27, 156, 0, 16, 187, 0, 94, 89, 7, 42, 180, 0, 41, 183, 0, 96, 191, 42, 182, 0, 107, 27, 172]
abbrev dktX7_there_0 : List UInt8 := dkwX7_there_0 ++ []
theorem dksX7_there_0 : cX7_there.data.toList.drop 0 = dktX7_there_0 := by decide +kernel
theorem dX7_there_0 : decode cX7_there 0 = .ok (.iload_n 1, 1) := dk_27 (dk_at dksX7_there_0 0 rfl rfl)
theorem dX7_there_1 : decode cX7_there 1 = .ok (.ifCond .ge 16, 3) := dk_156 0 16 (dk_at dksX7_there_0 1 rfl rfl)
theorem dX7_there_4 : decode cX7_there 4 = .ok (.new 94, 3) := dk_187 0 94 (dk_at dksX7_there_0 4 rfl rfl)
theorem dX7_there_7 : decode cX7_there 7 = .ok (.dup, 1) := dk_89 (dk_at dksX7_there_0 7 rfl rfl)
theorem dX7_there_8 : decode cX7_there 8 = .ok (.iconst 4, 1) := dk_7 (dk_at dksX7_there_0 8 rfl rfl)
theorem dX7_there_9 : decode cX7_there 9 = .ok (.aload_n 0, 1) := dk_42 (dk_at dksX7_there_0 9 rfl rfl)
theorem dX7_there_10 : decode cX7_there 10 = .ok (.getfield 41, 3) := dk_180 0 41 (dk_at dksX7_there_0 10 rfl rfl)
theorem dX7_there_13 : decode cX7_there 13 = .ok (.invokespecial 96, 3) := dk_183 0 96 (dk_at dksX7_there_0 13 rfl rfl)
theorem dX7_there_16 : decode cX7_there 16 = .ok (.athrow, 1) := dk_191 (dk_at dksX7_there_0 16 rfl rfl)
theorem dX7_there_17 : decode cX7_there 17 = .ok (.aload_n 0, 1) := dk_42 (dk_at dksX7_there_0 17 rfl rfl)
theorem dX7_there_18 : decode cX7_there 18 = .ok (.invokevirtual 107, 3) := dk_182 0 107 (dk_at dksX7_there_0 18 rfl rfl)
theorem dX7_there_21 : decode cX7_there 21 = .ok (.iload_n 1, 1) := dk_27 (dk_at dksX7_there_0 21 rfl rfl)
theorem dX7_there_22 : decode cX7_there 22 = .ok (.ireturn, 1) := dk_172 (dk_at dksX7_there_0 22 rfl rfl)
abbrev cX7_isKey : ByteArray := prog_17_method_14_code
def yX7_isKey : MethodName := ⟨RX7, "isKey", "(I)Z"⟩
def dkwX7_isKey_0 : List UInt8 := [42, 180, 0, 44, 4, 160, 0, 15, 42, 180, 0, 66, 27, 160, 0, 7, 4, 167, 0, 4, 3, 172]
abbrev dktX7_isKey_0 : List UInt8 := dkwX7_isKey_0 ++ []
theorem dksX7_isKey_0 : cX7_isKey.data.toList.drop 0 = dktX7_isKey_0 := by decide +kernel
theorem dX7_isKey_0 : decode cX7_isKey 0 = .ok (.aload_n 0, 1) := dk_42 (dk_at dksX7_isKey_0 0 rfl rfl)
theorem dX7_isKey_1 : decode cX7_isKey 1 = .ok (.getfield 44, 3) := dk_180 0 44 (dk_at dksX7_isKey_0 1 rfl rfl)
theorem dX7_isKey_4 : decode cX7_isKey 4 = .ok (.iconst 1, 1) := dk_4 (dk_at dksX7_isKey_0 4 rfl rfl)
theorem dX7_isKey_5 : decode cX7_isKey 5 = .ok (.if_icmp .ne 15, 3) := dk_160 0 15 (dk_at dksX7_isKey_0 5 rfl rfl)
theorem dX7_isKey_8 : decode cX7_isKey 8 = .ok (.aload_n 0, 1) := dk_42 (dk_at dksX7_isKey_0 8 rfl rfl)
theorem dX7_isKey_9 : decode cX7_isKey 9 = .ok (.getfield 66, 3) := dk_180 0 66 (dk_at dksX7_isKey_0 9 rfl rfl)
theorem dX7_isKey_12 : decode cX7_isKey 12 = .ok (.iload_n 1, 1) := dk_27 (dk_at dksX7_isKey_0 12 rfl rfl)
theorem dX7_isKey_13 : decode cX7_isKey 13 = .ok (.if_icmp .ne 7, 3) := dk_160 0 7 (dk_at dksX7_isKey_0 13 rfl rfl)
theorem dX7_isKey_16 : decode cX7_isKey 16 = .ok (.iconst 1, 1) := dk_4 (dk_at dksX7_isKey_0 16 rfl rfl)
theorem dX7_isKey_17 : decode cX7_isKey 17 = .ok (.goto 4, 3) := dk_167 0 4 (dk_at dksX7_isKey_0 17 rfl rfl)
theorem dX7_isKey_20 : decode cX7_isKey 20 = .ok (.iconst 0, 1) := dk_3 (dk_at dksX7_isKey_0 20 rfl rfl)
theorem dX7_isKey_21 : decode cX7_isKey 21 = .ok (.ireturn, 1) := dk_172 (dk_at dksX7_isKey_0 21 rfl rfl)
abbrev cX7_or : ByteArray := prog_17_method_22_code
def yX7_or : MethodName := ⟨RX7, "or", "()LMinistryDesks$Node;"⟩
def dkwX7_or_1 : List UInt8 := [187, 0, 229, 89, 3, 43, 42, 182, 0, 223, 183, 0, 231, 76, 167, 255, 225, 43, 176]
abbrev dktX7_or_1 : List UInt8 := dkwX7_or_1 ++ []
def dkwX7_or_0 : List UInt8 := [42, 182, 0, 223, 76, 42, 16, 12, 182, 0, 195, 153, 0, 28, 42, 182, 0, 226, 42, 182, 0, 107]
abbrev dktX7_or_0 : List UInt8 := dkwX7_or_0 ++ dktX7_or_1
theorem dksX7_or_0 : cX7_or.data.toList.drop 0 = dktX7_or_0 := by decide +kernel
theorem dksX7_or_1 : cX7_or.data.toList.drop 22 = dktX7_or_1 := dk_seg dksX7_or_0 22 rfl rfl
theorem dX7_or_0 : decode cX7_or 0 = .ok (.aload_n 0, 1) := dk_42 (dk_at dksX7_or_0 0 rfl rfl)
theorem dX7_or_1 : decode cX7_or 1 = .ok (.invokevirtual 223, 3) := dk_182 0 223 (dk_at dksX7_or_0 1 rfl rfl)
theorem dX7_or_4 : decode cX7_or 4 = .ok (.astore_n 1, 1) := dk_76 (dk_at dksX7_or_0 4 rfl rfl)
theorem dX7_or_5 : decode cX7_or 5 = .ok (.aload_n 0, 1) := dk_42 (dk_at dksX7_or_0 5 rfl rfl)
theorem dX7_or_6 : decode cX7_or 6 = .ok (.bipush 12, 2) := dk_16 12 (dk_at dksX7_or_0 6 rfl rfl)
theorem dX7_or_8 : decode cX7_or 8 = .ok (.invokevirtual 195, 3) := dk_182 0 195 (dk_at dksX7_or_0 8 rfl rfl)
theorem dX7_or_11 : decode cX7_or 11 = .ok (.ifCond .eq 28, 3) := dk_153 0 28 (dk_at dksX7_or_0 11 rfl rfl)
theorem dX7_or_14 : decode cX7_or 14 = .ok (.aload_n 0, 1) := dk_42 (dk_at dksX7_or_0 14 rfl rfl)
theorem dX7_or_15 : decode cX7_or 15 = .ok (.invokevirtual 226, 3) := dk_182 0 226 (dk_at dksX7_or_0 15 rfl rfl)
theorem dX7_or_18 : decode cX7_or 18 = .ok (.aload_n 0, 1) := dk_42 (dk_at dksX7_or_0 18 rfl rfl)
theorem dX7_or_19 : decode cX7_or 19 = .ok (.invokevirtual 107, 3) := dk_182 0 107 (dk_at dksX7_or_0 19 rfl rfl)
theorem dX7_or_22 : decode cX7_or 22 = .ok (.new 229, 3) := dk_187 0 229 (dk_at dksX7_or_1 0 rfl rfl)
theorem dX7_or_25 : decode cX7_or 25 = .ok (.dup, 1) := dk_89 (dk_at dksX7_or_1 3 rfl rfl)
theorem dX7_or_26 : decode cX7_or 26 = .ok (.iconst 0, 1) := dk_3 (dk_at dksX7_or_1 4 rfl rfl)
theorem dX7_or_27 : decode cX7_or 27 = .ok (.aload_n 1, 1) := dk_43 (dk_at dksX7_or_1 5 rfl rfl)
theorem dX7_or_28 : decode cX7_or 28 = .ok (.aload_n 0, 1) := dk_42 (dk_at dksX7_or_1 6 rfl rfl)
theorem dX7_or_29 : decode cX7_or 29 = .ok (.invokevirtual 223, 3) := dk_182 0 223 (dk_at dksX7_or_1 7 rfl rfl)
theorem dX7_or_32 : decode cX7_or 32 = .ok (.invokespecial 231, 3) := dk_183 0 231 (dk_at dksX7_or_1 10 rfl rfl)
theorem dX7_or_35 : decode cX7_or 35 = .ok (.astore_n 1, 1) := dk_76 (dk_at dksX7_or_1 13 rfl rfl)
theorem dX7_or_36 : decode cX7_or 36 = .ok (.goto (-31), 3) := dk_167 255 225 (dk_at dksX7_or_1 14 rfl rfl)
theorem dX7_or_39 : decode cX7_or 39 = .ok (.aload_n 1, 1) := dk_43 (dk_at dksX7_or_1 17 rfl rfl)
theorem dX7_or_40 : decode cX7_or 40 = .ok (.areturn, 1) := dk_176 (dk_at dksX7_or_1 18 rfl rfl)
abbrev cX7_and : ByteArray := prog_17_method_23_code
def yX7_and : MethodName := ⟨RX7, "and", "()LMinistryDesks$Node;"⟩
def dkwX7_and_1 : List UInt8 := [187, 0, 229, 89, 4, 43, 42, 182, 0, 234, 183, 0, 231, 76, 167, 255, 225, 43, 176]
abbrev dktX7_and_1 : List UInt8 := dkwX7_and_1 ++ []
def dkwX7_and_0 : List UInt8 := [42, 182, 0, 234, 76, 42, 16, 11, 182, 0, 195, 153, 0, 28, 42, 182, 0, 226, 42, 182, 0, 107]
abbrev dktX7_and_0 : List UInt8 := dkwX7_and_0 ++ dktX7_and_1
theorem dksX7_and_0 : cX7_and.data.toList.drop 0 = dktX7_and_0 := by decide +kernel
theorem dksX7_and_1 : cX7_and.data.toList.drop 22 = dktX7_and_1 := dk_seg dksX7_and_0 22 rfl rfl
theorem dX7_and_0 : decode cX7_and 0 = .ok (.aload_n 0, 1) := dk_42 (dk_at dksX7_and_0 0 rfl rfl)
theorem dX7_and_1 : decode cX7_and 1 = .ok (.invokevirtual 234, 3) := dk_182 0 234 (dk_at dksX7_and_0 1 rfl rfl)
theorem dX7_and_4 : decode cX7_and 4 = .ok (.astore_n 1, 1) := dk_76 (dk_at dksX7_and_0 4 rfl rfl)
theorem dX7_and_5 : decode cX7_and 5 = .ok (.aload_n 0, 1) := dk_42 (dk_at dksX7_and_0 5 rfl rfl)
theorem dX7_and_6 : decode cX7_and 6 = .ok (.bipush 11, 2) := dk_16 11 (dk_at dksX7_and_0 6 rfl rfl)
theorem dX7_and_8 : decode cX7_and 8 = .ok (.invokevirtual 195, 3) := dk_182 0 195 (dk_at dksX7_and_0 8 rfl rfl)
theorem dX7_and_11 : decode cX7_and 11 = .ok (.ifCond .eq 28, 3) := dk_153 0 28 (dk_at dksX7_and_0 11 rfl rfl)
theorem dX7_and_14 : decode cX7_and 14 = .ok (.aload_n 0, 1) := dk_42 (dk_at dksX7_and_0 14 rfl rfl)
theorem dX7_and_15 : decode cX7_and 15 = .ok (.invokevirtual 226, 3) := dk_182 0 226 (dk_at dksX7_and_0 15 rfl rfl)
theorem dX7_and_18 : decode cX7_and 18 = .ok (.aload_n 0, 1) := dk_42 (dk_at dksX7_and_0 18 rfl rfl)
theorem dX7_and_19 : decode cX7_and 19 = .ok (.invokevirtual 107, 3) := dk_182 0 107 (dk_at dksX7_and_0 19 rfl rfl)
theorem dX7_and_22 : decode cX7_and 22 = .ok (.new 229, 3) := dk_187 0 229 (dk_at dksX7_and_1 0 rfl rfl)
theorem dX7_and_25 : decode cX7_and 25 = .ok (.dup, 1) := dk_89 (dk_at dksX7_and_1 3 rfl rfl)
theorem dX7_and_26 : decode cX7_and 26 = .ok (.iconst 1, 1) := dk_4 (dk_at dksX7_and_1 4 rfl rfl)
theorem dX7_and_27 : decode cX7_and 27 = .ok (.aload_n 1, 1) := dk_43 (dk_at dksX7_and_1 5 rfl rfl)
theorem dX7_and_28 : decode cX7_and 28 = .ok (.aload_n 0, 1) := dk_42 (dk_at dksX7_and_1 6 rfl rfl)
theorem dX7_and_29 : decode cX7_and 29 = .ok (.invokevirtual 234, 3) := dk_182 0 234 (dk_at dksX7_and_1 7 rfl rfl)
theorem dX7_and_32 : decode cX7_and 32 = .ok (.invokespecial 231, 3) := dk_183 0 231 (dk_at dksX7_and_1 10 rfl rfl)
theorem dX7_and_35 : decode cX7_and 35 = .ok (.astore_n 1, 1) := dk_76 (dk_at dksX7_and_1 13 rfl rfl)
theorem dX7_and_36 : decode cX7_and 36 = .ok (.goto (-31), 3) := dk_167 255 225 (dk_at dksX7_and_1 14 rfl rfl)
theorem dX7_and_39 : decode cX7_and 39 = .ok (.aload_n 1, 1) := dk_43 (dk_at dksX7_and_1 17 rfl rfl)
theorem dX7_and_40 : decode cX7_and 40 = .ok (.areturn, 1) := dk_176 (dk_at dksX7_and_1 18 rfl rfl)
abbrev cX7_not : ByteArray := prog_17_method_24_code
def yX7_not : MethodName := ⟨RX7, "not", "()LMinistryDesks$Node;"⟩
def dkwX7_not_2 : List UInt8 := [132, 3, 1, 167, 255, 239, 44, 176]
abbrev dktX7_not_2 : List UInt8 := dkwX7_not_2 ++ []
def dkwX7_not_1 : List UInt8 := [167, 255, 236, 42, 182, 0, 237, 77, 3, 62, 29, 27, 162, 0, 18, 187, 0, 240, 89, 44, 183, 0, 242, 77]
abbrev dktX7_not_1 : List UInt8 := dkwX7_not_1 ++ dktX7_not_2
def dkwX7_not_0 : List UInt8 := [3, 60, 42, 16, 13, 182, 0, 195, 153, 0, 17, 42, 182, 0, 226, 42, 182, 0, 107, 132, 1, 1]
abbrev dktX7_not_0 : List UInt8 := dkwX7_not_0 ++ dktX7_not_1
theorem dksX7_not_0 : cX7_not.data.toList.drop 0 = dktX7_not_0 := by decide +kernel
theorem dksX7_not_1 : cX7_not.data.toList.drop 22 = dktX7_not_1 := dk_seg dksX7_not_0 22 rfl rfl
theorem dksX7_not_2 : cX7_not.data.toList.drop 46 = dktX7_not_2 := dk_seg dksX7_not_1 24 rfl rfl
theorem dX7_not_0 : decode cX7_not 0 = .ok (.iconst 0, 1) := dk_3 (dk_at dksX7_not_0 0 rfl rfl)
theorem dX7_not_1 : decode cX7_not 1 = .ok (.istore_n 1, 1) := dk_60 (dk_at dksX7_not_0 1 rfl rfl)
theorem dX7_not_2 : decode cX7_not 2 = .ok (.aload_n 0, 1) := dk_42 (dk_at dksX7_not_0 2 rfl rfl)
theorem dX7_not_3 : decode cX7_not 3 = .ok (.bipush 13, 2) := dk_16 13 (dk_at dksX7_not_0 3 rfl rfl)
theorem dX7_not_5 : decode cX7_not 5 = .ok (.invokevirtual 195, 3) := dk_182 0 195 (dk_at dksX7_not_0 5 rfl rfl)
theorem dX7_not_8 : decode cX7_not 8 = .ok (.ifCond .eq 17, 3) := dk_153 0 17 (dk_at dksX7_not_0 8 rfl rfl)
theorem dX7_not_11 : decode cX7_not 11 = .ok (.aload_n 0, 1) := dk_42 (dk_at dksX7_not_0 11 rfl rfl)
theorem dX7_not_12 : decode cX7_not 12 = .ok (.invokevirtual 226, 3) := dk_182 0 226 (dk_at dksX7_not_0 12 rfl rfl)
theorem dX7_not_15 : decode cX7_not 15 = .ok (.aload_n 0, 1) := dk_42 (dk_at dksX7_not_0 15 rfl rfl)
theorem dX7_not_16 : decode cX7_not 16 = .ok (.invokevirtual 107, 3) := dk_182 0 107 (dk_at dksX7_not_0 16 rfl rfl)
theorem dX7_not_19 : decode cX7_not 19 = .ok (.iinc 1 1, 3) := dk_132 1 1 (dk_at dksX7_not_0 19 rfl rfl)
theorem dX7_not_22 : decode cX7_not 22 = .ok (.goto (-20), 3) := dk_167 255 236 (dk_at dksX7_not_1 0 rfl rfl)
theorem dX7_not_25 : decode cX7_not 25 = .ok (.aload_n 0, 1) := dk_42 (dk_at dksX7_not_1 3 rfl rfl)
theorem dX7_not_26 : decode cX7_not 26 = .ok (.invokevirtual 237, 3) := dk_182 0 237 (dk_at dksX7_not_1 4 rfl rfl)
theorem dX7_not_29 : decode cX7_not 29 = .ok (.astore_n 2, 1) := dk_77 (dk_at dksX7_not_1 7 rfl rfl)
theorem dX7_not_30 : decode cX7_not 30 = .ok (.iconst 0, 1) := dk_3 (dk_at dksX7_not_1 8 rfl rfl)
theorem dX7_not_31 : decode cX7_not 31 = .ok (.istore_n 3, 1) := dk_62 (dk_at dksX7_not_1 9 rfl rfl)
theorem dX7_not_32 : decode cX7_not 32 = .ok (.iload_n 3, 1) := dk_29 (dk_at dksX7_not_1 10 rfl rfl)
theorem dX7_not_33 : decode cX7_not 33 = .ok (.iload_n 1, 1) := dk_27 (dk_at dksX7_not_1 11 rfl rfl)
theorem dX7_not_34 : decode cX7_not 34 = .ok (.if_icmp .ge 18, 3) := dk_162 0 18 (dk_at dksX7_not_1 12 rfl rfl)
theorem dX7_not_37 : decode cX7_not 37 = .ok (.new 240, 3) := dk_187 0 240 (dk_at dksX7_not_1 15 rfl rfl)
theorem dX7_not_40 : decode cX7_not 40 = .ok (.dup, 1) := dk_89 (dk_at dksX7_not_1 18 rfl rfl)
theorem dX7_not_41 : decode cX7_not 41 = .ok (.aload_n 2, 1) := dk_44 (dk_at dksX7_not_1 19 rfl rfl)
theorem dX7_not_42 : decode cX7_not 42 = .ok (.invokespecial 242, 3) := dk_183 0 242 (dk_at dksX7_not_1 20 rfl rfl)
theorem dX7_not_45 : decode cX7_not 45 = .ok (.astore_n 2, 1) := dk_77 (dk_at dksX7_not_1 23 rfl rfl)
theorem dX7_not_46 : decode cX7_not 46 = .ok (.iinc 3 1, 3) := dk_132 3 1 (dk_at dksX7_not_2 0 rfl rfl)
theorem dX7_not_49 : decode cX7_not 49 = .ok (.goto (-17), 3) := dk_167 255 239 (dk_at dksX7_not_2 3 rfl rfl)
theorem dX7_not_52 : decode cX7_not 52 = .ok (.aload_n 2, 1) := dk_44 (dk_at dksX7_not_2 6 rfl rfl)
theorem dX7_not_53 : decode cX7_not 53 = .ok (.areturn, 1) := dk_176 (dk_at dksX7_not_2 7 rfl rfl)
abbrev cX7_knot : ByteArray := prog_17_method_21_code
def yX7_knot : MethodName := ⟨RX7, "knot", "()V"⟩
def dkwX7_knot_1 : List UInt8 := [180, 0, 18, 89, 180, 0, 220, 4, 96, 181, 0, 220, 177]
abbrev dktX7_knot_1 : List UInt8 := dkwX7_knot_1 ++ []
def dkwX7_knot_0 : List UInt8 := [42, 42, 180, 0, 18, 180, 0, 220, 16, 64, 160, 0, 7, 4, 167, 0, 4, 3, 182, 0, 103, 42]
abbrev dktX7_knot_0 : List UInt8 := dkwX7_knot_0 ++ dktX7_knot_1
theorem dksX7_knot_0 : cX7_knot.data.toList.drop 0 = dktX7_knot_0 := by decide +kernel
theorem dksX7_knot_1 : cX7_knot.data.toList.drop 22 = dktX7_knot_1 := dk_seg dksX7_knot_0 22 rfl rfl
theorem dX7_knot_0 : decode cX7_knot 0 = .ok (.aload_n 0, 1) := dk_42 (dk_at dksX7_knot_0 0 rfl rfl)
theorem dX7_knot_1 : decode cX7_knot 1 = .ok (.aload_n 0, 1) := dk_42 (dk_at dksX7_knot_0 1 rfl rfl)
theorem dX7_knot_2 : decode cX7_knot 2 = .ok (.getfield 18, 3) := dk_180 0 18 (dk_at dksX7_knot_0 2 rfl rfl)
theorem dX7_knot_5 : decode cX7_knot 5 = .ok (.getfield 220, 3) := dk_180 0 220 (dk_at dksX7_knot_0 5 rfl rfl)
theorem dX7_knot_8 : decode cX7_knot 8 = .ok (.bipush 64, 2) := dk_16 64 (dk_at dksX7_knot_0 8 rfl rfl)
theorem dX7_knot_10 : decode cX7_knot 10 = .ok (.if_icmp .ne 7, 3) := dk_160 0 7 (dk_at dksX7_knot_0 10 rfl rfl)
theorem dX7_knot_13 : decode cX7_knot 13 = .ok (.iconst 1, 1) := dk_4 (dk_at dksX7_knot_0 13 rfl rfl)
theorem dX7_knot_14 : decode cX7_knot 14 = .ok (.goto 4, 3) := dk_167 0 4 (dk_at dksX7_knot_0 14 rfl rfl)
theorem dX7_knot_17 : decode cX7_knot 17 = .ok (.iconst 0, 1) := dk_3 (dk_at dksX7_knot_0 17 rfl rfl)
theorem dX7_knot_18 : decode cX7_knot 18 = .ok (.invokevirtual 103, 3) := dk_182 0 103 (dk_at dksX7_knot_0 18 rfl rfl)
theorem dX7_knot_21 : decode cX7_knot 21 = .ok (.aload_n 0, 1) := dk_42 (dk_at dksX7_knot_0 21 rfl rfl)
theorem dX7_knot_22 : decode cX7_knot 22 = .ok (.getfield 18, 3) := dk_180 0 18 (dk_at dksX7_knot_1 0 rfl rfl)
theorem dX7_knot_25 : decode cX7_knot 25 = .ok (.dup, 1) := dk_89 (dk_at dksX7_knot_1 3 rfl rfl)
theorem dX7_knot_26 : decode cX7_knot 26 = .ok (.getfield 220, 3) := dk_180 0 220 (dk_at dksX7_knot_1 4 rfl rfl)
theorem dX7_knot_29 : decode cX7_knot 29 = .ok (.iconst 1, 1) := dk_4 (dk_at dksX7_knot_1 7 rfl rfl)
theorem dX7_knot_30 : decode cX7_knot 30 = .ok (.iadd, 1) := dk_96 (dk_at dksX7_knot_1 8 rfl rfl)
theorem dX7_knot_31 : decode cX7_knot 31 = .ok (.putfield 220, 3) := dk_181 0 220 (dk_at dksX7_knot_1 9 rfl rfl)
theorem dX7_knot_34 : decode cX7_knot 34 = .ok (.return_, 1) := dk_177 (dk_at dksX7_knot_1 12 rfl rfl)
abbrev cX7_compared : ByteArray := prog_17_method_25_code
def yX7_compared : MethodName := ⟨RX7, "compared", "()LMinistryDesks$Node;"⟩
def dkwX7_compared_1 : List UInt8 := [42, 182, 0, 107, 187, 0, 248, 89, 28, 43, 42, 182, 0, 245, 183, 0, 250, 176]
abbrev dktX7_compared_1 : List UInt8 := dkwX7_compared_1 ++ []
def dkwX7_compared_0 : List UInt8 := [42, 182, 0, 245, 76, 42, 180, 0, 44, 8, 159, 0, 5, 43, 176, 42, 180, 0, 66, 61, 42, 182, 0, 226]
abbrev dktX7_compared_0 : List UInt8 := dkwX7_compared_0 ++ dktX7_compared_1
theorem dksX7_compared_0 : cX7_compared.data.toList.drop 0 = dktX7_compared_0 := by decide +kernel
theorem dksX7_compared_1 : cX7_compared.data.toList.drop 24 = dktX7_compared_1 := dk_seg dksX7_compared_0 24 rfl rfl
theorem dX7_compared_0 : decode cX7_compared 0 = .ok (.aload_n 0, 1) := dk_42 (dk_at dksX7_compared_0 0 rfl rfl)
theorem dX7_compared_1 : decode cX7_compared 1 = .ok (.invokevirtual 245, 3) := dk_182 0 245 (dk_at dksX7_compared_0 1 rfl rfl)
theorem dX7_compared_4 : decode cX7_compared 4 = .ok (.astore_n 1, 1) := dk_76 (dk_at dksX7_compared_0 4 rfl rfl)
theorem dX7_compared_5 : decode cX7_compared 5 = .ok (.aload_n 0, 1) := dk_42 (dk_at dksX7_compared_0 5 rfl rfl)
theorem dX7_compared_6 : decode cX7_compared 6 = .ok (.getfield 44, 3) := dk_180 0 44 (dk_at dksX7_compared_0 6 rfl rfl)
theorem dX7_compared_9 : decode cX7_compared 9 = .ok (.iconst 5, 1) := dk_8 (dk_at dksX7_compared_0 9 rfl rfl)
theorem dX7_compared_10 : decode cX7_compared 10 = .ok (.if_icmp .eq 5, 3) := dk_159 0 5 (dk_at dksX7_compared_0 10 rfl rfl)
theorem dX7_compared_13 : decode cX7_compared 13 = .ok (.aload_n 1, 1) := dk_43 (dk_at dksX7_compared_0 13 rfl rfl)
theorem dX7_compared_14 : decode cX7_compared 14 = .ok (.areturn, 1) := dk_176 (dk_at dksX7_compared_0 14 rfl rfl)
theorem dX7_compared_15 : decode cX7_compared 15 = .ok (.aload_n 0, 1) := dk_42 (dk_at dksX7_compared_0 15 rfl rfl)
theorem dX7_compared_16 : decode cX7_compared 16 = .ok (.getfield 66, 3) := dk_180 0 66 (dk_at dksX7_compared_0 16 rfl rfl)
theorem dX7_compared_19 : decode cX7_compared 19 = .ok (.istore_n 2, 1) := dk_61 (dk_at dksX7_compared_0 19 rfl rfl)
theorem dX7_compared_20 : decode cX7_compared 20 = .ok (.aload_n 0, 1) := dk_42 (dk_at dksX7_compared_0 20 rfl rfl)
theorem dX7_compared_21 : decode cX7_compared 21 = .ok (.invokevirtual 226, 3) := dk_182 0 226 (dk_at dksX7_compared_0 21 rfl rfl)
theorem dX7_compared_24 : decode cX7_compared 24 = .ok (.aload_n 0, 1) := dk_42 (dk_at dksX7_compared_1 0 rfl rfl)
theorem dX7_compared_25 : decode cX7_compared 25 = .ok (.invokevirtual 107, 3) := dk_182 0 107 (dk_at dksX7_compared_1 1 rfl rfl)
theorem dX7_compared_28 : decode cX7_compared 28 = .ok (.new 248, 3) := dk_187 0 248 (dk_at dksX7_compared_1 4 rfl rfl)
theorem dX7_compared_31 : decode cX7_compared 31 = .ok (.dup, 1) := dk_89 (dk_at dksX7_compared_1 7 rfl rfl)
theorem dX7_compared_32 : decode cX7_compared 32 = .ok (.iload_n 2, 1) := dk_28 (dk_at dksX7_compared_1 8 rfl rfl)
theorem dX7_compared_33 : decode cX7_compared 33 = .ok (.aload_n 1, 1) := dk_43 (dk_at dksX7_compared_1 9 rfl rfl)
theorem dX7_compared_34 : decode cX7_compared 34 = .ok (.aload_n 0, 1) := dk_42 (dk_at dksX7_compared_1 10 rfl rfl)
theorem dX7_compared_35 : decode cX7_compared 35 = .ok (.invokevirtual 245, 3) := dk_182 0 245 (dk_at dksX7_compared_1 11 rfl rfl)
theorem dX7_compared_38 : decode cX7_compared 38 = .ok (.invokespecial 250, 3) := dk_183 0 250 (dk_at dksX7_compared_1 14 rfl rfl)
theorem dX7_compared_41 : decode cX7_compared 41 = .ok (.areturn, 1) := dk_176 (dk_at dksX7_compared_1 17 rfl rfl)
abbrev cX7_sum : ByteArray := prog_17_method_26_code
def yX7_sum : MethodName := ⟨RX7, "sum", "()LMinistryDesks$Node;"⟩
def dkwX7_sum_2 : List UInt8 := [183, 1, 2, 76, 167, 255, 211, 43, 176]
abbrev dktX7_sum_2 : List UInt8 := dkwX7_sum_2 ++ []
def dkwX7_sum_1 : List UInt8 := [180, 0, 66, 61, 42, 182, 0, 226, 42, 182, 0, 107, 187, 1, 0, 89, 28, 43, 42, 182, 0, 253]
abbrev dktX7_sum_1 : List UInt8 := dkwX7_sum_1 ++ dktX7_sum_2
def dkwX7_sum_0 : List UInt8 := [42, 182, 0, 253, 76, 42, 16, 43, 182, 0, 116, 154, 0, 12, 42, 16, 45, 182, 0, 116, 153, 0, 33, 42]
abbrev dktX7_sum_0 : List UInt8 := dkwX7_sum_0 ++ dktX7_sum_1
theorem dksX7_sum_0 : cX7_sum.data.toList.drop 0 = dktX7_sum_0 := by decide +kernel
theorem dksX7_sum_1 : cX7_sum.data.toList.drop 24 = dktX7_sum_1 := dk_seg dksX7_sum_0 24 rfl rfl
theorem dksX7_sum_2 : cX7_sum.data.toList.drop 46 = dktX7_sum_2 := dk_seg dksX7_sum_1 22 rfl rfl
theorem dX7_sum_0 : decode cX7_sum 0 = .ok (.aload_n 0, 1) := dk_42 (dk_at dksX7_sum_0 0 rfl rfl)
theorem dX7_sum_1 : decode cX7_sum 1 = .ok (.invokevirtual 253, 3) := dk_182 0 253 (dk_at dksX7_sum_0 1 rfl rfl)
theorem dX7_sum_4 : decode cX7_sum 4 = .ok (.astore_n 1, 1) := dk_76 (dk_at dksX7_sum_0 4 rfl rfl)
theorem dX7_sum_5 : decode cX7_sum 5 = .ok (.aload_n 0, 1) := dk_42 (dk_at dksX7_sum_0 5 rfl rfl)
theorem dX7_sum_6 : decode cX7_sum 6 = .ok (.bipush 43, 2) := dk_16 43 (dk_at dksX7_sum_0 6 rfl rfl)
theorem dX7_sum_8 : decode cX7_sum 8 = .ok (.invokevirtual 116, 3) := dk_182 0 116 (dk_at dksX7_sum_0 8 rfl rfl)
theorem dX7_sum_11 : decode cX7_sum 11 = .ok (.ifCond .ne 12, 3) := dk_154 0 12 (dk_at dksX7_sum_0 11 rfl rfl)
theorem dX7_sum_14 : decode cX7_sum 14 = .ok (.aload_n 0, 1) := dk_42 (dk_at dksX7_sum_0 14 rfl rfl)
theorem dX7_sum_15 : decode cX7_sum 15 = .ok (.bipush 45, 2) := dk_16 45 (dk_at dksX7_sum_0 15 rfl rfl)
theorem dX7_sum_17 : decode cX7_sum 17 = .ok (.invokevirtual 116, 3) := dk_182 0 116 (dk_at dksX7_sum_0 17 rfl rfl)
theorem dX7_sum_20 : decode cX7_sum 20 = .ok (.ifCond .eq 33, 3) := dk_153 0 33 (dk_at dksX7_sum_0 20 rfl rfl)
theorem dX7_sum_23 : decode cX7_sum 23 = .ok (.aload_n 0, 1) := dk_42 (dk_at dksX7_sum_0 23 rfl rfl)
theorem dX7_sum_24 : decode cX7_sum 24 = .ok (.getfield 66, 3) := dk_180 0 66 (dk_at dksX7_sum_1 0 rfl rfl)
theorem dX7_sum_27 : decode cX7_sum 27 = .ok (.istore_n 2, 1) := dk_61 (dk_at dksX7_sum_1 3 rfl rfl)
theorem dX7_sum_28 : decode cX7_sum 28 = .ok (.aload_n 0, 1) := dk_42 (dk_at dksX7_sum_1 4 rfl rfl)
theorem dX7_sum_29 : decode cX7_sum 29 = .ok (.invokevirtual 226, 3) := dk_182 0 226 (dk_at dksX7_sum_1 5 rfl rfl)
theorem dX7_sum_32 : decode cX7_sum 32 = .ok (.aload_n 0, 1) := dk_42 (dk_at dksX7_sum_1 8 rfl rfl)
theorem dX7_sum_33 : decode cX7_sum 33 = .ok (.invokevirtual 107, 3) := dk_182 0 107 (dk_at dksX7_sum_1 9 rfl rfl)
theorem dX7_sum_36 : decode cX7_sum 36 = .ok (.new 256, 3) := dk_187 1 0 (dk_at dksX7_sum_1 12 rfl rfl)
theorem dX7_sum_39 : decode cX7_sum 39 = .ok (.dup, 1) := dk_89 (dk_at dksX7_sum_1 15 rfl rfl)
theorem dX7_sum_40 : decode cX7_sum 40 = .ok (.iload_n 2, 1) := dk_28 (dk_at dksX7_sum_1 16 rfl rfl)
theorem dX7_sum_41 : decode cX7_sum 41 = .ok (.aload_n 1, 1) := dk_43 (dk_at dksX7_sum_1 17 rfl rfl)
theorem dX7_sum_42 : decode cX7_sum 42 = .ok (.aload_n 0, 1) := dk_42 (dk_at dksX7_sum_1 18 rfl rfl)
theorem dX7_sum_43 : decode cX7_sum 43 = .ok (.invokevirtual 253, 3) := dk_182 0 253 (dk_at dksX7_sum_1 19 rfl rfl)
theorem dX7_sum_46 : decode cX7_sum 46 = .ok (.invokespecial 258, 3) := dk_183 1 2 (dk_at dksX7_sum_2 0 rfl rfl)
theorem dX7_sum_49 : decode cX7_sum 49 = .ok (.astore_n 1, 1) := dk_76 (dk_at dksX7_sum_2 3 rfl rfl)
theorem dX7_sum_50 : decode cX7_sum 50 = .ok (.goto (-45), 3) := dk_167 255 211 (dk_at dksX7_sum_2 4 rfl rfl)
theorem dX7_sum_53 : decode cX7_sum 53 = .ok (.aload_n 1, 1) := dk_43 (dk_at dksX7_sum_2 7 rfl rfl)
theorem dX7_sum_54 : decode cX7_sum 54 = .ok (.areturn, 1) := dk_176 (dk_at dksX7_sum_2 8 rfl rfl)
abbrev cX7_product : ByteArray := prog_17_method_27_code
def yX7_product : MethodName := ⟨RX7, "product", "()LMinistryDesks$Node;"⟩
def dkwX7_product_2 : List UInt8 := [183, 1, 2, 76, 167, 255, 211, 43, 176]
abbrev dktX7_product_2 : List UInt8 := dkwX7_product_2 ++ []
def dkwX7_product_1 : List UInt8 := [180, 0, 66, 61, 42, 182, 0, 226, 42, 182, 0, 107, 187, 1, 0, 89, 28, 43, 42, 182, 1, 3]
abbrev dktX7_product_1 : List UInt8 := dkwX7_product_1 ++ dktX7_product_2
def dkwX7_product_0 : List UInt8 := [42, 182, 1, 3, 76, 42, 16, 42, 182, 0, 116, 154, 0, 12, 42, 16, 47, 182, 0, 116, 153, 0, 33, 42]
abbrev dktX7_product_0 : List UInt8 := dkwX7_product_0 ++ dktX7_product_1
theorem dksX7_product_0 : cX7_product.data.toList.drop 0 = dktX7_product_0 := by decide +kernel
theorem dksX7_product_1 : cX7_product.data.toList.drop 24 = dktX7_product_1 := dk_seg dksX7_product_0 24 rfl rfl
theorem dksX7_product_2 : cX7_product.data.toList.drop 46 = dktX7_product_2 := dk_seg dksX7_product_1 22 rfl rfl
theorem dX7_product_0 : decode cX7_product 0 = .ok (.aload_n 0, 1) := dk_42 (dk_at dksX7_product_0 0 rfl rfl)
theorem dX7_product_1 : decode cX7_product 1 = .ok (.invokevirtual 259, 3) := dk_182 1 3 (dk_at dksX7_product_0 1 rfl rfl)
theorem dX7_product_4 : decode cX7_product 4 = .ok (.astore_n 1, 1) := dk_76 (dk_at dksX7_product_0 4 rfl rfl)
theorem dX7_product_5 : decode cX7_product 5 = .ok (.aload_n 0, 1) := dk_42 (dk_at dksX7_product_0 5 rfl rfl)
theorem dX7_product_6 : decode cX7_product 6 = .ok (.bipush 42, 2) := dk_16 42 (dk_at dksX7_product_0 6 rfl rfl)
theorem dX7_product_8 : decode cX7_product 8 = .ok (.invokevirtual 116, 3) := dk_182 0 116 (dk_at dksX7_product_0 8 rfl rfl)
theorem dX7_product_11 : decode cX7_product 11 = .ok (.ifCond .ne 12, 3) := dk_154 0 12 (dk_at dksX7_product_0 11 rfl rfl)
theorem dX7_product_14 : decode cX7_product 14 = .ok (.aload_n 0, 1) := dk_42 (dk_at dksX7_product_0 14 rfl rfl)
theorem dX7_product_15 : decode cX7_product 15 = .ok (.bipush 47, 2) := dk_16 47 (dk_at dksX7_product_0 15 rfl rfl)
theorem dX7_product_17 : decode cX7_product 17 = .ok (.invokevirtual 116, 3) := dk_182 0 116 (dk_at dksX7_product_0 17 rfl rfl)
theorem dX7_product_20 : decode cX7_product 20 = .ok (.ifCond .eq 33, 3) := dk_153 0 33 (dk_at dksX7_product_0 20 rfl rfl)
theorem dX7_product_23 : decode cX7_product 23 = .ok (.aload_n 0, 1) := dk_42 (dk_at dksX7_product_0 23 rfl rfl)
theorem dX7_product_24 : decode cX7_product 24 = .ok (.getfield 66, 3) := dk_180 0 66 (dk_at dksX7_product_1 0 rfl rfl)
theorem dX7_product_27 : decode cX7_product 27 = .ok (.istore_n 2, 1) := dk_61 (dk_at dksX7_product_1 3 rfl rfl)
theorem dX7_product_28 : decode cX7_product 28 = .ok (.aload_n 0, 1) := dk_42 (dk_at dksX7_product_1 4 rfl rfl)
theorem dX7_product_29 : decode cX7_product 29 = .ok (.invokevirtual 226, 3) := dk_182 0 226 (dk_at dksX7_product_1 5 rfl rfl)
theorem dX7_product_32 : decode cX7_product 32 = .ok (.aload_n 0, 1) := dk_42 (dk_at dksX7_product_1 8 rfl rfl)
theorem dX7_product_33 : decode cX7_product 33 = .ok (.invokevirtual 107, 3) := dk_182 0 107 (dk_at dksX7_product_1 9 rfl rfl)
theorem dX7_product_36 : decode cX7_product 36 = .ok (.new 256, 3) := dk_187 1 0 (dk_at dksX7_product_1 12 rfl rfl)
theorem dX7_product_39 : decode cX7_product 39 = .ok (.dup, 1) := dk_89 (dk_at dksX7_product_1 15 rfl rfl)
theorem dX7_product_40 : decode cX7_product 40 = .ok (.iload_n 2, 1) := dk_28 (dk_at dksX7_product_1 16 rfl rfl)
theorem dX7_product_41 : decode cX7_product 41 = .ok (.aload_n 1, 1) := dk_43 (dk_at dksX7_product_1 17 rfl rfl)
theorem dX7_product_42 : decode cX7_product 42 = .ok (.aload_n 0, 1) := dk_42 (dk_at dksX7_product_1 18 rfl rfl)
theorem dX7_product_43 : decode cX7_product 43 = .ok (.invokevirtual 259, 3) := dk_182 1 3 (dk_at dksX7_product_1 19 rfl rfl)
theorem dX7_product_46 : decode cX7_product 46 = .ok (.invokespecial 258, 3) := dk_183 1 2 (dk_at dksX7_product_2 0 rfl rfl)
theorem dX7_product_49 : decode cX7_product 49 = .ok (.astore_n 1, 1) := dk_76 (dk_at dksX7_product_2 3 rfl rfl)
theorem dX7_product_50 : decode cX7_product 50 = .ok (.goto (-45), 3) := dk_167 255 211 (dk_at dksX7_product_2 4 rfl rfl)
theorem dX7_product_53 : decode cX7_product 53 = .ok (.aload_n 1, 1) := dk_43 (dk_at dksX7_product_2 7 rfl rfl)
theorem dX7_product_54 : decode cX7_product 54 = .ok (.areturn, 1) := dk_176 (dk_at dksX7_product_2 8 rfl rfl)
abbrev cX7_one : ByteArray := prog_17_method_28_code
def yX7_one : MethodName := ⟨RX7, "one", "()LMinistryDesks$Node;"⟩
def dkwX7_one_7 : List UInt8 := [133, 183, 1, 16, 176]
abbrev dktX7_one_7 : List UInt8 := dkwX7_one_7 ++ []
def dkwX7_one_6 : List UInt8 := [4, 167, 0, 4, 3, 182, 0, 103, 42, 182, 0, 226, 187, 1, 14, 89, 42, 3, 17, 39, 15, 182, 0, 141]
abbrev dktX7_one_6 : List UInt8 := dkwX7_one_6 ++ dktX7_one_7
def dkwX7_one_5 : List UInt8 := [42, 180, 0, 44, 6, 159, 0, 8, 42, 182, 0, 99, 191, 42, 42, 180, 0, 66, 17, 39, 15, 164, 0, 7]
abbrev dktX7_one_5 : List UInt8 := dkwX7_one_5 ++ dktX7_one_6
def dkwX7_one_4 : List UInt8 := [182, 0, 226, 42, 180, 0, 66, 16, 14, 100, 60, 42, 182, 0, 107, 187, 1, 9, 89, 27, 183, 1, 11, 176]
abbrev dktX7_one_4 : List UInt8 := dkwX7_one_4 ++ dktX7_one_5
def dkwX7_one_3 : List UInt8 := [182, 0, 107, 43, 176, 42, 180, 0, 44, 4, 160, 0, 37, 42, 180, 0, 66, 16, 14, 161, 0, 28, 42]
abbrev dktX7_one_3 : List UInt8 := dkwX7_one_3 ++ dktX7_one_4
def dkwX7_one_2 : List UInt8 := [16, 41, 182, 0, 116, 154, 0, 8, 42, 182, 0, 99, 191, 42, 89, 180, 1, 6, 4, 100, 181, 1, 6, 42]
abbrev dktX7_one_2 : List UInt8 := dkwX7_one_2 ++ dktX7_one_3
def dkwX7_one_1 : List UInt8 := [182, 0, 103, 42, 89, 180, 1, 6, 4, 96, 181, 1, 6, 42, 182, 0, 107, 42, 182, 0, 205, 76, 42]
abbrev dktX7_one_1 : List UInt8 := dkwX7_one_1 ++ dktX7_one_2
def dkwX7_one_0 : List UInt8 := [42, 16, 40, 182, 0, 116, 153, 0, 70, 42, 42, 180, 1, 6, 16, 8, 160, 0, 7, 4, 167, 0, 4, 3]
abbrev dktX7_one_0 : List UInt8 := dkwX7_one_0 ++ dktX7_one_1
theorem dksX7_one_0 : cX7_one.data.toList.drop 0 = dktX7_one_0 := by decide +kernel
theorem dksX7_one_1 : cX7_one.data.toList.drop 24 = dktX7_one_1 := dk_seg dksX7_one_0 24 rfl rfl
theorem dksX7_one_2 : cX7_one.data.toList.drop 47 = dktX7_one_2 := dk_seg dksX7_one_1 23 rfl rfl
theorem dksX7_one_3 : cX7_one.data.toList.drop 71 = dktX7_one_3 := dk_seg dksX7_one_2 24 rfl rfl
theorem dksX7_one_4 : cX7_one.data.toList.drop 94 = dktX7_one_4 := dk_seg dksX7_one_3 23 rfl rfl
theorem dksX7_one_5 : cX7_one.data.toList.drop 118 = dktX7_one_5 := dk_seg dksX7_one_4 24 rfl rfl
theorem dksX7_one_6 : cX7_one.data.toList.drop 142 = dktX7_one_6 := dk_seg dksX7_one_5 24 rfl rfl
theorem dksX7_one_7 : cX7_one.data.toList.drop 166 = dktX7_one_7 := dk_seg dksX7_one_6 24 rfl rfl
theorem dX7_one_0 : decode cX7_one 0 = .ok (.aload_n 0, 1) := dk_42 (dk_at dksX7_one_0 0 rfl rfl)
theorem dX7_one_1 : decode cX7_one 1 = .ok (.bipush 40, 2) := dk_16 40 (dk_at dksX7_one_0 1 rfl rfl)
theorem dX7_one_3 : decode cX7_one 3 = .ok (.invokevirtual 116, 3) := dk_182 0 116 (dk_at dksX7_one_0 3 rfl rfl)
theorem dX7_one_6 : decode cX7_one 6 = .ok (.ifCond .eq 70, 3) := dk_153 0 70 (dk_at dksX7_one_0 6 rfl rfl)
theorem dX7_one_9 : decode cX7_one 9 = .ok (.aload_n 0, 1) := dk_42 (dk_at dksX7_one_0 9 rfl rfl)
theorem dX7_one_10 : decode cX7_one 10 = .ok (.aload_n 0, 1) := dk_42 (dk_at dksX7_one_0 10 rfl rfl)
theorem dX7_one_11 : decode cX7_one 11 = .ok (.getfield 262, 3) := dk_180 1 6 (dk_at dksX7_one_0 11 rfl rfl)
theorem dX7_one_14 : decode cX7_one 14 = .ok (.bipush 8, 2) := dk_16 8 (dk_at dksX7_one_0 14 rfl rfl)
theorem dX7_one_16 : decode cX7_one 16 = .ok (.if_icmp .ne 7, 3) := dk_160 0 7 (dk_at dksX7_one_0 16 rfl rfl)
theorem dX7_one_19 : decode cX7_one 19 = .ok (.iconst 1, 1) := dk_4 (dk_at dksX7_one_0 19 rfl rfl)
theorem dX7_one_20 : decode cX7_one 20 = .ok (.goto 4, 3) := dk_167 0 4 (dk_at dksX7_one_0 20 rfl rfl)
theorem dX7_one_23 : decode cX7_one 23 = .ok (.iconst 0, 1) := dk_3 (dk_at dksX7_one_0 23 rfl rfl)
theorem dX7_one_24 : decode cX7_one 24 = .ok (.invokevirtual 103, 3) := dk_182 0 103 (dk_at dksX7_one_1 0 rfl rfl)
theorem dX7_one_27 : decode cX7_one 27 = .ok (.aload_n 0, 1) := dk_42 (dk_at dksX7_one_1 3 rfl rfl)
theorem dX7_one_28 : decode cX7_one 28 = .ok (.dup, 1) := dk_89 (dk_at dksX7_one_1 4 rfl rfl)
theorem dX7_one_29 : decode cX7_one 29 = .ok (.getfield 262, 3) := dk_180 1 6 (dk_at dksX7_one_1 5 rfl rfl)
theorem dX7_one_32 : decode cX7_one 32 = .ok (.iconst 1, 1) := dk_4 (dk_at dksX7_one_1 8 rfl rfl)
theorem dX7_one_33 : decode cX7_one 33 = .ok (.iadd, 1) := dk_96 (dk_at dksX7_one_1 9 rfl rfl)
theorem dX7_one_34 : decode cX7_one 34 = .ok (.putfield 262, 3) := dk_181 1 6 (dk_at dksX7_one_1 10 rfl rfl)
theorem dX7_one_37 : decode cX7_one 37 = .ok (.aload_n 0, 1) := dk_42 (dk_at dksX7_one_1 13 rfl rfl)
theorem dX7_one_38 : decode cX7_one 38 = .ok (.invokevirtual 107, 3) := dk_182 0 107 (dk_at dksX7_one_1 14 rfl rfl)
theorem dX7_one_41 : decode cX7_one 41 = .ok (.aload_n 0, 1) := dk_42 (dk_at dksX7_one_1 17 rfl rfl)
theorem dX7_one_42 : decode cX7_one 42 = .ok (.invokevirtual 205, 3) := dk_182 0 205 (dk_at dksX7_one_1 18 rfl rfl)
theorem dX7_one_45 : decode cX7_one 45 = .ok (.astore_n 1, 1) := dk_76 (dk_at dksX7_one_1 21 rfl rfl)
theorem dX7_one_46 : decode cX7_one 46 = .ok (.aload_n 0, 1) := dk_42 (dk_at dksX7_one_1 22 rfl rfl)
theorem dX7_one_47 : decode cX7_one 47 = .ok (.bipush 41, 2) := dk_16 41 (dk_at dksX7_one_2 0 rfl rfl)
theorem dX7_one_49 : decode cX7_one 49 = .ok (.invokevirtual 116, 3) := dk_182 0 116 (dk_at dksX7_one_2 2 rfl rfl)
theorem dX7_one_52 : decode cX7_one 52 = .ok (.ifCond .ne 8, 3) := dk_154 0 8 (dk_at dksX7_one_2 5 rfl rfl)
theorem dX7_one_55 : decode cX7_one 55 = .ok (.aload_n 0, 1) := dk_42 (dk_at dksX7_one_2 8 rfl rfl)
theorem dX7_one_56 : decode cX7_one 56 = .ok (.invokevirtual 99, 3) := dk_182 0 99 (dk_at dksX7_one_2 9 rfl rfl)
theorem dX7_one_59 : decode cX7_one 59 = .ok (.athrow, 1) := dk_191 (dk_at dksX7_one_2 12 rfl rfl)
theorem dX7_one_60 : decode cX7_one 60 = .ok (.aload_n 0, 1) := dk_42 (dk_at dksX7_one_2 13 rfl rfl)
theorem dX7_one_61 : decode cX7_one 61 = .ok (.dup, 1) := dk_89 (dk_at dksX7_one_2 14 rfl rfl)
theorem dX7_one_62 : decode cX7_one 62 = .ok (.getfield 262, 3) := dk_180 1 6 (dk_at dksX7_one_2 15 rfl rfl)
theorem dX7_one_65 : decode cX7_one 65 = .ok (.iconst 1, 1) := dk_4 (dk_at dksX7_one_2 18 rfl rfl)
theorem dX7_one_66 : decode cX7_one 66 = .ok (.isub, 1) := dk_100 (dk_at dksX7_one_2 19 rfl rfl)
theorem dX7_one_67 : decode cX7_one 67 = .ok (.putfield 262, 3) := dk_181 1 6 (dk_at dksX7_one_2 20 rfl rfl)
theorem dX7_one_70 : decode cX7_one 70 = .ok (.aload_n 0, 1) := dk_42 (dk_at dksX7_one_2 23 rfl rfl)
theorem dX7_one_71 : decode cX7_one 71 = .ok (.invokevirtual 107, 3) := dk_182 0 107 (dk_at dksX7_one_3 0 rfl rfl)
theorem dX7_one_74 : decode cX7_one 74 = .ok (.aload_n 1, 1) := dk_43 (dk_at dksX7_one_3 3 rfl rfl)
theorem dX7_one_75 : decode cX7_one 75 = .ok (.areturn, 1) := dk_176 (dk_at dksX7_one_3 4 rfl rfl)
theorem dX7_one_76 : decode cX7_one 76 = .ok (.aload_n 0, 1) := dk_42 (dk_at dksX7_one_3 5 rfl rfl)
theorem dX7_one_77 : decode cX7_one 77 = .ok (.getfield 44, 3) := dk_180 0 44 (dk_at dksX7_one_3 6 rfl rfl)
theorem dX7_one_80 : decode cX7_one 80 = .ok (.iconst 1, 1) := dk_4 (dk_at dksX7_one_3 9 rfl rfl)
theorem dX7_one_81 : decode cX7_one 81 = .ok (.if_icmp .ne 37, 3) := dk_160 0 37 (dk_at dksX7_one_3 10 rfl rfl)
theorem dX7_one_84 : decode cX7_one 84 = .ok (.aload_n 0, 1) := dk_42 (dk_at dksX7_one_3 13 rfl rfl)
theorem dX7_one_85 : decode cX7_one 85 = .ok (.getfield 66, 3) := dk_180 0 66 (dk_at dksX7_one_3 14 rfl rfl)
theorem dX7_one_88 : decode cX7_one 88 = .ok (.bipush 14, 2) := dk_16 14 (dk_at dksX7_one_3 17 rfl rfl)
theorem dX7_one_90 : decode cX7_one 90 = .ok (.if_icmp .lt 28, 3) := dk_161 0 28 (dk_at dksX7_one_3 19 rfl rfl)
theorem dX7_one_93 : decode cX7_one 93 = .ok (.aload_n 0, 1) := dk_42 (dk_at dksX7_one_3 22 rfl rfl)
theorem dX7_one_94 : decode cX7_one 94 = .ok (.invokevirtual 226, 3) := dk_182 0 226 (dk_at dksX7_one_4 0 rfl rfl)
theorem dX7_one_97 : decode cX7_one 97 = .ok (.aload_n 0, 1) := dk_42 (dk_at dksX7_one_4 3 rfl rfl)
theorem dX7_one_98 : decode cX7_one 98 = .ok (.getfield 66, 3) := dk_180 0 66 (dk_at dksX7_one_4 4 rfl rfl)
theorem dX7_one_101 : decode cX7_one 101 = .ok (.bipush 14, 2) := dk_16 14 (dk_at dksX7_one_4 7 rfl rfl)
theorem dX7_one_103 : decode cX7_one 103 = .ok (.isub, 1) := dk_100 (dk_at dksX7_one_4 9 rfl rfl)
theorem dX7_one_104 : decode cX7_one 104 = .ok (.istore_n 1, 1) := dk_60 (dk_at dksX7_one_4 10 rfl rfl)
theorem dX7_one_105 : decode cX7_one 105 = .ok (.aload_n 0, 1) := dk_42 (dk_at dksX7_one_4 11 rfl rfl)
theorem dX7_one_106 : decode cX7_one 106 = .ok (.invokevirtual 107, 3) := dk_182 0 107 (dk_at dksX7_one_4 12 rfl rfl)
theorem dX7_one_109 : decode cX7_one 109 = .ok (.new 265, 3) := dk_187 1 9 (dk_at dksX7_one_4 15 rfl rfl)
theorem dX7_one_112 : decode cX7_one 112 = .ok (.dup, 1) := dk_89 (dk_at dksX7_one_4 18 rfl rfl)
theorem dX7_one_113 : decode cX7_one 113 = .ok (.iload_n 1, 1) := dk_27 (dk_at dksX7_one_4 19 rfl rfl)
theorem dX7_one_114 : decode cX7_one 114 = .ok (.invokespecial 267, 3) := dk_183 1 11 (dk_at dksX7_one_4 20 rfl rfl)
theorem dX7_one_117 : decode cX7_one 117 = .ok (.areturn, 1) := dk_176 (dk_at dksX7_one_4 23 rfl rfl)
theorem dX7_one_118 : decode cX7_one 118 = .ok (.aload_n 0, 1) := dk_42 (dk_at dksX7_one_5 0 rfl rfl)
theorem dX7_one_119 : decode cX7_one 119 = .ok (.getfield 44, 3) := dk_180 0 44 (dk_at dksX7_one_5 1 rfl rfl)
theorem dX7_one_122 : decode cX7_one 122 = .ok (.iconst 3, 1) := dk_6 (dk_at dksX7_one_5 4 rfl rfl)
theorem dX7_one_123 : decode cX7_one 123 = .ok (.if_icmp .eq 8, 3) := dk_159 0 8 (dk_at dksX7_one_5 5 rfl rfl)
theorem dX7_one_126 : decode cX7_one 126 = .ok (.aload_n 0, 1) := dk_42 (dk_at dksX7_one_5 8 rfl rfl)
theorem dX7_one_127 : decode cX7_one 127 = .ok (.invokevirtual 99, 3) := dk_182 0 99 (dk_at dksX7_one_5 9 rfl rfl)
theorem dX7_one_130 : decode cX7_one 130 = .ok (.athrow, 1) := dk_191 (dk_at dksX7_one_5 12 rfl rfl)
theorem dX7_one_131 : decode cX7_one 131 = .ok (.aload_n 0, 1) := dk_42 (dk_at dksX7_one_5 13 rfl rfl)
theorem dX7_one_132 : decode cX7_one 132 = .ok (.aload_n 0, 1) := dk_42 (dk_at dksX7_one_5 14 rfl rfl)
theorem dX7_one_133 : decode cX7_one 133 = .ok (.getfield 66, 3) := dk_180 0 66 (dk_at dksX7_one_5 15 rfl rfl)
theorem dX7_one_136 : decode cX7_one 136 = .ok (.sipush 9999, 3) := dk_17 39 15 (dk_at dksX7_one_5 18 rfl rfl)
theorem dX7_one_139 : decode cX7_one 139 = .ok (.if_icmp .le 7, 3) := dk_164 0 7 (dk_at dksX7_one_5 21 rfl rfl)
theorem dX7_one_142 : decode cX7_one 142 = .ok (.iconst 1, 1) := dk_4 (dk_at dksX7_one_6 0 rfl rfl)
theorem dX7_one_143 : decode cX7_one 143 = .ok (.goto 4, 3) := dk_167 0 4 (dk_at dksX7_one_6 1 rfl rfl)
theorem dX7_one_146 : decode cX7_one 146 = .ok (.iconst 0, 1) := dk_3 (dk_at dksX7_one_6 4 rfl rfl)
theorem dX7_one_147 : decode cX7_one 147 = .ok (.invokevirtual 103, 3) := dk_182 0 103 (dk_at dksX7_one_6 5 rfl rfl)
theorem dX7_one_150 : decode cX7_one 150 = .ok (.aload_n 0, 1) := dk_42 (dk_at dksX7_one_6 8 rfl rfl)
theorem dX7_one_151 : decode cX7_one 151 = .ok (.invokevirtual 226, 3) := dk_182 0 226 (dk_at dksX7_one_6 9 rfl rfl)
theorem dX7_one_154 : decode cX7_one 154 = .ok (.new 270, 3) := dk_187 1 14 (dk_at dksX7_one_6 12 rfl rfl)
theorem dX7_one_157 : decode cX7_one 157 = .ok (.dup, 1) := dk_89 (dk_at dksX7_one_6 15 rfl rfl)
theorem dX7_one_158 : decode cX7_one 158 = .ok (.aload_n 0, 1) := dk_42 (dk_at dksX7_one_6 16 rfl rfl)
theorem dX7_one_159 : decode cX7_one 159 = .ok (.iconst 0, 1) := dk_3 (dk_at dksX7_one_6 17 rfl rfl)
theorem dX7_one_160 : decode cX7_one 160 = .ok (.sipush 9999, 3) := dk_17 39 15 (dk_at dksX7_one_6 18 rfl rfl)
theorem dX7_one_163 : decode cX7_one 163 = .ok (.invokevirtual 141, 3) := dk_182 0 141 (dk_at dksX7_one_6 21 rfl rfl)
theorem dX7_one_166 : decode cX7_one 166 = .ok (.i2l, 1) := dk_133 (dk_at dksX7_one_7 0 rfl rfl)
theorem dX7_one_167 : decode cX7_one 167 = .ok (.invokespecial 272, 3) := dk_183 1 16 (dk_at dksX7_one_7 1 rfl rfl)
theorem dX7_one_170 : decode cX7_one 170 = .ok (.areturn, 1) := dk_176 (dk_at dksX7_one_7 4 rfl rfl)
abbrev cX7_isSign : ByteArray := prog_17_method_13_code
def yX7_isSign : MethodName := ⟨RX7, "isSign", "(I)Z"⟩
def dkwX7_isSign_0 : List UInt8 := [42, 180, 0, 44, 7, 160, 0, 15, 42, 180, 0, 66, 27, 160, 0, 7, 4, 167, 0, 4, 3, 172]
abbrev dktX7_isSign_0 : List UInt8 := dkwX7_isSign_0 ++ []
theorem dksX7_isSign_0 : cX7_isSign.data.toList.drop 0 = dktX7_isSign_0 := by decide +kernel
theorem dX7_isSign_0 : decode cX7_isSign 0 = .ok (.aload_n 0, 1) := dk_42 (dk_at dksX7_isSign_0 0 rfl rfl)
theorem dX7_isSign_1 : decode cX7_isSign 1 = .ok (.getfield 44, 3) := dk_180 0 44 (dk_at dksX7_isSign_0 1 rfl rfl)
theorem dX7_isSign_4 : decode cX7_isSign 4 = .ok (.iconst 4, 1) := dk_7 (dk_at dksX7_isSign_0 4 rfl rfl)
theorem dX7_isSign_5 : decode cX7_isSign 5 = .ok (.if_icmp .ne 15, 3) := dk_160 0 15 (dk_at dksX7_isSign_0 5 rfl rfl)
theorem dX7_isSign_8 : decode cX7_isSign 8 = .ok (.aload_n 0, 1) := dk_42 (dk_at dksX7_isSign_0 8 rfl rfl)
theorem dX7_isSign_9 : decode cX7_isSign 9 = .ok (.getfield 66, 3) := dk_180 0 66 (dk_at dksX7_isSign_0 9 rfl rfl)
theorem dX7_isSign_12 : decode cX7_isSign 12 = .ok (.iload_n 1, 1) := dk_27 (dk_at dksX7_isSign_0 12 rfl rfl)
theorem dX7_isSign_13 : decode cX7_isSign 13 = .ok (.if_icmp .ne 7, 3) := dk_160 0 7 (dk_at dksX7_isSign_0 13 rfl rfl)
theorem dX7_isSign_16 : decode cX7_isSign 16 = .ok (.iconst 1, 1) := dk_4 (dk_at dksX7_isSign_0 16 rfl rfl)
theorem dX7_isSign_17 : decode cX7_isSign 17 = .ok (.goto 4, 3) := dk_167 0 4 (dk_at dksX7_isSign_0 17 rfl rfl)
theorem dX7_isSign_20 : decode cX7_isSign 20 = .ok (.iconst 0, 1) := dk_3 (dk_at dksX7_isSign_0 20 rfl rfl)
theorem dX7_isSign_21 : decode cX7_isSign 21 = .ok (.ireturn, 1) := dk_172 (dk_at dksX7_isSign_0 21 rfl rfl)
theorem q170 : (Jvm.Cond.initialized "MinistryDesks$Reader") ∈ lw_all := lw_g (lw_at lw_m1 10 rfl) rfl
theorem q247 : (Jvm.Cond.fieldLinkNest "MinistryDesks$Reader" (122 : Nat) "MinistryDesks$House" "desks" "Ljava/util/ArrayList;" "MinistryDesks") ∈ lw_tbl := lw_at lw_m1 87 rfl
theorem q250 : (Jvm.Cond.fieldLinkNest "MinistryDesks$Reader" (159 : Nat) "MinistryDesks$House" "facts" "Ljava/util/ArrayList;" "MinistryDesks") ∈ lw_tbl := lw_at lw_m1 90 rfl
theorem q254 : (Jvm.Cond.fieldLinkNest "MinistryDesks$Reader" (168 : Nat) "MinistryDesks$House" "comings" "Ljava/util/ArrayList;" "MinistryDesks") ∈ lw_tbl := lw_at lw_m1 94 rfl
theorem q258 : (Jvm.Cond.fieldLinkNest "MinistryDesks$Reader" (176 : Nat) "MinistryDesks$House" "questions" "Ljava/util/ArrayList;" "MinistryDesks") ∈ lw_tbl := lw_at lw_m1 98 rfl
theorem q260 : (Jvm.Cond.fieldLinkNest "MinistryDesks$Reader" (182 : Nat) "MinistryDesks$House" "fires" "Ljava/util/ArrayList;" "MinistryDesks") ∈ lw_tbl := lw_at lw_m1 100 rfl
theorem q263 : (Jvm.Cond.fieldLinkNest "MinistryDesks$Reader" (209 : Nat) "MinistryDesks$House" "mays" "Ljava/util/ArrayList;" "MinistryDesks") ∈ lw_tbl := lw_at lw_m1 103 rfl
theorem q266 : (Jvm.Cond.fieldLinkNest "MinistryDesks$Reader" (198 : Nat) "MinistryDesks$House" "keep" "LMinistryDesks$Node;" "MinistryDesks") ∈ lw_tbl := lw_at lw_m1 106 rfl
theorem q269 : (Jvm.Cond.fieldLinkNest "MinistryDesks$Reader" (202 : Nat) "MinistryDesks$House" "want" "LMinistryDesks$Node;" "MinistryDesks") ∈ lw_tbl := lw_at lw_m1 109 rfl
theorem q271 : (Jvm.Cond.fieldLinkNest "MinistryDesks$Reader" (192 : Nat) "MinistryDesks$House" "patience" "I" "MinistryDesks") ∈ lw_tbl := lw_at lw_m1 111 rfl
theorem q273 : (Jvm.Cond.fieldLinkNest "MinistryDesks$Reader" (220 : Nat) "MinistryDesks$House" "knots" "I" "MinistryDesks") ∈ lw_tbl := lw_at lw_m1 113 rfl
theorem q276 : (Jvm.Cond.fieldLinkNest "MinistryDesks$Reader" (119 : Nat) "MinistryDesks$House" "lines" "I" "MinistryDesks") ∈ lw_tbl := lw_at lw_m1 116 rfl
theorem q277 : (Jvm.Cond.fieldLinkNest "MinistryDesks$Reader" (188 : Nat) "MinistryDesks$House" "hasPatience" "Z" "MinistryDesks") ∈ lw_tbl := lw_at lw_m1 117 rfl
theorem q440 : (Jvm.Cond.fieldLinkNest "MinistryDesks$Reader" (26 : Nat) "MinistryDesks" "tape" "[B" "MinistryDesks") ∈ lw_tbl := lw_at lw_m2 40 rfl
theorem q544 : (Jvm.Cond.instantiable "MinistryDesks$Reader" (8 : Nat)) ∈ lw_all := lw_g (lw_at lw_m2 144 rfl) rfl
theorem q546 : (Jvm.Cond.instanceMethod ({ cls := "MinistryDesks$Reader", name := "<init>", desc := "(LMinistryDesks;I)V" } : Jvm.MethodName)) ∈ lw_all := lw_g (lw_at lw_m2 146 rfl) rfl
theorem q547 : (Jvm.Cond.code ({ cls := "MinistryDesks$Reader", name := "<init>", desc := "(LMinistryDesks;I)V" } : Jvm.MethodName) prog_17_method_1_code (3 : Nat) (Option.none : Option Jvm.ClassFile.FieldType)) ∈ lw_all := lw_g (lw_at lw_m2 147 rfl) rfl
theorem q548 : (Jvm.Cond.methodLink "MinistryDesks$Reader" (9 : Nat) ({ cls := "java/lang/Object", name := "<init>", desc := "()V" } : Jvm.MethodName)) ∈ lw_all := lw_g (lw_at lw_m2 148 rfl) rfl
theorem q549 : (Jvm.Cond.classLink "MinistryDesks$Reader" (15 : Nat) "MinistryDesks$House") ∈ lw_all := lw_g (lw_at lw_m2 149 rfl) rfl
theorem q550 : (Jvm.Cond.methodLinkNest "MinistryDesks$Reader" (17 : Nat) ({ cls := "MinistryDesks$House", name := "<init>", desc := "()V" } : Jvm.MethodName) "MinistryDesks") ∈ lw_tbl := lw_at lw_m2 150 rfl
theorem q551 : (Jvm.Cond.fieldLink "MinistryDesks$Reader" (22 : Nat) "MinistryDesks$Reader" "size" "I") ∈ lw_all := lw_g (lw_at lw_m2 151 rfl) rfl
theorem q552 : (Jvm.Cond.fieldLink "MinistryDesks$Reader" (18 : Nat) "MinistryDesks$Reader" "v" "LMinistryDesks$House;") ∈ lw_all := lw_g (lw_at lw_m2 152 rfl) rfl
theorem q553 : (Jvm.Cond.fieldLink "MinistryDesks$Reader" (38 : Nat) "MinistryDesks$Reader" "next" "I") ∈ lw_all := lw_g (lw_at lw_m2 153 rfl) rfl
theorem q554 : (Jvm.Cond.fieldLink "MinistryDesks$Reader" (44 : Nat) "MinistryDesks$Reader" "kind" "I") ∈ lw_all := lw_g (lw_at lw_m2 154 rfl) rfl
theorem q555 : (Jvm.Cond.fieldLink "MinistryDesks$Reader" (66 : Nat) "MinistryDesks$Reader" "which" "I") ∈ lw_all := lw_g (lw_at lw_m2 155 rfl) rfl
theorem q556 : (Jvm.Cond.fieldLink "MinistryDesks$Reader" (41 : Nat) "MinistryDesks$Reader" "place" "I") ∈ lw_all := lw_g (lw_at lw_m2 156 rfl) rfl
theorem q557 : (Jvm.Cond.fieldLink "MinistryDesks$Reader" (262 : Nat) "MinistryDesks$Reader" "open" "I") ∈ lw_all := lw_g (lw_at lw_m2 157 rfl) rfl
theorem q558 : (Jvm.Cond.fieldLink "MinistryDesks$Reader" (3 : Nat) "MinistryDesks$Reader" "this$0" "LMinistryDesks;") ∈ lw_all := lw_g (lw_at lw_m2 158 rfl) rfl
theorem q559 : (Jvm.Cond.laysFinal "MinistryDesks$Reader" "MinistryDesks$Reader" "size" "I") ∈ lw_all := lw_g (lw_at lw_m2 159 rfl) rfl
theorem q560 : (Jvm.Cond.soleField "MinistryDesks$Reader" "size") ∈ lw_all := lw_g (lw_at lw_m2 160 rfl) rfl
theorem q561 : (Jvm.Cond.laysFinal "MinistryDesks$Reader" "MinistryDesks$Reader" "v" "LMinistryDesks$House;") ∈ lw_all := lw_g (lw_at lw_m2 161 rfl) rfl
theorem q562 : (Jvm.Cond.soleField "MinistryDesks$Reader" "v") ∈ lw_all := lw_g (lw_at lw_m2 162 rfl) rfl
theorem q563 : (Jvm.Cond.lays "MinistryDesks$Reader" "MinistryDesks$Reader" "next" "I") ∈ lw_all := lw_g (lw_at lw_m2 163 rfl) rfl
theorem q564 : (Jvm.Cond.soleField "MinistryDesks$Reader" "next") ∈ lw_all := lw_g (lw_at lw_m2 164 rfl) rfl
theorem q565 : (Jvm.Cond.lays "MinistryDesks$Reader" "MinistryDesks$Reader" "kind" "I") ∈ lw_all := lw_g (lw_at lw_m2 165 rfl) rfl
theorem q566 : (Jvm.Cond.soleField "MinistryDesks$Reader" "kind") ∈ lw_all := lw_g (lw_at lw_m2 166 rfl) rfl
theorem q567 : (Jvm.Cond.lays "MinistryDesks$Reader" "MinistryDesks$Reader" "which" "I") ∈ lw_all := lw_g (lw_at lw_m2 167 rfl) rfl
theorem q568 : (Jvm.Cond.soleField "MinistryDesks$Reader" "which") ∈ lw_all := lw_g (lw_at lw_m2 168 rfl) rfl
theorem q569 : (Jvm.Cond.lays "MinistryDesks$Reader" "MinistryDesks$Reader" "place" "I") ∈ lw_all := lw_g (lw_at lw_m2 169 rfl) rfl
theorem q570 : (Jvm.Cond.soleField "MinistryDesks$Reader" "place") ∈ lw_all := lw_g (lw_at lw_m2 170 rfl) rfl
theorem q571 : (Jvm.Cond.lays "MinistryDesks$Reader" "MinistryDesks$Reader" "open" "I") ∈ lw_all := lw_g (lw_at lw_m2 171 rfl) rfl
theorem q572 : (Jvm.Cond.soleField "MinistryDesks$Reader" "open") ∈ lw_all := lw_g (lw_at lw_m2 172 rfl) rfl
theorem q573 : (Jvm.Cond.laysFinal "MinistryDesks$Reader" "MinistryDesks$Reader" "this$0" "LMinistryDesks;") ∈ lw_all := lw_g (lw_at lw_m2 173 rfl) rfl
theorem q574 : (Jvm.Cond.soleField "MinistryDesks$Reader" "this$0") ∈ lw_all := lw_g (lw_at lw_m2 174 rfl) rfl
theorem q575 : (Jvm.Cond.superclass "MinistryDesks$Reader" "java/lang/Object") ∈ lw_all := lw_g (lw_at lw_m2 175 rfl) rfl
theorem q577 : (Jvm.Cond.instanceMethod ({ cls := "MinistryDesks$Reader", name := "text", desc := "()LMinistryDesks$House;" } : Jvm.MethodName)) ∈ lw_all := lw_g (lw_at lw_m2 177 rfl) rfl
theorem q578 : (Jvm.Cond.selects "MinistryDesks$Reader" ({ cls := "MinistryDesks$Reader", name := "text", desc := "()LMinistryDesks$House;" } : Jvm.MethodName) ({ cls := "MinistryDesks$Reader", name := "text", desc := "()LMinistryDesks$House;" } : Jvm.MethodName)) ∈ lw_all := lw_g (lw_at lw_m2 178 rfl) rfl
theorem q579 : (Jvm.Cond.code ({ cls := "MinistryDesks$Reader", name := "text", desc := "()LMinistryDesks$House;" } : Jvm.MethodName) prog_17_method_19_code (1 : Nat) (Option.some (Jvm.ClassFile.FieldType.object "MinistryDesks$House"))) ∈ lw_all := lw_g (lw_at lw_m2 179 rfl) rfl
theorem q580 : (Jvm.Cond.methodLink "MinistryDesks$Reader" (107 : Nat) ({ cls := "MinistryDesks$Reader", name := "take", desc := "()V" } : Jvm.MethodName)) ∈ lw_all := lw_g (lw_at lw_m2 180 rfl) rfl
theorem q581 : (Jvm.Cond.privateMethod ({ cls := "MinistryDesks$Reader", name := "take", desc := "()V" } : Jvm.MethodName)) ∈ lw_tbl := lw_at lw_m2 181 rfl
theorem q582 : (Jvm.Cond.instanceMethod ({ cls := "MinistryDesks$Reader", name := "take", desc := "()V" } : Jvm.MethodName)) ∈ lw_all := lw_g (lw_at lw_m2 182 rfl) rfl
theorem q583 : (Jvm.Cond.code ({ cls := "MinistryDesks$Reader", name := "take", desc := "()V" } : Jvm.MethodName) prog_17_method_5_code (1 : Nat) (Option.none : Option Jvm.ClassFile.FieldType)) ∈ lw_all := lw_g (lw_at lw_m2 183 rfl) rfl
theorem q584 : (Jvm.Cond.methodLink "MinistryDesks$Reader" (30 : Nat) ({ cls := "MinistryDesks$Reader", name := "see", desc := "(I)I" } : Jvm.MethodName)) ∈ lw_all := lw_g (lw_at lw_m2 184 rfl) rfl
theorem q585 : (Jvm.Cond.privateMethod ({ cls := "MinistryDesks$Reader", name := "see", desc := "(I)I" } : Jvm.MethodName)) ∈ lw_tbl := lw_at lw_m2 185 rfl
theorem q586 : (Jvm.Cond.instanceMethod ({ cls := "MinistryDesks$Reader", name := "see", desc := "(I)I" } : Jvm.MethodName)) ∈ lw_all := lw_g (lw_at lw_m2 186 rfl) rfl
theorem q587 : (Jvm.Cond.code ({ cls := "MinistryDesks$Reader", name := "see", desc := "(I)I" } : Jvm.MethodName) prog_17_method_2_code (2 : Nat) (Option.some Jvm.ClassFile.FieldType.int)) ∈ lw_all := lw_g (lw_at lw_m2 187 rfl) rfl
theorem q588 : (Jvm.Cond.methodLink "MinistryDesks$Reader" (47 : Nat) ({ cls := "MinistryDesks$Reader", name := "isSmall", desc := "(I)Z" } : Jvm.MethodName)) ∈ lw_all := lw_g (lw_at lw_m2 188 rfl) rfl
theorem q589 : (Jvm.Cond.privateMethod ({ cls := "MinistryDesks$Reader", name := "isSmall", desc := "(I)Z" } : Jvm.MethodName)) ∈ lw_tbl := lw_at lw_m2 189 rfl
theorem q590 : (Jvm.Cond.instanceMethod ({ cls := "MinistryDesks$Reader", name := "isSmall", desc := "(I)Z" } : Jvm.MethodName)) ∈ lw_all := lw_g (lw_at lw_m2 190 rfl) rfl
theorem q591 : (Jvm.Cond.code ({ cls := "MinistryDesks$Reader", name := "isSmall", desc := "(I)Z" } : Jvm.MethodName) prog_17_method_3_code (2 : Nat) (Option.some Jvm.ClassFile.FieldType.boolean)) ∈ lw_all := lw_g (lw_at lw_m2 191 rfl) rfl
theorem q592 : (Jvm.Cond.methodLinkNest "MinistryDesks$Reader" (34 : Nat) ({ cls := "MinistryDesks", name := "isIn", desc := "(III)Z" } : Jvm.MethodName) "MinistryDesks") ∈ lw_tbl := lw_at lw_m2 192 rfl
theorem q593 : (Jvm.Cond.methodLink "MinistryDesks$Reader" (51 : Nat) ({ cls := "MinistryDesks$Reader", name := "takeWord", desc := "()V" } : Jvm.MethodName)) ∈ lw_all := lw_g (lw_at lw_m2 193 rfl) rfl
theorem q594 : (Jvm.Cond.privateMethod ({ cls := "MinistryDesks$Reader", name := "takeWord", desc := "()V" } : Jvm.MethodName)) ∈ lw_tbl := lw_at lw_m2 194 rfl
theorem q595 : (Jvm.Cond.instanceMethod ({ cls := "MinistryDesks$Reader", name := "takeWord", desc := "()V" } : Jvm.MethodName)) ∈ lw_all := lw_g (lw_at lw_m2 195 rfl) rfl
theorem q596 : (Jvm.Cond.code ({ cls := "MinistryDesks$Reader", name := "takeWord", desc := "()V" } : Jvm.MethodName) prog_17_method_6_code (2 : Nat) (Option.none : Option Jvm.ClassFile.FieldType)) ∈ lw_all := lw_g (lw_at lw_m2 196 rfl) rfl
theorem q597 : (Jvm.Cond.methodLink "MinistryDesks$Reader" (63 : Nat) ({ cls := "MinistryDesks$Reader", name := "key", desc := "(I)I" } : Jvm.MethodName)) ∈ lw_all := lw_g (lw_at lw_m2 197 rfl) rfl
theorem q598 : (Jvm.Cond.privateMethod ({ cls := "MinistryDesks$Reader", name := "key", desc := "(I)I" } : Jvm.MethodName)) ∈ lw_tbl := lw_at lw_m2 198 rfl
theorem q599 : (Jvm.Cond.instanceMethod ({ cls := "MinistryDesks$Reader", name := "key", desc := "(I)I" } : Jvm.MethodName)) ∈ lw_all := lw_g (lw_at lw_m2 199 rfl) rfl
theorem q600 : (Jvm.Cond.code ({ cls := "MinistryDesks$Reader", name := "key", desc := "(I)I" } : Jvm.MethodName) prog_17_method_7_code (7 : Nat) (Option.some Jvm.ClassFile.FieldType.int)) ∈ lw_all := lw_g (lw_at lw_m2 200 rfl) rfl
theorem q601 : (Jvm.Cond.stringRef "MinistryDesks$Reader" (69 : Nat) "desk asks fact comes question fire patience law may keep want and or not held left worth others asked fresh") ∈ lw_tbl := lw_at lw_m2 201 rfl
theorem q602 : (Jvm.Cond.methodLink "MinistryDesks$Reader" (71 : Nat) ({ cls := "java/lang/String", name := "length", desc := "()I" } : Jvm.MethodName)) ∈ lw_all := lw_g (lw_at lw_m2 202 rfl) rfl
theorem q612 : (Jvm.Cond.methodLink "MinistryDesks$Reader" (77 : Nat) ({ cls := "java/lang/String", name := "indexOf", desc := "(II)I" } : Jvm.MethodName)) ∈ lw_all := lw_g (lw_at lw_m2 212 rfl) rfl
theorem q685 : (Jvm.Cond.methodLink "MinistryDesks$Reader" (81 : Nat) ({ cls := "java/lang/String", name := "charAt", desc := "(I)C" } : Jvm.MethodName)) ∈ lw_all := lw_g (lw_at lw_m3 45 rfl) rfl
theorem q705 : (Jvm.Cond.methodLink "MinistryDesks$Reader" (54 : Nat) ({ cls := "MinistryDesks$Reader", name := "isDigit", desc := "(I)Z" } : Jvm.MethodName)) ∈ lw_all := lw_g (lw_at lw_m3 65 rfl) rfl
theorem q706 : (Jvm.Cond.privateMethod ({ cls := "MinistryDesks$Reader", name := "isDigit", desc := "(I)Z" } : Jvm.MethodName)) ∈ lw_tbl := lw_at lw_m3 66 rfl
theorem q707 : (Jvm.Cond.instanceMethod ({ cls := "MinistryDesks$Reader", name := "isDigit", desc := "(I)Z" } : Jvm.MethodName)) ∈ lw_all := lw_g (lw_at lw_m3 67 rfl) rfl
theorem q708 : (Jvm.Cond.code ({ cls := "MinistryDesks$Reader", name := "isDigit", desc := "(I)Z" } : Jvm.MethodName) prog_17_method_4_code (2 : Nat) (Option.some Jvm.ClassFile.FieldType.boolean)) ∈ lw_all := lw_g (lw_at lw_m3 68 rfl) rfl
theorem q709 : (Jvm.Cond.methodLink "MinistryDesks$Reader" (57 : Nat) ({ cls := "MinistryDesks$Reader", name := "takeNumber", desc := "()V" } : Jvm.MethodName)) ∈ lw_all := lw_g (lw_at lw_m3 69 rfl) rfl
theorem q710 : (Jvm.Cond.privateMethod ({ cls := "MinistryDesks$Reader", name := "takeNumber", desc := "()V" } : Jvm.MethodName)) ∈ lw_tbl := lw_at lw_m3 70 rfl
theorem q711 : (Jvm.Cond.instanceMethod ({ cls := "MinistryDesks$Reader", name := "takeNumber", desc := "()V" } : Jvm.MethodName)) ∈ lw_all := lw_g (lw_at lw_m3 71 rfl) rfl
theorem q712 : (Jvm.Cond.code ({ cls := "MinistryDesks$Reader", name := "takeNumber", desc := "()V" } : Jvm.MethodName) prog_17_method_8_code (1 : Nat) (Option.none : Option Jvm.ClassFile.FieldType)) ∈ lw_all := lw_g (lw_at lw_m3 72 rfl) rfl
theorem q713 : (Jvm.Cond.methodLink "MinistryDesks$Reader" (85 : Nat) ({ cls := "java/lang/Math", name := "min", desc := "(II)I" } : Jvm.MethodName)) ∈ lw_all := lw_g (lw_at lw_m3 73 rfl) rfl
theorem q714 : (Jvm.Cond.methodLink "MinistryDesks$Reader" (60 : Nat) ({ cls := "MinistryDesks$Reader", name := "takeSign", desc := "()V" } : Jvm.MethodName)) ∈ lw_all := lw_g (lw_at lw_m3 74 rfl) rfl
theorem q715 : (Jvm.Cond.privateMethod ({ cls := "MinistryDesks$Reader", name := "takeSign", desc := "()V" } : Jvm.MethodName)) ∈ lw_tbl := lw_at lw_m3 75 rfl
theorem q716 : (Jvm.Cond.instanceMethod ({ cls := "MinistryDesks$Reader", name := "takeSign", desc := "()V" } : Jvm.MethodName)) ∈ lw_all := lw_g (lw_at lw_m3 76 rfl) rfl
theorem q717 : (Jvm.Cond.code ({ cls := "MinistryDesks$Reader", name := "takeSign", desc := "()V" } : Jvm.MethodName) prog_17_method_9_code (4 : Nat) (Option.none : Option Jvm.ClassFile.FieldType)) ∈ lw_all := lw_g (lw_at lw_m3 77 rfl) rfl
theorem q718 : (Jvm.Cond.stringRef "MinistryDesks$Reader" (90 : Nat) "+-*/();") ∈ lw_tbl := lw_at lw_m3 78 rfl
theorem q719 : (Jvm.Cond.methodLink "MinistryDesks$Reader" (92 : Nat) ({ cls := "java/lang/String", name := "indexOf", desc := "(I)I" } : Jvm.MethodName)) ∈ lw_all := lw_g (lw_at lw_m3 79 rfl) rfl
theorem q724 : (Jvm.Cond.methodLink "MinistryDesks$Reader" (99 : Nat) ({ cls := "MinistryDesks$Reader", name := "wrong", desc := "()LMinistryDesks$Fault;" } : Jvm.MethodName)) ∈ lw_all := lw_g (lw_at lw_m3 84 rfl) rfl
theorem q725 : (Jvm.Cond.privateMethod ({ cls := "MinistryDesks$Reader", name := "wrong", desc := "()LMinistryDesks$Fault;" } : Jvm.MethodName)) ∈ lw_tbl := lw_at lw_m3 85 rfl
theorem q726 : (Jvm.Cond.instanceMethod ({ cls := "MinistryDesks$Reader", name := "wrong", desc := "()LMinistryDesks$Fault;" } : Jvm.MethodName)) ∈ lw_all := lw_g (lw_at lw_m3 86 rfl) rfl
theorem q727 : (Jvm.Cond.code ({ cls := "MinistryDesks$Reader", name := "wrong", desc := "()LMinistryDesks$Fault;" } : Jvm.MethodName) prog_17_method_10_code (1 : Nat) (Option.some (Jvm.ClassFile.FieldType.object "MinistryDesks$Fault"))) ∈ lw_all := lw_g (lw_at lw_m3 87 rfl) rfl
theorem q728 : (Jvm.Cond.classLink "MinistryDesks$Reader" (94 : Nat) "MinistryDesks$Fault") ∈ lw_all := lw_g (lw_at lw_m3 88 rfl) rfl
theorem q768 : (Jvm.Cond.methodLink "MinistryDesks$Reader" (96 : Nat) ({ cls := "MinistryDesks$Fault", name := "<init>", desc := "(II)V" } : Jvm.MethodName)) ∈ lw_all := lw_g (lw_at lw_m3 128 rfl) rfl
theorem q798 : (Jvm.Cond.methodLink "MinistryDesks$Reader" (113 : Nat) ({ cls := "MinistryDesks$Reader", name := "line", desc := "()V" } : Jvm.MethodName)) ∈ lw_all := lw_g (lw_at lw_m3 158 rfl) rfl
theorem q799 : (Jvm.Cond.privateMethod ({ cls := "MinistryDesks$Reader", name := "line", desc := "()V" } : Jvm.MethodName)) ∈ lw_tbl := lw_at lw_m3 159 rfl
theorem q800 : (Jvm.Cond.instanceMethod ({ cls := "MinistryDesks$Reader", name := "line", desc := "()V" } : Jvm.MethodName)) ∈ lw_all := lw_g (lw_at lw_m3 160 rfl) rfl
theorem q801 : (Jvm.Cond.code ({ cls := "MinistryDesks$Reader", name := "line", desc := "()V" } : Jvm.MethodName) prog_17_method_20_code (4 : Nat) (Option.none : Option Jvm.ClassFile.FieldType)) ∈ lw_all := lw_g (lw_at lw_m3 161 rfl) rfl
theorem q802 : (Jvm.Cond.methodLink "MinistryDesks$Reader" (126 : Nat) ({ cls := "java/util/ArrayList", name := "size", desc := "()I" } : Jvm.MethodName)) ∈ lw_all := lw_g (lw_at lw_m3 162 rfl) rfl
theorem q806 : (Jvm.Cond.methodLink "MinistryDesks$Reader" (103 : Nat) ({ cls := "MinistryDesks$Reader", name := "much", desc := "(Z)V" } : Jvm.MethodName)) ∈ lw_all := lw_g (lw_at lw_m3 166 rfl) rfl
theorem q807 : (Jvm.Cond.privateMethod ({ cls := "MinistryDesks$Reader", name := "much", desc := "(Z)V" } : Jvm.MethodName)) ∈ lw_tbl := lw_at lw_m3 167 rfl
theorem q808 : (Jvm.Cond.instanceMethod ({ cls := "MinistryDesks$Reader", name := "much", desc := "(Z)V" } : Jvm.MethodName)) ∈ lw_all := lw_g (lw_at lw_m3 168 rfl) rfl
theorem q809 : (Jvm.Cond.code ({ cls := "MinistryDesks$Reader", name := "much", desc := "(Z)V" } : Jvm.MethodName) prog_17_method_11_code (2 : Nat) (Option.none : Option Jvm.ClassFile.FieldType)) ∈ lw_all := lw_g (lw_at lw_m3 169 rfl) rfl
theorem q810 : (Jvm.Cond.methodLink "MinistryDesks$Reader" (130 : Nat) ({ cls := "MinistryDesks$Reader", name := "name", desc := "()I" } : Jvm.MethodName)) ∈ lw_all := lw_g (lw_at lw_m3 170 rfl) rfl
theorem q811 : (Jvm.Cond.privateMethod ({ cls := "MinistryDesks$Reader", name := "name", desc := "()I" } : Jvm.MethodName)) ∈ lw_tbl := lw_at lw_m3 171 rfl
theorem q812 : (Jvm.Cond.instanceMethod ({ cls := "MinistryDesks$Reader", name := "name", desc := "()I" } : Jvm.MethodName)) ∈ lw_all := lw_g (lw_at lw_m3 172 rfl) rfl
theorem q813 : (Jvm.Cond.code ({ cls := "MinistryDesks$Reader", name := "name", desc := "()I" } : Jvm.MethodName) prog_17_method_16_code (1 : Nat) (Option.some Jvm.ClassFile.FieldType.int)) ∈ lw_all := lw_g (lw_at lw_m3 173 rfl) rfl
theorem q814 : (Jvm.Cond.methodLink "MinistryDesks$Reader" (133 : Nat) ({ cls := "MinistryDesks$House", name := "desk", desc := "(I)I" } : Jvm.MethodName)) ∈ lw_all := lw_g (lw_at lw_m3 174 rfl) rfl
theorem q832 : (Jvm.Cond.methodLink "MinistryDesks$Reader" (136 : Nat) ({ cls := "MinistryDesks$Reader", name := "newName", desc := "(I)I" } : Jvm.MethodName)) ∈ lw_all := lw_g (lw_at lw_m3 192 rfl) rfl
theorem q833 : (Jvm.Cond.privateMethod ({ cls := "MinistryDesks$Reader", name := "newName", desc := "(I)I" } : Jvm.MethodName)) ∈ lw_tbl := lw_at lw_m3 193 rfl
theorem q834 : (Jvm.Cond.instanceMethod ({ cls := "MinistryDesks$Reader", name := "newName", desc := "(I)I" } : Jvm.MethodName)) ∈ lw_all := lw_g (lw_at lw_m3 194 rfl) rfl
theorem q835 : (Jvm.Cond.code ({ cls := "MinistryDesks$Reader", name := "newName", desc := "(I)I" } : Jvm.MethodName) prog_17_method_17_code (3 : Nat) (Option.some Jvm.ClassFile.FieldType.int)) ∈ lw_all := lw_g (lw_at lw_m3 195 rfl) rfl
theorem q836 : (Jvm.Cond.methodLink "MinistryDesks$Reader" (110 : Nat) ({ cls := "MinistryDesks$Reader", name := "told", desc := "(Z)V" } : Jvm.MethodName)) ∈ lw_all := lw_g (lw_at lw_m3 196 rfl) rfl
theorem q837 : (Jvm.Cond.privateMethod ({ cls := "MinistryDesks$Reader", name := "told", desc := "(Z)V" } : Jvm.MethodName)) ∈ lw_tbl := lw_at lw_m3 197 rfl
theorem q838 : (Jvm.Cond.instanceMethod ({ cls := "MinistryDesks$Reader", name := "told", desc := "(Z)V" } : Jvm.MethodName)) ∈ lw_all := lw_g (lw_at lw_m3 198 rfl) rfl
theorem q839 : (Jvm.Cond.code ({ cls := "MinistryDesks$Reader", name := "told", desc := "(Z)V" } : Jvm.MethodName) prog_17_method_12_code (2 : Nat) (Option.none : Option Jvm.ClassFile.FieldType)) ∈ lw_all := lw_g (lw_at lw_m3 199 rfl) rfl
theorem q840 : (Jvm.Cond.classLink "MinistryDesks$Reader" (139 : Nat) "MinistryDesks$Desk") ∈ lw_all := lw_g (lw_at lw_m3 200 rfl) rfl
theorem q842 : (Jvm.Cond.methodLink "MinistryDesks$Reader" (141 : Nat) ({ cls := "MinistryDesks$Reader", name := "number", desc := "(II)I" } : Jvm.MethodName)) ∈ lw_all := lw_g (lw_at lw_m3 202 rfl) rfl
theorem q843 : (Jvm.Cond.privateMethod ({ cls := "MinistryDesks$Reader", name := "number", desc := "(II)I" } : Jvm.MethodName)) ∈ lw_tbl := lw_at lw_m3 203 rfl
theorem q844 : (Jvm.Cond.instanceMethod ({ cls := "MinistryDesks$Reader", name := "number", desc := "(II)I" } : Jvm.MethodName)) ∈ lw_all := lw_g (lw_at lw_m3 204 rfl) rfl
theorem q845 : (Jvm.Cond.code ({ cls := "MinistryDesks$Reader", name := "number", desc := "(II)I" } : Jvm.MethodName) prog_17_method_15_code (4 : Nat) (Option.some Jvm.ClassFile.FieldType.int)) ∈ lw_all := lw_g (lw_at lw_m3 205 rfl) rfl
theorem q846 : (Jvm.Cond.methodLink "MinistryDesks$Reader" (144 : Nat) ({ cls := "MinistryDesks$Desk", name := "<init>", desc := "(II)V" } : Jvm.MethodName)) ∈ lw_all := lw_g (lw_at lw_m3 206 rfl) rfl
theorem q858 : (Jvm.Cond.fieldLinkNest "MinistryDesks$Reader" (153 : Nat) "MinistryDesks$Desk" "asks" "I" "MinistryDesks") ∈ lw_tbl := lw_at lw_m3 218 rfl
theorem q866 : (Jvm.Cond.methodLink "MinistryDesks$Reader" (145 : Nat) ({ cls := "java/util/ArrayList", name := "add", desc := "(Ljava/lang/Object;)Z" } : Jvm.MethodName)) ∈ lw_all := lw_g (lw_at lw_m3 226 rfl) rfl
theorem q911 : (Jvm.Cond.selects "MinistryDesks$Reader" ({ cls := "java/lang/Object", name := "getClass", desc := "()Ljava/lang/Class;" } : Jvm.MethodName) ({ cls := "java/lang/Object", name := "getClass", desc := "()Ljava/lang/Class;" } : Jvm.MethodName)) ∈ lw_all := lw_g (lw_at lw_m4 31 rfl) rfl
theorem q933 : (Jvm.Cond.methodLink "MinistryDesks$Reader" (149 : Nat) ({ cls := "java/util/ArrayList", name := "get", desc := "(I)Ljava/lang/Object;" } : Jvm.MethodName)) ∈ lw_all := lw_g (lw_at lw_m4 53 rfl) rfl
theorem q934 : (Jvm.Cond.methodLink "MinistryDesks$Reader" (156 : Nat) ({ cls := "MinistryDesks$Reader", name := "there", desc := "(I)I" } : Jvm.MethodName)) ∈ lw_all := lw_g (lw_at lw_m4 54 rfl) rfl
theorem q935 : (Jvm.Cond.privateMethod ({ cls := "MinistryDesks$Reader", name := "there", desc := "(I)I" } : Jvm.MethodName)) ∈ lw_tbl := lw_at lw_m4 55 rfl
theorem q936 : (Jvm.Cond.instanceMethod ({ cls := "MinistryDesks$Reader", name := "there", desc := "(I)I" } : Jvm.MethodName)) ∈ lw_all := lw_g (lw_at lw_m4 56 rfl) rfl
theorem q937 : (Jvm.Cond.code ({ cls := "MinistryDesks$Reader", name := "there", desc := "(I)I" } : Jvm.MethodName) prog_17_method_18_code (2 : Nat) (Option.some Jvm.ClassFile.FieldType.int)) ∈ lw_all := lw_g (lw_at lw_m4 57 rfl) rfl
theorem q938 : (Jvm.Cond.methodLink "MinistryDesks$Reader" (162 : Nat) ({ cls := "MinistryDesks$House", name := "fact", desc := "(I)I" } : Jvm.MethodName)) ∈ lw_all := lw_g (lw_at lw_m4 58 rfl) rfl
theorem q943 : (Jvm.Cond.classLink "MinistryDesks$Reader" (165 : Nat) "MinistryDesks$Fact") ∈ lw_all := lw_g (lw_at lw_m4 63 rfl) rfl
theorem q945 : (Jvm.Cond.methodLinkNest "MinistryDesks$Reader" (167 : Nat) ({ cls := "MinistryDesks$Fact", name := "<init>", desc := "(II)V" } : Jvm.MethodName) "MinistryDesks") ∈ lw_tbl := lw_at lw_m4 65 rfl
theorem q961 : (Jvm.Cond.classLink "MinistryDesks$Reader" (171 : Nat) "MinistryDesks$Coming") ∈ lw_all := lw_g (lw_at lw_m4 81 rfl) rfl
theorem q963 : (Jvm.Cond.methodLinkNest "MinistryDesks$Reader" (173 : Nat) ({ cls := "MinistryDesks$Coming", name := "<init>", desc := "(IIII)V" } : Jvm.MethodName) "MinistryDesks") ∈ lw_tbl := lw_at lw_m4 83 rfl
theorem q988 : (Jvm.Cond.classLink "MinistryDesks$Reader" (179 : Nat) "MinistryDesks$Question") ∈ lw_all := lw_g (lw_at lw_m4 108 rfl) rfl
theorem q990 : (Jvm.Cond.methodLinkNest "MinistryDesks$Reader" (181 : Nat) ({ cls := "MinistryDesks$Question", name := "<init>", desc := "(IIII)V" } : Jvm.MethodName) "MinistryDesks") ∈ lw_tbl := lw_at lw_m4 110 rfl
theorem q1014 : (Jvm.Cond.classLink "MinistryDesks$Reader" (185 : Nat) "MinistryDesks$Fire") ∈ lw_all := lw_g (lw_at lw_m4 134 rfl) rfl
theorem q1016 : (Jvm.Cond.methodLinkNest "MinistryDesks$Reader" (187 : Nat) ({ cls := "MinistryDesks$Fire", name := "<init>", desc := "(II)V" } : Jvm.MethodName) "MinistryDesks") ∈ lw_tbl := lw_at lw_m4 136 rfl
theorem q1029 : (Jvm.Cond.methodLink "MinistryDesks$Reader" (195 : Nat) ({ cls := "MinistryDesks$Reader", name := "isKey", desc := "(I)Z" } : Jvm.MethodName)) ∈ lw_all := lw_g (lw_at lw_m4 149 rfl) rfl
theorem q1030 : (Jvm.Cond.privateMethod ({ cls := "MinistryDesks$Reader", name := "isKey", desc := "(I)Z" } : Jvm.MethodName)) ∈ lw_tbl := lw_at lw_m4 150 rfl
theorem q1031 : (Jvm.Cond.instanceMethod ({ cls := "MinistryDesks$Reader", name := "isKey", desc := "(I)Z" } : Jvm.MethodName)) ∈ lw_all := lw_g (lw_at lw_m4 151 rfl) rfl
theorem q1032 : (Jvm.Cond.code ({ cls := "MinistryDesks$Reader", name := "isKey", desc := "(I)Z" } : Jvm.MethodName) prog_17_method_14_code (2 : Nat) (Option.some Jvm.ClassFile.FieldType.boolean)) ∈ lw_all := lw_g (lw_at lw_m4 152 rfl) rfl
theorem q1033 : (Jvm.Cond.methodLink "MinistryDesks$Reader" (205 : Nat) ({ cls := "MinistryDesks$Reader", name := "or", desc := "()LMinistryDesks$Node;" } : Jvm.MethodName)) ∈ lw_all := lw_g (lw_at lw_m4 153 rfl) rfl
theorem q1034 : (Jvm.Cond.privateMethod ({ cls := "MinistryDesks$Reader", name := "or", desc := "()LMinistryDesks$Node;" } : Jvm.MethodName)) ∈ lw_tbl := lw_at lw_m4 154 rfl
theorem q1035 : (Jvm.Cond.instanceMethod ({ cls := "MinistryDesks$Reader", name := "or", desc := "()LMinistryDesks$Node;" } : Jvm.MethodName)) ∈ lw_all := lw_g (lw_at lw_m4 155 rfl) rfl
theorem q1036 : (Jvm.Cond.code ({ cls := "MinistryDesks$Reader", name := "or", desc := "()LMinistryDesks$Node;" } : Jvm.MethodName) prog_17_method_22_code (2 : Nat) (Option.some (Jvm.ClassFile.FieldType.object "MinistryDesks$Node"))) ∈ lw_all := lw_g (lw_at lw_m4 156 rfl) rfl
theorem q1037 : (Jvm.Cond.methodLink "MinistryDesks$Reader" (223 : Nat) ({ cls := "MinistryDesks$Reader", name := "and", desc := "()LMinistryDesks$Node;" } : Jvm.MethodName)) ∈ lw_all := lw_g (lw_at lw_m4 157 rfl) rfl
theorem q1038 : (Jvm.Cond.privateMethod ({ cls := "MinistryDesks$Reader", name := "and", desc := "()LMinistryDesks$Node;" } : Jvm.MethodName)) ∈ lw_tbl := lw_at lw_m4 158 rfl
theorem q1039 : (Jvm.Cond.instanceMethod ({ cls := "MinistryDesks$Reader", name := "and", desc := "()LMinistryDesks$Node;" } : Jvm.MethodName)) ∈ lw_all := lw_g (lw_at lw_m4 159 rfl) rfl
theorem q1040 : (Jvm.Cond.code ({ cls := "MinistryDesks$Reader", name := "and", desc := "()LMinistryDesks$Node;" } : Jvm.MethodName) prog_17_method_23_code (2 : Nat) (Option.some (Jvm.ClassFile.FieldType.object "MinistryDesks$Node"))) ∈ lw_all := lw_g (lw_at lw_m4 160 rfl) rfl
theorem q1041 : (Jvm.Cond.methodLink "MinistryDesks$Reader" (234 : Nat) ({ cls := "MinistryDesks$Reader", name := "not", desc := "()LMinistryDesks$Node;" } : Jvm.MethodName)) ∈ lw_all := lw_g (lw_at lw_m4 161 rfl) rfl
theorem q1042 : (Jvm.Cond.privateMethod ({ cls := "MinistryDesks$Reader", name := "not", desc := "()LMinistryDesks$Node;" } : Jvm.MethodName)) ∈ lw_tbl := lw_at lw_m4 162 rfl
theorem q1043 : (Jvm.Cond.instanceMethod ({ cls := "MinistryDesks$Reader", name := "not", desc := "()LMinistryDesks$Node;" } : Jvm.MethodName)) ∈ lw_all := lw_g (lw_at lw_m4 163 rfl) rfl
theorem q1044 : (Jvm.Cond.code ({ cls := "MinistryDesks$Reader", name := "not", desc := "()LMinistryDesks$Node;" } : Jvm.MethodName) prog_17_method_24_code (4 : Nat) (Option.some (Jvm.ClassFile.FieldType.object "MinistryDesks$Node"))) ∈ lw_all := lw_g (lw_at lw_m4 164 rfl) rfl
theorem q1045 : (Jvm.Cond.methodLink "MinistryDesks$Reader" (226 : Nat) ({ cls := "MinistryDesks$Reader", name := "knot", desc := "()V" } : Jvm.MethodName)) ∈ lw_all := lw_g (lw_at lw_m4 165 rfl) rfl
theorem q1046 : (Jvm.Cond.privateMethod ({ cls := "MinistryDesks$Reader", name := "knot", desc := "()V" } : Jvm.MethodName)) ∈ lw_tbl := lw_at lw_m4 166 rfl
theorem q1047 : (Jvm.Cond.instanceMethod ({ cls := "MinistryDesks$Reader", name := "knot", desc := "()V" } : Jvm.MethodName)) ∈ lw_all := lw_g (lw_at lw_m4 167 rfl) rfl
theorem q1048 : (Jvm.Cond.code ({ cls := "MinistryDesks$Reader", name := "knot", desc := "()V" } : Jvm.MethodName) prog_17_method_21_code (1 : Nat) (Option.none : Option Jvm.ClassFile.FieldType)) ∈ lw_all := lw_g (lw_at lw_m4 168 rfl) rfl
theorem q1049 : (Jvm.Cond.methodLink "MinistryDesks$Reader" (237 : Nat) ({ cls := "MinistryDesks$Reader", name := "compared", desc := "()LMinistryDesks$Node;" } : Jvm.MethodName)) ∈ lw_all := lw_g (lw_at lw_m4 169 rfl) rfl
theorem q1050 : (Jvm.Cond.privateMethod ({ cls := "MinistryDesks$Reader", name := "compared", desc := "()LMinistryDesks$Node;" } : Jvm.MethodName)) ∈ lw_tbl := lw_at lw_m4 170 rfl
theorem q1051 : (Jvm.Cond.instanceMethod ({ cls := "MinistryDesks$Reader", name := "compared", desc := "()LMinistryDesks$Node;" } : Jvm.MethodName)) ∈ lw_all := lw_g (lw_at lw_m4 171 rfl) rfl
theorem q1052 : (Jvm.Cond.code ({ cls := "MinistryDesks$Reader", name := "compared", desc := "()LMinistryDesks$Node;" } : Jvm.MethodName) prog_17_method_25_code (3 : Nat) (Option.some (Jvm.ClassFile.FieldType.object "MinistryDesks$Node"))) ∈ lw_all := lw_g (lw_at lw_m4 172 rfl) rfl
theorem q1053 : (Jvm.Cond.methodLink "MinistryDesks$Reader" (245 : Nat) ({ cls := "MinistryDesks$Reader", name := "sum", desc := "()LMinistryDesks$Node;" } : Jvm.MethodName)) ∈ lw_all := lw_g (lw_at lw_m4 173 rfl) rfl
theorem q1054 : (Jvm.Cond.privateMethod ({ cls := "MinistryDesks$Reader", name := "sum", desc := "()LMinistryDesks$Node;" } : Jvm.MethodName)) ∈ lw_tbl := lw_at lw_m4 174 rfl
theorem q1055 : (Jvm.Cond.instanceMethod ({ cls := "MinistryDesks$Reader", name := "sum", desc := "()LMinistryDesks$Node;" } : Jvm.MethodName)) ∈ lw_all := lw_g (lw_at lw_m4 175 rfl) rfl
theorem q1056 : (Jvm.Cond.code ({ cls := "MinistryDesks$Reader", name := "sum", desc := "()LMinistryDesks$Node;" } : Jvm.MethodName) prog_17_method_26_code (3 : Nat) (Option.some (Jvm.ClassFile.FieldType.object "MinistryDesks$Node"))) ∈ lw_all := lw_g (lw_at lw_m4 176 rfl) rfl
theorem q1057 : (Jvm.Cond.methodLink "MinistryDesks$Reader" (253 : Nat) ({ cls := "MinistryDesks$Reader", name := "product", desc := "()LMinistryDesks$Node;" } : Jvm.MethodName)) ∈ lw_all := lw_g (lw_at lw_m4 177 rfl) rfl
theorem q1058 : (Jvm.Cond.privateMethod ({ cls := "MinistryDesks$Reader", name := "product", desc := "()LMinistryDesks$Node;" } : Jvm.MethodName)) ∈ lw_tbl := lw_at lw_m4 178 rfl
theorem q1059 : (Jvm.Cond.instanceMethod ({ cls := "MinistryDesks$Reader", name := "product", desc := "()LMinistryDesks$Node;" } : Jvm.MethodName)) ∈ lw_all := lw_g (lw_at lw_m4 179 rfl) rfl
theorem q1060 : (Jvm.Cond.code ({ cls := "MinistryDesks$Reader", name := "product", desc := "()LMinistryDesks$Node;" } : Jvm.MethodName) prog_17_method_27_code (3 : Nat) (Option.some (Jvm.ClassFile.FieldType.object "MinistryDesks$Node"))) ∈ lw_all := lw_g (lw_at lw_m4 180 rfl) rfl
theorem q1061 : (Jvm.Cond.methodLink "MinistryDesks$Reader" (259 : Nat) ({ cls := "MinistryDesks$Reader", name := "one", desc := "()LMinistryDesks$Node;" } : Jvm.MethodName)) ∈ lw_all := lw_g (lw_at lw_m4 181 rfl) rfl
theorem q1062 : (Jvm.Cond.privateMethod ({ cls := "MinistryDesks$Reader", name := "one", desc := "()LMinistryDesks$Node;" } : Jvm.MethodName)) ∈ lw_tbl := lw_at lw_m4 182 rfl
theorem q1063 : (Jvm.Cond.instanceMethod ({ cls := "MinistryDesks$Reader", name := "one", desc := "()LMinistryDesks$Node;" } : Jvm.MethodName)) ∈ lw_all := lw_g (lw_at lw_m4 183 rfl) rfl
theorem q1064 : (Jvm.Cond.code ({ cls := "MinistryDesks$Reader", name := "one", desc := "()LMinistryDesks$Node;" } : Jvm.MethodName) prog_17_method_28_code (2 : Nat) (Option.some (Jvm.ClassFile.FieldType.object "MinistryDesks$Node"))) ∈ lw_all := lw_g (lw_at lw_m4 184 rfl) rfl
theorem q1065 : (Jvm.Cond.methodLink "MinistryDesks$Reader" (116 : Nat) ({ cls := "MinistryDesks$Reader", name := "isSign", desc := "(I)Z" } : Jvm.MethodName)) ∈ lw_all := lw_g (lw_at lw_m4 185 rfl) rfl
theorem q1066 : (Jvm.Cond.privateMethod ({ cls := "MinistryDesks$Reader", name := "isSign", desc := "(I)Z" } : Jvm.MethodName)) ∈ lw_tbl := lw_at lw_m4 186 rfl
theorem q1067 : (Jvm.Cond.instanceMethod ({ cls := "MinistryDesks$Reader", name := "isSign", desc := "(I)Z" } : Jvm.MethodName)) ∈ lw_all := lw_g (lw_at lw_m4 187 rfl) rfl
theorem q1068 : (Jvm.Cond.code ({ cls := "MinistryDesks$Reader", name := "isSign", desc := "(I)Z" } : Jvm.MethodName) prog_17_method_13_code (2 : Nat) (Option.some Jvm.ClassFile.FieldType.boolean)) ∈ lw_all := lw_g (lw_at lw_m4 188 rfl) rfl
theorem q1069 : (Jvm.Cond.classLink "MinistryDesks$Reader" (265 : Nat) "MinistryDesks$Name") ∈ lw_all := lw_g (lw_at lw_m4 189 rfl) rfl
theorem q1071 : (Jvm.Cond.methodLinkNest "MinistryDesks$Reader" (267 : Nat) ({ cls := "MinistryDesks$Name", name := "<init>", desc := "(I)V" } : Jvm.MethodName) "MinistryDesks") ∈ lw_tbl := lw_at lw_m4 191 rfl
theorem q1079 : (Jvm.Cond.classLink "MinistryDesks$Reader" (270 : Nat) "MinistryDesks$Constant") ∈ lw_all := lw_g (lw_at lw_m4 199 rfl) rfl
theorem q1081 : (Jvm.Cond.methodLinkNest "MinistryDesks$Reader" (272 : Nat) ({ cls := "MinistryDesks$Constant", name := "<init>", desc := "(J)V" } : Jvm.MethodName) "MinistryDesks") ∈ lw_tbl := lw_at lw_m4 201 rfl
theorem q1089 : (Jvm.Cond.classLink "MinistryDesks$Reader" (256 : Nat) "MinistryDesks$Worked") ∈ lw_all := lw_g (lw_at lw_m4 209 rfl) rfl
theorem q1091 : (Jvm.Cond.methodLink "MinistryDesks$Reader" (258 : Nat) ({ cls := "MinistryDesks$Worked", name := "<init>", desc := "(ILMinistryDesks$Node;LMinistryDesks$Node;)V" } : Jvm.MethodName)) ∈ lw_all := lw_g (lw_at lw_m4 211 rfl) rfl
theorem q1108 : (Jvm.Cond.classLink "MinistryDesks$Reader" (248 : Nat) "MinistryDesks$Compared") ∈ lw_all := lw_g (lw_at lw_m4 228 rfl) rfl
theorem q1110 : (Jvm.Cond.methodLink "MinistryDesks$Reader" (250 : Nat) ({ cls := "MinistryDesks$Compared", name := "<init>", desc := "(ILMinistryDesks$Node;LMinistryDesks$Node;)V" } : Jvm.MethodName)) ∈ lw_all := lw_g (lw_at lw_m4 230 rfl) rfl
theorem q1120 : (Jvm.Cond.classLink "MinistryDesks$Reader" (240 : Nat) "MinistryDesks$Not") ∈ lw_all := lw_g (lw_at lw_m5 0 rfl) rfl
theorem q1122 : (Jvm.Cond.methodLinkNest "MinistryDesks$Reader" (242 : Nat) ({ cls := "MinistryDesks$Not", name := "<init>", desc := "(LMinistryDesks$Node;)V" } : Jvm.MethodName) "MinistryDesks") ∈ lw_tbl := lw_at lw_m5 2 rfl
theorem q1130 : (Jvm.Cond.classLink "MinistryDesks$Reader" (229 : Nat) "MinistryDesks$Choice") ∈ lw_all := lw_g (lw_at lw_m5 10 rfl) rfl
theorem q1132 : (Jvm.Cond.methodLink "MinistryDesks$Reader" (231 : Nat) ({ cls := "MinistryDesks$Choice", name := "<init>", desc := "(ZLMinistryDesks$Node;LMinistryDesks$Node;)V" } : Jvm.MethodName)) ∈ lw_all := lw_g (lw_at lw_m5 12 rfl) rfl
theorem q1142 : (Jvm.Cond.methodLink "MinistryDesks$Reader" (212 : Nat) ({ cls := "MinistryDesks$House", name := "may", desc := "(I)I" } : Jvm.MethodName)) ∈ lw_all := lw_g (lw_at lw_m5 22 rfl) rfl
theorem q1147 : (Jvm.Cond.classLink "MinistryDesks$Reader" (215 : Nat) "MinistryDesks$May") ∈ lw_all := lw_g (lw_at lw_m5 27 rfl) rfl
theorem q1149 : (Jvm.Cond.methodLinkNest "MinistryDesks$Reader" (217 : Nat) ({ cls := "MinistryDesks$May", name := "<init>", desc := "(ILMinistryDesks$Node;)V" } : Jvm.MethodName) "MinistryDesks") ∈ lw_tbl := lw_at lw_m5 29 rfl
theorem q2410 : (Jvm.Cond.castable "MinistryDesks$Reader" "java/lang/Object") ∈ lw_tbl := lw_at lw_m10 90 rfl
theorem in_X7 : ∀ w ∈ wsX70, w ∈ lw_all := lw_in wsX70 [559, 561, 563, 565, 567, 569, 571, 573] (by decide +kernel) (by decide +kernel)

