set_option maxRecDepth 100000
abbrev cX5_init : ByteArray := prog_18_method_1_code
def yX5_init : MethodName := ⟨RX5, "<init>", "(LMinistryDesks;)V"⟩
def dkwX5_init_4 : List UInt8 := [181, 0, 50, 42, 17, 3, 132, 188, 10, 181, 0, 53, 177]
abbrev dktX5_init_4 : List UInt8 := dkwX5_init_4 ++ []
def dkwX5_init_3 : List UInt8 := [181, 0, 41, 42, 16, 28, 188, 10, 181, 0, 44, 42, 16, 28, 188, 10, 181, 0, 47, 42, 16, 16, 188, 10]
abbrev dktX5_init_3 : List UInt8 := dkwX5_init_3 ++ dktX5_init_4
def dkwX5_init_2 : List UInt8 := [188, 10, 181, 0, 32, 42, 16, 28, 188, 10, 181, 0, 35, 42, 7, 188, 10, 181, 0, 38, 42, 7, 188, 10]
abbrev dktX5_init_2 : List UInt8 := dkwX5_init_2 ++ dktX5_init_3
def dkwX5_init_1 : List UInt8 := [7, 188, 10, 181, 0, 22, 42, 7, 188, 4, 181, 0, 25, 42, 16, 28, 188, 10, 181, 0, 29, 42, 16, 28]
abbrev dktX5_init_1 : List UInt8 := dkwX5_init_1 ++ dktX5_init_2
def dkwX5_init_0 : List UInt8 := [42, 43, 181, 0, 3, 42, 183, 0, 9, 42, 7, 188, 10, 181, 0, 15, 42, 7, 188, 10, 181, 0, 19, 42]
abbrev dktX5_init_0 : List UInt8 := dkwX5_init_0 ++ dktX5_init_1
theorem dksX5_init_0 : cX5_init.data.toList.drop 0 = dktX5_init_0 := by decide +kernel
theorem dksX5_init_1 : cX5_init.data.toList.drop 24 = dktX5_init_1 := dk_seg dksX5_init_0 24 rfl rfl
theorem dksX5_init_2 : cX5_init.data.toList.drop 48 = dktX5_init_2 := dk_seg dksX5_init_1 24 rfl rfl
theorem dksX5_init_3 : cX5_init.data.toList.drop 72 = dktX5_init_3 := dk_seg dksX5_init_2 24 rfl rfl
theorem dksX5_init_4 : cX5_init.data.toList.drop 96 = dktX5_init_4 := dk_seg dksX5_init_3 24 rfl rfl
theorem dX5_init_0 : decode cX5_init 0 = .ok (.aload_n 0, 1) := dk_42 (dk_at dksX5_init_0 0 rfl rfl)
theorem dX5_init_1 : decode cX5_init 1 = .ok (.aload_n 1, 1) := dk_43 (dk_at dksX5_init_0 1 rfl rfl)
theorem dX5_init_2 : decode cX5_init 2 = .ok (.putfield 3, 3) := dk_181 0 3 (dk_at dksX5_init_0 2 rfl rfl)
theorem dX5_init_5 : decode cX5_init 5 = .ok (.aload_n 0, 1) := dk_42 (dk_at dksX5_init_0 5 rfl rfl)
theorem dX5_init_6 : decode cX5_init 6 = .ok (.invokespecial 9, 3) := dk_183 0 9 (dk_at dksX5_init_0 6 rfl rfl)
theorem dX5_init_9 : decode cX5_init 9 = .ok (.aload_n 0, 1) := dk_42 (dk_at dksX5_init_0 9 rfl rfl)
theorem dX5_init_10 : decode cX5_init 10 = .ok (.iconst 4, 1) := dk_7 (dk_at dksX5_init_0 10 rfl rfl)
theorem dX5_init_11 : decode cX5_init 11 = .ok (.newarray .int, 2) := dk_188_10 (dk_at dksX5_init_0 11 rfl rfl)
theorem dX5_init_13 : decode cX5_init 13 = .ok (.putfield 15, 3) := dk_181 0 15 (dk_at dksX5_init_0 13 rfl rfl)
theorem dX5_init_16 : decode cX5_init 16 = .ok (.aload_n 0, 1) := dk_42 (dk_at dksX5_init_0 16 rfl rfl)
theorem dX5_init_17 : decode cX5_init 17 = .ok (.iconst 4, 1) := dk_7 (dk_at dksX5_init_0 17 rfl rfl)
theorem dX5_init_18 : decode cX5_init 18 = .ok (.newarray .int, 2) := dk_188_10 (dk_at dksX5_init_0 18 rfl rfl)
theorem dX5_init_20 : decode cX5_init 20 = .ok (.putfield 19, 3) := dk_181 0 19 (dk_at dksX5_init_0 20 rfl rfl)
theorem dX5_init_23 : decode cX5_init 23 = .ok (.aload_n 0, 1) := dk_42 (dk_at dksX5_init_0 23 rfl rfl)
theorem dX5_init_24 : decode cX5_init 24 = .ok (.iconst 4, 1) := dk_7 (dk_at dksX5_init_1 0 rfl rfl)
theorem dX5_init_25 : decode cX5_init 25 = .ok (.newarray .int, 2) := dk_188_10 (dk_at dksX5_init_1 1 rfl rfl)
theorem dX5_init_27 : decode cX5_init 27 = .ok (.putfield 22, 3) := dk_181 0 22 (dk_at dksX5_init_1 3 rfl rfl)
theorem dX5_init_30 : decode cX5_init 30 = .ok (.aload_n 0, 1) := dk_42 (dk_at dksX5_init_1 6 rfl rfl)
theorem dX5_init_31 : decode cX5_init 31 = .ok (.iconst 4, 1) := dk_7 (dk_at dksX5_init_1 7 rfl rfl)
theorem dX5_init_32 : decode cX5_init 32 = .ok (.newarray .boolean, 2) := dk_188_4 (dk_at dksX5_init_1 8 rfl rfl)
theorem dX5_init_34 : decode cX5_init 34 = .ok (.putfield 25, 3) := dk_181 0 25 (dk_at dksX5_init_1 10 rfl rfl)
theorem dX5_init_37 : decode cX5_init 37 = .ok (.aload_n 0, 1) := dk_42 (dk_at dksX5_init_1 13 rfl rfl)
theorem dX5_init_38 : decode cX5_init 38 = .ok (.bipush 28, 2) := dk_16 28 (dk_at dksX5_init_1 14 rfl rfl)
theorem dX5_init_40 : decode cX5_init 40 = .ok (.newarray .int, 2) := dk_188_10 (dk_at dksX5_init_1 16 rfl rfl)
theorem dX5_init_42 : decode cX5_init 42 = .ok (.putfield 29, 3) := dk_181 0 29 (dk_at dksX5_init_1 18 rfl rfl)
theorem dX5_init_45 : decode cX5_init 45 = .ok (.aload_n 0, 1) := dk_42 (dk_at dksX5_init_1 21 rfl rfl)
theorem dX5_init_46 : decode cX5_init 46 = .ok (.bipush 28, 2) := dk_16 28 (dk_at dksX5_init_1 22 rfl rfl)
theorem dX5_init_48 : decode cX5_init 48 = .ok (.newarray .int, 2) := dk_188_10 (dk_at dksX5_init_2 0 rfl rfl)
theorem dX5_init_50 : decode cX5_init 50 = .ok (.putfield 32, 3) := dk_181 0 32 (dk_at dksX5_init_2 2 rfl rfl)
theorem dX5_init_53 : decode cX5_init 53 = .ok (.aload_n 0, 1) := dk_42 (dk_at dksX5_init_2 5 rfl rfl)
theorem dX5_init_54 : decode cX5_init 54 = .ok (.bipush 28, 2) := dk_16 28 (dk_at dksX5_init_2 6 rfl rfl)
theorem dX5_init_56 : decode cX5_init 56 = .ok (.newarray .int, 2) := dk_188_10 (dk_at dksX5_init_2 8 rfl rfl)
theorem dX5_init_58 : decode cX5_init 58 = .ok (.putfield 35, 3) := dk_181 0 35 (dk_at dksX5_init_2 10 rfl rfl)
theorem dX5_init_61 : decode cX5_init 61 = .ok (.aload_n 0, 1) := dk_42 (dk_at dksX5_init_2 13 rfl rfl)
theorem dX5_init_62 : decode cX5_init 62 = .ok (.iconst 4, 1) := dk_7 (dk_at dksX5_init_2 14 rfl rfl)
theorem dX5_init_63 : decode cX5_init 63 = .ok (.newarray .int, 2) := dk_188_10 (dk_at dksX5_init_2 15 rfl rfl)
theorem dX5_init_65 : decode cX5_init 65 = .ok (.putfield 38, 3) := dk_181 0 38 (dk_at dksX5_init_2 17 rfl rfl)
theorem dX5_init_68 : decode cX5_init 68 = .ok (.aload_n 0, 1) := dk_42 (dk_at dksX5_init_2 20 rfl rfl)
theorem dX5_init_69 : decode cX5_init 69 = .ok (.iconst 4, 1) := dk_7 (dk_at dksX5_init_2 21 rfl rfl)
theorem dX5_init_70 : decode cX5_init 70 = .ok (.newarray .int, 2) := dk_188_10 (dk_at dksX5_init_2 22 rfl rfl)
theorem dX5_init_72 : decode cX5_init 72 = .ok (.putfield 41, 3) := dk_181 0 41 (dk_at dksX5_init_3 0 rfl rfl)
theorem dX5_init_75 : decode cX5_init 75 = .ok (.aload_n 0, 1) := dk_42 (dk_at dksX5_init_3 3 rfl rfl)
theorem dX5_init_76 : decode cX5_init 76 = .ok (.bipush 28, 2) := dk_16 28 (dk_at dksX5_init_3 4 rfl rfl)
theorem dX5_init_78 : decode cX5_init 78 = .ok (.newarray .int, 2) := dk_188_10 (dk_at dksX5_init_3 6 rfl rfl)
theorem dX5_init_80 : decode cX5_init 80 = .ok (.putfield 44, 3) := dk_181 0 44 (dk_at dksX5_init_3 8 rfl rfl)
theorem dX5_init_83 : decode cX5_init 83 = .ok (.aload_n 0, 1) := dk_42 (dk_at dksX5_init_3 11 rfl rfl)
theorem dX5_init_84 : decode cX5_init 84 = .ok (.bipush 28, 2) := dk_16 28 (dk_at dksX5_init_3 12 rfl rfl)
theorem dX5_init_86 : decode cX5_init 86 = .ok (.newarray .int, 2) := dk_188_10 (dk_at dksX5_init_3 14 rfl rfl)
theorem dX5_init_88 : decode cX5_init 88 = .ok (.putfield 47, 3) := dk_181 0 47 (dk_at dksX5_init_3 16 rfl rfl)
theorem dX5_init_91 : decode cX5_init 91 = .ok (.aload_n 0, 1) := dk_42 (dk_at dksX5_init_3 19 rfl rfl)
theorem dX5_init_92 : decode cX5_init 92 = .ok (.bipush 16, 2) := dk_16 16 (dk_at dksX5_init_3 20 rfl rfl)
theorem dX5_init_94 : decode cX5_init 94 = .ok (.newarray .int, 2) := dk_188_10 (dk_at dksX5_init_3 22 rfl rfl)
theorem dX5_init_96 : decode cX5_init 96 = .ok (.putfield 50, 3) := dk_181 0 50 (dk_at dksX5_init_4 0 rfl rfl)
theorem dX5_init_99 : decode cX5_init 99 = .ok (.aload_n 0, 1) := dk_42 (dk_at dksX5_init_4 3 rfl rfl)
theorem dX5_init_100 : decode cX5_init 100 = .ok (.sipush 900, 3) := dk_17 3 132 (dk_at dksX5_init_4 4 rfl rfl)
theorem dX5_init_103 : decode cX5_init 103 = .ok (.newarray .int, 2) := dk_188_10 (dk_at dksX5_init_4 7 rfl rfl)
theorem dX5_init_105 : decode cX5_init 105 = .ok (.putfield 53, 3) := dk_181 0 53 (dk_at dksX5_init_4 9 rfl rfl)
theorem dX5_init_108 : decode cX5_init 108 = .ok (.return_, 1) := dk_177 (dk_at dksX5_init_4 12 rfl rfl)
abbrev cX5_begin : ByteArray := prog_18_method_2_code
def yX5_begin : MethodName := ⟨RX5, "begin", "(LMinistryDesks$Change;)V"⟩
def dkwX5_begin_3 : List UInt8 := [180, 0, 50, 28, 16, 254, 79, 132, 2, 1, 167, 255, 239, 177]
abbrev dktX5_begin_3 : List UInt8 := dkwX5_begin_3 ++ []
def dkwX5_begin_2 : List UInt8 := [42, 180, 0, 25, 28, 3, 84, 132, 2, 1, 167, 255, 220, 3, 61, 28, 16, 16, 162, 0, 17, 42]
abbrev dktX5_begin_2 : List UInt8 := dkwX5_begin_2 ++ dktX5_begin_3
def dkwX5_begin_1 : List UInt8 := [162, 0, 37, 42, 180, 0, 15, 28, 3, 79, 42, 180, 0, 19, 28, 3, 79, 42, 180, 0, 22, 28, 2, 79]
abbrev dktX5_begin_1 : List UInt8 := dkwX5_begin_1 ++ dktX5_begin_2
def dkwX5_begin_0 : List UInt8 := [42, 43, 181, 0, 56, 42, 3, 181, 0, 60, 42, 3, 181, 0, 64, 42, 3, 181, 0, 67, 3, 61, 28, 7]
abbrev dktX5_begin_0 : List UInt8 := dkwX5_begin_0 ++ dktX5_begin_1
theorem dksX5_begin_0 : cX5_begin.data.toList.drop 0 = dktX5_begin_0 := by decide +kernel
theorem dksX5_begin_1 : cX5_begin.data.toList.drop 24 = dktX5_begin_1 := dk_seg dksX5_begin_0 24 rfl rfl
theorem dksX5_begin_2 : cX5_begin.data.toList.drop 48 = dktX5_begin_2 := dk_seg dksX5_begin_1 24 rfl rfl
theorem dksX5_begin_3 : cX5_begin.data.toList.drop 70 = dktX5_begin_3 := dk_seg dksX5_begin_2 22 rfl rfl
theorem dX5_begin_0 : decode cX5_begin 0 = .ok (.aload_n 0, 1) := dk_42 (dk_at dksX5_begin_0 0 rfl rfl)
theorem dX5_begin_1 : decode cX5_begin 1 = .ok (.aload_n 1, 1) := dk_43 (dk_at dksX5_begin_0 1 rfl rfl)
theorem dX5_begin_2 : decode cX5_begin 2 = .ok (.putfield 56, 3) := dk_181 0 56 (dk_at dksX5_begin_0 2 rfl rfl)
theorem dX5_begin_5 : decode cX5_begin 5 = .ok (.aload_n 0, 1) := dk_42 (dk_at dksX5_begin_0 5 rfl rfl)
theorem dX5_begin_6 : decode cX5_begin 6 = .ok (.iconst 0, 1) := dk_3 (dk_at dksX5_begin_0 6 rfl rfl)
theorem dX5_begin_7 : decode cX5_begin 7 = .ok (.putfield 60, 3) := dk_181 0 60 (dk_at dksX5_begin_0 7 rfl rfl)
theorem dX5_begin_10 : decode cX5_begin 10 = .ok (.aload_n 0, 1) := dk_42 (dk_at dksX5_begin_0 10 rfl rfl)
theorem dX5_begin_11 : decode cX5_begin 11 = .ok (.iconst 0, 1) := dk_3 (dk_at dksX5_begin_0 11 rfl rfl)
theorem dX5_begin_12 : decode cX5_begin 12 = .ok (.putfield 64, 3) := dk_181 0 64 (dk_at dksX5_begin_0 12 rfl rfl)
theorem dX5_begin_15 : decode cX5_begin 15 = .ok (.aload_n 0, 1) := dk_42 (dk_at dksX5_begin_0 15 rfl rfl)
theorem dX5_begin_16 : decode cX5_begin 16 = .ok (.iconst 0, 1) := dk_3 (dk_at dksX5_begin_0 16 rfl rfl)
theorem dX5_begin_17 : decode cX5_begin 17 = .ok (.putfield 67, 3) := dk_181 0 67 (dk_at dksX5_begin_0 17 rfl rfl)
theorem dX5_begin_20 : decode cX5_begin 20 = .ok (.iconst 0, 1) := dk_3 (dk_at dksX5_begin_0 20 rfl rfl)
theorem dX5_begin_21 : decode cX5_begin 21 = .ok (.istore_n 2, 1) := dk_61 (dk_at dksX5_begin_0 21 rfl rfl)
theorem dX5_begin_22 : decode cX5_begin 22 = .ok (.iload_n 2, 1) := dk_28 (dk_at dksX5_begin_0 22 rfl rfl)
theorem dX5_begin_23 : decode cX5_begin 23 = .ok (.iconst 4, 1) := dk_7 (dk_at dksX5_begin_0 23 rfl rfl)
theorem dX5_begin_24 : decode cX5_begin 24 = .ok (.if_icmp .ge 37, 3) := dk_162 0 37 (dk_at dksX5_begin_1 0 rfl rfl)
theorem dX5_begin_27 : decode cX5_begin 27 = .ok (.aload_n 0, 1) := dk_42 (dk_at dksX5_begin_1 3 rfl rfl)
theorem dX5_begin_28 : decode cX5_begin 28 = .ok (.getfield 15, 3) := dk_180 0 15 (dk_at dksX5_begin_1 4 rfl rfl)
theorem dX5_begin_31 : decode cX5_begin 31 = .ok (.iload_n 2, 1) := dk_28 (dk_at dksX5_begin_1 7 rfl rfl)
theorem dX5_begin_32 : decode cX5_begin 32 = .ok (.iconst 0, 1) := dk_3 (dk_at dksX5_begin_1 8 rfl rfl)
theorem dX5_begin_33 : decode cX5_begin 33 = .ok (.iastore, 1) := dk_79 (dk_at dksX5_begin_1 9 rfl rfl)
theorem dX5_begin_34 : decode cX5_begin 34 = .ok (.aload_n 0, 1) := dk_42 (dk_at dksX5_begin_1 10 rfl rfl)
theorem dX5_begin_35 : decode cX5_begin 35 = .ok (.getfield 19, 3) := dk_180 0 19 (dk_at dksX5_begin_1 11 rfl rfl)
theorem dX5_begin_38 : decode cX5_begin 38 = .ok (.iload_n 2, 1) := dk_28 (dk_at dksX5_begin_1 14 rfl rfl)
theorem dX5_begin_39 : decode cX5_begin 39 = .ok (.iconst 0, 1) := dk_3 (dk_at dksX5_begin_1 15 rfl rfl)
theorem dX5_begin_40 : decode cX5_begin 40 = .ok (.iastore, 1) := dk_79 (dk_at dksX5_begin_1 16 rfl rfl)
theorem dX5_begin_41 : decode cX5_begin 41 = .ok (.aload_n 0, 1) := dk_42 (dk_at dksX5_begin_1 17 rfl rfl)
theorem dX5_begin_42 : decode cX5_begin 42 = .ok (.getfield 22, 3) := dk_180 0 22 (dk_at dksX5_begin_1 18 rfl rfl)
theorem dX5_begin_45 : decode cX5_begin 45 = .ok (.iload_n 2, 1) := dk_28 (dk_at dksX5_begin_1 21 rfl rfl)
theorem dX5_begin_46 : decode cX5_begin 46 = .ok (.iconst (-1), 1) := dk_2 (dk_at dksX5_begin_1 22 rfl rfl)
theorem dX5_begin_47 : decode cX5_begin 47 = .ok (.iastore, 1) := dk_79 (dk_at dksX5_begin_1 23 rfl rfl)
theorem dX5_begin_48 : decode cX5_begin 48 = .ok (.aload_n 0, 1) := dk_42 (dk_at dksX5_begin_2 0 rfl rfl)
theorem dX5_begin_49 : decode cX5_begin 49 = .ok (.getfield 25, 3) := dk_180 0 25 (dk_at dksX5_begin_2 1 rfl rfl)
theorem dX5_begin_52 : decode cX5_begin 52 = .ok (.iload_n 2, 1) := dk_28 (dk_at dksX5_begin_2 4 rfl rfl)
theorem dX5_begin_53 : decode cX5_begin 53 = .ok (.iconst 0, 1) := dk_3 (dk_at dksX5_begin_2 5 rfl rfl)
theorem dX5_begin_54 : decode cX5_begin 54 = .ok (.bastore, 1) := dk_84 (dk_at dksX5_begin_2 6 rfl rfl)
theorem dX5_begin_55 : decode cX5_begin 55 = .ok (.iinc 2 1, 3) := dk_132 2 1 (dk_at dksX5_begin_2 7 rfl rfl)
theorem dX5_begin_58 : decode cX5_begin 58 = .ok (.goto (-36), 3) := dk_167 255 220 (dk_at dksX5_begin_2 10 rfl rfl)
theorem dX5_begin_61 : decode cX5_begin 61 = .ok (.iconst 0, 1) := dk_3 (dk_at dksX5_begin_2 13 rfl rfl)
theorem dX5_begin_62 : decode cX5_begin 62 = .ok (.istore_n 2, 1) := dk_61 (dk_at dksX5_begin_2 14 rfl rfl)
theorem dX5_begin_63 : decode cX5_begin 63 = .ok (.iload_n 2, 1) := dk_28 (dk_at dksX5_begin_2 15 rfl rfl)
theorem dX5_begin_64 : decode cX5_begin 64 = .ok (.bipush 16, 2) := dk_16 16 (dk_at dksX5_begin_2 16 rfl rfl)
theorem dX5_begin_66 : decode cX5_begin 66 = .ok (.if_icmp .ge 17, 3) := dk_162 0 17 (dk_at dksX5_begin_2 18 rfl rfl)
theorem dX5_begin_69 : decode cX5_begin 69 = .ok (.aload_n 0, 1) := dk_42 (dk_at dksX5_begin_2 21 rfl rfl)
theorem dX5_begin_70 : decode cX5_begin 70 = .ok (.getfield 50, 3) := dk_180 0 50 (dk_at dksX5_begin_3 0 rfl rfl)
theorem dX5_begin_73 : decode cX5_begin 73 = .ok (.iload_n 2, 1) := dk_28 (dk_at dksX5_begin_3 3 rfl rfl)
theorem dX5_begin_74 : decode cX5_begin 74 = .ok (.bipush (-2), 2) := dk_16 254 (dk_at dksX5_begin_3 4 rfl rfl)
theorem dX5_begin_76 : decode cX5_begin 76 = .ok (.iastore, 1) := dk_79 (dk_at dksX5_begin_3 6 rfl rfl)
theorem dX5_begin_77 : decode cX5_begin 77 = .ok (.iinc 2 1, 3) := dk_132 2 1 (dk_at dksX5_begin_3 7 rfl rfl)
theorem dX5_begin_80 : decode cX5_begin 80 = .ok (.goto (-17), 3) := dk_167 255 239 (dk_at dksX5_begin_3 10 rfl rfl)
theorem dX5_begin_83 : decode cX5_begin 83 = .ok (.return_, 1) := dk_177 (dk_at dksX5_begin_3 13 rfl rfl)
abbrev cX5_to : ByteArray := prog_18_method_25_code
def yX5_to : MethodName := ⟨RX5, "to", "(I)LMinistryDesks$Run;"⟩
def dkwX5_to_1 : List UInt8 := [42, 182, 0, 251, 42, 89, 180, 0, 60, 4, 96, 181, 0, 60, 167, 255, 218, 42, 176]
abbrev dktX5_to_1 : List UInt8 := dkwX5_to_1 ++ []
def dkwX5_to_0 : List UInt8 := [42, 180, 0, 60, 27, 162, 0, 36, 42, 182, 0, 240, 42, 182, 0, 243, 42, 182, 0, 246, 42, 182, 0, 248]
abbrev dktX5_to_0 : List UInt8 := dkwX5_to_0 ++ dktX5_to_1
theorem dksX5_to_0 : cX5_to.data.toList.drop 0 = dktX5_to_0 := by decide +kernel
theorem dksX5_to_1 : cX5_to.data.toList.drop 24 = dktX5_to_1 := dk_seg dksX5_to_0 24 rfl rfl
theorem dX5_to_0 : decode cX5_to 0 = .ok (.aload_n 0, 1) := dk_42 (dk_at dksX5_to_0 0 rfl rfl)
theorem dX5_to_1 : decode cX5_to 1 = .ok (.getfield 60, 3) := dk_180 0 60 (dk_at dksX5_to_0 1 rfl rfl)
theorem dX5_to_4 : decode cX5_to 4 = .ok (.iload_n 1, 1) := dk_27 (dk_at dksX5_to_0 4 rfl rfl)
theorem dX5_to_5 : decode cX5_to 5 = .ok (.if_icmp .ge 36, 3) := dk_162 0 36 (dk_at dksX5_to_0 5 rfl rfl)
theorem dX5_to_8 : decode cX5_to 8 = .ok (.aload_n 0, 1) := dk_42 (dk_at dksX5_to_0 8 rfl rfl)
theorem dX5_to_9 : decode cX5_to 9 = .ok (.invokevirtual 240, 3) := dk_182 0 240 (dk_at dksX5_to_0 9 rfl rfl)
theorem dX5_to_12 : decode cX5_to 12 = .ok (.aload_n 0, 1) := dk_42 (dk_at dksX5_to_0 12 rfl rfl)
theorem dX5_to_13 : decode cX5_to 13 = .ok (.invokevirtual 243, 3) := dk_182 0 243 (dk_at dksX5_to_0 13 rfl rfl)
theorem dX5_to_16 : decode cX5_to 16 = .ok (.aload_n 0, 1) := dk_42 (dk_at dksX5_to_0 16 rfl rfl)
theorem dX5_to_17 : decode cX5_to 17 = .ok (.invokevirtual 246, 3) := dk_182 0 246 (dk_at dksX5_to_0 17 rfl rfl)
theorem dX5_to_20 : decode cX5_to 20 = .ok (.aload_n 0, 1) := dk_42 (dk_at dksX5_to_0 20 rfl rfl)
theorem dX5_to_21 : decode cX5_to 21 = .ok (.invokevirtual 248, 3) := dk_182 0 248 (dk_at dksX5_to_0 21 rfl rfl)
theorem dX5_to_24 : decode cX5_to 24 = .ok (.aload_n 0, 1) := dk_42 (dk_at dksX5_to_1 0 rfl rfl)
theorem dX5_to_25 : decode cX5_to 25 = .ok (.invokevirtual 251, 3) := dk_182 0 251 (dk_at dksX5_to_1 1 rfl rfl)
theorem dX5_to_28 : decode cX5_to 28 = .ok (.aload_n 0, 1) := dk_42 (dk_at dksX5_to_1 4 rfl rfl)
theorem dX5_to_29 : decode cX5_to 29 = .ok (.dup, 1) := dk_89 (dk_at dksX5_to_1 5 rfl rfl)
theorem dX5_to_30 : decode cX5_to 30 = .ok (.getfield 60, 3) := dk_180 0 60 (dk_at dksX5_to_1 6 rfl rfl)
theorem dX5_to_33 : decode cX5_to 33 = .ok (.iconst 1, 1) := dk_4 (dk_at dksX5_to_1 9 rfl rfl)
theorem dX5_to_34 : decode cX5_to 34 = .ok (.iadd, 1) := dk_96 (dk_at dksX5_to_1 10 rfl rfl)
theorem dX5_to_35 : decode cX5_to 35 = .ok (.putfield 60, 3) := dk_181 0 60 (dk_at dksX5_to_1 11 rfl rfl)
theorem dX5_to_38 : decode cX5_to 38 = .ok (.goto (-38), 3) := dk_167 255 218 (dk_at dksX5_to_1 14 rfl rfl)
theorem dX5_to_41 : decode cX5_to 41 = .ok (.aload_n 0, 1) := dk_42 (dk_at dksX5_to_1 17 rfl rfl)
theorem dX5_to_42 : decode cX5_to 42 = .ok (.areturn, 1) := dk_176 (dk_at dksX5_to_1 18 rfl rfl)
abbrev cX5_dawn : ByteArray := prog_18_method_17_code
def yX5_dawn : MethodName := ⟨RX5, "dawn", "()V"⟩
def dkwX5_dawn_3 : List UInt8 := [182, 0, 189, 42, 27, 28, 182, 0, 192, 167, 255, 199, 132, 1, 1, 167, 255, 173, 177]
abbrev dktX5_dawn_3 : List UInt8 := dkwX5_dawn_3 ++ []
def dkwX5_dawn_2 : List UInt8 := [161, 0, 9, 132, 2, 1, 167, 255, 225, 42, 27, 42, 180, 0, 29, 16, 7, 27, 104, 28, 96, 46, 3]
abbrev dktX5_dawn_2 : List UInt8 := dkwX5_dawn_2 ++ dktX5_dawn_3
def dkwX5_dawn_1 : List UInt8 := [180, 0, 15, 27, 46, 162, 0, 53, 42, 180, 0, 32, 16, 7, 27, 104, 28, 96, 46, 42, 180, 0, 60]
abbrev dktX5_dawn_1 : List UInt8 := dkwX5_dawn_1 ++ dktX5_dawn_2
def dkwX5_dawn_0 : List UInt8 := [3, 60, 27, 42, 180, 0, 3, 182, 0, 112, 162, 0, 78, 42, 180, 0, 25, 27, 3, 84, 3, 61, 28, 42]
abbrev dktX5_dawn_0 : List UInt8 := dkwX5_dawn_0 ++ dktX5_dawn_1
theorem dksX5_dawn_0 : cX5_dawn.data.toList.drop 0 = dktX5_dawn_0 := by decide +kernel
theorem dksX5_dawn_1 : cX5_dawn.data.toList.drop 24 = dktX5_dawn_1 := dk_seg dksX5_dawn_0 24 rfl rfl
theorem dksX5_dawn_2 : cX5_dawn.data.toList.drop 47 = dktX5_dawn_2 := dk_seg dksX5_dawn_1 23 rfl rfl
theorem dksX5_dawn_3 : cX5_dawn.data.toList.drop 70 = dktX5_dawn_3 := dk_seg dksX5_dawn_2 23 rfl rfl
theorem dX5_dawn_0 : decode cX5_dawn 0 = .ok (.iconst 0, 1) := dk_3 (dk_at dksX5_dawn_0 0 rfl rfl)
theorem dX5_dawn_1 : decode cX5_dawn 1 = .ok (.istore_n 1, 1) := dk_60 (dk_at dksX5_dawn_0 1 rfl rfl)
theorem dX5_dawn_2 : decode cX5_dawn 2 = .ok (.iload_n 1, 1) := dk_27 (dk_at dksX5_dawn_0 2 rfl rfl)
theorem dX5_dawn_3 : decode cX5_dawn 3 = .ok (.aload_n 0, 1) := dk_42 (dk_at dksX5_dawn_0 3 rfl rfl)
theorem dX5_dawn_4 : decode cX5_dawn 4 = .ok (.getfield 3, 3) := dk_180 0 3 (dk_at dksX5_dawn_0 4 rfl rfl)
theorem dX5_dawn_7 : decode cX5_dawn 7 = .ok (.invokevirtual 112, 3) := dk_182 0 112 (dk_at dksX5_dawn_0 7 rfl rfl)
theorem dX5_dawn_10 : decode cX5_dawn 10 = .ok (.if_icmp .ge 78, 3) := dk_162 0 78 (dk_at dksX5_dawn_0 10 rfl rfl)
theorem dX5_dawn_13 : decode cX5_dawn 13 = .ok (.aload_n 0, 1) := dk_42 (dk_at dksX5_dawn_0 13 rfl rfl)
theorem dX5_dawn_14 : decode cX5_dawn 14 = .ok (.getfield 25, 3) := dk_180 0 25 (dk_at dksX5_dawn_0 14 rfl rfl)
theorem dX5_dawn_17 : decode cX5_dawn 17 = .ok (.iload_n 1, 1) := dk_27 (dk_at dksX5_dawn_0 17 rfl rfl)
theorem dX5_dawn_18 : decode cX5_dawn 18 = .ok (.iconst 0, 1) := dk_3 (dk_at dksX5_dawn_0 18 rfl rfl)
theorem dX5_dawn_19 : decode cX5_dawn 19 = .ok (.bastore, 1) := dk_84 (dk_at dksX5_dawn_0 19 rfl rfl)
theorem dX5_dawn_20 : decode cX5_dawn 20 = .ok (.iconst 0, 1) := dk_3 (dk_at dksX5_dawn_0 20 rfl rfl)
theorem dX5_dawn_21 : decode cX5_dawn 21 = .ok (.istore_n 2, 1) := dk_61 (dk_at dksX5_dawn_0 21 rfl rfl)
theorem dX5_dawn_22 : decode cX5_dawn 22 = .ok (.iload_n 2, 1) := dk_28 (dk_at dksX5_dawn_0 22 rfl rfl)
theorem dX5_dawn_23 : decode cX5_dawn 23 = .ok (.aload_n 0, 1) := dk_42 (dk_at dksX5_dawn_0 23 rfl rfl)
theorem dX5_dawn_24 : decode cX5_dawn 24 = .ok (.getfield 15, 3) := dk_180 0 15 (dk_at dksX5_dawn_1 0 rfl rfl)
theorem dX5_dawn_27 : decode cX5_dawn 27 = .ok (.iload_n 1, 1) := dk_27 (dk_at dksX5_dawn_1 3 rfl rfl)
theorem dX5_dawn_28 : decode cX5_dawn 28 = .ok (.iaload, 1) := dk_46 (dk_at dksX5_dawn_1 4 rfl rfl)
theorem dX5_dawn_29 : decode cX5_dawn 29 = .ok (.if_icmp .ge 53, 3) := dk_162 0 53 (dk_at dksX5_dawn_1 5 rfl rfl)
theorem dX5_dawn_32 : decode cX5_dawn 32 = .ok (.aload_n 0, 1) := dk_42 (dk_at dksX5_dawn_1 8 rfl rfl)
theorem dX5_dawn_33 : decode cX5_dawn 33 = .ok (.getfield 32, 3) := dk_180 0 32 (dk_at dksX5_dawn_1 9 rfl rfl)
theorem dX5_dawn_36 : decode cX5_dawn 36 = .ok (.bipush 7, 2) := dk_16 7 (dk_at dksX5_dawn_1 12 rfl rfl)
theorem dX5_dawn_38 : decode cX5_dawn 38 = .ok (.iload_n 1, 1) := dk_27 (dk_at dksX5_dawn_1 14 rfl rfl)
theorem dX5_dawn_39 : decode cX5_dawn 39 = .ok (.imul, 1) := dk_104 (dk_at dksX5_dawn_1 15 rfl rfl)
theorem dX5_dawn_40 : decode cX5_dawn 40 = .ok (.iload_n 2, 1) := dk_28 (dk_at dksX5_dawn_1 16 rfl rfl)
theorem dX5_dawn_41 : decode cX5_dawn 41 = .ok (.iadd, 1) := dk_96 (dk_at dksX5_dawn_1 17 rfl rfl)
theorem dX5_dawn_42 : decode cX5_dawn 42 = .ok (.iaload, 1) := dk_46 (dk_at dksX5_dawn_1 18 rfl rfl)
theorem dX5_dawn_43 : decode cX5_dawn 43 = .ok (.aload_n 0, 1) := dk_42 (dk_at dksX5_dawn_1 19 rfl rfl)
theorem dX5_dawn_44 : decode cX5_dawn 44 = .ok (.getfield 60, 3) := dk_180 0 60 (dk_at dksX5_dawn_1 20 rfl rfl)
theorem dX5_dawn_47 : decode cX5_dawn 47 = .ok (.if_icmp .lt 9, 3) := dk_161 0 9 (dk_at dksX5_dawn_2 0 rfl rfl)
theorem dX5_dawn_50 : decode cX5_dawn 50 = .ok (.iinc 2 1, 3) := dk_132 2 1 (dk_at dksX5_dawn_2 3 rfl rfl)
theorem dX5_dawn_53 : decode cX5_dawn 53 = .ok (.goto (-31), 3) := dk_167 255 225 (dk_at dksX5_dawn_2 6 rfl rfl)
theorem dX5_dawn_56 : decode cX5_dawn 56 = .ok (.aload_n 0, 1) := dk_42 (dk_at dksX5_dawn_2 9 rfl rfl)
theorem dX5_dawn_57 : decode cX5_dawn 57 = .ok (.iload_n 1, 1) := dk_27 (dk_at dksX5_dawn_2 10 rfl rfl)
theorem dX5_dawn_58 : decode cX5_dawn 58 = .ok (.aload_n 0, 1) := dk_42 (dk_at dksX5_dawn_2 11 rfl rfl)
theorem dX5_dawn_59 : decode cX5_dawn 59 = .ok (.getfield 29, 3) := dk_180 0 29 (dk_at dksX5_dawn_2 12 rfl rfl)
theorem dX5_dawn_62 : decode cX5_dawn 62 = .ok (.bipush 7, 2) := dk_16 7 (dk_at dksX5_dawn_2 15 rfl rfl)
theorem dX5_dawn_64 : decode cX5_dawn 64 = .ok (.iload_n 1, 1) := dk_27 (dk_at dksX5_dawn_2 17 rfl rfl)
theorem dX5_dawn_65 : decode cX5_dawn 65 = .ok (.imul, 1) := dk_104 (dk_at dksX5_dawn_2 18 rfl rfl)
theorem dX5_dawn_66 : decode cX5_dawn 66 = .ok (.iload_n 2, 1) := dk_28 (dk_at dksX5_dawn_2 19 rfl rfl)
theorem dX5_dawn_67 : decode cX5_dawn 67 = .ok (.iadd, 1) := dk_96 (dk_at dksX5_dawn_2 20 rfl rfl)
theorem dX5_dawn_68 : decode cX5_dawn 68 = .ok (.iaload, 1) := dk_46 (dk_at dksX5_dawn_2 21 rfl rfl)
theorem dX5_dawn_69 : decode cX5_dawn 69 = .ok (.iconst 0, 1) := dk_3 (dk_at dksX5_dawn_2 22 rfl rfl)
theorem dX5_dawn_70 : decode cX5_dawn 70 = .ok (.invokevirtual 189, 3) := dk_182 0 189 (dk_at dksX5_dawn_3 0 rfl rfl)
theorem dX5_dawn_73 : decode cX5_dawn 73 = .ok (.aload_n 0, 1) := dk_42 (dk_at dksX5_dawn_3 3 rfl rfl)
theorem dX5_dawn_74 : decode cX5_dawn 74 = .ok (.iload_n 1, 1) := dk_27 (dk_at dksX5_dawn_3 4 rfl rfl)
theorem dX5_dawn_75 : decode cX5_dawn 75 = .ok (.iload_n 2, 1) := dk_28 (dk_at dksX5_dawn_3 5 rfl rfl)
theorem dX5_dawn_76 : decode cX5_dawn 76 = .ok (.invokevirtual 192, 3) := dk_182 0 192 (dk_at dksX5_dawn_3 6 rfl rfl)
theorem dX5_dawn_79 : decode cX5_dawn 79 = .ok (.goto (-57), 3) := dk_167 255 199 (dk_at dksX5_dawn_3 9 rfl rfl)
theorem dX5_dawn_82 : decode cX5_dawn 82 = .ok (.iinc 1 1, 3) := dk_132 1 1 (dk_at dksX5_dawn_3 12 rfl rfl)
theorem dX5_dawn_85 : decode cX5_dawn 85 = .ok (.goto (-83), 3) := dk_167 255 173 (dk_at dksX5_dawn_3 15 rfl rfl)
theorem dX5_dawn_88 : decode cX5_dawn 88 = .ok (.return_, 1) := dk_177 (dk_at dksX5_dawn_3 18 rfl rfl)
abbrev cX5_goes : ByteArray := prog_18_method_6_code
def yX5_goes : MethodName := ⟨RX5, "goes", "(III)V"⟩
def dkwX5_goes_1 : List UInt8 := [29, 96, 79, 42, 89, 180, 0, 64, 4, 96, 181, 0, 64, 177]
abbrev dktX5_goes_1 : List UInt8 := dkwX5_goes_1 ++ []
def dkwX5_goes_0 : List UInt8 := [42, 180, 0, 53, 42, 180, 0, 64, 42, 180, 0, 60, 16, 8, 104, 27, 96, 16, 8, 104, 28, 96, 7, 104]
abbrev dktX5_goes_0 : List UInt8 := dkwX5_goes_0 ++ dktX5_goes_1
theorem dksX5_goes_0 : cX5_goes.data.toList.drop 0 = dktX5_goes_0 := by decide +kernel
theorem dksX5_goes_1 : cX5_goes.data.toList.drop 24 = dktX5_goes_1 := dk_seg dksX5_goes_0 24 rfl rfl
theorem dX5_goes_0 : decode cX5_goes 0 = .ok (.aload_n 0, 1) := dk_42 (dk_at dksX5_goes_0 0 rfl rfl)
theorem dX5_goes_1 : decode cX5_goes 1 = .ok (.getfield 53, 3) := dk_180 0 53 (dk_at dksX5_goes_0 1 rfl rfl)
theorem dX5_goes_4 : decode cX5_goes 4 = .ok (.aload_n 0, 1) := dk_42 (dk_at dksX5_goes_0 4 rfl rfl)
theorem dX5_goes_5 : decode cX5_goes 5 = .ok (.getfield 64, 3) := dk_180 0 64 (dk_at dksX5_goes_0 5 rfl rfl)
theorem dX5_goes_8 : decode cX5_goes 8 = .ok (.aload_n 0, 1) := dk_42 (dk_at dksX5_goes_0 8 rfl rfl)
theorem dX5_goes_9 : decode cX5_goes 9 = .ok (.getfield 60, 3) := dk_180 0 60 (dk_at dksX5_goes_0 9 rfl rfl)
theorem dX5_goes_12 : decode cX5_goes 12 = .ok (.bipush 8, 2) := dk_16 8 (dk_at dksX5_goes_0 12 rfl rfl)
theorem dX5_goes_14 : decode cX5_goes 14 = .ok (.imul, 1) := dk_104 (dk_at dksX5_goes_0 14 rfl rfl)
theorem dX5_goes_15 : decode cX5_goes 15 = .ok (.iload_n 1, 1) := dk_27 (dk_at dksX5_goes_0 15 rfl rfl)
theorem dX5_goes_16 : decode cX5_goes 16 = .ok (.iadd, 1) := dk_96 (dk_at dksX5_goes_0 16 rfl rfl)
theorem dX5_goes_17 : decode cX5_goes 17 = .ok (.bipush 8, 2) := dk_16 8 (dk_at dksX5_goes_0 17 rfl rfl)
theorem dX5_goes_19 : decode cX5_goes 19 = .ok (.imul, 1) := dk_104 (dk_at dksX5_goes_0 19 rfl rfl)
theorem dX5_goes_20 : decode cX5_goes 20 = .ok (.iload_n 2, 1) := dk_28 (dk_at dksX5_goes_0 20 rfl rfl)
theorem dX5_goes_21 : decode cX5_goes 21 = .ok (.iadd, 1) := dk_96 (dk_at dksX5_goes_0 21 rfl rfl)
theorem dX5_goes_22 : decode cX5_goes 22 = .ok (.iconst 4, 1) := dk_7 (dk_at dksX5_goes_0 22 rfl rfl)
theorem dX5_goes_23 : decode cX5_goes 23 = .ok (.imul, 1) := dk_104 (dk_at dksX5_goes_0 23 rfl rfl)
theorem dX5_goes_24 : decode cX5_goes 24 = .ok (.iload_n 3, 1) := dk_29 (dk_at dksX5_goes_1 0 rfl rfl)
theorem dX5_goes_25 : decode cX5_goes 25 = .ok (.iadd, 1) := dk_96 (dk_at dksX5_goes_1 1 rfl rfl)
theorem dX5_goes_26 : decode cX5_goes 26 = .ok (.iastore, 1) := dk_79 (dk_at dksX5_goes_1 2 rfl rfl)
theorem dX5_goes_27 : decode cX5_goes 27 = .ok (.aload_n 0, 1) := dk_42 (dk_at dksX5_goes_1 3 rfl rfl)
theorem dX5_goes_28 : decode cX5_goes 28 = .ok (.dup, 1) := dk_89 (dk_at dksX5_goes_1 4 rfl rfl)
theorem dX5_goes_29 : decode cX5_goes 29 = .ok (.getfield 64, 3) := dk_180 0 64 (dk_at dksX5_goes_1 5 rfl rfl)
theorem dX5_goes_32 : decode cX5_goes 32 = .ok (.iconst 1, 1) := dk_4 (dk_at dksX5_goes_1 8 rfl rfl)
theorem dX5_goes_33 : decode cX5_goes 33 = .ok (.iadd, 1) := dk_96 (dk_at dksX5_goes_1 9 rfl rfl)
theorem dX5_goes_34 : decode cX5_goes 34 = .ok (.putfield 64, 3) := dk_181 0 64 (dk_at dksX5_goes_1 10 rfl rfl)
theorem dX5_goes_37 : decode cX5_goes 37 = .ok (.return_, 1) := dk_177 (dk_at dksX5_goes_1 13 rfl rfl)
abbrev cX5_strike : ByteArray := prog_18_method_14_code
def yX5_strike : MethodName := ⟨RX5, "strike", "(II)V"⟩
def dkwX5_strike_3 : List UInt8 := [42, 180, 0, 15, 27, 92, 46, 4, 100, 79, 177]
abbrev dktX5_strike_3 : List UInt8 := dkwX5_strike_3 ++ []
def dkwX5_strike_2 : List UInt8 := [4, 96, 46, 79, 42, 180, 0, 35, 29, 42, 180, 0, 35, 29, 4, 96, 46, 79, 132, 3, 1, 167, 255, 194]
abbrev dktX5_strike_2 : List UInt8 := dkwX5_strike_2 ++ dktX5_strike_3
def dkwX5_strike_1 : List UInt8 := [42, 180, 0, 29, 29, 42, 180, 0, 29, 29, 4, 96, 46, 79, 42, 180, 0, 32, 29, 42, 180, 0, 32, 29]
abbrev dktX5_strike_1 : List UInt8 := dkwX5_strike_1 ++ dktX5_strike_2
def dkwX5_strike_0 : List UInt8 := [16, 7, 27, 104, 28, 96, 62, 29, 16, 7, 27, 104, 42, 180, 0, 15, 27, 46, 96, 4, 100, 162, 0, 51]
abbrev dktX5_strike_0 : List UInt8 := dkwX5_strike_0 ++ dktX5_strike_1
theorem dksX5_strike_0 : cX5_strike.data.toList.drop 0 = dktX5_strike_0 := by decide +kernel
theorem dksX5_strike_1 : cX5_strike.data.toList.drop 24 = dktX5_strike_1 := dk_seg dksX5_strike_0 24 rfl rfl
theorem dksX5_strike_2 : cX5_strike.data.toList.drop 48 = dktX5_strike_2 := dk_seg dksX5_strike_1 24 rfl rfl
theorem dksX5_strike_3 : cX5_strike.data.toList.drop 72 = dktX5_strike_3 := dk_seg dksX5_strike_2 24 rfl rfl
theorem dX5_strike_0 : decode cX5_strike 0 = .ok (.bipush 7, 2) := dk_16 7 (dk_at dksX5_strike_0 0 rfl rfl)
theorem dX5_strike_2 : decode cX5_strike 2 = .ok (.iload_n 1, 1) := dk_27 (dk_at dksX5_strike_0 2 rfl rfl)
theorem dX5_strike_3 : decode cX5_strike 3 = .ok (.imul, 1) := dk_104 (dk_at dksX5_strike_0 3 rfl rfl)
theorem dX5_strike_4 : decode cX5_strike 4 = .ok (.iload_n 2, 1) := dk_28 (dk_at dksX5_strike_0 4 rfl rfl)
theorem dX5_strike_5 : decode cX5_strike 5 = .ok (.iadd, 1) := dk_96 (dk_at dksX5_strike_0 5 rfl rfl)
theorem dX5_strike_6 : decode cX5_strike 6 = .ok (.istore_n 3, 1) := dk_62 (dk_at dksX5_strike_0 6 rfl rfl)
theorem dX5_strike_7 : decode cX5_strike 7 = .ok (.iload_n 3, 1) := dk_29 (dk_at dksX5_strike_0 7 rfl rfl)
theorem dX5_strike_8 : decode cX5_strike 8 = .ok (.bipush 7, 2) := dk_16 7 (dk_at dksX5_strike_0 8 rfl rfl)
theorem dX5_strike_10 : decode cX5_strike 10 = .ok (.iload_n 1, 1) := dk_27 (dk_at dksX5_strike_0 10 rfl rfl)
theorem dX5_strike_11 : decode cX5_strike 11 = .ok (.imul, 1) := dk_104 (dk_at dksX5_strike_0 11 rfl rfl)
theorem dX5_strike_12 : decode cX5_strike 12 = .ok (.aload_n 0, 1) := dk_42 (dk_at dksX5_strike_0 12 rfl rfl)
theorem dX5_strike_13 : decode cX5_strike 13 = .ok (.getfield 15, 3) := dk_180 0 15 (dk_at dksX5_strike_0 13 rfl rfl)
theorem dX5_strike_16 : decode cX5_strike 16 = .ok (.iload_n 1, 1) := dk_27 (dk_at dksX5_strike_0 16 rfl rfl)
theorem dX5_strike_17 : decode cX5_strike 17 = .ok (.iaload, 1) := dk_46 (dk_at dksX5_strike_0 17 rfl rfl)
theorem dX5_strike_18 : decode cX5_strike 18 = .ok (.iadd, 1) := dk_96 (dk_at dksX5_strike_0 18 rfl rfl)
theorem dX5_strike_19 : decode cX5_strike 19 = .ok (.iconst 1, 1) := dk_4 (dk_at dksX5_strike_0 19 rfl rfl)
theorem dX5_strike_20 : decode cX5_strike 20 = .ok (.isub, 1) := dk_100 (dk_at dksX5_strike_0 20 rfl rfl)
theorem dX5_strike_21 : decode cX5_strike 21 = .ok (.if_icmp .ge 51, 3) := dk_162 0 51 (dk_at dksX5_strike_0 21 rfl rfl)
theorem dX5_strike_24 : decode cX5_strike 24 = .ok (.aload_n 0, 1) := dk_42 (dk_at dksX5_strike_1 0 rfl rfl)
theorem dX5_strike_25 : decode cX5_strike 25 = .ok (.getfield 29, 3) := dk_180 0 29 (dk_at dksX5_strike_1 1 rfl rfl)
theorem dX5_strike_28 : decode cX5_strike 28 = .ok (.iload_n 3, 1) := dk_29 (dk_at dksX5_strike_1 4 rfl rfl)
theorem dX5_strike_29 : decode cX5_strike 29 = .ok (.aload_n 0, 1) := dk_42 (dk_at dksX5_strike_1 5 rfl rfl)
theorem dX5_strike_30 : decode cX5_strike 30 = .ok (.getfield 29, 3) := dk_180 0 29 (dk_at dksX5_strike_1 6 rfl rfl)
theorem dX5_strike_33 : decode cX5_strike 33 = .ok (.iload_n 3, 1) := dk_29 (dk_at dksX5_strike_1 9 rfl rfl)
theorem dX5_strike_34 : decode cX5_strike 34 = .ok (.iconst 1, 1) := dk_4 (dk_at dksX5_strike_1 10 rfl rfl)
theorem dX5_strike_35 : decode cX5_strike 35 = .ok (.iadd, 1) := dk_96 (dk_at dksX5_strike_1 11 rfl rfl)
theorem dX5_strike_36 : decode cX5_strike 36 = .ok (.iaload, 1) := dk_46 (dk_at dksX5_strike_1 12 rfl rfl)
theorem dX5_strike_37 : decode cX5_strike 37 = .ok (.iastore, 1) := dk_79 (dk_at dksX5_strike_1 13 rfl rfl)
theorem dX5_strike_38 : decode cX5_strike 38 = .ok (.aload_n 0, 1) := dk_42 (dk_at dksX5_strike_1 14 rfl rfl)
theorem dX5_strike_39 : decode cX5_strike 39 = .ok (.getfield 32, 3) := dk_180 0 32 (dk_at dksX5_strike_1 15 rfl rfl)
theorem dX5_strike_42 : decode cX5_strike 42 = .ok (.iload_n 3, 1) := dk_29 (dk_at dksX5_strike_1 18 rfl rfl)
theorem dX5_strike_43 : decode cX5_strike 43 = .ok (.aload_n 0, 1) := dk_42 (dk_at dksX5_strike_1 19 rfl rfl)
theorem dX5_strike_44 : decode cX5_strike 44 = .ok (.getfield 32, 3) := dk_180 0 32 (dk_at dksX5_strike_1 20 rfl rfl)
theorem dX5_strike_47 : decode cX5_strike 47 = .ok (.iload_n 3, 1) := dk_29 (dk_at dksX5_strike_1 23 rfl rfl)
theorem dX5_strike_48 : decode cX5_strike 48 = .ok (.iconst 1, 1) := dk_4 (dk_at dksX5_strike_2 0 rfl rfl)
theorem dX5_strike_49 : decode cX5_strike 49 = .ok (.iadd, 1) := dk_96 (dk_at dksX5_strike_2 1 rfl rfl)
theorem dX5_strike_50 : decode cX5_strike 50 = .ok (.iaload, 1) := dk_46 (dk_at dksX5_strike_2 2 rfl rfl)
theorem dX5_strike_51 : decode cX5_strike 51 = .ok (.iastore, 1) := dk_79 (dk_at dksX5_strike_2 3 rfl rfl)
theorem dX5_strike_52 : decode cX5_strike 52 = .ok (.aload_n 0, 1) := dk_42 (dk_at dksX5_strike_2 4 rfl rfl)
theorem dX5_strike_53 : decode cX5_strike 53 = .ok (.getfield 35, 3) := dk_180 0 35 (dk_at dksX5_strike_2 5 rfl rfl)
theorem dX5_strike_56 : decode cX5_strike 56 = .ok (.iload_n 3, 1) := dk_29 (dk_at dksX5_strike_2 8 rfl rfl)
theorem dX5_strike_57 : decode cX5_strike 57 = .ok (.aload_n 0, 1) := dk_42 (dk_at dksX5_strike_2 9 rfl rfl)
theorem dX5_strike_58 : decode cX5_strike 58 = .ok (.getfield 35, 3) := dk_180 0 35 (dk_at dksX5_strike_2 10 rfl rfl)
theorem dX5_strike_61 : decode cX5_strike 61 = .ok (.iload_n 3, 1) := dk_29 (dk_at dksX5_strike_2 13 rfl rfl)
theorem dX5_strike_62 : decode cX5_strike 62 = .ok (.iconst 1, 1) := dk_4 (dk_at dksX5_strike_2 14 rfl rfl)
theorem dX5_strike_63 : decode cX5_strike 63 = .ok (.iadd, 1) := dk_96 (dk_at dksX5_strike_2 15 rfl rfl)
theorem dX5_strike_64 : decode cX5_strike 64 = .ok (.iaload, 1) := dk_46 (dk_at dksX5_strike_2 16 rfl rfl)
theorem dX5_strike_65 : decode cX5_strike 65 = .ok (.iastore, 1) := dk_79 (dk_at dksX5_strike_2 17 rfl rfl)
theorem dX5_strike_66 : decode cX5_strike 66 = .ok (.iinc 3 1, 3) := dk_132 3 1 (dk_at dksX5_strike_2 18 rfl rfl)
theorem dX5_strike_69 : decode cX5_strike 69 = .ok (.goto (-62), 3) := dk_167 255 194 (dk_at dksX5_strike_2 21 rfl rfl)
theorem dX5_strike_72 : decode cX5_strike 72 = .ok (.aload_n 0, 1) := dk_42 (dk_at dksX5_strike_3 0 rfl rfl)
theorem dX5_strike_73 : decode cX5_strike 73 = .ok (.getfield 15, 3) := dk_180 0 15 (dk_at dksX5_strike_3 1 rfl rfl)
theorem dX5_strike_76 : decode cX5_strike 76 = .ok (.iload_n 1, 1) := dk_27 (dk_at dksX5_strike_3 4 rfl rfl)
theorem dX5_strike_77 : decode cX5_strike 77 = .ok (.dup2, 1) := dk_92 (dk_at dksX5_strike_3 5 rfl rfl)
theorem dX5_strike_78 : decode cX5_strike 78 = .ok (.iaload, 1) := dk_46 (dk_at dksX5_strike_3 6 rfl rfl)
theorem dX5_strike_79 : decode cX5_strike 79 = .ok (.iconst 1, 1) := dk_4 (dk_at dksX5_strike_3 7 rfl rfl)
theorem dX5_strike_80 : decode cX5_strike 80 = .ok (.isub, 1) := dk_100 (dk_at dksX5_strike_3 8 rfl rfl)
theorem dX5_strike_81 : decode cX5_strike 81 = .ok (.iastore, 1) := dk_79 (dk_at dksX5_strike_3 9 rfl rfl)
theorem dX5_strike_82 : decode cX5_strike 82 = .ok (.return_, 1) := dk_177 (dk_at dksX5_strike_3 10 rfl rfl)
abbrev cX5_morning : ByteArray := prog_18_method_18_code
def yX5_morning : MethodName := ⟨RX5, "morning", "()V"⟩
def dkwX5_morning_3 : List UInt8 := [180, 0, 207, 182, 0, 209, 132, 1, 1, 167, 255, 180, 177]
abbrev dktX5_morning_3 : List UInt8 := dkwX5_morning_3 ++ []
def dkwX5_morning_2 : List UInt8 := [160, 0, 30, 27, 42, 180, 0, 56, 180, 0, 202, 159, 0, 19, 42, 44, 180, 0, 205, 44, 180, 0, 206, 44]
abbrev dktX5_morning_2 : List UInt8 := dkwX5_morning_2 ++ dktX5_morning_3
def dkwX5_morning_1 : List UInt8 := [180, 0, 77, 180, 0, 196, 27, 182, 0, 87, 192, 0, 199, 77, 44, 180, 0, 201, 42, 180, 0, 60]
abbrev dktX5_morning_1 : List UInt8 := dkwX5_morning_1 ++ dktX5_morning_2
def dkwX5_morning_0 : List UInt8 := [3, 60, 27, 42, 180, 0, 3, 180, 0, 77, 180, 0, 196, 182, 0, 126, 162, 0, 65, 42, 180, 0, 3]
abbrev dktX5_morning_0 : List UInt8 := dkwX5_morning_0 ++ dktX5_morning_1
theorem dksX5_morning_0 : cX5_morning.data.toList.drop 0 = dktX5_morning_0 := by decide +kernel
theorem dksX5_morning_1 : cX5_morning.data.toList.drop 23 = dktX5_morning_1 := dk_seg dksX5_morning_0 23 rfl rfl
theorem dksX5_morning_2 : cX5_morning.data.toList.drop 45 = dktX5_morning_2 := dk_seg dksX5_morning_1 22 rfl rfl
theorem dksX5_morning_3 : cX5_morning.data.toList.drop 69 = dktX5_morning_3 := dk_seg dksX5_morning_2 24 rfl rfl
theorem dX5_morning_0 : decode cX5_morning 0 = .ok (.iconst 0, 1) := dk_3 (dk_at dksX5_morning_0 0 rfl rfl)
theorem dX5_morning_1 : decode cX5_morning 1 = .ok (.istore_n 1, 1) := dk_60 (dk_at dksX5_morning_0 1 rfl rfl)
theorem dX5_morning_2 : decode cX5_morning 2 = .ok (.iload_n 1, 1) := dk_27 (dk_at dksX5_morning_0 2 rfl rfl)
theorem dX5_morning_3 : decode cX5_morning 3 = .ok (.aload_n 0, 1) := dk_42 (dk_at dksX5_morning_0 3 rfl rfl)
theorem dX5_morning_4 : decode cX5_morning 4 = .ok (.getfield 3, 3) := dk_180 0 3 (dk_at dksX5_morning_0 4 rfl rfl)
theorem dX5_morning_7 : decode cX5_morning 7 = .ok (.getfield 77, 3) := dk_180 0 77 (dk_at dksX5_morning_0 7 rfl rfl)
theorem dX5_morning_10 : decode cX5_morning 10 = .ok (.getfield 196, 3) := dk_180 0 196 (dk_at dksX5_morning_0 10 rfl rfl)
theorem dX5_morning_13 : decode cX5_morning 13 = .ok (.invokevirtual 126, 3) := dk_182 0 126 (dk_at dksX5_morning_0 13 rfl rfl)
theorem dX5_morning_16 : decode cX5_morning 16 = .ok (.if_icmp .ge 65, 3) := dk_162 0 65 (dk_at dksX5_morning_0 16 rfl rfl)
theorem dX5_morning_19 : decode cX5_morning 19 = .ok (.aload_n 0, 1) := dk_42 (dk_at dksX5_morning_0 19 rfl rfl)
theorem dX5_morning_20 : decode cX5_morning 20 = .ok (.getfield 3, 3) := dk_180 0 3 (dk_at dksX5_morning_0 20 rfl rfl)
theorem dX5_morning_23 : decode cX5_morning 23 = .ok (.getfield 77, 3) := dk_180 0 77 (dk_at dksX5_morning_1 0 rfl rfl)
theorem dX5_morning_26 : decode cX5_morning 26 = .ok (.getfield 196, 3) := dk_180 0 196 (dk_at dksX5_morning_1 3 rfl rfl)
theorem dX5_morning_29 : decode cX5_morning 29 = .ok (.iload_n 1, 1) := dk_27 (dk_at dksX5_morning_1 6 rfl rfl)
theorem dX5_morning_30 : decode cX5_morning 30 = .ok (.invokevirtual 87, 3) := dk_182 0 87 (dk_at dksX5_morning_1 7 rfl rfl)
theorem dX5_morning_33 : decode cX5_morning 33 = .ok (.checkcast 199, 3) := dk_192 0 199 (dk_at dksX5_morning_1 10 rfl rfl)
theorem dX5_morning_36 : decode cX5_morning 36 = .ok (.astore_n 2, 1) := dk_77 (dk_at dksX5_morning_1 13 rfl rfl)
theorem dX5_morning_37 : decode cX5_morning 37 = .ok (.aload_n 2, 1) := dk_44 (dk_at dksX5_morning_1 14 rfl rfl)
theorem dX5_morning_38 : decode cX5_morning 38 = .ok (.getfield 201, 3) := dk_180 0 201 (dk_at dksX5_morning_1 15 rfl rfl)
theorem dX5_morning_41 : decode cX5_morning 41 = .ok (.aload_n 0, 1) := dk_42 (dk_at dksX5_morning_1 18 rfl rfl)
theorem dX5_morning_42 : decode cX5_morning 42 = .ok (.getfield 60, 3) := dk_180 0 60 (dk_at dksX5_morning_1 19 rfl rfl)
theorem dX5_morning_45 : decode cX5_morning 45 = .ok (.if_icmp .ne 30, 3) := dk_160 0 30 (dk_at dksX5_morning_2 0 rfl rfl)
theorem dX5_morning_48 : decode cX5_morning 48 = .ok (.iload_n 1, 1) := dk_27 (dk_at dksX5_morning_2 3 rfl rfl)
theorem dX5_morning_49 : decode cX5_morning 49 = .ok (.aload_n 0, 1) := dk_42 (dk_at dksX5_morning_2 4 rfl rfl)
theorem dX5_morning_50 : decode cX5_morning 50 = .ok (.getfield 56, 3) := dk_180 0 56 (dk_at dksX5_morning_2 5 rfl rfl)
theorem dX5_morning_53 : decode cX5_morning 53 = .ok (.getfield 202, 3) := dk_180 0 202 (dk_at dksX5_morning_2 8 rfl rfl)
theorem dX5_morning_56 : decode cX5_morning 56 = .ok (.if_icmp .eq 19, 3) := dk_159 0 19 (dk_at dksX5_morning_2 11 rfl rfl)
theorem dX5_morning_59 : decode cX5_morning 59 = .ok (.aload_n 0, 1) := dk_42 (dk_at dksX5_morning_2 14 rfl rfl)
theorem dX5_morning_60 : decode cX5_morning 60 = .ok (.aload_n 2, 1) := dk_44 (dk_at dksX5_morning_2 15 rfl rfl)
theorem dX5_morning_61 : decode cX5_morning 61 = .ok (.getfield 205, 3) := dk_180 0 205 (dk_at dksX5_morning_2 16 rfl rfl)
theorem dX5_morning_64 : decode cX5_morning 64 = .ok (.aload_n 2, 1) := dk_44 (dk_at dksX5_morning_2 19 rfl rfl)
theorem dX5_morning_65 : decode cX5_morning 65 = .ok (.getfield 206, 3) := dk_180 0 206 (dk_at dksX5_morning_2 20 rfl rfl)
theorem dX5_morning_68 : decode cX5_morning 68 = .ok (.aload_n 2, 1) := dk_44 (dk_at dksX5_morning_2 23 rfl rfl)
theorem dX5_morning_69 : decode cX5_morning 69 = .ok (.getfield 207, 3) := dk_180 0 207 (dk_at dksX5_morning_3 0 rfl rfl)
theorem dX5_morning_72 : decode cX5_morning 72 = .ok (.invokevirtual 209, 3) := dk_182 0 209 (dk_at dksX5_morning_3 3 rfl rfl)
theorem dX5_morning_75 : decode cX5_morning 75 = .ok (.iinc 1 1, 3) := dk_132 1 1 (dk_at dksX5_morning_3 6 rfl rfl)
theorem dX5_morning_78 : decode cX5_morning 78 = .ok (.goto (-76), 3) := dk_167 255 180 (dk_at dksX5_morning_3 9 rfl rfl)
theorem dX5_morning_81 : decode cX5_morning 81 = .ok (.return_, 1) := dk_177 (dk_at dksX5_morning_3 12 rfl rfl)
abbrev cX5_comes : ByteArray := prog_18_method_16_code
def yX5_comes : MethodName := ⟨RX5, "comes", "(III)V"⟩
def dkwX5_comes_6 : List UInt8 := [42, 27, 28, 29, 182, 0, 181, 177]
abbrev dktX5_comes_6 : List UInt8 := dkwX5_comes_6 ++ []
def dkwX5_comes_5 : List UInt8 := [27, 104, 21, 5, 96, 46, 4, 182, 0, 189, 42, 180, 0, 25, 27, 4, 84, 42, 27, 21, 5, 182, 0, 192]
abbrev dktX5_comes_5 : List UInt8 := dkwX5_comes_5 ++ dktX5_comes_6
def dkwX5_comes_4 : List UInt8 := [180, 0, 15, 27, 46, 160, 0, 11, 42, 27, 28, 5, 182, 0, 189, 177, 42, 27, 42, 180, 0, 29, 16, 7]
abbrev dktX5_comes_4 : List UInt8 := dkwX5_comes_4 ++ dktX5_comes_5
def dkwX5_comes_3 : List UInt8 := [153, 0, 12, 42, 180, 0, 15, 27, 46, 167, 0, 10, 42, 27, 28, 29, 182, 0, 185, 54, 5, 21, 5, 42]
abbrev dktX5_comes_3 : List UInt8 := dkwX5_comes_3 ++ dktX5_comes_4
def dkwX5_comes_2 : List UInt8 := [46, 42, 27, 182, 0, 179, 162, 0, 11, 42, 27, 28, 29, 182, 0, 181, 177, 42, 180, 0, 25, 27, 51]
abbrev dktX5_comes_2 : List UInt8 := dkwX5_comes_2 ++ dktX5_comes_3
def dkwX5_comes_1 : List UInt8 := [29, 79, 42, 180, 0, 35, 16, 7, 27, 104, 21, 4, 96, 42, 180, 0, 60, 79, 177, 42, 180, 0, 15, 27]
abbrev dktX5_comes_1 : List UInt8 := dkwX5_comes_1 ++ dktX5_comes_2
def dkwX5_comes_0 : List UInt8 := [42, 27, 28, 182, 0, 176, 54, 4, 21, 4, 155, 0, 33, 42, 180, 0, 32, 16, 7, 27, 104, 21, 4, 96]
abbrev dktX5_comes_0 : List UInt8 := dkwX5_comes_0 ++ dktX5_comes_1
theorem dksX5_comes_0 : cX5_comes.data.toList.drop 0 = dktX5_comes_0 := by decide +kernel
theorem dksX5_comes_1 : cX5_comes.data.toList.drop 24 = dktX5_comes_1 := dk_seg dksX5_comes_0 24 rfl rfl
theorem dksX5_comes_2 : cX5_comes.data.toList.drop 48 = dktX5_comes_2 := dk_seg dksX5_comes_1 24 rfl rfl
theorem dksX5_comes_3 : cX5_comes.data.toList.drop 71 = dktX5_comes_3 := dk_seg dksX5_comes_2 23 rfl rfl
theorem dksX5_comes_4 : cX5_comes.data.toList.drop 95 = dktX5_comes_4 := dk_seg dksX5_comes_3 24 rfl rfl
theorem dksX5_comes_5 : cX5_comes.data.toList.drop 119 = dktX5_comes_5 := dk_seg dksX5_comes_4 24 rfl rfl
theorem dksX5_comes_6 : cX5_comes.data.toList.drop 143 = dktX5_comes_6 := dk_seg dksX5_comes_5 24 rfl rfl
theorem dX5_comes_0 : decode cX5_comes 0 = .ok (.aload_n 0, 1) := dk_42 (dk_at dksX5_comes_0 0 rfl rfl)
theorem dX5_comes_1 : decode cX5_comes 1 = .ok (.iload_n 1, 1) := dk_27 (dk_at dksX5_comes_0 1 rfl rfl)
theorem dX5_comes_2 : decode cX5_comes 2 = .ok (.iload_n 2, 1) := dk_28 (dk_at dksX5_comes_0 2 rfl rfl)
theorem dX5_comes_3 : decode cX5_comes 3 = .ok (.invokevirtual 176, 3) := dk_182 0 176 (dk_at dksX5_comes_0 3 rfl rfl)
theorem dX5_comes_6 : decode cX5_comes 6 = .ok (.istore 4, 2) := dk_54 4 (dk_at dksX5_comes_0 6 rfl rfl)
theorem dX5_comes_8 : decode cX5_comes 8 = .ok (.iload 4, 2) := dk_21 4 (dk_at dksX5_comes_0 8 rfl rfl)
theorem dX5_comes_10 : decode cX5_comes 10 = .ok (.ifCond .lt 33, 3) := dk_155 0 33 (dk_at dksX5_comes_0 10 rfl rfl)
theorem dX5_comes_13 : decode cX5_comes 13 = .ok (.aload_n 0, 1) := dk_42 (dk_at dksX5_comes_0 13 rfl rfl)
theorem dX5_comes_14 : decode cX5_comes 14 = .ok (.getfield 32, 3) := dk_180 0 32 (dk_at dksX5_comes_0 14 rfl rfl)
theorem dX5_comes_17 : decode cX5_comes 17 = .ok (.bipush 7, 2) := dk_16 7 (dk_at dksX5_comes_0 17 rfl rfl)
theorem dX5_comes_19 : decode cX5_comes 19 = .ok (.iload_n 1, 1) := dk_27 (dk_at dksX5_comes_0 19 rfl rfl)
theorem dX5_comes_20 : decode cX5_comes 20 = .ok (.imul, 1) := dk_104 (dk_at dksX5_comes_0 20 rfl rfl)
theorem dX5_comes_21 : decode cX5_comes 21 = .ok (.iload 4, 2) := dk_21 4 (dk_at dksX5_comes_0 21 rfl rfl)
theorem dX5_comes_23 : decode cX5_comes 23 = .ok (.iadd, 1) := dk_96 (dk_at dksX5_comes_0 23 rfl rfl)
theorem dX5_comes_24 : decode cX5_comes 24 = .ok (.iload_n 3, 1) := dk_29 (dk_at dksX5_comes_1 0 rfl rfl)
theorem dX5_comes_25 : decode cX5_comes 25 = .ok (.iastore, 1) := dk_79 (dk_at dksX5_comes_1 1 rfl rfl)
theorem dX5_comes_26 : decode cX5_comes 26 = .ok (.aload_n 0, 1) := dk_42 (dk_at dksX5_comes_1 2 rfl rfl)
theorem dX5_comes_27 : decode cX5_comes 27 = .ok (.getfield 35, 3) := dk_180 0 35 (dk_at dksX5_comes_1 3 rfl rfl)
theorem dX5_comes_30 : decode cX5_comes 30 = .ok (.bipush 7, 2) := dk_16 7 (dk_at dksX5_comes_1 6 rfl rfl)
theorem dX5_comes_32 : decode cX5_comes 32 = .ok (.iload_n 1, 1) := dk_27 (dk_at dksX5_comes_1 8 rfl rfl)
theorem dX5_comes_33 : decode cX5_comes 33 = .ok (.imul, 1) := dk_104 (dk_at dksX5_comes_1 9 rfl rfl)
theorem dX5_comes_34 : decode cX5_comes 34 = .ok (.iload 4, 2) := dk_21 4 (dk_at dksX5_comes_1 10 rfl rfl)
theorem dX5_comes_36 : decode cX5_comes 36 = .ok (.iadd, 1) := dk_96 (dk_at dksX5_comes_1 12 rfl rfl)
theorem dX5_comes_37 : decode cX5_comes 37 = .ok (.aload_n 0, 1) := dk_42 (dk_at dksX5_comes_1 13 rfl rfl)
theorem dX5_comes_38 : decode cX5_comes 38 = .ok (.getfield 60, 3) := dk_180 0 60 (dk_at dksX5_comes_1 14 rfl rfl)
theorem dX5_comes_41 : decode cX5_comes 41 = .ok (.iastore, 1) := dk_79 (dk_at dksX5_comes_1 17 rfl rfl)
theorem dX5_comes_42 : decode cX5_comes 42 = .ok (.return_, 1) := dk_177 (dk_at dksX5_comes_1 18 rfl rfl)
theorem dX5_comes_43 : decode cX5_comes 43 = .ok (.aload_n 0, 1) := dk_42 (dk_at dksX5_comes_1 19 rfl rfl)
theorem dX5_comes_44 : decode cX5_comes 44 = .ok (.getfield 15, 3) := dk_180 0 15 (dk_at dksX5_comes_1 20 rfl rfl)
theorem dX5_comes_47 : decode cX5_comes 47 = .ok (.iload_n 1, 1) := dk_27 (dk_at dksX5_comes_1 23 rfl rfl)
theorem dX5_comes_48 : decode cX5_comes 48 = .ok (.iaload, 1) := dk_46 (dk_at dksX5_comes_2 0 rfl rfl)
theorem dX5_comes_49 : decode cX5_comes 49 = .ok (.aload_n 0, 1) := dk_42 (dk_at dksX5_comes_2 1 rfl rfl)
theorem dX5_comes_50 : decode cX5_comes 50 = .ok (.iload_n 1, 1) := dk_27 (dk_at dksX5_comes_2 2 rfl rfl)
theorem dX5_comes_51 : decode cX5_comes 51 = .ok (.invokevirtual 179, 3) := dk_182 0 179 (dk_at dksX5_comes_2 3 rfl rfl)
theorem dX5_comes_54 : decode cX5_comes 54 = .ok (.if_icmp .ge 11, 3) := dk_162 0 11 (dk_at dksX5_comes_2 6 rfl rfl)
theorem dX5_comes_57 : decode cX5_comes 57 = .ok (.aload_n 0, 1) := dk_42 (dk_at dksX5_comes_2 9 rfl rfl)
theorem dX5_comes_58 : decode cX5_comes 58 = .ok (.iload_n 1, 1) := dk_27 (dk_at dksX5_comes_2 10 rfl rfl)
theorem dX5_comes_59 : decode cX5_comes 59 = .ok (.iload_n 2, 1) := dk_28 (dk_at dksX5_comes_2 11 rfl rfl)
theorem dX5_comes_60 : decode cX5_comes 60 = .ok (.iload_n 3, 1) := dk_29 (dk_at dksX5_comes_2 12 rfl rfl)
theorem dX5_comes_61 : decode cX5_comes 61 = .ok (.invokevirtual 181, 3) := dk_182 0 181 (dk_at dksX5_comes_2 13 rfl rfl)
theorem dX5_comes_64 : decode cX5_comes 64 = .ok (.return_, 1) := dk_177 (dk_at dksX5_comes_2 16 rfl rfl)
theorem dX5_comes_65 : decode cX5_comes 65 = .ok (.aload_n 0, 1) := dk_42 (dk_at dksX5_comes_2 17 rfl rfl)
theorem dX5_comes_66 : decode cX5_comes 66 = .ok (.getfield 25, 3) := dk_180 0 25 (dk_at dksX5_comes_2 18 rfl rfl)
theorem dX5_comes_69 : decode cX5_comes 69 = .ok (.iload_n 1, 1) := dk_27 (dk_at dksX5_comes_2 21 rfl rfl)
theorem dX5_comes_70 : decode cX5_comes 70 = .ok (.baload, 1) := dk_51 (dk_at dksX5_comes_2 22 rfl rfl)
theorem dX5_comes_71 : decode cX5_comes 71 = .ok (.ifCond .eq 12, 3) := dk_153 0 12 (dk_at dksX5_comes_3 0 rfl rfl)
theorem dX5_comes_74 : decode cX5_comes 74 = .ok (.aload_n 0, 1) := dk_42 (dk_at dksX5_comes_3 3 rfl rfl)
theorem dX5_comes_75 : decode cX5_comes 75 = .ok (.getfield 15, 3) := dk_180 0 15 (dk_at dksX5_comes_3 4 rfl rfl)
theorem dX5_comes_78 : decode cX5_comes 78 = .ok (.iload_n 1, 1) := dk_27 (dk_at dksX5_comes_3 7 rfl rfl)
theorem dX5_comes_79 : decode cX5_comes 79 = .ok (.iaload, 1) := dk_46 (dk_at dksX5_comes_3 8 rfl rfl)
theorem dX5_comes_80 : decode cX5_comes 80 = .ok (.goto 10, 3) := dk_167 0 10 (dk_at dksX5_comes_3 9 rfl rfl)
theorem dX5_comes_83 : decode cX5_comes 83 = .ok (.aload_n 0, 1) := dk_42 (dk_at dksX5_comes_3 12 rfl rfl)
theorem dX5_comes_84 : decode cX5_comes 84 = .ok (.iload_n 1, 1) := dk_27 (dk_at dksX5_comes_3 13 rfl rfl)
theorem dX5_comes_85 : decode cX5_comes 85 = .ok (.iload_n 2, 1) := dk_28 (dk_at dksX5_comes_3 14 rfl rfl)
theorem dX5_comes_86 : decode cX5_comes 86 = .ok (.iload_n 3, 1) := dk_29 (dk_at dksX5_comes_3 15 rfl rfl)
theorem dX5_comes_87 : decode cX5_comes 87 = .ok (.invokevirtual 185, 3) := dk_182 0 185 (dk_at dksX5_comes_3 16 rfl rfl)
theorem dX5_comes_90 : decode cX5_comes 90 = .ok (.istore 5, 2) := dk_54 5 (dk_at dksX5_comes_3 19 rfl rfl)
theorem dX5_comes_92 : decode cX5_comes 92 = .ok (.iload 5, 2) := dk_21 5 (dk_at dksX5_comes_3 21 rfl rfl)
theorem dX5_comes_94 : decode cX5_comes 94 = .ok (.aload_n 0, 1) := dk_42 (dk_at dksX5_comes_3 23 rfl rfl)
theorem dX5_comes_95 : decode cX5_comes 95 = .ok (.getfield 15, 3) := dk_180 0 15 (dk_at dksX5_comes_4 0 rfl rfl)
theorem dX5_comes_98 : decode cX5_comes 98 = .ok (.iload_n 1, 1) := dk_27 (dk_at dksX5_comes_4 3 rfl rfl)
theorem dX5_comes_99 : decode cX5_comes 99 = .ok (.iaload, 1) := dk_46 (dk_at dksX5_comes_4 4 rfl rfl)
theorem dX5_comes_100 : decode cX5_comes 100 = .ok (.if_icmp .ne 11, 3) := dk_160 0 11 (dk_at dksX5_comes_4 5 rfl rfl)
theorem dX5_comes_103 : decode cX5_comes 103 = .ok (.aload_n 0, 1) := dk_42 (dk_at dksX5_comes_4 8 rfl rfl)
theorem dX5_comes_104 : decode cX5_comes 104 = .ok (.iload_n 1, 1) := dk_27 (dk_at dksX5_comes_4 9 rfl rfl)
theorem dX5_comes_105 : decode cX5_comes 105 = .ok (.iload_n 2, 1) := dk_28 (dk_at dksX5_comes_4 10 rfl rfl)
theorem dX5_comes_106 : decode cX5_comes 106 = .ok (.iconst 2, 1) := dk_5 (dk_at dksX5_comes_4 11 rfl rfl)
theorem dX5_comes_107 : decode cX5_comes 107 = .ok (.invokevirtual 189, 3) := dk_182 0 189 (dk_at dksX5_comes_4 12 rfl rfl)
theorem dX5_comes_110 : decode cX5_comes 110 = .ok (.return_, 1) := dk_177 (dk_at dksX5_comes_4 15 rfl rfl)
theorem dX5_comes_111 : decode cX5_comes 111 = .ok (.aload_n 0, 1) := dk_42 (dk_at dksX5_comes_4 16 rfl rfl)
theorem dX5_comes_112 : decode cX5_comes 112 = .ok (.iload_n 1, 1) := dk_27 (dk_at dksX5_comes_4 17 rfl rfl)
theorem dX5_comes_113 : decode cX5_comes 113 = .ok (.aload_n 0, 1) := dk_42 (dk_at dksX5_comes_4 18 rfl rfl)
theorem dX5_comes_114 : decode cX5_comes 114 = .ok (.getfield 29, 3) := dk_180 0 29 (dk_at dksX5_comes_4 19 rfl rfl)
theorem dX5_comes_117 : decode cX5_comes 117 = .ok (.bipush 7, 2) := dk_16 7 (dk_at dksX5_comes_4 22 rfl rfl)
theorem dX5_comes_119 : decode cX5_comes 119 = .ok (.iload_n 1, 1) := dk_27 (dk_at dksX5_comes_5 0 rfl rfl)
theorem dX5_comes_120 : decode cX5_comes 120 = .ok (.imul, 1) := dk_104 (dk_at dksX5_comes_5 1 rfl rfl)
theorem dX5_comes_121 : decode cX5_comes 121 = .ok (.iload 5, 2) := dk_21 5 (dk_at dksX5_comes_5 2 rfl rfl)
theorem dX5_comes_123 : decode cX5_comes 123 = .ok (.iadd, 1) := dk_96 (dk_at dksX5_comes_5 4 rfl rfl)
theorem dX5_comes_124 : decode cX5_comes 124 = .ok (.iaload, 1) := dk_46 (dk_at dksX5_comes_5 5 rfl rfl)
theorem dX5_comes_125 : decode cX5_comes 125 = .ok (.iconst 1, 1) := dk_4 (dk_at dksX5_comes_5 6 rfl rfl)
theorem dX5_comes_126 : decode cX5_comes 126 = .ok (.invokevirtual 189, 3) := dk_182 0 189 (dk_at dksX5_comes_5 7 rfl rfl)
theorem dX5_comes_129 : decode cX5_comes 129 = .ok (.aload_n 0, 1) := dk_42 (dk_at dksX5_comes_5 10 rfl rfl)
theorem dX5_comes_130 : decode cX5_comes 130 = .ok (.getfield 25, 3) := dk_180 0 25 (dk_at dksX5_comes_5 11 rfl rfl)
theorem dX5_comes_133 : decode cX5_comes 133 = .ok (.iload_n 1, 1) := dk_27 (dk_at dksX5_comes_5 14 rfl rfl)
theorem dX5_comes_134 : decode cX5_comes 134 = .ok (.iconst 1, 1) := dk_4 (dk_at dksX5_comes_5 15 rfl rfl)
theorem dX5_comes_135 : decode cX5_comes 135 = .ok (.bastore, 1) := dk_84 (dk_at dksX5_comes_5 16 rfl rfl)
theorem dX5_comes_136 : decode cX5_comes 136 = .ok (.aload_n 0, 1) := dk_42 (dk_at dksX5_comes_5 17 rfl rfl)
theorem dX5_comes_137 : decode cX5_comes 137 = .ok (.iload_n 1, 1) := dk_27 (dk_at dksX5_comes_5 18 rfl rfl)
theorem dX5_comes_138 : decode cX5_comes 138 = .ok (.iload 5, 2) := dk_21 5 (dk_at dksX5_comes_5 19 rfl rfl)
theorem dX5_comes_140 : decode cX5_comes 140 = .ok (.invokevirtual 192, 3) := dk_182 0 192 (dk_at dksX5_comes_5 21 rfl rfl)
theorem dX5_comes_143 : decode cX5_comes 143 = .ok (.aload_n 0, 1) := dk_42 (dk_at dksX5_comes_6 0 rfl rfl)
theorem dX5_comes_144 : decode cX5_comes 144 = .ok (.iload_n 1, 1) := dk_27 (dk_at dksX5_comes_6 1 rfl rfl)
theorem dX5_comes_145 : decode cX5_comes 145 = .ok (.iload_n 2, 1) := dk_28 (dk_at dksX5_comes_6 2 rfl rfl)
theorem dX5_comes_146 : decode cX5_comes 146 = .ok (.iload_n 3, 1) := dk_29 (dk_at dksX5_comes_6 3 rfl rfl)
theorem dX5_comes_147 : decode cX5_comes 147 = .ok (.invokevirtual 181, 3) := dk_182 0 181 (dk_at dksX5_comes_6 4 rfl rfl)
theorem dX5_comes_150 : decode cX5_comes 150 = .ok (.return_, 1) := dk_177 (dk_at dksX5_comes_6 7 rfl rfl)
abbrev cX5_lineOf : ByteArray := prog_18_method_7_code
def yX5_lineOf : MethodName := ⟨RX5, "lineOf", "(II)I"⟩
def dkwX5_lineOf_1 : List UInt8 := [160, 0, 5, 29, 172, 132, 3, 1, 167, 255, 226, 2, 172]
abbrev dktX5_lineOf_1 : List UInt8 := dkwX5_lineOf_1 ++ []
def dkwX5_lineOf_0 : List UInt8 := [3, 62, 29, 42, 180, 0, 15, 27, 46, 162, 0, 26, 42, 180, 0, 29, 16, 7, 27, 104, 29, 96, 46, 28]
abbrev dktX5_lineOf_0 : List UInt8 := dkwX5_lineOf_0 ++ dktX5_lineOf_1
theorem dksX5_lineOf_0 : cX5_lineOf.data.toList.drop 0 = dktX5_lineOf_0 := by decide +kernel
theorem dksX5_lineOf_1 : cX5_lineOf.data.toList.drop 24 = dktX5_lineOf_1 := dk_seg dksX5_lineOf_0 24 rfl rfl
theorem dX5_lineOf_0 : decode cX5_lineOf 0 = .ok (.iconst 0, 1) := dk_3 (dk_at dksX5_lineOf_0 0 rfl rfl)
theorem dX5_lineOf_1 : decode cX5_lineOf 1 = .ok (.istore_n 3, 1) := dk_62 (dk_at dksX5_lineOf_0 1 rfl rfl)
theorem dX5_lineOf_2 : decode cX5_lineOf 2 = .ok (.iload_n 3, 1) := dk_29 (dk_at dksX5_lineOf_0 2 rfl rfl)
theorem dX5_lineOf_3 : decode cX5_lineOf 3 = .ok (.aload_n 0, 1) := dk_42 (dk_at dksX5_lineOf_0 3 rfl rfl)
theorem dX5_lineOf_4 : decode cX5_lineOf 4 = .ok (.getfield 15, 3) := dk_180 0 15 (dk_at dksX5_lineOf_0 4 rfl rfl)
theorem dX5_lineOf_7 : decode cX5_lineOf 7 = .ok (.iload_n 1, 1) := dk_27 (dk_at dksX5_lineOf_0 7 rfl rfl)
theorem dX5_lineOf_8 : decode cX5_lineOf 8 = .ok (.iaload, 1) := dk_46 (dk_at dksX5_lineOf_0 8 rfl rfl)
theorem dX5_lineOf_9 : decode cX5_lineOf 9 = .ok (.if_icmp .ge 26, 3) := dk_162 0 26 (dk_at dksX5_lineOf_0 9 rfl rfl)
theorem dX5_lineOf_12 : decode cX5_lineOf 12 = .ok (.aload_n 0, 1) := dk_42 (dk_at dksX5_lineOf_0 12 rfl rfl)
theorem dX5_lineOf_13 : decode cX5_lineOf 13 = .ok (.getfield 29, 3) := dk_180 0 29 (dk_at dksX5_lineOf_0 13 rfl rfl)
theorem dX5_lineOf_16 : decode cX5_lineOf 16 = .ok (.bipush 7, 2) := dk_16 7 (dk_at dksX5_lineOf_0 16 rfl rfl)
theorem dX5_lineOf_18 : decode cX5_lineOf 18 = .ok (.iload_n 1, 1) := dk_27 (dk_at dksX5_lineOf_0 18 rfl rfl)
theorem dX5_lineOf_19 : decode cX5_lineOf 19 = .ok (.imul, 1) := dk_104 (dk_at dksX5_lineOf_0 19 rfl rfl)
theorem dX5_lineOf_20 : decode cX5_lineOf 20 = .ok (.iload_n 3, 1) := dk_29 (dk_at dksX5_lineOf_0 20 rfl rfl)
theorem dX5_lineOf_21 : decode cX5_lineOf 21 = .ok (.iadd, 1) := dk_96 (dk_at dksX5_lineOf_0 21 rfl rfl)
theorem dX5_lineOf_22 : decode cX5_lineOf 22 = .ok (.iaload, 1) := dk_46 (dk_at dksX5_lineOf_0 22 rfl rfl)
theorem dX5_lineOf_23 : decode cX5_lineOf 23 = .ok (.iload_n 2, 1) := dk_28 (dk_at dksX5_lineOf_0 23 rfl rfl)
theorem dX5_lineOf_24 : decode cX5_lineOf 24 = .ok (.if_icmp .ne 5, 3) := dk_160 0 5 (dk_at dksX5_lineOf_1 0 rfl rfl)
theorem dX5_lineOf_27 : decode cX5_lineOf 27 = .ok (.iload_n 3, 1) := dk_29 (dk_at dksX5_lineOf_1 3 rfl rfl)
theorem dX5_lineOf_28 : decode cX5_lineOf 28 = .ok (.ireturn, 1) := dk_172 (dk_at dksX5_lineOf_1 4 rfl rfl)
theorem dX5_lineOf_29 : decode cX5_lineOf 29 = .ok (.iinc 3 1, 3) := dk_132 3 1 (dk_at dksX5_lineOf_1 5 rfl rfl)
theorem dX5_lineOf_32 : decode cX5_lineOf 32 = .ok (.goto (-30), 3) := dk_167 255 226 (dk_at dksX5_lineOf_1 8 rfl rfl)
theorem dX5_lineOf_35 : decode cX5_lineOf 35 = .ok (.iconst (-1), 1) := dk_2 (dk_at dksX5_lineOf_1 11 rfl rfl)
theorem dX5_lineOf_36 : decode cX5_lineOf 36 = .ok (.ireturn, 1) := dk_172 (dk_at dksX5_lineOf_1 12 rfl rfl)
abbrev cX5_lines : ByteArray := prog_18_method_4_code
def yX5_lines : MethodName := ⟨RX5, "lines", "(I)I"⟩
def dkwX5_lines_1 : List UInt8 := [180, 0, 98, 153, 0, 7, 4, 167, 0, 4, 3, 96, 172]
abbrev dktX5_lines_1 : List UInt8 := dkwX5_lines_1 ++ []
def dkwX5_lines_0 : List UInt8 := [42, 180, 0, 3, 180, 0, 77, 180, 0, 81, 27, 182, 0, 87, 192, 0, 93, 180, 0, 95, 42, 180, 0, 56]
abbrev dktX5_lines_0 : List UInt8 := dkwX5_lines_0 ++ dktX5_lines_1
theorem dksX5_lines_0 : cX5_lines.data.toList.drop 0 = dktX5_lines_0 := by decide +kernel
theorem dksX5_lines_1 : cX5_lines.data.toList.drop 24 = dktX5_lines_1 := dk_seg dksX5_lines_0 24 rfl rfl
theorem dX5_lines_0 : decode cX5_lines 0 = .ok (.aload_n 0, 1) := dk_42 (dk_at dksX5_lines_0 0 rfl rfl)
theorem dX5_lines_1 : decode cX5_lines 1 = .ok (.getfield 3, 3) := dk_180 0 3 (dk_at dksX5_lines_0 1 rfl rfl)
theorem dX5_lines_4 : decode cX5_lines 4 = .ok (.getfield 77, 3) := dk_180 0 77 (dk_at dksX5_lines_0 4 rfl rfl)
theorem dX5_lines_7 : decode cX5_lines 7 = .ok (.getfield 81, 3) := dk_180 0 81 (dk_at dksX5_lines_0 7 rfl rfl)
theorem dX5_lines_10 : decode cX5_lines 10 = .ok (.iload_n 1, 1) := dk_27 (dk_at dksX5_lines_0 10 rfl rfl)
theorem dX5_lines_11 : decode cX5_lines 11 = .ok (.invokevirtual 87, 3) := dk_182 0 87 (dk_at dksX5_lines_0 11 rfl rfl)
theorem dX5_lines_14 : decode cX5_lines 14 = .ok (.checkcast 93, 3) := dk_192 0 93 (dk_at dksX5_lines_0 14 rfl rfl)
theorem dX5_lines_17 : decode cX5_lines 17 = .ok (.getfield 95, 3) := dk_180 0 95 (dk_at dksX5_lines_0 17 rfl rfl)
theorem dX5_lines_20 : decode cX5_lines 20 = .ok (.aload_n 0, 1) := dk_42 (dk_at dksX5_lines_0 20 rfl rfl)
theorem dX5_lines_21 : decode cX5_lines 21 = .ok (.getfield 56, 3) := dk_180 0 56 (dk_at dksX5_lines_0 21 rfl rfl)
theorem dX5_lines_24 : decode cX5_lines 24 = .ok (.getfield 98, 3) := dk_180 0 98 (dk_at dksX5_lines_1 0 rfl rfl)
theorem dX5_lines_27 : decode cX5_lines 27 = .ok (.ifCond .eq 7, 3) := dk_153 0 7 (dk_at dksX5_lines_1 3 rfl rfl)
theorem dX5_lines_30 : decode cX5_lines 30 = .ok (.iconst 1, 1) := dk_4 (dk_at dksX5_lines_1 6 rfl rfl)
theorem dX5_lines_31 : decode cX5_lines 31 = .ok (.goto 4, 3) := dk_167 0 4 (dk_at dksX5_lines_1 7 rfl rfl)
theorem dX5_lines_34 : decode cX5_lines 34 = .ok (.iconst 0, 1) := dk_3 (dk_at dksX5_lines_1 10 rfl rfl)
theorem dX5_lines_35 : decode cX5_lines 35 = .ok (.iadd, 1) := dk_96 (dk_at dksX5_lines_1 11 rfl rfl)
theorem dX5_lines_36 : decode cX5_lines 36 = .ok (.ireturn, 1) := dk_172 (dk_at dksX5_lines_1 12 rfl rfl)
abbrev cX5_add : ByteArray := prog_18_method_13_code
def yX5_add : MethodName := ⟨RX5, "add", "(III)V"⟩
def dkwX5_add_2 : List UInt8 := [46, 4, 96, 79, 177]
abbrev dktX5_add_2 : List UInt8 := dkwX5_add_2 ++ []
def dkwX5_add_1 : List UInt8 := [180, 0, 32, 21, 4, 29, 79, 42, 180, 0, 35, 21, 4, 42, 180, 0, 60, 79, 42, 180, 0, 15, 27, 92]
abbrev dktX5_add_1 : List UInt8 := dkwX5_add_1 ++ dktX5_add_2
def dkwX5_add_0 : List UInt8 := [16, 7, 27, 104, 42, 180, 0, 15, 27, 46, 96, 54, 4, 42, 180, 0, 29, 21, 4, 28, 79, 42]
abbrev dktX5_add_0 : List UInt8 := dkwX5_add_0 ++ dktX5_add_1
theorem dksX5_add_0 : cX5_add.data.toList.drop 0 = dktX5_add_0 := by decide +kernel
theorem dksX5_add_1 : cX5_add.data.toList.drop 22 = dktX5_add_1 := dk_seg dksX5_add_0 22 rfl rfl
theorem dksX5_add_2 : cX5_add.data.toList.drop 46 = dktX5_add_2 := dk_seg dksX5_add_1 24 rfl rfl
theorem dX5_add_0 : decode cX5_add 0 = .ok (.bipush 7, 2) := dk_16 7 (dk_at dksX5_add_0 0 rfl rfl)
theorem dX5_add_2 : decode cX5_add 2 = .ok (.iload_n 1, 1) := dk_27 (dk_at dksX5_add_0 2 rfl rfl)
theorem dX5_add_3 : decode cX5_add 3 = .ok (.imul, 1) := dk_104 (dk_at dksX5_add_0 3 rfl rfl)
theorem dX5_add_4 : decode cX5_add 4 = .ok (.aload_n 0, 1) := dk_42 (dk_at dksX5_add_0 4 rfl rfl)
theorem dX5_add_5 : decode cX5_add 5 = .ok (.getfield 15, 3) := dk_180 0 15 (dk_at dksX5_add_0 5 rfl rfl)
theorem dX5_add_8 : decode cX5_add 8 = .ok (.iload_n 1, 1) := dk_27 (dk_at dksX5_add_0 8 rfl rfl)
theorem dX5_add_9 : decode cX5_add 9 = .ok (.iaload, 1) := dk_46 (dk_at dksX5_add_0 9 rfl rfl)
theorem dX5_add_10 : decode cX5_add 10 = .ok (.iadd, 1) := dk_96 (dk_at dksX5_add_0 10 rfl rfl)
theorem dX5_add_11 : decode cX5_add 11 = .ok (.istore 4, 2) := dk_54 4 (dk_at dksX5_add_0 11 rfl rfl)
theorem dX5_add_13 : decode cX5_add 13 = .ok (.aload_n 0, 1) := dk_42 (dk_at dksX5_add_0 13 rfl rfl)
theorem dX5_add_14 : decode cX5_add 14 = .ok (.getfield 29, 3) := dk_180 0 29 (dk_at dksX5_add_0 14 rfl rfl)
theorem dX5_add_17 : decode cX5_add 17 = .ok (.iload 4, 2) := dk_21 4 (dk_at dksX5_add_0 17 rfl rfl)
theorem dX5_add_19 : decode cX5_add 19 = .ok (.iload_n 2, 1) := dk_28 (dk_at dksX5_add_0 19 rfl rfl)
theorem dX5_add_20 : decode cX5_add 20 = .ok (.iastore, 1) := dk_79 (dk_at dksX5_add_0 20 rfl rfl)
theorem dX5_add_21 : decode cX5_add 21 = .ok (.aload_n 0, 1) := dk_42 (dk_at dksX5_add_0 21 rfl rfl)
theorem dX5_add_22 : decode cX5_add 22 = .ok (.getfield 32, 3) := dk_180 0 32 (dk_at dksX5_add_1 0 rfl rfl)
theorem dX5_add_25 : decode cX5_add 25 = .ok (.iload 4, 2) := dk_21 4 (dk_at dksX5_add_1 3 rfl rfl)
theorem dX5_add_27 : decode cX5_add 27 = .ok (.iload_n 3, 1) := dk_29 (dk_at dksX5_add_1 5 rfl rfl)
theorem dX5_add_28 : decode cX5_add 28 = .ok (.iastore, 1) := dk_79 (dk_at dksX5_add_1 6 rfl rfl)
theorem dX5_add_29 : decode cX5_add 29 = .ok (.aload_n 0, 1) := dk_42 (dk_at dksX5_add_1 7 rfl rfl)
theorem dX5_add_30 : decode cX5_add 30 = .ok (.getfield 35, 3) := dk_180 0 35 (dk_at dksX5_add_1 8 rfl rfl)
theorem dX5_add_33 : decode cX5_add 33 = .ok (.iload 4, 2) := dk_21 4 (dk_at dksX5_add_1 11 rfl rfl)
theorem dX5_add_35 : decode cX5_add 35 = .ok (.aload_n 0, 1) := dk_42 (dk_at dksX5_add_1 13 rfl rfl)
theorem dX5_add_36 : decode cX5_add 36 = .ok (.getfield 60, 3) := dk_180 0 60 (dk_at dksX5_add_1 14 rfl rfl)
theorem dX5_add_39 : decode cX5_add 39 = .ok (.iastore, 1) := dk_79 (dk_at dksX5_add_1 17 rfl rfl)
theorem dX5_add_40 : decode cX5_add 40 = .ok (.aload_n 0, 1) := dk_42 (dk_at dksX5_add_1 18 rfl rfl)
theorem dX5_add_41 : decode cX5_add 41 = .ok (.getfield 15, 3) := dk_180 0 15 (dk_at dksX5_add_1 19 rfl rfl)
theorem dX5_add_44 : decode cX5_add 44 = .ok (.iload_n 1, 1) := dk_27 (dk_at dksX5_add_1 22 rfl rfl)
theorem dX5_add_45 : decode cX5_add 45 = .ok (.dup2, 1) := dk_92 (dk_at dksX5_add_1 23 rfl rfl)
theorem dX5_add_46 : decode cX5_add 46 = .ok (.iaload, 1) := dk_46 (dk_at dksX5_add_2 0 rfl rfl)
theorem dX5_add_47 : decode cX5_add 47 = .ok (.iconst 1, 1) := dk_4 (dk_at dksX5_add_2 1 rfl rfl)
theorem dX5_add_48 : decode cX5_add 48 = .ok (.iadd, 1) := dk_96 (dk_at dksX5_add_2 2 rfl rfl)
theorem dX5_add_49 : decode cX5_add 49 = .ok (.iastore, 1) := dk_79 (dk_at dksX5_add_2 3 rfl rfl)
theorem dX5_add_50 : decode cX5_add 50 = .ok (.return_, 1) := dk_177 (dk_at dksX5_add_2 4 rfl rfl)
abbrev cX5_worst : ByteArray := prog_18_method_15_code
def yX5_worst : MethodName := ⟨RX5, "worst", "(III)I"⟩
def dkwX5_worst_6 : List UInt8 := [156, 0, 12, 42, 180, 0, 15, 27, 46, 167, 0, 5, 21, 4, 172]
abbrev dktX5_worst_6 : List UInt8 := dkwX5_worst_6 ++ []
def dkwX5_worst_5 : List UInt8 := [132, 7, 1, 167, 255, 164, 42, 27, 28, 3, 29, 42, 180, 0, 60, 100, 4, 182, 0, 172, 22, 5, 148]
abbrev dktX5_worst_5 : List UInt8 := dkwX5_worst_5 ++ dktX5_worst_6
def dkwX5_worst_4 : List UInt8 := [162, 0, 14, 22, 9, 22, 5, 148, 155, 0, 6, 167, 0, 11, 21, 7, 54, 4, 22, 9, 55, 5]
abbrev dktX5_worst_4 : List UInt8 := dkwX5_worst_4 ++ dktX5_worst_5
def dkwX5_worst_3 : List UInt8 := [21, 8, 46, 42, 180, 0, 60, 100, 3, 182, 0, 172, 55, 9, 21, 4, 42, 180, 0, 15, 27, 46]
abbrev dktX5_worst_3 : List UInt8 := dkwX5_worst_3 ++ dktX5_worst_4
def dkwX5_worst_2 : List UInt8 := [42, 180, 0, 29, 21, 8, 46, 42, 180, 0, 60, 42, 180, 0, 35, 21, 8, 46, 100, 42, 180, 0, 32]
abbrev dktX5_worst_2 : List UInt8 := dkwX5_worst_2 ++ dktX5_worst_3
def dkwX5_worst_1 : List UInt8 := [54, 7, 21, 7, 42, 180, 0, 15, 27, 46, 162, 0, 87, 16, 7, 27, 104, 21, 7, 96, 54, 8, 42, 27]
abbrev dktX5_worst_1 : List UInt8 := dkwX5_worst_1 ++ dktX5_worst_2
def dkwX5_worst_0 : List UInt8 := [42, 180, 0, 56, 180, 0, 169, 153, 0, 5, 3, 172, 42, 180, 0, 15, 27, 46, 54, 4, 9, 55, 5, 3]
abbrev dktX5_worst_0 : List UInt8 := dkwX5_worst_0 ++ dktX5_worst_1
theorem dksX5_worst_0 : cX5_worst.data.toList.drop 0 = dktX5_worst_0 := by decide +kernel
theorem dksX5_worst_1 : cX5_worst.data.toList.drop 24 = dktX5_worst_1 := dk_seg dksX5_worst_0 24 rfl rfl
theorem dksX5_worst_2 : cX5_worst.data.toList.drop 48 = dktX5_worst_2 := dk_seg dksX5_worst_1 24 rfl rfl
theorem dksX5_worst_3 : cX5_worst.data.toList.drop 71 = dktX5_worst_3 := dk_seg dksX5_worst_2 23 rfl rfl
theorem dksX5_worst_4 : cX5_worst.data.toList.drop 93 = dktX5_worst_4 := dk_seg dksX5_worst_3 22 rfl rfl
theorem dksX5_worst_5 : cX5_worst.data.toList.drop 115 = dktX5_worst_5 := dk_seg dksX5_worst_4 22 rfl rfl
theorem dksX5_worst_6 : cX5_worst.data.toList.drop 138 = dktX5_worst_6 := dk_seg dksX5_worst_5 23 rfl rfl
theorem dX5_worst_0 : decode cX5_worst 0 = .ok (.aload_n 0, 1) := dk_42 (dk_at dksX5_worst_0 0 rfl rfl)
theorem dX5_worst_1 : decode cX5_worst 1 = .ok (.getfield 56, 3) := dk_180 0 56 (dk_at dksX5_worst_0 1 rfl rfl)
theorem dX5_worst_4 : decode cX5_worst 4 = .ok (.getfield 169, 3) := dk_180 0 169 (dk_at dksX5_worst_0 4 rfl rfl)
theorem dX5_worst_7 : decode cX5_worst 7 = .ok (.ifCond .eq 5, 3) := dk_153 0 5 (dk_at dksX5_worst_0 7 rfl rfl)
theorem dX5_worst_10 : decode cX5_worst 10 = .ok (.iconst 0, 1) := dk_3 (dk_at dksX5_worst_0 10 rfl rfl)
theorem dX5_worst_11 : decode cX5_worst 11 = .ok (.ireturn, 1) := dk_172 (dk_at dksX5_worst_0 11 rfl rfl)
theorem dX5_worst_12 : decode cX5_worst 12 = .ok (.aload_n 0, 1) := dk_42 (dk_at dksX5_worst_0 12 rfl rfl)
theorem dX5_worst_13 : decode cX5_worst 13 = .ok (.getfield 15, 3) := dk_180 0 15 (dk_at dksX5_worst_0 13 rfl rfl)
theorem dX5_worst_16 : decode cX5_worst 16 = .ok (.iload_n 1, 1) := dk_27 (dk_at dksX5_worst_0 16 rfl rfl)
theorem dX5_worst_17 : decode cX5_worst 17 = .ok (.iaload, 1) := dk_46 (dk_at dksX5_worst_0 17 rfl rfl)
theorem dX5_worst_18 : decode cX5_worst 18 = .ok (.istore 4, 2) := dk_54 4 (dk_at dksX5_worst_0 18 rfl rfl)
theorem dX5_worst_20 : decode cX5_worst 20 = .ok (.lconst 0, 1) := dk_9 (dk_at dksX5_worst_0 20 rfl rfl)
theorem dX5_worst_21 : decode cX5_worst 21 = .ok (.lstore 5, 2) := dk_55 5 (dk_at dksX5_worst_0 21 rfl rfl)
theorem dX5_worst_23 : decode cX5_worst 23 = .ok (.iconst 0, 1) := dk_3 (dk_at dksX5_worst_0 23 rfl rfl)
theorem dX5_worst_24 : decode cX5_worst 24 = .ok (.istore 7, 2) := dk_54 7 (dk_at dksX5_worst_1 0 rfl rfl)
theorem dX5_worst_26 : decode cX5_worst 26 = .ok (.iload 7, 2) := dk_21 7 (dk_at dksX5_worst_1 2 rfl rfl)
theorem dX5_worst_28 : decode cX5_worst 28 = .ok (.aload_n 0, 1) := dk_42 (dk_at dksX5_worst_1 4 rfl rfl)
theorem dX5_worst_29 : decode cX5_worst 29 = .ok (.getfield 15, 3) := dk_180 0 15 (dk_at dksX5_worst_1 5 rfl rfl)
theorem dX5_worst_32 : decode cX5_worst 32 = .ok (.iload_n 1, 1) := dk_27 (dk_at dksX5_worst_1 8 rfl rfl)
theorem dX5_worst_33 : decode cX5_worst 33 = .ok (.iaload, 1) := dk_46 (dk_at dksX5_worst_1 9 rfl rfl)
theorem dX5_worst_34 : decode cX5_worst 34 = .ok (.if_icmp .ge 87, 3) := dk_162 0 87 (dk_at dksX5_worst_1 10 rfl rfl)
theorem dX5_worst_37 : decode cX5_worst 37 = .ok (.bipush 7, 2) := dk_16 7 (dk_at dksX5_worst_1 13 rfl rfl)
theorem dX5_worst_39 : decode cX5_worst 39 = .ok (.iload_n 1, 1) := dk_27 (dk_at dksX5_worst_1 15 rfl rfl)
theorem dX5_worst_40 : decode cX5_worst 40 = .ok (.imul, 1) := dk_104 (dk_at dksX5_worst_1 16 rfl rfl)
theorem dX5_worst_41 : decode cX5_worst 41 = .ok (.iload 7, 2) := dk_21 7 (dk_at dksX5_worst_1 17 rfl rfl)
theorem dX5_worst_43 : decode cX5_worst 43 = .ok (.iadd, 1) := dk_96 (dk_at dksX5_worst_1 19 rfl rfl)
theorem dX5_worst_44 : decode cX5_worst 44 = .ok (.istore 8, 2) := dk_54 8 (dk_at dksX5_worst_1 20 rfl rfl)
theorem dX5_worst_46 : decode cX5_worst 46 = .ok (.aload_n 0, 1) := dk_42 (dk_at dksX5_worst_1 22 rfl rfl)
theorem dX5_worst_47 : decode cX5_worst 47 = .ok (.iload_n 1, 1) := dk_27 (dk_at dksX5_worst_1 23 rfl rfl)
theorem dX5_worst_48 : decode cX5_worst 48 = .ok (.aload_n 0, 1) := dk_42 (dk_at dksX5_worst_2 0 rfl rfl)
theorem dX5_worst_49 : decode cX5_worst 49 = .ok (.getfield 29, 3) := dk_180 0 29 (dk_at dksX5_worst_2 1 rfl rfl)
theorem dX5_worst_52 : decode cX5_worst 52 = .ok (.iload 8, 2) := dk_21 8 (dk_at dksX5_worst_2 4 rfl rfl)
theorem dX5_worst_54 : decode cX5_worst 54 = .ok (.iaload, 1) := dk_46 (dk_at dksX5_worst_2 6 rfl rfl)
theorem dX5_worst_55 : decode cX5_worst 55 = .ok (.aload_n 0, 1) := dk_42 (dk_at dksX5_worst_2 7 rfl rfl)
theorem dX5_worst_56 : decode cX5_worst 56 = .ok (.getfield 60, 3) := dk_180 0 60 (dk_at dksX5_worst_2 8 rfl rfl)
theorem dX5_worst_59 : decode cX5_worst 59 = .ok (.aload_n 0, 1) := dk_42 (dk_at dksX5_worst_2 11 rfl rfl)
theorem dX5_worst_60 : decode cX5_worst 60 = .ok (.getfield 35, 3) := dk_180 0 35 (dk_at dksX5_worst_2 12 rfl rfl)
theorem dX5_worst_63 : decode cX5_worst 63 = .ok (.iload 8, 2) := dk_21 8 (dk_at dksX5_worst_2 15 rfl rfl)
theorem dX5_worst_65 : decode cX5_worst 65 = .ok (.iaload, 1) := dk_46 (dk_at dksX5_worst_2 17 rfl rfl)
theorem dX5_worst_66 : decode cX5_worst 66 = .ok (.isub, 1) := dk_100 (dk_at dksX5_worst_2 18 rfl rfl)
theorem dX5_worst_67 : decode cX5_worst 67 = .ok (.aload_n 0, 1) := dk_42 (dk_at dksX5_worst_2 19 rfl rfl)
theorem dX5_worst_68 : decode cX5_worst 68 = .ok (.getfield 32, 3) := dk_180 0 32 (dk_at dksX5_worst_2 20 rfl rfl)
theorem dX5_worst_71 : decode cX5_worst 71 = .ok (.iload 8, 2) := dk_21 8 (dk_at dksX5_worst_3 0 rfl rfl)
theorem dX5_worst_73 : decode cX5_worst 73 = .ok (.iaload, 1) := dk_46 (dk_at dksX5_worst_3 2 rfl rfl)
theorem dX5_worst_74 : decode cX5_worst 74 = .ok (.aload_n 0, 1) := dk_42 (dk_at dksX5_worst_3 3 rfl rfl)
theorem dX5_worst_75 : decode cX5_worst 75 = .ok (.getfield 60, 3) := dk_180 0 60 (dk_at dksX5_worst_3 4 rfl rfl)
theorem dX5_worst_78 : decode cX5_worst 78 = .ok (.isub, 1) := dk_100 (dk_at dksX5_worst_3 7 rfl rfl)
theorem dX5_worst_79 : decode cX5_worst 79 = .ok (.iconst 0, 1) := dk_3 (dk_at dksX5_worst_3 8 rfl rfl)
theorem dX5_worst_80 : decode cX5_worst 80 = .ok (.invokevirtual 172, 3) := dk_182 0 172 (dk_at dksX5_worst_3 9 rfl rfl)
theorem dX5_worst_83 : decode cX5_worst 83 = .ok (.lstore 9, 2) := dk_55 9 (dk_at dksX5_worst_3 12 rfl rfl)
theorem dX5_worst_85 : decode cX5_worst 85 = .ok (.iload 4, 2) := dk_21 4 (dk_at dksX5_worst_3 14 rfl rfl)
theorem dX5_worst_87 : decode cX5_worst 87 = .ok (.aload_n 0, 1) := dk_42 (dk_at dksX5_worst_3 16 rfl rfl)
theorem dX5_worst_88 : decode cX5_worst 88 = .ok (.getfield 15, 3) := dk_180 0 15 (dk_at dksX5_worst_3 17 rfl rfl)
theorem dX5_worst_91 : decode cX5_worst 91 = .ok (.iload_n 1, 1) := dk_27 (dk_at dksX5_worst_3 20 rfl rfl)
theorem dX5_worst_92 : decode cX5_worst 92 = .ok (.iaload, 1) := dk_46 (dk_at dksX5_worst_3 21 rfl rfl)
theorem dX5_worst_93 : decode cX5_worst 93 = .ok (.if_icmp .ge 14, 3) := dk_162 0 14 (dk_at dksX5_worst_4 0 rfl rfl)
theorem dX5_worst_96 : decode cX5_worst 96 = .ok (.lload 9, 2) := dk_22 9 (dk_at dksX5_worst_4 3 rfl rfl)
theorem dX5_worst_98 : decode cX5_worst 98 = .ok (.lload 5, 2) := dk_22 5 (dk_at dksX5_worst_4 5 rfl rfl)
theorem dX5_worst_100 : decode cX5_worst 100 = .ok (.lcmp, 1) := dk_148 (dk_at dksX5_worst_4 7 rfl rfl)
theorem dX5_worst_101 : decode cX5_worst 101 = .ok (.ifCond .lt 6, 3) := dk_155 0 6 (dk_at dksX5_worst_4 8 rfl rfl)
theorem dX5_worst_104 : decode cX5_worst 104 = .ok (.goto 11, 3) := dk_167 0 11 (dk_at dksX5_worst_4 11 rfl rfl)
theorem dX5_worst_107 : decode cX5_worst 107 = .ok (.iload 7, 2) := dk_21 7 (dk_at dksX5_worst_4 14 rfl rfl)
theorem dX5_worst_109 : decode cX5_worst 109 = .ok (.istore 4, 2) := dk_54 4 (dk_at dksX5_worst_4 16 rfl rfl)
theorem dX5_worst_111 : decode cX5_worst 111 = .ok (.lload 9, 2) := dk_22 9 (dk_at dksX5_worst_4 18 rfl rfl)
theorem dX5_worst_113 : decode cX5_worst 113 = .ok (.lstore 5, 2) := dk_55 5 (dk_at dksX5_worst_4 20 rfl rfl)
theorem dX5_worst_115 : decode cX5_worst 115 = .ok (.iinc 7 1, 3) := dk_132 7 1 (dk_at dksX5_worst_5 0 rfl rfl)
theorem dX5_worst_118 : decode cX5_worst 118 = .ok (.goto (-92), 3) := dk_167 255 164 (dk_at dksX5_worst_5 3 rfl rfl)
theorem dX5_worst_121 : decode cX5_worst 121 = .ok (.aload_n 0, 1) := dk_42 (dk_at dksX5_worst_5 6 rfl rfl)
theorem dX5_worst_122 : decode cX5_worst 122 = .ok (.iload_n 1, 1) := dk_27 (dk_at dksX5_worst_5 7 rfl rfl)
theorem dX5_worst_123 : decode cX5_worst 123 = .ok (.iload_n 2, 1) := dk_28 (dk_at dksX5_worst_5 8 rfl rfl)
theorem dX5_worst_124 : decode cX5_worst 124 = .ok (.iconst 0, 1) := dk_3 (dk_at dksX5_worst_5 9 rfl rfl)
theorem dX5_worst_125 : decode cX5_worst 125 = .ok (.iload_n 3, 1) := dk_29 (dk_at dksX5_worst_5 10 rfl rfl)
theorem dX5_worst_126 : decode cX5_worst 126 = .ok (.aload_n 0, 1) := dk_42 (dk_at dksX5_worst_5 11 rfl rfl)
theorem dX5_worst_127 : decode cX5_worst 127 = .ok (.getfield 60, 3) := dk_180 0 60 (dk_at dksX5_worst_5 12 rfl rfl)
theorem dX5_worst_130 : decode cX5_worst 130 = .ok (.isub, 1) := dk_100 (dk_at dksX5_worst_5 15 rfl rfl)
theorem dX5_worst_131 : decode cX5_worst 131 = .ok (.iconst 1, 1) := dk_4 (dk_at dksX5_worst_5 16 rfl rfl)
theorem dX5_worst_132 : decode cX5_worst 132 = .ok (.invokevirtual 172, 3) := dk_182 0 172 (dk_at dksX5_worst_5 17 rfl rfl)
theorem dX5_worst_135 : decode cX5_worst 135 = .ok (.lload 5, 2) := dk_22 5 (dk_at dksX5_worst_5 20 rfl rfl)
theorem dX5_worst_137 : decode cX5_worst 137 = .ok (.lcmp, 1) := dk_148 (dk_at dksX5_worst_5 22 rfl rfl)
theorem dX5_worst_138 : decode cX5_worst 138 = .ok (.ifCond .ge 12, 3) := dk_156 0 12 (dk_at dksX5_worst_6 0 rfl rfl)
theorem dX5_worst_141 : decode cX5_worst 141 = .ok (.aload_n 0, 1) := dk_42 (dk_at dksX5_worst_6 3 rfl rfl)
theorem dX5_worst_142 : decode cX5_worst 142 = .ok (.getfield 15, 3) := dk_180 0 15 (dk_at dksX5_worst_6 4 rfl rfl)
theorem dX5_worst_145 : decode cX5_worst 145 = .ok (.iload_n 1, 1) := dk_27 (dk_at dksX5_worst_6 7 rfl rfl)
theorem dX5_worst_146 : decode cX5_worst 146 = .ok (.iaload, 1) := dk_46 (dk_at dksX5_worst_6 8 rfl rfl)
theorem dX5_worst_147 : decode cX5_worst 147 = .ok (.goto 5, 3) := dk_167 0 5 (dk_at dksX5_worst_6 9 rfl rfl)
theorem dX5_worst_150 : decode cX5_worst 150 = .ok (.iload 4, 2) := dk_21 4 (dk_at dksX5_worst_6 12 rfl rfl)
theorem dX5_worst_152 : decode cX5_worst 152 = .ok (.ireturn, 1) := dk_172 (dk_at dksX5_worst_6 14 rfl rfl)
abbrev cX5_keepOf : ByteArray := prog_18_method_12_code
def yX5_keepOf : MethodName := ⟨RX5, "keepOf", "(IIIII)J"⟩
def dkwX5_keepOf_1 : List UInt8 := [133, 182, 0, 165, 173]
abbrev dktX5_keepOf_1 : List UInt8 := dkwX5_keepOf_1 ++ []
def dkwX5_keepOf_0 : List UInt8 := [42, 27, 28, 29, 21, 4, 21, 5, 182, 0, 157, 42, 180, 0, 3, 42, 180, 0, 56, 180, 0, 161, 21, 4]
abbrev dktX5_keepOf_0 : List UInt8 := dkwX5_keepOf_0 ++ dktX5_keepOf_1
theorem dksX5_keepOf_0 : cX5_keepOf.data.toList.drop 0 = dktX5_keepOf_0 := by decide +kernel
theorem dksX5_keepOf_1 : cX5_keepOf.data.toList.drop 24 = dktX5_keepOf_1 := dk_seg dksX5_keepOf_0 24 rfl rfl
theorem dX5_keepOf_0 : decode cX5_keepOf 0 = .ok (.aload_n 0, 1) := dk_42 (dk_at dksX5_keepOf_0 0 rfl rfl)
theorem dX5_keepOf_1 : decode cX5_keepOf 1 = .ok (.iload_n 1, 1) := dk_27 (dk_at dksX5_keepOf_0 1 rfl rfl)
theorem dX5_keepOf_2 : decode cX5_keepOf 2 = .ok (.iload_n 2, 1) := dk_28 (dk_at dksX5_keepOf_0 2 rfl rfl)
theorem dX5_keepOf_3 : decode cX5_keepOf 3 = .ok (.iload_n 3, 1) := dk_29 (dk_at dksX5_keepOf_0 3 rfl rfl)
theorem dX5_keepOf_4 : decode cX5_keepOf 4 = .ok (.iload 4, 2) := dk_21 4 (dk_at dksX5_keepOf_0 4 rfl rfl)
theorem dX5_keepOf_6 : decode cX5_keepOf 6 = .ok (.iload 5, 2) := dk_21 5 (dk_at dksX5_keepOf_0 6 rfl rfl)
theorem dX5_keepOf_8 : decode cX5_keepOf 8 = .ok (.invokevirtual 157, 3) := dk_182 0 157 (dk_at dksX5_keepOf_0 8 rfl rfl)
theorem dX5_keepOf_11 : decode cX5_keepOf 11 = .ok (.aload_n 0, 1) := dk_42 (dk_at dksX5_keepOf_0 11 rfl rfl)
theorem dX5_keepOf_12 : decode cX5_keepOf 12 = .ok (.getfield 3, 3) := dk_180 0 3 (dk_at dksX5_keepOf_0 12 rfl rfl)
theorem dX5_keepOf_15 : decode cX5_keepOf 15 = .ok (.aload_n 0, 1) := dk_42 (dk_at dksX5_keepOf_0 15 rfl rfl)
theorem dX5_keepOf_16 : decode cX5_keepOf 16 = .ok (.getfield 56, 3) := dk_180 0 56 (dk_at dksX5_keepOf_0 16 rfl rfl)
theorem dX5_keepOf_19 : decode cX5_keepOf 19 = .ok (.getfield 161, 3) := dk_180 0 161 (dk_at dksX5_keepOf_0 19 rfl rfl)
theorem dX5_keepOf_22 : decode cX5_keepOf 22 = .ok (.iload 4, 2) := dk_21 4 (dk_at dksX5_keepOf_0 22 rfl rfl)
theorem dX5_keepOf_24 : decode cX5_keepOf 24 = .ok (.i2l, 1) := dk_133 (dk_at dksX5_keepOf_1 0 rfl rfl)
theorem dX5_keepOf_25 : decode cX5_keepOf 25 = .ok (.invokevirtual 165, 3) := dk_182 0 165 (dk_at dksX5_keepOf_1 1 rfl rfl)
theorem dX5_keepOf_28 : decode cX5_keepOf 28 = .ok (.lreturn, 1) := dk_173 (dk_at dksX5_keepOf_1 4 rfl rfl)
abbrev cX5_layNames : ByteArray := prog_18_method_11_code
def yX5_layNames : MethodName := ⟨RX5, "layNames", "(IIIII)V"⟩
def dkwX5_layNames_1 : List UInt8 := [42, 27, 28, 182, 0, 148, 21, 5, 182, 0, 151, 177]
abbrev dktX5_layNames_1 : List UInt8 := dkwX5_layNames_1 ++ []
def dkwX5_layNames_0 : List UInt8 := [42, 180, 0, 3, 180, 0, 137, 29, 21, 4, 42, 180, 0, 3, 28, 182, 0, 141, 42, 27, 28, 182, 0, 144]
abbrev dktX5_layNames_0 : List UInt8 := dkwX5_layNames_0 ++ dktX5_layNames_1
theorem dksX5_layNames_0 : cX5_layNames.data.toList.drop 0 = dktX5_layNames_0 := by decide +kernel
theorem dksX5_layNames_1 : cX5_layNames.data.toList.drop 24 = dktX5_layNames_1 := dk_seg dksX5_layNames_0 24 rfl rfl
theorem dX5_layNames_0 : decode cX5_layNames 0 = .ok (.aload_n 0, 1) := dk_42 (dk_at dksX5_layNames_0 0 rfl rfl)
theorem dX5_layNames_1 : decode cX5_layNames 1 = .ok (.getfield 3, 3) := dk_180 0 3 (dk_at dksX5_layNames_0 1 rfl rfl)
theorem dX5_layNames_4 : decode cX5_layNames 4 = .ok (.getfield 137, 3) := dk_180 0 137 (dk_at dksX5_layNames_0 4 rfl rfl)
theorem dX5_layNames_7 : decode cX5_layNames 7 = .ok (.iload_n 3, 1) := dk_29 (dk_at dksX5_layNames_0 7 rfl rfl)
theorem dX5_layNames_8 : decode cX5_layNames 8 = .ok (.iload 4, 2) := dk_21 4 (dk_at dksX5_layNames_0 8 rfl rfl)
theorem dX5_layNames_10 : decode cX5_layNames 10 = .ok (.aload_n 0, 1) := dk_42 (dk_at dksX5_layNames_0 10 rfl rfl)
theorem dX5_layNames_11 : decode cX5_layNames 11 = .ok (.getfield 3, 3) := dk_180 0 3 (dk_at dksX5_layNames_0 11 rfl rfl)
theorem dX5_layNames_14 : decode cX5_layNames 14 = .ok (.iload_n 2, 1) := dk_28 (dk_at dksX5_layNames_0 14 rfl rfl)
theorem dX5_layNames_15 : decode cX5_layNames 15 = .ok (.invokevirtual 141, 3) := dk_182 0 141 (dk_at dksX5_layNames_0 15 rfl rfl)
theorem dX5_layNames_18 : decode cX5_layNames 18 = .ok (.aload_n 0, 1) := dk_42 (dk_at dksX5_layNames_0 18 rfl rfl)
theorem dX5_layNames_19 : decode cX5_layNames 19 = .ok (.iload_n 1, 1) := dk_27 (dk_at dksX5_layNames_0 19 rfl rfl)
theorem dX5_layNames_20 : decode cX5_layNames 20 = .ok (.iload_n 2, 1) := dk_28 (dk_at dksX5_layNames_0 20 rfl rfl)
theorem dX5_layNames_21 : decode cX5_layNames 21 = .ok (.invokevirtual 144, 3) := dk_182 0 144 (dk_at dksX5_layNames_0 21 rfl rfl)
theorem dX5_layNames_24 : decode cX5_layNames 24 = .ok (.aload_n 0, 1) := dk_42 (dk_at dksX5_layNames_1 0 rfl rfl)
theorem dX5_layNames_25 : decode cX5_layNames 25 = .ok (.iload_n 1, 1) := dk_27 (dk_at dksX5_layNames_1 1 rfl rfl)
theorem dX5_layNames_26 : decode cX5_layNames 26 = .ok (.iload_n 2, 1) := dk_28 (dk_at dksX5_layNames_1 2 rfl rfl)
theorem dX5_layNames_27 : decode cX5_layNames 27 = .ok (.invokevirtual 148, 3) := dk_182 0 148 (dk_at dksX5_layNames_1 3 rfl rfl)
theorem dX5_layNames_30 : decode cX5_layNames 30 = .ok (.iload 5, 2) := dk_21 5 (dk_at dksX5_layNames_1 6 rfl rfl)
theorem dX5_layNames_32 : decode cX5_layNames 32 = .ok (.invokevirtual 151, 3) := dk_182 0 151 (dk_at dksX5_layNames_1 8 rfl rfl)
theorem dX5_layNames_35 : decode cX5_layNames 35 = .ok (.return_, 1) := dk_177 (dk_at dksX5_layNames_1 11 rfl rfl)
abbrev cX5_others : ByteArray := prog_18_method_9_code
def yX5_others : MethodName := ⟨RX5, "others", "(II)I"⟩
def dkwX5_others_2 : List UInt8 := [184, 0, 119, 153, 0, 7, 4, 167, 0, 4, 3, 96, 62, 132, 4, 1, 167, 255, 197, 29, 172]
abbrev dktX5_others_2 : List UInt8 := dkwX5_others_2 ++ []
def dkwX5_others_1 : List UInt8 := [42, 180, 0, 67, 153, 0, 13, 42, 180, 0, 38, 21, 4, 46, 167, 0, 9, 42, 21, 4, 182, 0, 115, 28]
abbrev dktX5_others_1 : List UInt8 := dkwX5_others_1 ++ dktX5_others_2
def dkwX5_others_0 : List UInt8 := [3, 62, 3, 54, 4, 21, 4, 42, 180, 0, 3, 182, 0, 112, 162, 0, 53, 29, 21, 4, 27, 159, 0, 37]
abbrev dktX5_others_0 : List UInt8 := dkwX5_others_0 ++ dktX5_others_1
theorem dksX5_others_0 : cX5_others.data.toList.drop 0 = dktX5_others_0 := by decide +kernel
theorem dksX5_others_1 : cX5_others.data.toList.drop 24 = dktX5_others_1 := dk_seg dksX5_others_0 24 rfl rfl
theorem dksX5_others_2 : cX5_others.data.toList.drop 48 = dktX5_others_2 := dk_seg dksX5_others_1 24 rfl rfl
theorem dX5_others_0 : decode cX5_others 0 = .ok (.iconst 0, 1) := dk_3 (dk_at dksX5_others_0 0 rfl rfl)
theorem dX5_others_1 : decode cX5_others 1 = .ok (.istore_n 3, 1) := dk_62 (dk_at dksX5_others_0 1 rfl rfl)
theorem dX5_others_2 : decode cX5_others 2 = .ok (.iconst 0, 1) := dk_3 (dk_at dksX5_others_0 2 rfl rfl)
theorem dX5_others_3 : decode cX5_others 3 = .ok (.istore 4, 2) := dk_54 4 (dk_at dksX5_others_0 3 rfl rfl)
theorem dX5_others_5 : decode cX5_others 5 = .ok (.iload 4, 2) := dk_21 4 (dk_at dksX5_others_0 5 rfl rfl)
theorem dX5_others_7 : decode cX5_others 7 = .ok (.aload_n 0, 1) := dk_42 (dk_at dksX5_others_0 7 rfl rfl)
theorem dX5_others_8 : decode cX5_others 8 = .ok (.getfield 3, 3) := dk_180 0 3 (dk_at dksX5_others_0 8 rfl rfl)
theorem dX5_others_11 : decode cX5_others 11 = .ok (.invokevirtual 112, 3) := dk_182 0 112 (dk_at dksX5_others_0 11 rfl rfl)
theorem dX5_others_14 : decode cX5_others 14 = .ok (.if_icmp .ge 53, 3) := dk_162 0 53 (dk_at dksX5_others_0 14 rfl rfl)
theorem dX5_others_17 : decode cX5_others 17 = .ok (.iload_n 3, 1) := dk_29 (dk_at dksX5_others_0 17 rfl rfl)
theorem dX5_others_18 : decode cX5_others 18 = .ok (.iload 4, 2) := dk_21 4 (dk_at dksX5_others_0 18 rfl rfl)
theorem dX5_others_20 : decode cX5_others 20 = .ok (.iload_n 1, 1) := dk_27 (dk_at dksX5_others_0 20 rfl rfl)
theorem dX5_others_21 : decode cX5_others 21 = .ok (.if_icmp .eq 37, 3) := dk_159 0 37 (dk_at dksX5_others_0 21 rfl rfl)
theorem dX5_others_24 : decode cX5_others 24 = .ok (.aload_n 0, 1) := dk_42 (dk_at dksX5_others_1 0 rfl rfl)
theorem dX5_others_25 : decode cX5_others 25 = .ok (.getfield 67, 3) := dk_180 0 67 (dk_at dksX5_others_1 1 rfl rfl)
theorem dX5_others_28 : decode cX5_others 28 = .ok (.ifCond .eq 13, 3) := dk_153 0 13 (dk_at dksX5_others_1 4 rfl rfl)
theorem dX5_others_31 : decode cX5_others 31 = .ok (.aload_n 0, 1) := dk_42 (dk_at dksX5_others_1 7 rfl rfl)
theorem dX5_others_32 : decode cX5_others 32 = .ok (.getfield 38, 3) := dk_180 0 38 (dk_at dksX5_others_1 8 rfl rfl)
theorem dX5_others_35 : decode cX5_others 35 = .ok (.iload 4, 2) := dk_21 4 (dk_at dksX5_others_1 11 rfl rfl)
theorem dX5_others_37 : decode cX5_others 37 = .ok (.iaload, 1) := dk_46 (dk_at dksX5_others_1 13 rfl rfl)
theorem dX5_others_38 : decode cX5_others 38 = .ok (.goto 9, 3) := dk_167 0 9 (dk_at dksX5_others_1 14 rfl rfl)
theorem dX5_others_41 : decode cX5_others 41 = .ok (.aload_n 0, 1) := dk_42 (dk_at dksX5_others_1 17 rfl rfl)
theorem dX5_others_42 : decode cX5_others 42 = .ok (.iload 4, 2) := dk_21 4 (dk_at dksX5_others_1 18 rfl rfl)
theorem dX5_others_44 : decode cX5_others 44 = .ok (.invokevirtual 115, 3) := dk_182 0 115 (dk_at dksX5_others_1 20 rfl rfl)
theorem dX5_others_47 : decode cX5_others 47 = .ok (.iload_n 2, 1) := dk_28 (dk_at dksX5_others_1 23 rfl rfl)
theorem dX5_others_48 : decode cX5_others 48 = .ok (.invokestatic 119, 3) := dk_184 0 119 (dk_at dksX5_others_2 0 rfl rfl)
theorem dX5_others_51 : decode cX5_others 51 = .ok (.ifCond .eq 7, 3) := dk_153 0 7 (dk_at dksX5_others_2 3 rfl rfl)
theorem dX5_others_54 : decode cX5_others 54 = .ok (.iconst 1, 1) := dk_4 (dk_at dksX5_others_2 6 rfl rfl)
theorem dX5_others_55 : decode cX5_others 55 = .ok (.goto 4, 3) := dk_167 0 4 (dk_at dksX5_others_2 7 rfl rfl)
theorem dX5_others_58 : decode cX5_others 58 = .ok (.iconst 0, 1) := dk_3 (dk_at dksX5_others_2 10 rfl rfl)
theorem dX5_others_59 : decode cX5_others 59 = .ok (.iadd, 1) := dk_96 (dk_at dksX5_others_2 11 rfl rfl)
theorem dX5_others_60 : decode cX5_others 60 = .ok (.istore_n 3, 1) := dk_62 (dk_at dksX5_others_2 12 rfl rfl)
theorem dX5_others_61 : decode cX5_others 61 = .ok (.iinc 4 1, 3) := dk_132 4 1 (dk_at dksX5_others_2 13 rfl rfl)
theorem dX5_others_64 : decode cX5_others 64 = .ok (.goto (-59), 3) := dk_167 255 197 (dk_at dksX5_others_2 16 rfl rfl)
theorem dX5_others_67 : decode cX5_others 67 = .ok (.iload_n 3, 1) := dk_29 (dk_at dksX5_others_2 19 rfl rfl)
theorem dX5_others_68 : decode cX5_others 68 = .ok (.ireturn, 1) := dk_172 (dk_at dksX5_others_2 20 rfl rfl)
abbrev cX5_held : ByteArray := prog_18_method_8_code
def yX5_held : MethodName := ⟨RX5, "held", "(I)I"⟩
def dkwX5_held_1 : List UInt8 := [29, 96, 46, 120, 128, 61, 132, 3, 1, 167, 255, 227, 28, 172]
abbrev dktX5_held_1 : List UInt8 := dkwX5_held_1 ++ []
def dkwX5_held_0 : List UInt8 := [3, 61, 3, 62, 29, 42, 180, 0, 15, 27, 46, 162, 0, 25, 28, 4, 42, 180, 0, 29, 16, 7, 27, 104]
abbrev dktX5_held_0 : List UInt8 := dkwX5_held_0 ++ dktX5_held_1
theorem dksX5_held_0 : cX5_held.data.toList.drop 0 = dktX5_held_0 := by decide +kernel
theorem dksX5_held_1 : cX5_held.data.toList.drop 24 = dktX5_held_1 := dk_seg dksX5_held_0 24 rfl rfl
theorem dX5_held_0 : decode cX5_held 0 = .ok (.iconst 0, 1) := dk_3 (dk_at dksX5_held_0 0 rfl rfl)
theorem dX5_held_1 : decode cX5_held 1 = .ok (.istore_n 2, 1) := dk_61 (dk_at dksX5_held_0 1 rfl rfl)
theorem dX5_held_2 : decode cX5_held 2 = .ok (.iconst 0, 1) := dk_3 (dk_at dksX5_held_0 2 rfl rfl)
theorem dX5_held_3 : decode cX5_held 3 = .ok (.istore_n 3, 1) := dk_62 (dk_at dksX5_held_0 3 rfl rfl)
theorem dX5_held_4 : decode cX5_held 4 = .ok (.iload_n 3, 1) := dk_29 (dk_at dksX5_held_0 4 rfl rfl)
theorem dX5_held_5 : decode cX5_held 5 = .ok (.aload_n 0, 1) := dk_42 (dk_at dksX5_held_0 5 rfl rfl)
theorem dX5_held_6 : decode cX5_held 6 = .ok (.getfield 15, 3) := dk_180 0 15 (dk_at dksX5_held_0 6 rfl rfl)
theorem dX5_held_9 : decode cX5_held 9 = .ok (.iload_n 1, 1) := dk_27 (dk_at dksX5_held_0 9 rfl rfl)
theorem dX5_held_10 : decode cX5_held 10 = .ok (.iaload, 1) := dk_46 (dk_at dksX5_held_0 10 rfl rfl)
theorem dX5_held_11 : decode cX5_held 11 = .ok (.if_icmp .ge 25, 3) := dk_162 0 25 (dk_at dksX5_held_0 11 rfl rfl)
theorem dX5_held_14 : decode cX5_held 14 = .ok (.iload_n 2, 1) := dk_28 (dk_at dksX5_held_0 14 rfl rfl)
theorem dX5_held_15 : decode cX5_held 15 = .ok (.iconst 1, 1) := dk_4 (dk_at dksX5_held_0 15 rfl rfl)
theorem dX5_held_16 : decode cX5_held 16 = .ok (.aload_n 0, 1) := dk_42 (dk_at dksX5_held_0 16 rfl rfl)
theorem dX5_held_17 : decode cX5_held 17 = .ok (.getfield 29, 3) := dk_180 0 29 (dk_at dksX5_held_0 17 rfl rfl)
theorem dX5_held_20 : decode cX5_held 20 = .ok (.bipush 7, 2) := dk_16 7 (dk_at dksX5_held_0 20 rfl rfl)
theorem dX5_held_22 : decode cX5_held 22 = .ok (.iload_n 1, 1) := dk_27 (dk_at dksX5_held_0 22 rfl rfl)
theorem dX5_held_23 : decode cX5_held 23 = .ok (.imul, 1) := dk_104 (dk_at dksX5_held_0 23 rfl rfl)
theorem dX5_held_24 : decode cX5_held 24 = .ok (.iload_n 3, 1) := dk_29 (dk_at dksX5_held_1 0 rfl rfl)
theorem dX5_held_25 : decode cX5_held 25 = .ok (.iadd, 1) := dk_96 (dk_at dksX5_held_1 1 rfl rfl)
theorem dX5_held_26 : decode cX5_held 26 = .ok (.iaload, 1) := dk_46 (dk_at dksX5_held_1 2 rfl rfl)
theorem dX5_held_27 : decode cX5_held 27 = .ok (.ishl, 1) := dk_120 (dk_at dksX5_held_1 3 rfl rfl)
theorem dX5_held_28 : decode cX5_held 28 = .ok (.ior, 1) := dk_128 (dk_at dksX5_held_1 4 rfl rfl)
theorem dX5_held_29 : decode cX5_held 29 = .ok (.istore_n 2, 1) := dk_61 (dk_at dksX5_held_1 5 rfl rfl)
theorem dX5_held_30 : decode cX5_held 30 = .ok (.iinc 3 1, 3) := dk_132 3 1 (dk_at dksX5_held_1 6 rfl rfl)
theorem dX5_held_33 : decode cX5_held 33 = .ok (.goto (-29), 3) := dk_167 255 227 (dk_at dksX5_held_1 9 rfl rfl)
theorem dX5_held_36 : decode cX5_held 36 = .ok (.iload_n 2, 1) := dk_28 (dk_at dksX5_held_1 12 rfl rfl)
theorem dX5_held_37 : decode cX5_held 37 = .ok (.ireturn, 1) := dk_172 (dk_at dksX5_held_1 13 rfl rfl)
abbrev cX5_asked : ByteArray := prog_18_method_10_code
def yX5_asked : MethodName := ⟨RX5, "asked", "(II)I"⟩
def dkwX5_asked_3 : List UInt8 := [28, 160, 0, 7, 4, 167, 0, 4, 3, 96, 62, 132, 4, 1, 167, 255, 177, 29, 172]
abbrev dktX5_asked_3 : List UInt8 := dkwX5_asked_3 ++ []
def dkwX5_asked_2 : List UInt8 := [180, 0, 131, 42, 180, 0, 60, 161, 0, 25, 25, 5, 180, 0, 132, 27, 160, 0, 16, 25, 5, 180, 0, 135]
abbrev dktX5_asked_2 : List UInt8 := dkwX5_asked_2 ++ dktX5_asked_3
def dkwX5_asked_1 : List UInt8 := [180, 0, 3, 180, 0, 77, 180, 0, 123, 21, 4, 182, 0, 87, 192, 0, 129, 58, 5, 29, 25, 5]
abbrev dktX5_asked_1 : List UInt8 := dkwX5_asked_1 ++ dktX5_asked_2
def dkwX5_asked_0 : List UInt8 := [3, 62, 3, 54, 4, 21, 4, 42, 180, 0, 3, 180, 0, 77, 180, 0, 123, 182, 0, 126, 162, 0, 67, 42]
abbrev dktX5_asked_0 : List UInt8 := dkwX5_asked_0 ++ dktX5_asked_1
theorem dksX5_asked_0 : cX5_asked.data.toList.drop 0 = dktX5_asked_0 := by decide +kernel
theorem dksX5_asked_1 : cX5_asked.data.toList.drop 24 = dktX5_asked_1 := dk_seg dksX5_asked_0 24 rfl rfl
theorem dksX5_asked_2 : cX5_asked.data.toList.drop 46 = dktX5_asked_2 := dk_seg dksX5_asked_1 22 rfl rfl
theorem dksX5_asked_3 : cX5_asked.data.toList.drop 70 = dktX5_asked_3 := dk_seg dksX5_asked_2 24 rfl rfl
theorem dX5_asked_0 : decode cX5_asked 0 = .ok (.iconst 0, 1) := dk_3 (dk_at dksX5_asked_0 0 rfl rfl)
theorem dX5_asked_1 : decode cX5_asked 1 = .ok (.istore_n 3, 1) := dk_62 (dk_at dksX5_asked_0 1 rfl rfl)
theorem dX5_asked_2 : decode cX5_asked 2 = .ok (.iconst 0, 1) := dk_3 (dk_at dksX5_asked_0 2 rfl rfl)
theorem dX5_asked_3 : decode cX5_asked 3 = .ok (.istore 4, 2) := dk_54 4 (dk_at dksX5_asked_0 3 rfl rfl)
theorem dX5_asked_5 : decode cX5_asked 5 = .ok (.iload 4, 2) := dk_21 4 (dk_at dksX5_asked_0 5 rfl rfl)
theorem dX5_asked_7 : decode cX5_asked 7 = .ok (.aload_n 0, 1) := dk_42 (dk_at dksX5_asked_0 7 rfl rfl)
theorem dX5_asked_8 : decode cX5_asked 8 = .ok (.getfield 3, 3) := dk_180 0 3 (dk_at dksX5_asked_0 8 rfl rfl)
theorem dX5_asked_11 : decode cX5_asked 11 = .ok (.getfield 77, 3) := dk_180 0 77 (dk_at dksX5_asked_0 11 rfl rfl)
theorem dX5_asked_14 : decode cX5_asked 14 = .ok (.getfield 123, 3) := dk_180 0 123 (dk_at dksX5_asked_0 14 rfl rfl)
theorem dX5_asked_17 : decode cX5_asked 17 = .ok (.invokevirtual 126, 3) := dk_182 0 126 (dk_at dksX5_asked_0 17 rfl rfl)
theorem dX5_asked_20 : decode cX5_asked 20 = .ok (.if_icmp .ge 67, 3) := dk_162 0 67 (dk_at dksX5_asked_0 20 rfl rfl)
theorem dX5_asked_23 : decode cX5_asked 23 = .ok (.aload_n 0, 1) := dk_42 (dk_at dksX5_asked_0 23 rfl rfl)
theorem dX5_asked_24 : decode cX5_asked 24 = .ok (.getfield 3, 3) := dk_180 0 3 (dk_at dksX5_asked_1 0 rfl rfl)
theorem dX5_asked_27 : decode cX5_asked 27 = .ok (.getfield 77, 3) := dk_180 0 77 (dk_at dksX5_asked_1 3 rfl rfl)
theorem dX5_asked_30 : decode cX5_asked 30 = .ok (.getfield 123, 3) := dk_180 0 123 (dk_at dksX5_asked_1 6 rfl rfl)
theorem dX5_asked_33 : decode cX5_asked 33 = .ok (.iload 4, 2) := dk_21 4 (dk_at dksX5_asked_1 9 rfl rfl)
theorem dX5_asked_35 : decode cX5_asked 35 = .ok (.invokevirtual 87, 3) := dk_182 0 87 (dk_at dksX5_asked_1 11 rfl rfl)
theorem dX5_asked_38 : decode cX5_asked 38 = .ok (.checkcast 129, 3) := dk_192 0 129 (dk_at dksX5_asked_1 14 rfl rfl)
theorem dX5_asked_41 : decode cX5_asked 41 = .ok (.astore 5, 2) := dk_58 5 (dk_at dksX5_asked_1 17 rfl rfl)
theorem dX5_asked_43 : decode cX5_asked 43 = .ok (.iload_n 3, 1) := dk_29 (dk_at dksX5_asked_1 19 rfl rfl)
theorem dX5_asked_44 : decode cX5_asked 44 = .ok (.aload 5, 2) := dk_25 5 (dk_at dksX5_asked_1 20 rfl rfl)
theorem dX5_asked_46 : decode cX5_asked 46 = .ok (.getfield 131, 3) := dk_180 0 131 (dk_at dksX5_asked_2 0 rfl rfl)
theorem dX5_asked_49 : decode cX5_asked 49 = .ok (.aload_n 0, 1) := dk_42 (dk_at dksX5_asked_2 3 rfl rfl)
theorem dX5_asked_50 : decode cX5_asked 50 = .ok (.getfield 60, 3) := dk_180 0 60 (dk_at dksX5_asked_2 4 rfl rfl)
theorem dX5_asked_53 : decode cX5_asked 53 = .ok (.if_icmp .lt 25, 3) := dk_161 0 25 (dk_at dksX5_asked_2 7 rfl rfl)
theorem dX5_asked_56 : decode cX5_asked 56 = .ok (.aload 5, 2) := dk_25 5 (dk_at dksX5_asked_2 10 rfl rfl)
theorem dX5_asked_58 : decode cX5_asked 58 = .ok (.getfield 132, 3) := dk_180 0 132 (dk_at dksX5_asked_2 12 rfl rfl)
theorem dX5_asked_61 : decode cX5_asked 61 = .ok (.iload_n 1, 1) := dk_27 (dk_at dksX5_asked_2 15 rfl rfl)
theorem dX5_asked_62 : decode cX5_asked 62 = .ok (.if_icmp .ne 16, 3) := dk_160 0 16 (dk_at dksX5_asked_2 16 rfl rfl)
theorem dX5_asked_65 : decode cX5_asked 65 = .ok (.aload 5, 2) := dk_25 5 (dk_at dksX5_asked_2 19 rfl rfl)
theorem dX5_asked_67 : decode cX5_asked 67 = .ok (.getfield 135, 3) := dk_180 0 135 (dk_at dksX5_asked_2 21 rfl rfl)
theorem dX5_asked_70 : decode cX5_asked 70 = .ok (.iload_n 2, 1) := dk_28 (dk_at dksX5_asked_3 0 rfl rfl)
theorem dX5_asked_71 : decode cX5_asked 71 = .ok (.if_icmp .ne 7, 3) := dk_160 0 7 (dk_at dksX5_asked_3 1 rfl rfl)
theorem dX5_asked_74 : decode cX5_asked 74 = .ok (.iconst 1, 1) := dk_4 (dk_at dksX5_asked_3 4 rfl rfl)
theorem dX5_asked_75 : decode cX5_asked 75 = .ok (.goto 4, 3) := dk_167 0 4 (dk_at dksX5_asked_3 5 rfl rfl)
theorem dX5_asked_78 : decode cX5_asked 78 = .ok (.iconst 0, 1) := dk_3 (dk_at dksX5_asked_3 8 rfl rfl)
theorem dX5_asked_79 : decode cX5_asked 79 = .ok (.iadd, 1) := dk_96 (dk_at dksX5_asked_3 9 rfl rfl)
theorem dX5_asked_80 : decode cX5_asked 80 = .ok (.istore_n 3, 1) := dk_62 (dk_at dksX5_asked_3 10 rfl rfl)
theorem dX5_asked_81 : decode cX5_asked 81 = .ok (.iinc 4 1, 3) := dk_132 4 1 (dk_at dksX5_asked_3 11 rfl rfl)
theorem dX5_asked_84 : decode cX5_asked 84 = .ok (.goto (-79), 3) := dk_167 255 177 (dk_at dksX5_asked_3 14 rfl rfl)
theorem dX5_asked_87 : decode cX5_asked 87 = .ok (.iload_n 3, 1) := dk_29 (dk_at dksX5_asked_3 17 rfl rfl)
theorem dX5_asked_88 : decode cX5_asked 88 = .ok (.ireturn, 1) := dk_172 (dk_at dksX5_asked_3 18 rfl rfl)
abbrev cX5_noon : ByteArray := prog_18_method_21_code
def yX5_noon : MethodName := ⟨RX5, "noon", "()V"⟩
def dkwX5_noon_2 : List UInt8 := [181, 0, 67, 177]
abbrev dktX5_noon_2 : List UInt8 := dkwX5_noon_2 ++ []
def dkwX5_noon_1 : List UInt8 := [182, 0, 218, 155, 0, 13, 42, 27, 42, 27, 182, 0, 218, 182, 0, 220, 132, 1, 1, 167, 255, 224, 42, 3]
abbrev dktX5_noon_1 : List UInt8 := dkwX5_noon_1 ++ dktX5_noon_2
def dkwX5_noon_0 : List UInt8 := [42, 182, 0, 215, 42, 4, 181, 0, 67, 3, 60, 27, 42, 180, 0, 3, 182, 0, 112, 162, 0, 27, 42, 27]
abbrev dktX5_noon_0 : List UInt8 := dkwX5_noon_0 ++ dktX5_noon_1
theorem dksX5_noon_0 : cX5_noon.data.toList.drop 0 = dktX5_noon_0 := by decide +kernel
theorem dksX5_noon_1 : cX5_noon.data.toList.drop 24 = dktX5_noon_1 := dk_seg dksX5_noon_0 24 rfl rfl
theorem dksX5_noon_2 : cX5_noon.data.toList.drop 48 = dktX5_noon_2 := dk_seg dksX5_noon_1 24 rfl rfl
theorem dX5_noon_0 : decode cX5_noon 0 = .ok (.aload_n 0, 1) := dk_42 (dk_at dksX5_noon_0 0 rfl rfl)
theorem dX5_noon_1 : decode cX5_noon 1 = .ok (.invokevirtual 215, 3) := dk_182 0 215 (dk_at dksX5_noon_0 1 rfl rfl)
theorem dX5_noon_4 : decode cX5_noon 4 = .ok (.aload_n 0, 1) := dk_42 (dk_at dksX5_noon_0 4 rfl rfl)
theorem dX5_noon_5 : decode cX5_noon 5 = .ok (.iconst 1, 1) := dk_4 (dk_at dksX5_noon_0 5 rfl rfl)
theorem dX5_noon_6 : decode cX5_noon 6 = .ok (.putfield 67, 3) := dk_181 0 67 (dk_at dksX5_noon_0 6 rfl rfl)
theorem dX5_noon_9 : decode cX5_noon 9 = .ok (.iconst 0, 1) := dk_3 (dk_at dksX5_noon_0 9 rfl rfl)
theorem dX5_noon_10 : decode cX5_noon 10 = .ok (.istore_n 1, 1) := dk_60 (dk_at dksX5_noon_0 10 rfl rfl)
theorem dX5_noon_11 : decode cX5_noon 11 = .ok (.iload_n 1, 1) := dk_27 (dk_at dksX5_noon_0 11 rfl rfl)
theorem dX5_noon_12 : decode cX5_noon 12 = .ok (.aload_n 0, 1) := dk_42 (dk_at dksX5_noon_0 12 rfl rfl)
theorem dX5_noon_13 : decode cX5_noon 13 = .ok (.getfield 3, 3) := dk_180 0 3 (dk_at dksX5_noon_0 13 rfl rfl)
theorem dX5_noon_16 : decode cX5_noon 16 = .ok (.invokevirtual 112, 3) := dk_182 0 112 (dk_at dksX5_noon_0 16 rfl rfl)
theorem dX5_noon_19 : decode cX5_noon 19 = .ok (.if_icmp .ge 27, 3) := dk_162 0 27 (dk_at dksX5_noon_0 19 rfl rfl)
theorem dX5_noon_22 : decode cX5_noon 22 = .ok (.aload_n 0, 1) := dk_42 (dk_at dksX5_noon_0 22 rfl rfl)
theorem dX5_noon_23 : decode cX5_noon 23 = .ok (.iload_n 1, 1) := dk_27 (dk_at dksX5_noon_0 23 rfl rfl)
theorem dX5_noon_24 : decode cX5_noon 24 = .ok (.invokevirtual 218, 3) := dk_182 0 218 (dk_at dksX5_noon_1 0 rfl rfl)
theorem dX5_noon_27 : decode cX5_noon 27 = .ok (.ifCond .lt 13, 3) := dk_155 0 13 (dk_at dksX5_noon_1 3 rfl rfl)
theorem dX5_noon_30 : decode cX5_noon 30 = .ok (.aload_n 0, 1) := dk_42 (dk_at dksX5_noon_1 6 rfl rfl)
theorem dX5_noon_31 : decode cX5_noon 31 = .ok (.iload_n 1, 1) := dk_27 (dk_at dksX5_noon_1 7 rfl rfl)
theorem dX5_noon_32 : decode cX5_noon 32 = .ok (.aload_n 0, 1) := dk_42 (dk_at dksX5_noon_1 8 rfl rfl)
theorem dX5_noon_33 : decode cX5_noon 33 = .ok (.iload_n 1, 1) := dk_27 (dk_at dksX5_noon_1 9 rfl rfl)
theorem dX5_noon_34 : decode cX5_noon 34 = .ok (.invokevirtual 218, 3) := dk_182 0 218 (dk_at dksX5_noon_1 10 rfl rfl)
theorem dX5_noon_37 : decode cX5_noon 37 = .ok (.invokevirtual 220, 3) := dk_182 0 220 (dk_at dksX5_noon_1 13 rfl rfl)
theorem dX5_noon_40 : decode cX5_noon 40 = .ok (.iinc 1 1, 3) := dk_132 1 1 (dk_at dksX5_noon_1 16 rfl rfl)
theorem dX5_noon_43 : decode cX5_noon 43 = .ok (.goto (-32), 3) := dk_167 255 224 (dk_at dksX5_noon_1 19 rfl rfl)
theorem dX5_noon_46 : decode cX5_noon 46 = .ok (.aload_n 0, 1) := dk_42 (dk_at dksX5_noon_1 22 rfl rfl)
theorem dX5_noon_47 : decode cX5_noon 47 = .ok (.iconst 0, 1) := dk_3 (dk_at dksX5_noon_1 23 rfl rfl)
theorem dX5_noon_48 : decode cX5_noon 48 = .ok (.putfield 67, 3) := dk_181 0 67 (dk_at dksX5_noon_2 0 rfl rfl)
theorem dX5_noon_51 : decode cX5_noon 51 = .ok (.return_, 1) := dk_177 (dk_at dksX5_noon_2 3 rfl rfl)
abbrev cX5_layThen : ByteArray := prog_18_method_19_code
def yX5_layThen : MethodName := ⟨RX5, "layThen", "()V"⟩
def dkwX5_layThen_3 : List UInt8 := [177]
abbrev dktX5_layThen_3 : List UInt8 := dkwX5_layThen_3 ++ []
def dkwX5_layThen_2 : List UInt8 := [180, 0, 44, 3, 16, 28, 184, 0, 71, 42, 180, 0, 32, 3, 42, 180, 0, 47, 3, 16, 28, 184, 0, 71]
abbrev dktX5_layThen_2 : List UInt8 := dkwX5_layThen_2 ++ dktX5_layThen_3
def dkwX5_layThen_1 : List UInt8 := [42, 180, 0, 41, 27, 42, 180, 0, 15, 27, 46, 79, 132, 1, 1, 167, 255, 219, 42, 180, 0, 29, 3, 42]
abbrev dktX5_layThen_1 : List UInt8 := dkwX5_layThen_1 ++ dktX5_layThen_2
def dkwX5_layThen_0 : List UInt8 := [3, 60, 27, 42, 180, 0, 3, 182, 0, 112, 162, 0, 32, 42, 180, 0, 38, 27, 42, 27, 182, 0, 115, 79]
abbrev dktX5_layThen_0 : List UInt8 := dkwX5_layThen_0 ++ dktX5_layThen_1
theorem dksX5_layThen_0 : cX5_layThen.data.toList.drop 0 = dktX5_layThen_0 := by decide +kernel
theorem dksX5_layThen_1 : cX5_layThen.data.toList.drop 24 = dktX5_layThen_1 := dk_seg dksX5_layThen_0 24 rfl rfl
theorem dksX5_layThen_2 : cX5_layThen.data.toList.drop 48 = dktX5_layThen_2 := dk_seg dksX5_layThen_1 24 rfl rfl
theorem dksX5_layThen_3 : cX5_layThen.data.toList.drop 72 = dktX5_layThen_3 := dk_seg dksX5_layThen_2 24 rfl rfl
theorem dX5_layThen_0 : decode cX5_layThen 0 = .ok (.iconst 0, 1) := dk_3 (dk_at dksX5_layThen_0 0 rfl rfl)
theorem dX5_layThen_1 : decode cX5_layThen 1 = .ok (.istore_n 1, 1) := dk_60 (dk_at dksX5_layThen_0 1 rfl rfl)
theorem dX5_layThen_2 : decode cX5_layThen 2 = .ok (.iload_n 1, 1) := dk_27 (dk_at dksX5_layThen_0 2 rfl rfl)
theorem dX5_layThen_3 : decode cX5_layThen 3 = .ok (.aload_n 0, 1) := dk_42 (dk_at dksX5_layThen_0 3 rfl rfl)
theorem dX5_layThen_4 : decode cX5_layThen 4 = .ok (.getfield 3, 3) := dk_180 0 3 (dk_at dksX5_layThen_0 4 rfl rfl)
theorem dX5_layThen_7 : decode cX5_layThen 7 = .ok (.invokevirtual 112, 3) := dk_182 0 112 (dk_at dksX5_layThen_0 7 rfl rfl)
theorem dX5_layThen_10 : decode cX5_layThen 10 = .ok (.if_icmp .ge 32, 3) := dk_162 0 32 (dk_at dksX5_layThen_0 10 rfl rfl)
theorem dX5_layThen_13 : decode cX5_layThen 13 = .ok (.aload_n 0, 1) := dk_42 (dk_at dksX5_layThen_0 13 rfl rfl)
theorem dX5_layThen_14 : decode cX5_layThen 14 = .ok (.getfield 38, 3) := dk_180 0 38 (dk_at dksX5_layThen_0 14 rfl rfl)
theorem dX5_layThen_17 : decode cX5_layThen 17 = .ok (.iload_n 1, 1) := dk_27 (dk_at dksX5_layThen_0 17 rfl rfl)
theorem dX5_layThen_18 : decode cX5_layThen 18 = .ok (.aload_n 0, 1) := dk_42 (dk_at dksX5_layThen_0 18 rfl rfl)
theorem dX5_layThen_19 : decode cX5_layThen 19 = .ok (.iload_n 1, 1) := dk_27 (dk_at dksX5_layThen_0 19 rfl rfl)
theorem dX5_layThen_20 : decode cX5_layThen 20 = .ok (.invokevirtual 115, 3) := dk_182 0 115 (dk_at dksX5_layThen_0 20 rfl rfl)
theorem dX5_layThen_23 : decode cX5_layThen 23 = .ok (.iastore, 1) := dk_79 (dk_at dksX5_layThen_0 23 rfl rfl)
theorem dX5_layThen_24 : decode cX5_layThen 24 = .ok (.aload_n 0, 1) := dk_42 (dk_at dksX5_layThen_1 0 rfl rfl)
theorem dX5_layThen_25 : decode cX5_layThen 25 = .ok (.getfield 41, 3) := dk_180 0 41 (dk_at dksX5_layThen_1 1 rfl rfl)
theorem dX5_layThen_28 : decode cX5_layThen 28 = .ok (.iload_n 1, 1) := dk_27 (dk_at dksX5_layThen_1 4 rfl rfl)
theorem dX5_layThen_29 : decode cX5_layThen 29 = .ok (.aload_n 0, 1) := dk_42 (dk_at dksX5_layThen_1 5 rfl rfl)
theorem dX5_layThen_30 : decode cX5_layThen 30 = .ok (.getfield 15, 3) := dk_180 0 15 (dk_at dksX5_layThen_1 6 rfl rfl)
theorem dX5_layThen_33 : decode cX5_layThen 33 = .ok (.iload_n 1, 1) := dk_27 (dk_at dksX5_layThen_1 9 rfl rfl)
theorem dX5_layThen_34 : decode cX5_layThen 34 = .ok (.iaload, 1) := dk_46 (dk_at dksX5_layThen_1 10 rfl rfl)
theorem dX5_layThen_35 : decode cX5_layThen 35 = .ok (.iastore, 1) := dk_79 (dk_at dksX5_layThen_1 11 rfl rfl)
theorem dX5_layThen_36 : decode cX5_layThen 36 = .ok (.iinc 1 1, 3) := dk_132 1 1 (dk_at dksX5_layThen_1 12 rfl rfl)
theorem dX5_layThen_39 : decode cX5_layThen 39 = .ok (.goto (-37), 3) := dk_167 255 219 (dk_at dksX5_layThen_1 15 rfl rfl)
theorem dX5_layThen_42 : decode cX5_layThen 42 = .ok (.aload_n 0, 1) := dk_42 (dk_at dksX5_layThen_1 18 rfl rfl)
theorem dX5_layThen_43 : decode cX5_layThen 43 = .ok (.getfield 29, 3) := dk_180 0 29 (dk_at dksX5_layThen_1 19 rfl rfl)
theorem dX5_layThen_46 : decode cX5_layThen 46 = .ok (.iconst 0, 1) := dk_3 (dk_at dksX5_layThen_1 22 rfl rfl)
theorem dX5_layThen_47 : decode cX5_layThen 47 = .ok (.aload_n 0, 1) := dk_42 (dk_at dksX5_layThen_1 23 rfl rfl)
theorem dX5_layThen_48 : decode cX5_layThen 48 = .ok (.getfield 44, 3) := dk_180 0 44 (dk_at dksX5_layThen_2 0 rfl rfl)
theorem dX5_layThen_51 : decode cX5_layThen 51 = .ok (.iconst 0, 1) := dk_3 (dk_at dksX5_layThen_2 3 rfl rfl)
theorem dX5_layThen_52 : decode cX5_layThen 52 = .ok (.bipush 28, 2) := dk_16 28 (dk_at dksX5_layThen_2 4 rfl rfl)
theorem dX5_layThen_54 : decode cX5_layThen 54 = .ok (.invokestatic 71, 3) := dk_184 0 71 (dk_at dksX5_layThen_2 6 rfl rfl)
theorem dX5_layThen_57 : decode cX5_layThen 57 = .ok (.aload_n 0, 1) := dk_42 (dk_at dksX5_layThen_2 9 rfl rfl)
theorem dX5_layThen_58 : decode cX5_layThen 58 = .ok (.getfield 32, 3) := dk_180 0 32 (dk_at dksX5_layThen_2 10 rfl rfl)
theorem dX5_layThen_61 : decode cX5_layThen 61 = .ok (.iconst 0, 1) := dk_3 (dk_at dksX5_layThen_2 13 rfl rfl)
theorem dX5_layThen_62 : decode cX5_layThen 62 = .ok (.aload_n 0, 1) := dk_42 (dk_at dksX5_layThen_2 14 rfl rfl)
theorem dX5_layThen_63 : decode cX5_layThen 63 = .ok (.getfield 47, 3) := dk_180 0 47 (dk_at dksX5_layThen_2 15 rfl rfl)
theorem dX5_layThen_66 : decode cX5_layThen 66 = .ok (.iconst 0, 1) := dk_3 (dk_at dksX5_layThen_2 18 rfl rfl)
theorem dX5_layThen_67 : decode cX5_layThen 67 = .ok (.bipush 28, 2) := dk_16 28 (dk_at dksX5_layThen_2 19 rfl rfl)
theorem dX5_layThen_69 : decode cX5_layThen 69 = .ok (.invokestatic 71, 3) := dk_184 0 71 (dk_at dksX5_layThen_2 21 rfl rfl)
theorem dX5_layThen_72 : decode cX5_layThen 72 = .ok (.return_, 1) := dk_177 (dk_at dksX5_layThen_3 0 rfl rfl)
abbrev cX5_asks : ByteArray := prog_18_method_5_code
def yX5_asks : MethodName := ⟨RX5, "asks", "(I)I"⟩
def dkwX5_asks_1 : List UInt8 := [167, 0, 23, 42, 180, 0, 3, 180, 0, 77, 180, 0, 81, 27, 182, 0, 87, 192, 0, 93, 180, 0, 109, 172]
abbrev dktX5_asks_1 : List UInt8 := dkwX5_asks_1 ++ []
def dkwX5_asks_0 : List UInt8 := [42, 180, 0, 56, 180, 0, 103, 154, 0, 14, 42, 180, 0, 56, 180, 0, 106, 27, 160, 0, 7, 2]
abbrev dktX5_asks_0 : List UInt8 := dkwX5_asks_0 ++ dktX5_asks_1
theorem dksX5_asks_0 : cX5_asks.data.toList.drop 0 = dktX5_asks_0 := by decide +kernel
theorem dksX5_asks_1 : cX5_asks.data.toList.drop 22 = dktX5_asks_1 := dk_seg dksX5_asks_0 22 rfl rfl
theorem dX5_asks_0 : decode cX5_asks 0 = .ok (.aload_n 0, 1) := dk_42 (dk_at dksX5_asks_0 0 rfl rfl)
theorem dX5_asks_1 : decode cX5_asks 1 = .ok (.getfield 56, 3) := dk_180 0 56 (dk_at dksX5_asks_0 1 rfl rfl)
theorem dX5_asks_4 : decode cX5_asks 4 = .ok (.getfield 103, 3) := dk_180 0 103 (dk_at dksX5_asks_0 4 rfl rfl)
theorem dX5_asks_7 : decode cX5_asks 7 = .ok (.ifCond .ne 14, 3) := dk_154 0 14 (dk_at dksX5_asks_0 7 rfl rfl)
theorem dX5_asks_10 : decode cX5_asks 10 = .ok (.aload_n 0, 1) := dk_42 (dk_at dksX5_asks_0 10 rfl rfl)
theorem dX5_asks_11 : decode cX5_asks 11 = .ok (.getfield 56, 3) := dk_180 0 56 (dk_at dksX5_asks_0 11 rfl rfl)
theorem dX5_asks_14 : decode cX5_asks 14 = .ok (.getfield 106, 3) := dk_180 0 106 (dk_at dksX5_asks_0 14 rfl rfl)
theorem dX5_asks_17 : decode cX5_asks 17 = .ok (.iload_n 1, 1) := dk_27 (dk_at dksX5_asks_0 17 rfl rfl)
theorem dX5_asks_18 : decode cX5_asks 18 = .ok (.if_icmp .ne 7, 3) := dk_160 0 7 (dk_at dksX5_asks_0 18 rfl rfl)
theorem dX5_asks_21 : decode cX5_asks 21 = .ok (.iconst (-1), 1) := dk_2 (dk_at dksX5_asks_0 21 rfl rfl)
theorem dX5_asks_22 : decode cX5_asks 22 = .ok (.goto 23, 3) := dk_167 0 23 (dk_at dksX5_asks_1 0 rfl rfl)
theorem dX5_asks_25 : decode cX5_asks 25 = .ok (.aload_n 0, 1) := dk_42 (dk_at dksX5_asks_1 3 rfl rfl)
theorem dX5_asks_26 : decode cX5_asks 26 = .ok (.getfield 3, 3) := dk_180 0 3 (dk_at dksX5_asks_1 4 rfl rfl)
theorem dX5_asks_29 : decode cX5_asks 29 = .ok (.getfield 77, 3) := dk_180 0 77 (dk_at dksX5_asks_1 7 rfl rfl)
theorem dX5_asks_32 : decode cX5_asks 32 = .ok (.getfield 81, 3) := dk_180 0 81 (dk_at dksX5_asks_1 10 rfl rfl)
theorem dX5_asks_35 : decode cX5_asks 35 = .ok (.iload_n 1, 1) := dk_27 (dk_at dksX5_asks_1 13 rfl rfl)
theorem dX5_asks_36 : decode cX5_asks 36 = .ok (.invokevirtual 87, 3) := dk_182 0 87 (dk_at dksX5_asks_1 14 rfl rfl)
theorem dX5_asks_39 : decode cX5_asks 39 = .ok (.checkcast 93, 3) := dk_192 0 93 (dk_at dksX5_asks_1 17 rfl rfl)
theorem dX5_asks_42 : decode cX5_asks 42 = .ok (.getfield 109, 3) := dk_180 0 109 (dk_at dksX5_asks_1 20 rfl rfl)
theorem dX5_asks_45 : decode cX5_asks 45 = .ok (.ireturn, 1) := dk_172 (dk_at dksX5_asks_1 23 rfl rfl)
abbrev cX5_asksAt : ByteArray := prog_18_method_20_code
def yX5_asksAt : MethodName := ⟨RX5, "asksAt", "(II)V"⟩
def dkwX5_asksAt_6 : List UInt8 := [180, 0, 47, 29, 46, 182, 0, 209, 177]
abbrev dktX5_asksAt_6 : List UInt8 := dkwX5_asksAt_6 ++ []
def dkwX5_asksAt_5 : List UInt8 := [22, 8, 55, 4, 132, 6, 1, 167, 255, 143, 29, 155, 0, 20, 42, 27, 42, 180, 0, 44, 29, 46, 42]
abbrev dktX5_asksAt_5 : List UInt8 := dkwX5_asksAt_5 ++ dktX5_asksAt_6
def dkwX5_asksAt_4 : List UInt8 := [182, 0, 141, 133, 182, 0, 165, 55, 8, 22, 8, 22, 4, 148, 157, 0, 6, 167, 0, 10, 21, 6, 62]
abbrev dktX5_asksAt_4 : List UInt8 := dkwX5_asksAt_4 ++ dktX5_asksAt_5
def dkwX5_asksAt_3 : List UInt8 := [182, 0, 157, 42, 180, 0, 3, 42, 180, 0, 3, 180, 0, 77, 180, 0, 212, 42, 180, 0, 3, 21, 7]
abbrev dktX5_asksAt_3 : List UInt8 := dkwX5_asksAt_3 ++ dktX5_asksAt_4
def dkwX5_asksAt_2 : List UInt8 := [153, 0, 6, 167, 0, 71, 42, 27, 21, 7, 3, 42, 180, 0, 47, 21, 6, 46, 42, 180, 0, 60, 100, 4]
abbrev dktX5_asksAt_2 : List UInt8 := dkwX5_asksAt_2 ++ dktX5_asksAt_3
def dkwX5_asksAt_1 : List UInt8 := [162, 0, 103, 42, 180, 0, 44, 21, 6, 46, 54, 7, 42, 180, 0, 38, 27, 46, 21, 7, 184, 0, 119]
abbrev dktX5_asksAt_1 : List UInt8 := dkwX5_asksAt_1 ++ dktX5_asksAt_2
def dkwX5_asksAt_0 : List UInt8 := [2, 62, 9, 55, 4, 16, 7, 28, 104, 54, 6, 21, 6, 16, 7, 28, 104, 42, 180, 0, 41, 28, 46, 96]
abbrev dktX5_asksAt_0 : List UInt8 := dkwX5_asksAt_0 ++ dktX5_asksAt_1
theorem dksX5_asksAt_0 : cX5_asksAt.data.toList.drop 0 = dktX5_asksAt_0 := by decide +kernel
theorem dksX5_asksAt_1 : cX5_asksAt.data.toList.drop 24 = dktX5_asksAt_1 := dk_seg dksX5_asksAt_0 24 rfl rfl
theorem dksX5_asksAt_2 : cX5_asksAt.data.toList.drop 47 = dktX5_asksAt_2 := dk_seg dksX5_asksAt_1 23 rfl rfl
theorem dksX5_asksAt_3 : cX5_asksAt.data.toList.drop 71 = dktX5_asksAt_3 := dk_seg dksX5_asksAt_2 24 rfl rfl
theorem dksX5_asksAt_4 : cX5_asksAt.data.toList.drop 94 = dktX5_asksAt_4 := dk_seg dksX5_asksAt_3 23 rfl rfl
theorem dksX5_asksAt_5 : cX5_asksAt.data.toList.drop 117 = dktX5_asksAt_5 := dk_seg dksX5_asksAt_4 23 rfl rfl
theorem dksX5_asksAt_6 : cX5_asksAt.data.toList.drop 140 = dktX5_asksAt_6 := dk_seg dksX5_asksAt_5 23 rfl rfl
theorem dX5_asksAt_0 : decode cX5_asksAt 0 = .ok (.iconst (-1), 1) := dk_2 (dk_at dksX5_asksAt_0 0 rfl rfl)
theorem dX5_asksAt_1 : decode cX5_asksAt 1 = .ok (.istore_n 3, 1) := dk_62 (dk_at dksX5_asksAt_0 1 rfl rfl)
theorem dX5_asksAt_2 : decode cX5_asksAt 2 = .ok (.lconst 0, 1) := dk_9 (dk_at dksX5_asksAt_0 2 rfl rfl)
theorem dX5_asksAt_3 : decode cX5_asksAt 3 = .ok (.lstore 4, 2) := dk_55 4 (dk_at dksX5_asksAt_0 3 rfl rfl)
theorem dX5_asksAt_5 : decode cX5_asksAt 5 = .ok (.bipush 7, 2) := dk_16 7 (dk_at dksX5_asksAt_0 5 rfl rfl)
theorem dX5_asksAt_7 : decode cX5_asksAt 7 = .ok (.iload_n 2, 1) := dk_28 (dk_at dksX5_asksAt_0 7 rfl rfl)
theorem dX5_asksAt_8 : decode cX5_asksAt 8 = .ok (.imul, 1) := dk_104 (dk_at dksX5_asksAt_0 8 rfl rfl)
theorem dX5_asksAt_9 : decode cX5_asksAt 9 = .ok (.istore 6, 2) := dk_54 6 (dk_at dksX5_asksAt_0 9 rfl rfl)
theorem dX5_asksAt_11 : decode cX5_asksAt 11 = .ok (.iload 6, 2) := dk_21 6 (dk_at dksX5_asksAt_0 11 rfl rfl)
theorem dX5_asksAt_13 : decode cX5_asksAt 13 = .ok (.bipush 7, 2) := dk_16 7 (dk_at dksX5_asksAt_0 13 rfl rfl)
theorem dX5_asksAt_15 : decode cX5_asksAt 15 = .ok (.iload_n 2, 1) := dk_28 (dk_at dksX5_asksAt_0 15 rfl rfl)
theorem dX5_asksAt_16 : decode cX5_asksAt 16 = .ok (.imul, 1) := dk_104 (dk_at dksX5_asksAt_0 16 rfl rfl)
theorem dX5_asksAt_17 : decode cX5_asksAt 17 = .ok (.aload_n 0, 1) := dk_42 (dk_at dksX5_asksAt_0 17 rfl rfl)
theorem dX5_asksAt_18 : decode cX5_asksAt 18 = .ok (.getfield 41, 3) := dk_180 0 41 (dk_at dksX5_asksAt_0 18 rfl rfl)
theorem dX5_asksAt_21 : decode cX5_asksAt 21 = .ok (.iload_n 2, 1) := dk_28 (dk_at dksX5_asksAt_0 21 rfl rfl)
theorem dX5_asksAt_22 : decode cX5_asksAt 22 = .ok (.iaload, 1) := dk_46 (dk_at dksX5_asksAt_0 22 rfl rfl)
theorem dX5_asksAt_23 : decode cX5_asksAt 23 = .ok (.iadd, 1) := dk_96 (dk_at dksX5_asksAt_0 23 rfl rfl)
theorem dX5_asksAt_24 : decode cX5_asksAt 24 = .ok (.if_icmp .ge 103, 3) := dk_162 0 103 (dk_at dksX5_asksAt_1 0 rfl rfl)
theorem dX5_asksAt_27 : decode cX5_asksAt 27 = .ok (.aload_n 0, 1) := dk_42 (dk_at dksX5_asksAt_1 3 rfl rfl)
theorem dX5_asksAt_28 : decode cX5_asksAt 28 = .ok (.getfield 44, 3) := dk_180 0 44 (dk_at dksX5_asksAt_1 4 rfl rfl)
theorem dX5_asksAt_31 : decode cX5_asksAt 31 = .ok (.iload 6, 2) := dk_21 6 (dk_at dksX5_asksAt_1 7 rfl rfl)
theorem dX5_asksAt_33 : decode cX5_asksAt 33 = .ok (.iaload, 1) := dk_46 (dk_at dksX5_asksAt_1 9 rfl rfl)
theorem dX5_asksAt_34 : decode cX5_asksAt 34 = .ok (.istore 7, 2) := dk_54 7 (dk_at dksX5_asksAt_1 10 rfl rfl)
theorem dX5_asksAt_36 : decode cX5_asksAt 36 = .ok (.aload_n 0, 1) := dk_42 (dk_at dksX5_asksAt_1 12 rfl rfl)
theorem dX5_asksAt_37 : decode cX5_asksAt 37 = .ok (.getfield 38, 3) := dk_180 0 38 (dk_at dksX5_asksAt_1 13 rfl rfl)
theorem dX5_asksAt_40 : decode cX5_asksAt 40 = .ok (.iload_n 1, 1) := dk_27 (dk_at dksX5_asksAt_1 16 rfl rfl)
theorem dX5_asksAt_41 : decode cX5_asksAt 41 = .ok (.iaload, 1) := dk_46 (dk_at dksX5_asksAt_1 17 rfl rfl)
theorem dX5_asksAt_42 : decode cX5_asksAt 42 = .ok (.iload 7, 2) := dk_21 7 (dk_at dksX5_asksAt_1 18 rfl rfl)
theorem dX5_asksAt_44 : decode cX5_asksAt 44 = .ok (.invokestatic 119, 3) := dk_184 0 119 (dk_at dksX5_asksAt_1 20 rfl rfl)
theorem dX5_asksAt_47 : decode cX5_asksAt 47 = .ok (.ifCond .eq 6, 3) := dk_153 0 6 (dk_at dksX5_asksAt_2 0 rfl rfl)
theorem dX5_asksAt_50 : decode cX5_asksAt 50 = .ok (.goto 71, 3) := dk_167 0 71 (dk_at dksX5_asksAt_2 3 rfl rfl)
theorem dX5_asksAt_53 : decode cX5_asksAt 53 = .ok (.aload_n 0, 1) := dk_42 (dk_at dksX5_asksAt_2 6 rfl rfl)
theorem dX5_asksAt_54 : decode cX5_asksAt 54 = .ok (.iload_n 1, 1) := dk_27 (dk_at dksX5_asksAt_2 7 rfl rfl)
theorem dX5_asksAt_55 : decode cX5_asksAt 55 = .ok (.iload 7, 2) := dk_21 7 (dk_at dksX5_asksAt_2 8 rfl rfl)
theorem dX5_asksAt_57 : decode cX5_asksAt 57 = .ok (.iconst 0, 1) := dk_3 (dk_at dksX5_asksAt_2 10 rfl rfl)
theorem dX5_asksAt_58 : decode cX5_asksAt 58 = .ok (.aload_n 0, 1) := dk_42 (dk_at dksX5_asksAt_2 11 rfl rfl)
theorem dX5_asksAt_59 : decode cX5_asksAt 59 = .ok (.getfield 47, 3) := dk_180 0 47 (dk_at dksX5_asksAt_2 12 rfl rfl)
theorem dX5_asksAt_62 : decode cX5_asksAt 62 = .ok (.iload 6, 2) := dk_21 6 (dk_at dksX5_asksAt_2 15 rfl rfl)
theorem dX5_asksAt_64 : decode cX5_asksAt 64 = .ok (.iaload, 1) := dk_46 (dk_at dksX5_asksAt_2 17 rfl rfl)
theorem dX5_asksAt_65 : decode cX5_asksAt 65 = .ok (.aload_n 0, 1) := dk_42 (dk_at dksX5_asksAt_2 18 rfl rfl)
theorem dX5_asksAt_66 : decode cX5_asksAt 66 = .ok (.getfield 60, 3) := dk_180 0 60 (dk_at dksX5_asksAt_2 19 rfl rfl)
theorem dX5_asksAt_69 : decode cX5_asksAt 69 = .ok (.isub, 1) := dk_100 (dk_at dksX5_asksAt_2 22 rfl rfl)
theorem dX5_asksAt_70 : decode cX5_asksAt 70 = .ok (.iconst 1, 1) := dk_4 (dk_at dksX5_asksAt_2 23 rfl rfl)
theorem dX5_asksAt_71 : decode cX5_asksAt 71 = .ok (.invokevirtual 157, 3) := dk_182 0 157 (dk_at dksX5_asksAt_3 0 rfl rfl)
theorem dX5_asksAt_74 : decode cX5_asksAt 74 = .ok (.aload_n 0, 1) := dk_42 (dk_at dksX5_asksAt_3 3 rfl rfl)
theorem dX5_asksAt_75 : decode cX5_asksAt 75 = .ok (.getfield 3, 3) := dk_180 0 3 (dk_at dksX5_asksAt_3 4 rfl rfl)
theorem dX5_asksAt_78 : decode cX5_asksAt 78 = .ok (.aload_n 0, 1) := dk_42 (dk_at dksX5_asksAt_3 7 rfl rfl)
theorem dX5_asksAt_79 : decode cX5_asksAt 79 = .ok (.getfield 3, 3) := dk_180 0 3 (dk_at dksX5_asksAt_3 8 rfl rfl)
theorem dX5_asksAt_82 : decode cX5_asksAt 82 = .ok (.getfield 77, 3) := dk_180 0 77 (dk_at dksX5_asksAt_3 11 rfl rfl)
theorem dX5_asksAt_85 : decode cX5_asksAt 85 = .ok (.getfield 212, 3) := dk_180 0 212 (dk_at dksX5_asksAt_3 14 rfl rfl)
theorem dX5_asksAt_88 : decode cX5_asksAt 88 = .ok (.aload_n 0, 1) := dk_42 (dk_at dksX5_asksAt_3 17 rfl rfl)
theorem dX5_asksAt_89 : decode cX5_asksAt 89 = .ok (.getfield 3, 3) := dk_180 0 3 (dk_at dksX5_asksAt_3 18 rfl rfl)
theorem dX5_asksAt_92 : decode cX5_asksAt 92 = .ok (.iload 7, 2) := dk_21 7 (dk_at dksX5_asksAt_3 21 rfl rfl)
theorem dX5_asksAt_94 : decode cX5_asksAt 94 = .ok (.invokevirtual 141, 3) := dk_182 0 141 (dk_at dksX5_asksAt_4 0 rfl rfl)
theorem dX5_asksAt_97 : decode cX5_asksAt 97 = .ok (.i2l, 1) := dk_133 (dk_at dksX5_asksAt_4 3 rfl rfl)
theorem dX5_asksAt_98 : decode cX5_asksAt 98 = .ok (.invokevirtual 165, 3) := dk_182 0 165 (dk_at dksX5_asksAt_4 4 rfl rfl)
theorem dX5_asksAt_101 : decode cX5_asksAt 101 = .ok (.lstore 8, 2) := dk_55 8 (dk_at dksX5_asksAt_4 7 rfl rfl)
theorem dX5_asksAt_103 : decode cX5_asksAt 103 = .ok (.lload 8, 2) := dk_22 8 (dk_at dksX5_asksAt_4 9 rfl rfl)
theorem dX5_asksAt_105 : decode cX5_asksAt 105 = .ok (.lload 4, 2) := dk_22 4 (dk_at dksX5_asksAt_4 11 rfl rfl)
theorem dX5_asksAt_107 : decode cX5_asksAt 107 = .ok (.lcmp, 1) := dk_148 (dk_at dksX5_asksAt_4 13 rfl rfl)
theorem dX5_asksAt_108 : decode cX5_asksAt 108 = .ok (.ifCond .gt 6, 3) := dk_157 0 6 (dk_at dksX5_asksAt_4 14 rfl rfl)
theorem dX5_asksAt_111 : decode cX5_asksAt 111 = .ok (.goto 10, 3) := dk_167 0 10 (dk_at dksX5_asksAt_4 17 rfl rfl)
theorem dX5_asksAt_114 : decode cX5_asksAt 114 = .ok (.iload 6, 2) := dk_21 6 (dk_at dksX5_asksAt_4 20 rfl rfl)
theorem dX5_asksAt_116 : decode cX5_asksAt 116 = .ok (.istore_n 3, 1) := dk_62 (dk_at dksX5_asksAt_4 22 rfl rfl)
theorem dX5_asksAt_117 : decode cX5_asksAt 117 = .ok (.lload 8, 2) := dk_22 8 (dk_at dksX5_asksAt_5 0 rfl rfl)
theorem dX5_asksAt_119 : decode cX5_asksAt 119 = .ok (.lstore 4, 2) := dk_55 4 (dk_at dksX5_asksAt_5 2 rfl rfl)
theorem dX5_asksAt_121 : decode cX5_asksAt 121 = .ok (.iinc 6 1, 3) := dk_132 6 1 (dk_at dksX5_asksAt_5 4 rfl rfl)
theorem dX5_asksAt_124 : decode cX5_asksAt 124 = .ok (.goto (-113), 3) := dk_167 255 143 (dk_at dksX5_asksAt_5 7 rfl rfl)
theorem dX5_asksAt_127 : decode cX5_asksAt 127 = .ok (.iload_n 3, 1) := dk_29 (dk_at dksX5_asksAt_5 10 rfl rfl)
theorem dX5_asksAt_128 : decode cX5_asksAt 128 = .ok (.ifCond .lt 20, 3) := dk_155 0 20 (dk_at dksX5_asksAt_5 11 rfl rfl)
theorem dX5_asksAt_131 : decode cX5_asksAt 131 = .ok (.aload_n 0, 1) := dk_42 (dk_at dksX5_asksAt_5 14 rfl rfl)
theorem dX5_asksAt_132 : decode cX5_asksAt 132 = .ok (.iload_n 1, 1) := dk_27 (dk_at dksX5_asksAt_5 15 rfl rfl)
theorem dX5_asksAt_133 : decode cX5_asksAt 133 = .ok (.aload_n 0, 1) := dk_42 (dk_at dksX5_asksAt_5 16 rfl rfl)
theorem dX5_asksAt_134 : decode cX5_asksAt 134 = .ok (.getfield 44, 3) := dk_180 0 44 (dk_at dksX5_asksAt_5 17 rfl rfl)
theorem dX5_asksAt_137 : decode cX5_asksAt 137 = .ok (.iload_n 3, 1) := dk_29 (dk_at dksX5_asksAt_5 20 rfl rfl)
theorem dX5_asksAt_138 : decode cX5_asksAt 138 = .ok (.iaload, 1) := dk_46 (dk_at dksX5_asksAt_5 21 rfl rfl)
theorem dX5_asksAt_139 : decode cX5_asksAt 139 = .ok (.aload_n 0, 1) := dk_42 (dk_at dksX5_asksAt_5 22 rfl rfl)
theorem dX5_asksAt_140 : decode cX5_asksAt 140 = .ok (.getfield 47, 3) := dk_180 0 47 (dk_at dksX5_asksAt_6 0 rfl rfl)
theorem dX5_asksAt_143 : decode cX5_asksAt 143 = .ok (.iload_n 3, 1) := dk_29 (dk_at dksX5_asksAt_6 3 rfl rfl)
theorem dX5_asksAt_144 : decode cX5_asksAt 144 = .ok (.iaload, 1) := dk_46 (dk_at dksX5_asksAt_6 4 rfl rfl)
theorem dX5_asksAt_145 : decode cX5_asksAt 145 = .ok (.invokevirtual 209, 3) := dk_182 0 209 (dk_at dksX5_asksAt_6 5 rfl rfl)
theorem dX5_asksAt_148 : decode cX5_asksAt 148 = .ok (.return_, 1) := dk_177 (dk_at dksX5_asksAt_6 8 rfl rfl)
abbrev cX5_three : ByteArray := prog_18_method_22_code
def yX5_three : MethodName := ⟨RX5, "three", "()V"⟩
def dkwX5_three_7 : List UInt8 := [167, 255, 95, 177]
abbrev dktX5_three_7 : List UInt8 := dkwX5_three_7 ++ []
def dkwX5_three_6 : List UInt8 := [104, 29, 96, 46, 6, 182, 0, 189, 132, 3, 1, 167, 255, 226, 42, 180, 0, 15, 27, 3, 79, 132, 1, 1]
abbrev dktX5_three_6 : List UInt8 := dkwX5_three_6 ++ dktX5_three_7
def dkwX5_three_5 : List UInt8 := [167, 0, 45, 3, 62, 29, 42, 180, 0, 15, 27, 46, 162, 0, 26, 42, 27, 42, 180, 0, 29, 16, 7, 27]
abbrev dktX5_three_5 : List UInt8 := dkwX5_three_5 ++ dktX5_three_6
def dkwX5_three_4 : List UInt8 := [180, 0, 230, 154, 0, 7, 4, 167, 0, 4, 3, 61, 132, 3, 1, 167, 255, 165, 28, 154, 0, 6]
abbrev dktX5_three_4 : List UInt8 := dkwX5_three_4 ++ dktX5_three_5
def dkwX5_three_3 : List UInt8 := [180, 0, 77, 180, 0, 223, 29, 182, 0, 87, 192, 0, 226, 180, 0, 229, 27, 160, 0, 17, 42, 180, 0, 56]
abbrev dktX5_three_3 : List UInt8 := dkwX5_three_3 ++ dktX5_three_4
def dkwX5_three_2 : List UInt8 := [180, 0, 223, 29, 182, 0, 87, 192, 0, 226, 180, 0, 228, 42, 180, 0, 60, 160, 0, 41, 42, 180, 0, 3]
abbrev dktX5_three_2 : List UInt8 := dkwX5_three_2 ++ dktX5_three_3
def dkwX5_three_1 : List UInt8 := [180, 0, 77, 180, 0, 223, 182, 0, 126, 162, 0, 80, 28, 154, 0, 64, 42, 180, 0, 3, 180, 0, 77]
abbrev dktX5_three_1 : List UInt8 := dkwX5_three_1 ++ dktX5_three_2
def dkwX5_three_0 : List UInt8 := [3, 60, 27, 42, 180, 0, 3, 182, 0, 112, 162, 0, 156, 3, 61, 3, 62, 29, 42, 180, 0, 3]
abbrev dktX5_three_0 : List UInt8 := dkwX5_three_0 ++ dktX5_three_1
theorem dksX5_three_0 : cX5_three.data.toList.drop 0 = dktX5_three_0 := by decide +kernel
theorem dksX5_three_1 : cX5_three.data.toList.drop 22 = dktX5_three_1 := dk_seg dksX5_three_0 22 rfl rfl
theorem dksX5_three_2 : cX5_three.data.toList.drop 45 = dktX5_three_2 := dk_seg dksX5_three_1 23 rfl rfl
theorem dksX5_three_3 : cX5_three.data.toList.drop 69 = dktX5_three_3 := dk_seg dksX5_three_2 24 rfl rfl
theorem dksX5_three_4 : cX5_three.data.toList.drop 93 = dktX5_three_4 := dk_seg dksX5_three_3 24 rfl rfl
theorem dksX5_three_5 : cX5_three.data.toList.drop 115 = dktX5_three_5 := dk_seg dksX5_three_4 22 rfl rfl
theorem dksX5_three_6 : cX5_three.data.toList.drop 139 = dktX5_three_6 := dk_seg dksX5_three_5 24 rfl rfl
theorem dksX5_three_7 : cX5_three.data.toList.drop 163 = dktX5_three_7 := dk_seg dksX5_three_6 24 rfl rfl
theorem dX5_three_0 : decode cX5_three 0 = .ok (.iconst 0, 1) := dk_3 (dk_at dksX5_three_0 0 rfl rfl)
theorem dX5_three_1 : decode cX5_three 1 = .ok (.istore_n 1, 1) := dk_60 (dk_at dksX5_three_0 1 rfl rfl)
theorem dX5_three_2 : decode cX5_three 2 = .ok (.iload_n 1, 1) := dk_27 (dk_at dksX5_three_0 2 rfl rfl)
theorem dX5_three_3 : decode cX5_three 3 = .ok (.aload_n 0, 1) := dk_42 (dk_at dksX5_three_0 3 rfl rfl)
theorem dX5_three_4 : decode cX5_three 4 = .ok (.getfield 3, 3) := dk_180 0 3 (dk_at dksX5_three_0 4 rfl rfl)
theorem dX5_three_7 : decode cX5_three 7 = .ok (.invokevirtual 112, 3) := dk_182 0 112 (dk_at dksX5_three_0 7 rfl rfl)
theorem dX5_three_10 : decode cX5_three 10 = .ok (.if_icmp .ge 156, 3) := dk_162 0 156 (dk_at dksX5_three_0 10 rfl rfl)
theorem dX5_three_13 : decode cX5_three 13 = .ok (.iconst 0, 1) := dk_3 (dk_at dksX5_three_0 13 rfl rfl)
theorem dX5_three_14 : decode cX5_three 14 = .ok (.istore_n 2, 1) := dk_61 (dk_at dksX5_three_0 14 rfl rfl)
theorem dX5_three_15 : decode cX5_three 15 = .ok (.iconst 0, 1) := dk_3 (dk_at dksX5_three_0 15 rfl rfl)
theorem dX5_three_16 : decode cX5_three 16 = .ok (.istore_n 3, 1) := dk_62 (dk_at dksX5_three_0 16 rfl rfl)
theorem dX5_three_17 : decode cX5_three 17 = .ok (.iload_n 3, 1) := dk_29 (dk_at dksX5_three_0 17 rfl rfl)
theorem dX5_three_18 : decode cX5_three 18 = .ok (.aload_n 0, 1) := dk_42 (dk_at dksX5_three_0 18 rfl rfl)
theorem dX5_three_19 : decode cX5_three 19 = .ok (.getfield 3, 3) := dk_180 0 3 (dk_at dksX5_three_0 19 rfl rfl)
theorem dX5_three_22 : decode cX5_three 22 = .ok (.getfield 77, 3) := dk_180 0 77 (dk_at dksX5_three_1 0 rfl rfl)
theorem dX5_three_25 : decode cX5_three 25 = .ok (.getfield 223, 3) := dk_180 0 223 (dk_at dksX5_three_1 3 rfl rfl)
theorem dX5_three_28 : decode cX5_three 28 = .ok (.invokevirtual 126, 3) := dk_182 0 126 (dk_at dksX5_three_1 6 rfl rfl)
theorem dX5_three_31 : decode cX5_three 31 = .ok (.if_icmp .ge 80, 3) := dk_162 0 80 (dk_at dksX5_three_1 9 rfl rfl)
theorem dX5_three_34 : decode cX5_three 34 = .ok (.iload_n 2, 1) := dk_28 (dk_at dksX5_three_1 12 rfl rfl)
theorem dX5_three_35 : decode cX5_three 35 = .ok (.ifCond .ne 64, 3) := dk_154 0 64 (dk_at dksX5_three_1 13 rfl rfl)
theorem dX5_three_38 : decode cX5_three 38 = .ok (.aload_n 0, 1) := dk_42 (dk_at dksX5_three_1 16 rfl rfl)
theorem dX5_three_39 : decode cX5_three 39 = .ok (.getfield 3, 3) := dk_180 0 3 (dk_at dksX5_three_1 17 rfl rfl)
theorem dX5_three_42 : decode cX5_three 42 = .ok (.getfield 77, 3) := dk_180 0 77 (dk_at dksX5_three_1 20 rfl rfl)
theorem dX5_three_45 : decode cX5_three 45 = .ok (.getfield 223, 3) := dk_180 0 223 (dk_at dksX5_three_2 0 rfl rfl)
theorem dX5_three_48 : decode cX5_three 48 = .ok (.iload_n 3, 1) := dk_29 (dk_at dksX5_three_2 3 rfl rfl)
theorem dX5_three_49 : decode cX5_three 49 = .ok (.invokevirtual 87, 3) := dk_182 0 87 (dk_at dksX5_three_2 4 rfl rfl)
theorem dX5_three_52 : decode cX5_three 52 = .ok (.checkcast 226, 3) := dk_192 0 226 (dk_at dksX5_three_2 7 rfl rfl)
theorem dX5_three_55 : decode cX5_three 55 = .ok (.getfield 228, 3) := dk_180 0 228 (dk_at dksX5_three_2 10 rfl rfl)
theorem dX5_three_58 : decode cX5_three 58 = .ok (.aload_n 0, 1) := dk_42 (dk_at dksX5_three_2 13 rfl rfl)
theorem dX5_three_59 : decode cX5_three 59 = .ok (.getfield 60, 3) := dk_180 0 60 (dk_at dksX5_three_2 14 rfl rfl)
theorem dX5_three_62 : decode cX5_three 62 = .ok (.if_icmp .ne 41, 3) := dk_160 0 41 (dk_at dksX5_three_2 17 rfl rfl)
theorem dX5_three_65 : decode cX5_three 65 = .ok (.aload_n 0, 1) := dk_42 (dk_at dksX5_three_2 20 rfl rfl)
theorem dX5_three_66 : decode cX5_three 66 = .ok (.getfield 3, 3) := dk_180 0 3 (dk_at dksX5_three_2 21 rfl rfl)
theorem dX5_three_69 : decode cX5_three 69 = .ok (.getfield 77, 3) := dk_180 0 77 (dk_at dksX5_three_3 0 rfl rfl)
theorem dX5_three_72 : decode cX5_three 72 = .ok (.getfield 223, 3) := dk_180 0 223 (dk_at dksX5_three_3 3 rfl rfl)
theorem dX5_three_75 : decode cX5_three 75 = .ok (.iload_n 3, 1) := dk_29 (dk_at dksX5_three_3 6 rfl rfl)
theorem dX5_three_76 : decode cX5_three 76 = .ok (.invokevirtual 87, 3) := dk_182 0 87 (dk_at dksX5_three_3 7 rfl rfl)
theorem dX5_three_79 : decode cX5_three 79 = .ok (.checkcast 226, 3) := dk_192 0 226 (dk_at dksX5_three_3 10 rfl rfl)
theorem dX5_three_82 : decode cX5_three 82 = .ok (.getfield 229, 3) := dk_180 0 229 (dk_at dksX5_three_3 13 rfl rfl)
theorem dX5_three_85 : decode cX5_three 85 = .ok (.iload_n 1, 1) := dk_27 (dk_at dksX5_three_3 16 rfl rfl)
theorem dX5_three_86 : decode cX5_three 86 = .ok (.if_icmp .ne 17, 3) := dk_160 0 17 (dk_at dksX5_three_3 17 rfl rfl)
theorem dX5_three_89 : decode cX5_three 89 = .ok (.aload_n 0, 1) := dk_42 (dk_at dksX5_three_3 20 rfl rfl)
theorem dX5_three_90 : decode cX5_three 90 = .ok (.getfield 56, 3) := dk_180 0 56 (dk_at dksX5_three_3 21 rfl rfl)
theorem dX5_three_93 : decode cX5_three 93 = .ok (.getfield 230, 3) := dk_180 0 230 (dk_at dksX5_three_4 0 rfl rfl)
theorem dX5_three_96 : decode cX5_three 96 = .ok (.ifCond .ne 7, 3) := dk_154 0 7 (dk_at dksX5_three_4 3 rfl rfl)
theorem dX5_three_99 : decode cX5_three 99 = .ok (.iconst 1, 1) := dk_4 (dk_at dksX5_three_4 6 rfl rfl)
theorem dX5_three_100 : decode cX5_three 100 = .ok (.goto 4, 3) := dk_167 0 4 (dk_at dksX5_three_4 7 rfl rfl)
theorem dX5_three_103 : decode cX5_three 103 = .ok (.iconst 0, 1) := dk_3 (dk_at dksX5_three_4 10 rfl rfl)
theorem dX5_three_104 : decode cX5_three 104 = .ok (.istore_n 2, 1) := dk_61 (dk_at dksX5_three_4 11 rfl rfl)
theorem dX5_three_105 : decode cX5_three 105 = .ok (.iinc 3 1, 3) := dk_132 3 1 (dk_at dksX5_three_4 12 rfl rfl)
theorem dX5_three_108 : decode cX5_three 108 = .ok (.goto (-91), 3) := dk_167 255 165 (dk_at dksX5_three_4 15 rfl rfl)
theorem dX5_three_111 : decode cX5_three 111 = .ok (.iload_n 2, 1) := dk_28 (dk_at dksX5_three_4 18 rfl rfl)
theorem dX5_three_112 : decode cX5_three 112 = .ok (.ifCond .ne 6, 3) := dk_154 0 6 (dk_at dksX5_three_4 19 rfl rfl)
theorem dX5_three_115 : decode cX5_three 115 = .ok (.goto 45, 3) := dk_167 0 45 (dk_at dksX5_three_5 0 rfl rfl)
theorem dX5_three_118 : decode cX5_three 118 = .ok (.iconst 0, 1) := dk_3 (dk_at dksX5_three_5 3 rfl rfl)
theorem dX5_three_119 : decode cX5_three 119 = .ok (.istore_n 3, 1) := dk_62 (dk_at dksX5_three_5 4 rfl rfl)
theorem dX5_three_120 : decode cX5_three 120 = .ok (.iload_n 3, 1) := dk_29 (dk_at dksX5_three_5 5 rfl rfl)
theorem dX5_three_121 : decode cX5_three 121 = .ok (.aload_n 0, 1) := dk_42 (dk_at dksX5_three_5 6 rfl rfl)
theorem dX5_three_122 : decode cX5_three 122 = .ok (.getfield 15, 3) := dk_180 0 15 (dk_at dksX5_three_5 7 rfl rfl)
theorem dX5_three_125 : decode cX5_three 125 = .ok (.iload_n 1, 1) := dk_27 (dk_at dksX5_three_5 10 rfl rfl)
theorem dX5_three_126 : decode cX5_three 126 = .ok (.iaload, 1) := dk_46 (dk_at dksX5_three_5 11 rfl rfl)
theorem dX5_three_127 : decode cX5_three 127 = .ok (.if_icmp .ge 26, 3) := dk_162 0 26 (dk_at dksX5_three_5 12 rfl rfl)
theorem dX5_three_130 : decode cX5_three 130 = .ok (.aload_n 0, 1) := dk_42 (dk_at dksX5_three_5 15 rfl rfl)
theorem dX5_three_131 : decode cX5_three 131 = .ok (.iload_n 1, 1) := dk_27 (dk_at dksX5_three_5 16 rfl rfl)
theorem dX5_three_132 : decode cX5_three 132 = .ok (.aload_n 0, 1) := dk_42 (dk_at dksX5_three_5 17 rfl rfl)
theorem dX5_three_133 : decode cX5_three 133 = .ok (.getfield 29, 3) := dk_180 0 29 (dk_at dksX5_three_5 18 rfl rfl)
theorem dX5_three_136 : decode cX5_three 136 = .ok (.bipush 7, 2) := dk_16 7 (dk_at dksX5_three_5 21 rfl rfl)
theorem dX5_three_138 : decode cX5_three 138 = .ok (.iload_n 1, 1) := dk_27 (dk_at dksX5_three_5 23 rfl rfl)
theorem dX5_three_139 : decode cX5_three 139 = .ok (.imul, 1) := dk_104 (dk_at dksX5_three_6 0 rfl rfl)
theorem dX5_three_140 : decode cX5_three 140 = .ok (.iload_n 3, 1) := dk_29 (dk_at dksX5_three_6 1 rfl rfl)
theorem dX5_three_141 : decode cX5_three 141 = .ok (.iadd, 1) := dk_96 (dk_at dksX5_three_6 2 rfl rfl)
theorem dX5_three_142 : decode cX5_three 142 = .ok (.iaload, 1) := dk_46 (dk_at dksX5_three_6 3 rfl rfl)
theorem dX5_three_143 : decode cX5_three 143 = .ok (.iconst 3, 1) := dk_6 (dk_at dksX5_three_6 4 rfl rfl)
theorem dX5_three_144 : decode cX5_three 144 = .ok (.invokevirtual 189, 3) := dk_182 0 189 (dk_at dksX5_three_6 5 rfl rfl)
theorem dX5_three_147 : decode cX5_three 147 = .ok (.iinc 3 1, 3) := dk_132 3 1 (dk_at dksX5_three_6 8 rfl rfl)
theorem dX5_three_150 : decode cX5_three 150 = .ok (.goto (-30), 3) := dk_167 255 226 (dk_at dksX5_three_6 11 rfl rfl)
theorem dX5_three_153 : decode cX5_three 153 = .ok (.aload_n 0, 1) := dk_42 (dk_at dksX5_three_6 14 rfl rfl)
theorem dX5_three_154 : decode cX5_three 154 = .ok (.getfield 15, 3) := dk_180 0 15 (dk_at dksX5_three_6 15 rfl rfl)
theorem dX5_three_157 : decode cX5_three 157 = .ok (.iload_n 1, 1) := dk_27 (dk_at dksX5_three_6 18 rfl rfl)
theorem dX5_three_158 : decode cX5_three 158 = .ok (.iconst 0, 1) := dk_3 (dk_at dksX5_three_6 19 rfl rfl)
theorem dX5_three_159 : decode cX5_three 159 = .ok (.iastore, 1) := dk_79 (dk_at dksX5_three_6 20 rfl rfl)
theorem dX5_three_160 : decode cX5_three 160 = .ok (.iinc 1 1, 3) := dk_132 1 1 (dk_at dksX5_three_6 21 rfl rfl)
theorem dX5_three_163 : decode cX5_three 163 = .ok (.goto (-161), 3) := dk_167 255 95 (dk_at dksX5_three_7 0 rfl rfl)
theorem dX5_three_166 : decode cX5_three 166 = .ok (.return_, 1) := dk_177 (dk_at dksX5_three_7 3 rfl rfl)
abbrev cX5_four : ByteArray := prog_18_method_24_code
def yX5_four : MethodName := ⟨RX5, "four", "()V"⟩
def dkwX5_four_8 : List UInt8 := [42, 180, 0, 60, 79, 132, 1, 1, 167, 255, 195, 177]
abbrev dktX5_four_8 : List UInt8 := dkwX5_four_8 ++ []
def dkwX5_four_7 : List UInt8 := [42, 180, 0, 19, 27, 46, 42, 180, 0, 3, 180, 0, 77, 180, 0, 237, 161, 0, 13, 42, 180, 0, 22, 27]
abbrev dktX5_four_7 : List UInt8 := dkwX5_four_7 ++ dktX5_four_8
def dkwX5_four_6 : List UInt8 := [182, 0, 112, 162, 0, 56, 42, 180, 0, 22, 27, 46, 156, 0, 41, 42, 180, 0, 19, 27, 46, 158, 0, 32]
abbrev dktX5_four_6 : List UInt8 := dkwX5_four_6 ++ dktX5_four_7
def dkwX5_four_5 : List UInt8 := [44, 180, 0, 135, 182, 0, 141, 96, 79, 132, 1, 1, 167, 255, 130, 3, 60, 27, 42, 180, 0, 3]
abbrev dktX5_four_5 : List UInt8 := dkwX5_four_5 ++ dktX5_four_6
def dkwX5_four_4 : List UInt8 := [42, 180, 0, 50, 27, 46, 5, 160, 0, 26, 42, 180, 0, 19, 44, 180, 0, 132, 92, 46, 42, 180, 0, 3]
abbrev dktX5_four_4 : List UInt8 := dkwX5_four_4 ++ dktX5_four_5
def dkwX5_four_3 : List UInt8 := [155, 0, 7, 4, 167, 0, 19, 42, 44, 180, 0, 135, 182, 0, 233, 153, 0, 7, 5, 167, 0, 4, 3, 79]
abbrev dktX5_four_3 : List UInt8 := dkwX5_four_3 ++ dktX5_four_4
def dkwX5_four_2 : List UInt8 := [159, 0, 6, 167, 0, 77, 42, 180, 0, 50, 27, 42, 44, 180, 0, 132, 44, 180, 0, 135, 182, 0, 176]
abbrev dktX5_four_2 : List UInt8 := dkwX5_four_2 ++ dktX5_four_3
def dkwX5_four_1 : List UInt8 := [180, 0, 77, 180, 0, 123, 27, 182, 0, 87, 192, 0, 129, 77, 44, 180, 0, 131, 42, 180, 0, 60]
abbrev dktX5_four_1 : List UInt8 := dkwX5_four_1 ++ dktX5_four_2
def dkwX5_four_0 : List UInt8 := [3, 60, 27, 42, 180, 0, 3, 180, 0, 77, 180, 0, 123, 182, 0, 126, 162, 0, 115, 42, 180, 0, 3]
abbrev dktX5_four_0 : List UInt8 := dkwX5_four_0 ++ dktX5_four_1
theorem dksX5_four_0 : cX5_four.data.toList.drop 0 = dktX5_four_0 := by decide +kernel
theorem dksX5_four_1 : cX5_four.data.toList.drop 23 = dktX5_four_1 := dk_seg dksX5_four_0 23 rfl rfl
theorem dksX5_four_2 : cX5_four.data.toList.drop 45 = dktX5_four_2 := dk_seg dksX5_four_1 22 rfl rfl
theorem dksX5_four_3 : cX5_four.data.toList.drop 68 = dktX5_four_3 := dk_seg dksX5_four_2 23 rfl rfl
theorem dksX5_four_4 : cX5_four.data.toList.drop 92 = dktX5_four_4 := dk_seg dksX5_four_3 24 rfl rfl
theorem dksX5_four_5 : cX5_four.data.toList.drop 116 = dktX5_four_5 := dk_seg dksX5_four_4 24 rfl rfl
theorem dksX5_four_6 : cX5_four.data.toList.drop 138 = dktX5_four_6 := dk_seg dksX5_four_5 22 rfl rfl
theorem dksX5_four_7 : cX5_four.data.toList.drop 162 = dktX5_four_7 := dk_seg dksX5_four_6 24 rfl rfl
theorem dksX5_four_8 : cX5_four.data.toList.drop 186 = dktX5_four_8 := dk_seg dksX5_four_7 24 rfl rfl
theorem dX5_four_0 : decode cX5_four 0 = .ok (.iconst 0, 1) := dk_3 (dk_at dksX5_four_0 0 rfl rfl)
theorem dX5_four_1 : decode cX5_four 1 = .ok (.istore_n 1, 1) := dk_60 (dk_at dksX5_four_0 1 rfl rfl)
theorem dX5_four_2 : decode cX5_four 2 = .ok (.iload_n 1, 1) := dk_27 (dk_at dksX5_four_0 2 rfl rfl)
theorem dX5_four_3 : decode cX5_four 3 = .ok (.aload_n 0, 1) := dk_42 (dk_at dksX5_four_0 3 rfl rfl)
theorem dX5_four_4 : decode cX5_four 4 = .ok (.getfield 3, 3) := dk_180 0 3 (dk_at dksX5_four_0 4 rfl rfl)
theorem dX5_four_7 : decode cX5_four 7 = .ok (.getfield 77, 3) := dk_180 0 77 (dk_at dksX5_four_0 7 rfl rfl)
theorem dX5_four_10 : decode cX5_four 10 = .ok (.getfield 123, 3) := dk_180 0 123 (dk_at dksX5_four_0 10 rfl rfl)
theorem dX5_four_13 : decode cX5_four 13 = .ok (.invokevirtual 126, 3) := dk_182 0 126 (dk_at dksX5_four_0 13 rfl rfl)
theorem dX5_four_16 : decode cX5_four 16 = .ok (.if_icmp .ge 115, 3) := dk_162 0 115 (dk_at dksX5_four_0 16 rfl rfl)
theorem dX5_four_19 : decode cX5_four 19 = .ok (.aload_n 0, 1) := dk_42 (dk_at dksX5_four_0 19 rfl rfl)
theorem dX5_four_20 : decode cX5_four 20 = .ok (.getfield 3, 3) := dk_180 0 3 (dk_at dksX5_four_0 20 rfl rfl)
theorem dX5_four_23 : decode cX5_four 23 = .ok (.getfield 77, 3) := dk_180 0 77 (dk_at dksX5_four_1 0 rfl rfl)
theorem dX5_four_26 : decode cX5_four 26 = .ok (.getfield 123, 3) := dk_180 0 123 (dk_at dksX5_four_1 3 rfl rfl)
theorem dX5_four_29 : decode cX5_four 29 = .ok (.iload_n 1, 1) := dk_27 (dk_at dksX5_four_1 6 rfl rfl)
theorem dX5_four_30 : decode cX5_four 30 = .ok (.invokevirtual 87, 3) := dk_182 0 87 (dk_at dksX5_four_1 7 rfl rfl)
theorem dX5_four_33 : decode cX5_four 33 = .ok (.checkcast 129, 3) := dk_192 0 129 (dk_at dksX5_four_1 10 rfl rfl)
theorem dX5_four_36 : decode cX5_four 36 = .ok (.astore_n 2, 1) := dk_77 (dk_at dksX5_four_1 13 rfl rfl)
theorem dX5_four_37 : decode cX5_four 37 = .ok (.aload_n 2, 1) := dk_44 (dk_at dksX5_four_1 14 rfl rfl)
theorem dX5_four_38 : decode cX5_four 38 = .ok (.getfield 131, 3) := dk_180 0 131 (dk_at dksX5_four_1 15 rfl rfl)
theorem dX5_four_41 : decode cX5_four 41 = .ok (.aload_n 0, 1) := dk_42 (dk_at dksX5_four_1 18 rfl rfl)
theorem dX5_four_42 : decode cX5_four 42 = .ok (.getfield 60, 3) := dk_180 0 60 (dk_at dksX5_four_1 19 rfl rfl)
theorem dX5_four_45 : decode cX5_four 45 = .ok (.if_icmp .eq 6, 3) := dk_159 0 6 (dk_at dksX5_four_2 0 rfl rfl)
theorem dX5_four_48 : decode cX5_four 48 = .ok (.goto 77, 3) := dk_167 0 77 (dk_at dksX5_four_2 3 rfl rfl)
theorem dX5_four_51 : decode cX5_four 51 = .ok (.aload_n 0, 1) := dk_42 (dk_at dksX5_four_2 6 rfl rfl)
theorem dX5_four_52 : decode cX5_four 52 = .ok (.getfield 50, 3) := dk_180 0 50 (dk_at dksX5_four_2 7 rfl rfl)
theorem dX5_four_55 : decode cX5_four 55 = .ok (.iload_n 1, 1) := dk_27 (dk_at dksX5_four_2 10 rfl rfl)
theorem dX5_four_56 : decode cX5_four 56 = .ok (.aload_n 0, 1) := dk_42 (dk_at dksX5_four_2 11 rfl rfl)
theorem dX5_four_57 : decode cX5_four 57 = .ok (.aload_n 2, 1) := dk_44 (dk_at dksX5_four_2 12 rfl rfl)
theorem dX5_four_58 : decode cX5_four 58 = .ok (.getfield 132, 3) := dk_180 0 132 (dk_at dksX5_four_2 13 rfl rfl)
theorem dX5_four_61 : decode cX5_four 61 = .ok (.aload_n 2, 1) := dk_44 (dk_at dksX5_four_2 16 rfl rfl)
theorem dX5_four_62 : decode cX5_four 62 = .ok (.getfield 135, 3) := dk_180 0 135 (dk_at dksX5_four_2 17 rfl rfl)
theorem dX5_four_65 : decode cX5_four 65 = .ok (.invokevirtual 176, 3) := dk_182 0 176 (dk_at dksX5_four_2 20 rfl rfl)
theorem dX5_four_68 : decode cX5_four 68 = .ok (.ifCond .lt 7, 3) := dk_155 0 7 (dk_at dksX5_four_3 0 rfl rfl)
theorem dX5_four_71 : decode cX5_four 71 = .ok (.iconst 1, 1) := dk_4 (dk_at dksX5_four_3 3 rfl rfl)
theorem dX5_four_72 : decode cX5_four 72 = .ok (.goto 19, 3) := dk_167 0 19 (dk_at dksX5_four_3 4 rfl rfl)
theorem dX5_four_75 : decode cX5_four 75 = .ok (.aload_n 0, 1) := dk_42 (dk_at dksX5_four_3 7 rfl rfl)
theorem dX5_four_76 : decode cX5_four 76 = .ok (.aload_n 2, 1) := dk_44 (dk_at dksX5_four_3 8 rfl rfl)
theorem dX5_four_77 : decode cX5_four 77 = .ok (.getfield 135, 3) := dk_180 0 135 (dk_at dksX5_four_3 9 rfl rfl)
theorem dX5_four_80 : decode cX5_four 80 = .ok (.invokevirtual 233, 3) := dk_182 0 233 (dk_at dksX5_four_3 12 rfl rfl)
theorem dX5_four_83 : decode cX5_four 83 = .ok (.ifCond .eq 7, 3) := dk_153 0 7 (dk_at dksX5_four_3 15 rfl rfl)
theorem dX5_four_86 : decode cX5_four 86 = .ok (.iconst 2, 1) := dk_5 (dk_at dksX5_four_3 18 rfl rfl)
theorem dX5_four_87 : decode cX5_four 87 = .ok (.goto 4, 3) := dk_167 0 4 (dk_at dksX5_four_3 19 rfl rfl)
theorem dX5_four_90 : decode cX5_four 90 = .ok (.iconst 0, 1) := dk_3 (dk_at dksX5_four_3 22 rfl rfl)
theorem dX5_four_91 : decode cX5_four 91 = .ok (.iastore, 1) := dk_79 (dk_at dksX5_four_3 23 rfl rfl)
theorem dX5_four_92 : decode cX5_four 92 = .ok (.aload_n 0, 1) := dk_42 (dk_at dksX5_four_4 0 rfl rfl)
theorem dX5_four_93 : decode cX5_four 93 = .ok (.getfield 50, 3) := dk_180 0 50 (dk_at dksX5_four_4 1 rfl rfl)
theorem dX5_four_96 : decode cX5_four 96 = .ok (.iload_n 1, 1) := dk_27 (dk_at dksX5_four_4 4 rfl rfl)
theorem dX5_four_97 : decode cX5_four 97 = .ok (.iaload, 1) := dk_46 (dk_at dksX5_four_4 5 rfl rfl)
theorem dX5_four_98 : decode cX5_four 98 = .ok (.iconst 2, 1) := dk_5 (dk_at dksX5_four_4 6 rfl rfl)
theorem dX5_four_99 : decode cX5_four 99 = .ok (.if_icmp .ne 26, 3) := dk_160 0 26 (dk_at dksX5_four_4 7 rfl rfl)
theorem dX5_four_102 : decode cX5_four 102 = .ok (.aload_n 0, 1) := dk_42 (dk_at dksX5_four_4 10 rfl rfl)
theorem dX5_four_103 : decode cX5_four 103 = .ok (.getfield 19, 3) := dk_180 0 19 (dk_at dksX5_four_4 11 rfl rfl)
theorem dX5_four_106 : decode cX5_four 106 = .ok (.aload_n 2, 1) := dk_44 (dk_at dksX5_four_4 14 rfl rfl)
theorem dX5_four_107 : decode cX5_four 107 = .ok (.getfield 132, 3) := dk_180 0 132 (dk_at dksX5_four_4 15 rfl rfl)
theorem dX5_four_110 : decode cX5_four 110 = .ok (.dup2, 1) := dk_92 (dk_at dksX5_four_4 18 rfl rfl)
theorem dX5_four_111 : decode cX5_four 111 = .ok (.iaload, 1) := dk_46 (dk_at dksX5_four_4 19 rfl rfl)
theorem dX5_four_112 : decode cX5_four 112 = .ok (.aload_n 0, 1) := dk_42 (dk_at dksX5_four_4 20 rfl rfl)
theorem dX5_four_113 : decode cX5_four 113 = .ok (.getfield 3, 3) := dk_180 0 3 (dk_at dksX5_four_4 21 rfl rfl)
theorem dX5_four_116 : decode cX5_four 116 = .ok (.aload_n 2, 1) := dk_44 (dk_at dksX5_four_5 0 rfl rfl)
theorem dX5_four_117 : decode cX5_four 117 = .ok (.getfield 135, 3) := dk_180 0 135 (dk_at dksX5_four_5 1 rfl rfl)
theorem dX5_four_120 : decode cX5_four 120 = .ok (.invokevirtual 141, 3) := dk_182 0 141 (dk_at dksX5_four_5 4 rfl rfl)
theorem dX5_four_123 : decode cX5_four 123 = .ok (.iadd, 1) := dk_96 (dk_at dksX5_four_5 7 rfl rfl)
theorem dX5_four_124 : decode cX5_four 124 = .ok (.iastore, 1) := dk_79 (dk_at dksX5_four_5 8 rfl rfl)
theorem dX5_four_125 : decode cX5_four 125 = .ok (.iinc 1 1, 3) := dk_132 1 1 (dk_at dksX5_four_5 9 rfl rfl)
theorem dX5_four_128 : decode cX5_four 128 = .ok (.goto (-126), 3) := dk_167 255 130 (dk_at dksX5_four_5 12 rfl rfl)
theorem dX5_four_131 : decode cX5_four 131 = .ok (.iconst 0, 1) := dk_3 (dk_at dksX5_four_5 15 rfl rfl)
theorem dX5_four_132 : decode cX5_four 132 = .ok (.istore_n 1, 1) := dk_60 (dk_at dksX5_four_5 16 rfl rfl)
theorem dX5_four_133 : decode cX5_four 133 = .ok (.iload_n 1, 1) := dk_27 (dk_at dksX5_four_5 17 rfl rfl)
theorem dX5_four_134 : decode cX5_four 134 = .ok (.aload_n 0, 1) := dk_42 (dk_at dksX5_four_5 18 rfl rfl)
theorem dX5_four_135 : decode cX5_four 135 = .ok (.getfield 3, 3) := dk_180 0 3 (dk_at dksX5_four_5 19 rfl rfl)
theorem dX5_four_138 : decode cX5_four 138 = .ok (.invokevirtual 112, 3) := dk_182 0 112 (dk_at dksX5_four_6 0 rfl rfl)
theorem dX5_four_141 : decode cX5_four 141 = .ok (.if_icmp .ge 56, 3) := dk_162 0 56 (dk_at dksX5_four_6 3 rfl rfl)
theorem dX5_four_144 : decode cX5_four 144 = .ok (.aload_n 0, 1) := dk_42 (dk_at dksX5_four_6 6 rfl rfl)
theorem dX5_four_145 : decode cX5_four 145 = .ok (.getfield 22, 3) := dk_180 0 22 (dk_at dksX5_four_6 7 rfl rfl)
theorem dX5_four_148 : decode cX5_four 148 = .ok (.iload_n 1, 1) := dk_27 (dk_at dksX5_four_6 10 rfl rfl)
theorem dX5_four_149 : decode cX5_four 149 = .ok (.iaload, 1) := dk_46 (dk_at dksX5_four_6 11 rfl rfl)
theorem dX5_four_150 : decode cX5_four 150 = .ok (.ifCond .ge 41, 3) := dk_156 0 41 (dk_at dksX5_four_6 12 rfl rfl)
theorem dX5_four_153 : decode cX5_four 153 = .ok (.aload_n 0, 1) := dk_42 (dk_at dksX5_four_6 15 rfl rfl)
theorem dX5_four_154 : decode cX5_four 154 = .ok (.getfield 19, 3) := dk_180 0 19 (dk_at dksX5_four_6 16 rfl rfl)
theorem dX5_four_157 : decode cX5_four 157 = .ok (.iload_n 1, 1) := dk_27 (dk_at dksX5_four_6 19 rfl rfl)
theorem dX5_four_158 : decode cX5_four 158 = .ok (.iaload, 1) := dk_46 (dk_at dksX5_four_6 20 rfl rfl)
theorem dX5_four_159 : decode cX5_four 159 = .ok (.ifCond .le 32, 3) := dk_158 0 32 (dk_at dksX5_four_6 21 rfl rfl)
theorem dX5_four_162 : decode cX5_four 162 = .ok (.aload_n 0, 1) := dk_42 (dk_at dksX5_four_7 0 rfl rfl)
theorem dX5_four_163 : decode cX5_four 163 = .ok (.getfield 19, 3) := dk_180 0 19 (dk_at dksX5_four_7 1 rfl rfl)
theorem dX5_four_166 : decode cX5_four 166 = .ok (.iload_n 1, 1) := dk_27 (dk_at dksX5_four_7 4 rfl rfl)
theorem dX5_four_167 : decode cX5_four 167 = .ok (.iaload, 1) := dk_46 (dk_at dksX5_four_7 5 rfl rfl)
theorem dX5_four_168 : decode cX5_four 168 = .ok (.aload_n 0, 1) := dk_42 (dk_at dksX5_four_7 6 rfl rfl)
theorem dX5_four_169 : decode cX5_four 169 = .ok (.getfield 3, 3) := dk_180 0 3 (dk_at dksX5_four_7 7 rfl rfl)
theorem dX5_four_172 : decode cX5_four 172 = .ok (.getfield 77, 3) := dk_180 0 77 (dk_at dksX5_four_7 10 rfl rfl)
theorem dX5_four_175 : decode cX5_four 175 = .ok (.getfield 237, 3) := dk_180 0 237 (dk_at dksX5_four_7 13 rfl rfl)
theorem dX5_four_178 : decode cX5_four 178 = .ok (.if_icmp .lt 13, 3) := dk_161 0 13 (dk_at dksX5_four_7 16 rfl rfl)
theorem dX5_four_181 : decode cX5_four 181 = .ok (.aload_n 0, 1) := dk_42 (dk_at dksX5_four_7 19 rfl rfl)
theorem dX5_four_182 : decode cX5_four 182 = .ok (.getfield 22, 3) := dk_180 0 22 (dk_at dksX5_four_7 20 rfl rfl)
theorem dX5_four_185 : decode cX5_four 185 = .ok (.iload_n 1, 1) := dk_27 (dk_at dksX5_four_7 23 rfl rfl)
theorem dX5_four_186 : decode cX5_four 186 = .ok (.aload_n 0, 1) := dk_42 (dk_at dksX5_four_8 0 rfl rfl)
theorem dX5_four_187 : decode cX5_four 187 = .ok (.getfield 60, 3) := dk_180 0 60 (dk_at dksX5_four_8 1 rfl rfl)
theorem dX5_four_190 : decode cX5_four 190 = .ok (.iastore, 1) := dk_79 (dk_at dksX5_four_8 4 rfl rfl)
theorem dX5_four_191 : decode cX5_four 191 = .ok (.iinc 1 1, 3) := dk_132 1 1 (dk_at dksX5_four_8 5 rfl rfl)
theorem dX5_four_194 : decode cX5_four 194 = .ok (.goto (-61), 3) := dk_167 255 195 (dk_at dksX5_four_8 8 rfl rfl)
theorem dX5_four_197 : decode cX5_four 197 = .ok (.return_, 1) := dk_177 (dk_at dksX5_four_8 11 rfl rfl)
abbrev cX5_isThere : ByteArray := prog_18_method_23_code
def yX5_isThere : MethodName := ⟨RX5, "isThere", "(I)Z"⟩
def dkwX5_isThere_3 : List UInt8 := [180, 0, 207, 42, 180, 0, 60, 161, 0, 5, 4, 172, 132, 2, 1, 167, 255, 175, 3, 172]
abbrev dktX5_isThere_3 : List UInt8 := dkwX5_isThere_3 ++ []
def dkwX5_isThere_2 : List UInt8 := [159, 0, 35, 45, 180, 0, 206, 27, 160, 0, 27, 45, 180, 0, 201, 42, 180, 0, 60, 163, 0, 16, 45]
abbrev dktX5_isThere_2 : List UInt8 := dkwX5_isThere_2 ++ dktX5_isThere_3
def dkwX5_isThere_1 : List UInt8 := [180, 0, 77, 180, 0, 196, 28, 182, 0, 87, 192, 0, 199, 78, 28, 42, 180, 0, 56, 180, 0, 202]
abbrev dktX5_isThere_1 : List UInt8 := dkwX5_isThere_1 ++ dktX5_isThere_2
def dkwX5_isThere_0 : List UInt8 := [3, 61, 28, 42, 180, 0, 3, 180, 0, 77, 180, 0, 196, 182, 0, 126, 162, 0, 70, 42, 180, 0, 3]
abbrev dktX5_isThere_0 : List UInt8 := dkwX5_isThere_0 ++ dktX5_isThere_1
theorem dksX5_isThere_0 : cX5_isThere.data.toList.drop 0 = dktX5_isThere_0 := by decide +kernel
theorem dksX5_isThere_1 : cX5_isThere.data.toList.drop 23 = dktX5_isThere_1 := dk_seg dksX5_isThere_0 23 rfl rfl
theorem dksX5_isThere_2 : cX5_isThere.data.toList.drop 45 = dktX5_isThere_2 := dk_seg dksX5_isThere_1 22 rfl rfl
theorem dksX5_isThere_3 : cX5_isThere.data.toList.drop 68 = dktX5_isThere_3 := dk_seg dksX5_isThere_2 23 rfl rfl
theorem dX5_isThere_0 : decode cX5_isThere 0 = .ok (.iconst 0, 1) := dk_3 (dk_at dksX5_isThere_0 0 rfl rfl)
theorem dX5_isThere_1 : decode cX5_isThere 1 = .ok (.istore_n 2, 1) := dk_61 (dk_at dksX5_isThere_0 1 rfl rfl)
theorem dX5_isThere_2 : decode cX5_isThere 2 = .ok (.iload_n 2, 1) := dk_28 (dk_at dksX5_isThere_0 2 rfl rfl)
theorem dX5_isThere_3 : decode cX5_isThere 3 = .ok (.aload_n 0, 1) := dk_42 (dk_at dksX5_isThere_0 3 rfl rfl)
theorem dX5_isThere_4 : decode cX5_isThere 4 = .ok (.getfield 3, 3) := dk_180 0 3 (dk_at dksX5_isThere_0 4 rfl rfl)
theorem dX5_isThere_7 : decode cX5_isThere 7 = .ok (.getfield 77, 3) := dk_180 0 77 (dk_at dksX5_isThere_0 7 rfl rfl)
theorem dX5_isThere_10 : decode cX5_isThere 10 = .ok (.getfield 196, 3) := dk_180 0 196 (dk_at dksX5_isThere_0 10 rfl rfl)
theorem dX5_isThere_13 : decode cX5_isThere 13 = .ok (.invokevirtual 126, 3) := dk_182 0 126 (dk_at dksX5_isThere_0 13 rfl rfl)
theorem dX5_isThere_16 : decode cX5_isThere 16 = .ok (.if_icmp .ge 70, 3) := dk_162 0 70 (dk_at dksX5_isThere_0 16 rfl rfl)
theorem dX5_isThere_19 : decode cX5_isThere 19 = .ok (.aload_n 0, 1) := dk_42 (dk_at dksX5_isThere_0 19 rfl rfl)
theorem dX5_isThere_20 : decode cX5_isThere 20 = .ok (.getfield 3, 3) := dk_180 0 3 (dk_at dksX5_isThere_0 20 rfl rfl)
theorem dX5_isThere_23 : decode cX5_isThere 23 = .ok (.getfield 77, 3) := dk_180 0 77 (dk_at dksX5_isThere_1 0 rfl rfl)
theorem dX5_isThere_26 : decode cX5_isThere 26 = .ok (.getfield 196, 3) := dk_180 0 196 (dk_at dksX5_isThere_1 3 rfl rfl)
theorem dX5_isThere_29 : decode cX5_isThere 29 = .ok (.iload_n 2, 1) := dk_28 (dk_at dksX5_isThere_1 6 rfl rfl)
theorem dX5_isThere_30 : decode cX5_isThere 30 = .ok (.invokevirtual 87, 3) := dk_182 0 87 (dk_at dksX5_isThere_1 7 rfl rfl)
theorem dX5_isThere_33 : decode cX5_isThere 33 = .ok (.checkcast 199, 3) := dk_192 0 199 (dk_at dksX5_isThere_1 10 rfl rfl)
theorem dX5_isThere_36 : decode cX5_isThere 36 = .ok (.astore_n 3, 1) := dk_78 (dk_at dksX5_isThere_1 13 rfl rfl)
theorem dX5_isThere_37 : decode cX5_isThere 37 = .ok (.iload_n 2, 1) := dk_28 (dk_at dksX5_isThere_1 14 rfl rfl)
theorem dX5_isThere_38 : decode cX5_isThere 38 = .ok (.aload_n 0, 1) := dk_42 (dk_at dksX5_isThere_1 15 rfl rfl)
theorem dX5_isThere_39 : decode cX5_isThere 39 = .ok (.getfield 56, 3) := dk_180 0 56 (dk_at dksX5_isThere_1 16 rfl rfl)
theorem dX5_isThere_42 : decode cX5_isThere 42 = .ok (.getfield 202, 3) := dk_180 0 202 (dk_at dksX5_isThere_1 19 rfl rfl)
theorem dX5_isThere_45 : decode cX5_isThere 45 = .ok (.if_icmp .eq 35, 3) := dk_159 0 35 (dk_at dksX5_isThere_2 0 rfl rfl)
theorem dX5_isThere_48 : decode cX5_isThere 48 = .ok (.aload_n 3, 1) := dk_45 (dk_at dksX5_isThere_2 3 rfl rfl)
theorem dX5_isThere_49 : decode cX5_isThere 49 = .ok (.getfield 206, 3) := dk_180 0 206 (dk_at dksX5_isThere_2 4 rfl rfl)
theorem dX5_isThere_52 : decode cX5_isThere 52 = .ok (.iload_n 1, 1) := dk_27 (dk_at dksX5_isThere_2 7 rfl rfl)
theorem dX5_isThere_53 : decode cX5_isThere 53 = .ok (.if_icmp .ne 27, 3) := dk_160 0 27 (dk_at dksX5_isThere_2 8 rfl rfl)
theorem dX5_isThere_56 : decode cX5_isThere 56 = .ok (.aload_n 3, 1) := dk_45 (dk_at dksX5_isThere_2 11 rfl rfl)
theorem dX5_isThere_57 : decode cX5_isThere 57 = .ok (.getfield 201, 3) := dk_180 0 201 (dk_at dksX5_isThere_2 12 rfl rfl)
theorem dX5_isThere_60 : decode cX5_isThere 60 = .ok (.aload_n 0, 1) := dk_42 (dk_at dksX5_isThere_2 15 rfl rfl)
theorem dX5_isThere_61 : decode cX5_isThere 61 = .ok (.getfield 60, 3) := dk_180 0 60 (dk_at dksX5_isThere_2 16 rfl rfl)
theorem dX5_isThere_64 : decode cX5_isThere 64 = .ok (.if_icmp .gt 16, 3) := dk_163 0 16 (dk_at dksX5_isThere_2 19 rfl rfl)
theorem dX5_isThere_67 : decode cX5_isThere 67 = .ok (.aload_n 3, 1) := dk_45 (dk_at dksX5_isThere_2 22 rfl rfl)
theorem dX5_isThere_68 : decode cX5_isThere 68 = .ok (.getfield 207, 3) := dk_180 0 207 (dk_at dksX5_isThere_3 0 rfl rfl)
theorem dX5_isThere_71 : decode cX5_isThere 71 = .ok (.aload_n 0, 1) := dk_42 (dk_at dksX5_isThere_3 3 rfl rfl)
theorem dX5_isThere_72 : decode cX5_isThere 72 = .ok (.getfield 60, 3) := dk_180 0 60 (dk_at dksX5_isThere_3 4 rfl rfl)
theorem dX5_isThere_75 : decode cX5_isThere 75 = .ok (.if_icmp .lt 5, 3) := dk_161 0 5 (dk_at dksX5_isThere_3 7 rfl rfl)
theorem dX5_isThere_78 : decode cX5_isThere 78 = .ok (.iconst 1, 1) := dk_4 (dk_at dksX5_isThere_3 10 rfl rfl)
theorem dX5_isThere_79 : decode cX5_isThere 79 = .ok (.ireturn, 1) := dk_172 (dk_at dksX5_isThere_3 11 rfl rfl)
theorem dX5_isThere_80 : decode cX5_isThere 80 = .ok (.iinc 2 1, 3) := dk_132 2 1 (dk_at dksX5_isThere_3 12 rfl rfl)
theorem dX5_isThere_83 : decode cX5_isThere 83 = .ok (.goto (-81), 3) := dk_167 255 175 (dk_at dksX5_isThere_3 15 rfl rfl)
theorem dX5_isThere_86 : decode cX5_isThere 86 = .ok (.iconst 0, 1) := dk_3 (dk_at dksX5_isThere_3 18 rfl rfl)
theorem dX5_isThere_87 : decode cX5_isThere 87 = .ok (.ireturn, 1) := dk_172 (dk_at dksX5_isThere_3 19 rfl rfl)
abbrev cX5_copy : ByteArray := prog_18_method_3_code
def yX5_copy : MethodName := ⟨RX5, "copy", "(LMinistryDesks$Run;)V"⟩
def dkwX5_copy_5 : List UInt8 := [3, 16, 16, 184, 0, 71, 43, 180, 0, 53, 3, 42, 180, 0, 53, 3, 17, 3, 132, 184, 0, 71, 177]
abbrev dktX5_copy_5 : List UInt8 := dkwX5_copy_5 ++ []
def dkwX5_copy_4 : List UInt8 := [43, 180, 0, 35, 3, 42, 180, 0, 35, 3, 16, 28, 184, 0, 71, 43, 180, 0, 50, 3, 42, 180, 0, 50]
abbrev dktX5_copy_4 : List UInt8 := dkwX5_copy_4 ++ dktX5_copy_5
def dkwX5_copy_3 : List UInt8 := [180, 0, 29, 3, 16, 28, 184, 0, 71, 43, 180, 0, 32, 3, 42, 180, 0, 32, 3, 16, 28, 184, 0, 71]
abbrev dktX5_copy_3 : List UInt8 := dkwX5_copy_3 ++ dktX5_copy_4
def dkwX5_copy_2 : List UInt8 := [7, 184, 0, 71, 43, 180, 0, 22, 3, 42, 180, 0, 22, 3, 7, 184, 0, 71, 43, 180, 0, 29, 3, 42]
abbrev dktX5_copy_2 : List UInt8 := dkwX5_copy_2 ++ dktX5_copy_3
def dkwX5_copy_1 : List UInt8 := [43, 180, 0, 15, 3, 42, 180, 0, 15, 3, 7, 184, 0, 71, 43, 180, 0, 19, 3, 42, 180, 0, 19, 3]
abbrev dktX5_copy_1 : List UInt8 := dkwX5_copy_1 ++ dktX5_copy_2
def dkwX5_copy_0 : List UInt8 := [42, 43, 180, 0, 56, 181, 0, 56, 42, 43, 180, 0, 60, 181, 0, 60, 42, 43, 180, 0, 64, 181, 0, 64]
abbrev dktX5_copy_0 : List UInt8 := dkwX5_copy_0 ++ dktX5_copy_1
theorem dksX5_copy_0 : cX5_copy.data.toList.drop 0 = dktX5_copy_0 := by decide +kernel
theorem dksX5_copy_1 : cX5_copy.data.toList.drop 24 = dktX5_copy_1 := dk_seg dksX5_copy_0 24 rfl rfl
theorem dksX5_copy_2 : cX5_copy.data.toList.drop 48 = dktX5_copy_2 := dk_seg dksX5_copy_1 24 rfl rfl
theorem dksX5_copy_3 : cX5_copy.data.toList.drop 72 = dktX5_copy_3 := dk_seg dksX5_copy_2 24 rfl rfl
theorem dksX5_copy_4 : cX5_copy.data.toList.drop 96 = dktX5_copy_4 := dk_seg dksX5_copy_3 24 rfl rfl
theorem dksX5_copy_5 : cX5_copy.data.toList.drop 120 = dktX5_copy_5 := dk_seg dksX5_copy_4 24 rfl rfl
theorem dX5_copy_0 : decode cX5_copy 0 = .ok (.aload_n 0, 1) := dk_42 (dk_at dksX5_copy_0 0 rfl rfl)
theorem dX5_copy_1 : decode cX5_copy 1 = .ok (.aload_n 1, 1) := dk_43 (dk_at dksX5_copy_0 1 rfl rfl)
theorem dX5_copy_2 : decode cX5_copy 2 = .ok (.getfield 56, 3) := dk_180 0 56 (dk_at dksX5_copy_0 2 rfl rfl)
theorem dX5_copy_5 : decode cX5_copy 5 = .ok (.putfield 56, 3) := dk_181 0 56 (dk_at dksX5_copy_0 5 rfl rfl)
theorem dX5_copy_8 : decode cX5_copy 8 = .ok (.aload_n 0, 1) := dk_42 (dk_at dksX5_copy_0 8 rfl rfl)
theorem dX5_copy_9 : decode cX5_copy 9 = .ok (.aload_n 1, 1) := dk_43 (dk_at dksX5_copy_0 9 rfl rfl)
theorem dX5_copy_10 : decode cX5_copy 10 = .ok (.getfield 60, 3) := dk_180 0 60 (dk_at dksX5_copy_0 10 rfl rfl)
theorem dX5_copy_13 : decode cX5_copy 13 = .ok (.putfield 60, 3) := dk_181 0 60 (dk_at dksX5_copy_0 13 rfl rfl)
theorem dX5_copy_16 : decode cX5_copy 16 = .ok (.aload_n 0, 1) := dk_42 (dk_at dksX5_copy_0 16 rfl rfl)
theorem dX5_copy_17 : decode cX5_copy 17 = .ok (.aload_n 1, 1) := dk_43 (dk_at dksX5_copy_0 17 rfl rfl)
theorem dX5_copy_18 : decode cX5_copy 18 = .ok (.getfield 64, 3) := dk_180 0 64 (dk_at dksX5_copy_0 18 rfl rfl)
theorem dX5_copy_21 : decode cX5_copy 21 = .ok (.putfield 64, 3) := dk_181 0 64 (dk_at dksX5_copy_0 21 rfl rfl)
theorem dX5_copy_24 : decode cX5_copy 24 = .ok (.aload_n 1, 1) := dk_43 (dk_at dksX5_copy_1 0 rfl rfl)
theorem dX5_copy_25 : decode cX5_copy 25 = .ok (.getfield 15, 3) := dk_180 0 15 (dk_at dksX5_copy_1 1 rfl rfl)
theorem dX5_copy_28 : decode cX5_copy 28 = .ok (.iconst 0, 1) := dk_3 (dk_at dksX5_copy_1 4 rfl rfl)
theorem dX5_copy_29 : decode cX5_copy 29 = .ok (.aload_n 0, 1) := dk_42 (dk_at dksX5_copy_1 5 rfl rfl)
theorem dX5_copy_30 : decode cX5_copy 30 = .ok (.getfield 15, 3) := dk_180 0 15 (dk_at dksX5_copy_1 6 rfl rfl)
theorem dX5_copy_33 : decode cX5_copy 33 = .ok (.iconst 0, 1) := dk_3 (dk_at dksX5_copy_1 9 rfl rfl)
theorem dX5_copy_34 : decode cX5_copy 34 = .ok (.iconst 4, 1) := dk_7 (dk_at dksX5_copy_1 10 rfl rfl)
theorem dX5_copy_35 : decode cX5_copy 35 = .ok (.invokestatic 71, 3) := dk_184 0 71 (dk_at dksX5_copy_1 11 rfl rfl)
theorem dX5_copy_38 : decode cX5_copy 38 = .ok (.aload_n 1, 1) := dk_43 (dk_at dksX5_copy_1 14 rfl rfl)
theorem dX5_copy_39 : decode cX5_copy 39 = .ok (.getfield 19, 3) := dk_180 0 19 (dk_at dksX5_copy_1 15 rfl rfl)
theorem dX5_copy_42 : decode cX5_copy 42 = .ok (.iconst 0, 1) := dk_3 (dk_at dksX5_copy_1 18 rfl rfl)
theorem dX5_copy_43 : decode cX5_copy 43 = .ok (.aload_n 0, 1) := dk_42 (dk_at dksX5_copy_1 19 rfl rfl)
theorem dX5_copy_44 : decode cX5_copy 44 = .ok (.getfield 19, 3) := dk_180 0 19 (dk_at dksX5_copy_1 20 rfl rfl)
theorem dX5_copy_47 : decode cX5_copy 47 = .ok (.iconst 0, 1) := dk_3 (dk_at dksX5_copy_1 23 rfl rfl)
theorem dX5_copy_48 : decode cX5_copy 48 = .ok (.iconst 4, 1) := dk_7 (dk_at dksX5_copy_2 0 rfl rfl)
theorem dX5_copy_49 : decode cX5_copy 49 = .ok (.invokestatic 71, 3) := dk_184 0 71 (dk_at dksX5_copy_2 1 rfl rfl)
theorem dX5_copy_52 : decode cX5_copy 52 = .ok (.aload_n 1, 1) := dk_43 (dk_at dksX5_copy_2 4 rfl rfl)
theorem dX5_copy_53 : decode cX5_copy 53 = .ok (.getfield 22, 3) := dk_180 0 22 (dk_at dksX5_copy_2 5 rfl rfl)
theorem dX5_copy_56 : decode cX5_copy 56 = .ok (.iconst 0, 1) := dk_3 (dk_at dksX5_copy_2 8 rfl rfl)
theorem dX5_copy_57 : decode cX5_copy 57 = .ok (.aload_n 0, 1) := dk_42 (dk_at dksX5_copy_2 9 rfl rfl)
theorem dX5_copy_58 : decode cX5_copy 58 = .ok (.getfield 22, 3) := dk_180 0 22 (dk_at dksX5_copy_2 10 rfl rfl)
theorem dX5_copy_61 : decode cX5_copy 61 = .ok (.iconst 0, 1) := dk_3 (dk_at dksX5_copy_2 13 rfl rfl)
theorem dX5_copy_62 : decode cX5_copy 62 = .ok (.iconst 4, 1) := dk_7 (dk_at dksX5_copy_2 14 rfl rfl)
theorem dX5_copy_63 : decode cX5_copy 63 = .ok (.invokestatic 71, 3) := dk_184 0 71 (dk_at dksX5_copy_2 15 rfl rfl)
theorem dX5_copy_66 : decode cX5_copy 66 = .ok (.aload_n 1, 1) := dk_43 (dk_at dksX5_copy_2 18 rfl rfl)
theorem dX5_copy_67 : decode cX5_copy 67 = .ok (.getfield 29, 3) := dk_180 0 29 (dk_at dksX5_copy_2 19 rfl rfl)
theorem dX5_copy_70 : decode cX5_copy 70 = .ok (.iconst 0, 1) := dk_3 (dk_at dksX5_copy_2 22 rfl rfl)
theorem dX5_copy_71 : decode cX5_copy 71 = .ok (.aload_n 0, 1) := dk_42 (dk_at dksX5_copy_2 23 rfl rfl)
theorem dX5_copy_72 : decode cX5_copy 72 = .ok (.getfield 29, 3) := dk_180 0 29 (dk_at dksX5_copy_3 0 rfl rfl)
theorem dX5_copy_75 : decode cX5_copy 75 = .ok (.iconst 0, 1) := dk_3 (dk_at dksX5_copy_3 3 rfl rfl)
theorem dX5_copy_76 : decode cX5_copy 76 = .ok (.bipush 28, 2) := dk_16 28 (dk_at dksX5_copy_3 4 rfl rfl)
theorem dX5_copy_78 : decode cX5_copy 78 = .ok (.invokestatic 71, 3) := dk_184 0 71 (dk_at dksX5_copy_3 6 rfl rfl)
theorem dX5_copy_81 : decode cX5_copy 81 = .ok (.aload_n 1, 1) := dk_43 (dk_at dksX5_copy_3 9 rfl rfl)
theorem dX5_copy_82 : decode cX5_copy 82 = .ok (.getfield 32, 3) := dk_180 0 32 (dk_at dksX5_copy_3 10 rfl rfl)
theorem dX5_copy_85 : decode cX5_copy 85 = .ok (.iconst 0, 1) := dk_3 (dk_at dksX5_copy_3 13 rfl rfl)
theorem dX5_copy_86 : decode cX5_copy 86 = .ok (.aload_n 0, 1) := dk_42 (dk_at dksX5_copy_3 14 rfl rfl)
theorem dX5_copy_87 : decode cX5_copy 87 = .ok (.getfield 32, 3) := dk_180 0 32 (dk_at dksX5_copy_3 15 rfl rfl)
theorem dX5_copy_90 : decode cX5_copy 90 = .ok (.iconst 0, 1) := dk_3 (dk_at dksX5_copy_3 18 rfl rfl)
theorem dX5_copy_91 : decode cX5_copy 91 = .ok (.bipush 28, 2) := dk_16 28 (dk_at dksX5_copy_3 19 rfl rfl)
theorem dX5_copy_93 : decode cX5_copy 93 = .ok (.invokestatic 71, 3) := dk_184 0 71 (dk_at dksX5_copy_3 21 rfl rfl)
theorem dX5_copy_96 : decode cX5_copy 96 = .ok (.aload_n 1, 1) := dk_43 (dk_at dksX5_copy_4 0 rfl rfl)
theorem dX5_copy_97 : decode cX5_copy 97 = .ok (.getfield 35, 3) := dk_180 0 35 (dk_at dksX5_copy_4 1 rfl rfl)
theorem dX5_copy_100 : decode cX5_copy 100 = .ok (.iconst 0, 1) := dk_3 (dk_at dksX5_copy_4 4 rfl rfl)
theorem dX5_copy_101 : decode cX5_copy 101 = .ok (.aload_n 0, 1) := dk_42 (dk_at dksX5_copy_4 5 rfl rfl)
theorem dX5_copy_102 : decode cX5_copy 102 = .ok (.getfield 35, 3) := dk_180 0 35 (dk_at dksX5_copy_4 6 rfl rfl)
theorem dX5_copy_105 : decode cX5_copy 105 = .ok (.iconst 0, 1) := dk_3 (dk_at dksX5_copy_4 9 rfl rfl)
theorem dX5_copy_106 : decode cX5_copy 106 = .ok (.bipush 28, 2) := dk_16 28 (dk_at dksX5_copy_4 10 rfl rfl)
theorem dX5_copy_108 : decode cX5_copy 108 = .ok (.invokestatic 71, 3) := dk_184 0 71 (dk_at dksX5_copy_4 12 rfl rfl)
theorem dX5_copy_111 : decode cX5_copy 111 = .ok (.aload_n 1, 1) := dk_43 (dk_at dksX5_copy_4 15 rfl rfl)
theorem dX5_copy_112 : decode cX5_copy 112 = .ok (.getfield 50, 3) := dk_180 0 50 (dk_at dksX5_copy_4 16 rfl rfl)
theorem dX5_copy_115 : decode cX5_copy 115 = .ok (.iconst 0, 1) := dk_3 (dk_at dksX5_copy_4 19 rfl rfl)
theorem dX5_copy_116 : decode cX5_copy 116 = .ok (.aload_n 0, 1) := dk_42 (dk_at dksX5_copy_4 20 rfl rfl)
theorem dX5_copy_117 : decode cX5_copy 117 = .ok (.getfield 50, 3) := dk_180 0 50 (dk_at dksX5_copy_4 21 rfl rfl)
theorem dX5_copy_120 : decode cX5_copy 120 = .ok (.iconst 0, 1) := dk_3 (dk_at dksX5_copy_5 0 rfl rfl)
theorem dX5_copy_121 : decode cX5_copy 121 = .ok (.bipush 16, 2) := dk_16 16 (dk_at dksX5_copy_5 1 rfl rfl)
theorem dX5_copy_123 : decode cX5_copy 123 = .ok (.invokestatic 71, 3) := dk_184 0 71 (dk_at dksX5_copy_5 3 rfl rfl)
theorem dX5_copy_126 : decode cX5_copy 126 = .ok (.aload_n 1, 1) := dk_43 (dk_at dksX5_copy_5 6 rfl rfl)
theorem dX5_copy_127 : decode cX5_copy 127 = .ok (.getfield 53, 3) := dk_180 0 53 (dk_at dksX5_copy_5 7 rfl rfl)
theorem dX5_copy_130 : decode cX5_copy 130 = .ok (.iconst 0, 1) := dk_3 (dk_at dksX5_copy_5 10 rfl rfl)
theorem dX5_copy_131 : decode cX5_copy 131 = .ok (.aload_n 0, 1) := dk_42 (dk_at dksX5_copy_5 11 rfl rfl)
theorem dX5_copy_132 : decode cX5_copy 132 = .ok (.getfield 53, 3) := dk_180 0 53 (dk_at dksX5_copy_5 12 rfl rfl)
theorem dX5_copy_135 : decode cX5_copy 135 = .ok (.iconst 0, 1) := dk_3 (dk_at dksX5_copy_5 15 rfl rfl)
theorem dX5_copy_136 : decode cX5_copy 136 = .ok (.sipush 900, 3) := dk_17 3 132 (dk_at dksX5_copy_5 16 rfl rfl)
theorem dX5_copy_139 : decode cX5_copy 139 = .ok (.invokestatic 71, 3) := dk_184 0 71 (dk_at dksX5_copy_5 19 rfl rfl)
theorem dX5_copy_142 : decode cX5_copy 142 = .ok (.return_, 1) := dk_177 (dk_at dksX5_copy_5 22 rfl rfl)
theorem q168 : (Jvm.Cond.initialized "MinistryDesks$Run") ∈ lw_all := lw_g (lw_at lw_m1 8 rfl) rfl
theorem q245 : (Jvm.Cond.fieldLinkNest "MinistryDesks$Run" (81 : Nat) "MinistryDesks$House" "desks" "Ljava/util/ArrayList;" "MinistryDesks") ∈ lw_tbl := lw_at lw_m1 85 rfl
theorem q252 : (Jvm.Cond.fieldLinkNest "MinistryDesks$Run" (196 : Nat) "MinistryDesks$House" "comings" "Ljava/util/ArrayList;" "MinistryDesks") ∈ lw_tbl := lw_at lw_m1 92 rfl
theorem q256 : (Jvm.Cond.fieldLinkNest "MinistryDesks$Run" (123 : Nat) "MinistryDesks$House" "questions" "Ljava/util/ArrayList;" "MinistryDesks") ∈ lw_tbl := lw_at lw_m1 96 rfl
theorem q261 : (Jvm.Cond.fieldLinkNest "MinistryDesks$Run" (223 : Nat) "MinistryDesks$House" "fires" "Ljava/util/ArrayList;" "MinistryDesks") ∈ lw_tbl := lw_at lw_m1 101 rfl
theorem q268 : (Jvm.Cond.fieldLinkNest "MinistryDesks$Run" (212 : Nat) "MinistryDesks$House" "want" "LMinistryDesks$Node;" "MinistryDesks") ∈ lw_tbl := lw_at lw_m1 108 rfl
theorem q272 : (Jvm.Cond.fieldLinkNest "MinistryDesks$Run" (237 : Nat) "MinistryDesks$House" "patience" "I" "MinistryDesks") ∈ lw_tbl := lw_at lw_m1 112 rfl
theorem q328 : (Jvm.Cond.fieldLinkNest "MinistryDesks$Run" (161 : Nat) "MinistryDesks$Change" "keep" "LMinistryDesks$Node;" "MinistryDesks") ∈ lw_tbl := lw_at lw_m1 168 rfl
theorem q330 : (Jvm.Cond.fieldLinkNest "MinistryDesks$Run" (103 : Nat) "MinistryDesks$Change" "nobodyAsks" "Z" "MinistryDesks") ∈ lw_tbl := lw_at lw_m1 170 rfl
theorem q333 : (Jvm.Cond.fieldLinkNest "MinistryDesks$Run" (230 : Nat) "MinistryDesks$Change" "noFires" "Z" "MinistryDesks") ∈ lw_tbl := lw_at lw_m1 173 rfl
theorem q336 : (Jvm.Cond.fieldLinkNest "MinistryDesks$Run" (98 : Nat) "MinistryDesks$Change" "more" "Z" "MinistryDesks") ∈ lw_tbl := lw_at lw_m1 176 rfl
theorem q339 : (Jvm.Cond.fieldLinkNest "MinistryDesks$Run" (169 : Nat) "MinistryDesks$Change" "firstGoes" "Z" "MinistryDesks") ∈ lw_tbl := lw_at lw_m1 179 rfl
theorem q342 : (Jvm.Cond.fieldLinkNest "MinistryDesks$Run" (106 : Nat) "MinistryDesks$Change" "silent" "I" "MinistryDesks") ∈ lw_tbl := lw_at lw_m1 182 rfl
theorem q345 : (Jvm.Cond.fieldLinkNest "MinistryDesks$Run" (202 : Nat) "MinistryDesks$Change" "without" "I" "MinistryDesks") ∈ lw_tbl := lw_at lw_m1 185 rfl
theorem q363 : (Jvm.Cond.instantiable "MinistryDesks$Run" (18 : Nat)) ∈ lw_all := lw_g (lw_at lw_m1 203 rfl) rfl
theorem q365 : (Jvm.Cond.instanceMethod ({ cls := "MinistryDesks$Run", name := "<init>", desc := "(LMinistryDesks;)V" } : Jvm.MethodName)) ∈ lw_all := lw_g (lw_at lw_m1 205 rfl) rfl
theorem q366 : (Jvm.Cond.code ({ cls := "MinistryDesks$Run", name := "<init>", desc := "(LMinistryDesks;)V" } : Jvm.MethodName) prog_18_method_1_code (2 : Nat) (Option.none : Option Jvm.ClassFile.FieldType)) ∈ lw_all := lw_g (lw_at lw_m1 206 rfl) rfl
theorem q367 : (Jvm.Cond.methodLink "MinistryDesks$Run" (9 : Nat) ({ cls := "java/lang/Object", name := "<init>", desc := "()V" } : Jvm.MethodName)) ∈ lw_all := lw_g (lw_at lw_m1 207 rfl) rfl
theorem q368 : (Jvm.Cond.fieldLink "MinistryDesks$Run" (56 : Nat) "MinistryDesks$Run" "change" "LMinistryDesks$Change;") ∈ lw_all := lw_g (lw_at lw_m1 208 rfl) rfl
theorem q369 : (Jvm.Cond.fieldLink "MinistryDesks$Run" (60 : Nat) "MinistryDesks$Run" "day" "I") ∈ lw_all := lw_g (lw_at lw_m1 209 rfl) rfl
theorem q371 : (Jvm.Cond.fieldLink "MinistryDesks$Run" (15 : Nat) "MinistryDesks$Run" "many" "[I") ∈ lw_all := lw_g (lw_at lw_m1 211 rfl) rfl
theorem q373 : (Jvm.Cond.fieldLink "MinistryDesks$Run" (19 : Nat) "MinistryDesks$Run" "loss" "[I") ∈ lw_all := lw_g (lw_at lw_m1 213 rfl) rfl
theorem q375 : (Jvm.Cond.fieldLink "MinistryDesks$Run" (22 : Nat) "MinistryDesks$Run" "fell" "[I") ∈ lw_all := lw_g (lw_at lw_m1 215 rfl) rfl
theorem q377 : (Jvm.Cond.fieldLink "MinistryDesks$Run" (25 : Nat) "MinistryDesks$Run" "letGo" "[Z") ∈ lw_all := lw_g (lw_at lw_m1 217 rfl) rfl
theorem q378 : (Jvm.Cond.fieldLink "MinistryDesks$Run" (29 : Nat) "MinistryDesks$Run" "fact" "[I") ∈ lw_all := lw_g (lw_at lw_m1 218 rfl) rfl
theorem q380 : (Jvm.Cond.fieldLink "MinistryDesks$Run" (32 : Nat) "MinistryDesks$Run" "till" "[I") ∈ lw_all := lw_g (lw_at lw_m1 220 rfl) rfl
theorem q382 : (Jvm.Cond.fieldLink "MinistryDesks$Run" (35 : Nat) "MinistryDesks$Run" "since" "[I") ∈ lw_all := lw_g (lw_at lw_m1 222 rfl) rfl
theorem q384 : (Jvm.Cond.fieldLink "MinistryDesks$Run" (38 : Nat) "MinistryDesks$Run" "thenHeld" "[I") ∈ lw_all := lw_g (lw_at lw_m1 224 rfl) rfl
theorem q385 : (Jvm.Cond.fieldLink "MinistryDesks$Run" (41 : Nat) "MinistryDesks$Run" "thenMany" "[I") ∈ lw_all := lw_g (lw_at lw_m1 225 rfl) rfl
theorem q386 : (Jvm.Cond.fieldLink "MinistryDesks$Run" (44 : Nat) "MinistryDesks$Run" "thenFact" "[I") ∈ lw_all := lw_g (lw_at lw_m1 226 rfl) rfl
theorem q387 : (Jvm.Cond.fieldLink "MinistryDesks$Run" (47 : Nat) "MinistryDesks$Run" "thenTill" "[I") ∈ lw_all := lw_g (lw_at lw_m1 227 rfl) rfl
theorem q388 : (Jvm.Cond.fieldLink "MinistryDesks$Run" (67 : Nat) "MinistryDesks$Run" "noon" "Z") ∈ lw_all := lw_g (lw_at lw_m1 228 rfl) rfl
theorem q389 : (Jvm.Cond.fieldLink "MinistryDesks$Run" (50 : Nat) "MinistryDesks$Run" "answer" "[I") ∈ lw_all := lw_g (lw_at lw_m1 229 rfl) rfl
theorem q391 : (Jvm.Cond.fieldLink "MinistryDesks$Run" (53 : Nat) "MinistryDesks$Run" "gone" "[I") ∈ lw_all := lw_g (lw_at lw_m1 231 rfl) rfl
theorem q393 : (Jvm.Cond.fieldLink "MinistryDesks$Run" (64 : Nat) "MinistryDesks$Run" "went" "I") ∈ lw_all := lw_g (lw_at lw_m1 233 rfl) rfl
theorem q395 : (Jvm.Cond.fieldLink "MinistryDesks$Run" (3 : Nat) "MinistryDesks$Run" "this$0" "LMinistryDesks;") ∈ lw_all := lw_g (lw_at lw_m1 235 rfl) rfl
theorem q396 : (Jvm.Cond.lays "MinistryDesks$Run" "MinistryDesks$Run" "change" "LMinistryDesks$Change;") ∈ lw_all := lw_g (lw_at lw_m1 236 rfl) rfl
theorem q397 : (Jvm.Cond.soleField "MinistryDesks$Run" "change") ∈ lw_all := lw_g (lw_at lw_m1 237 rfl) rfl
theorem q398 : (Jvm.Cond.lays "MinistryDesks$Run" "MinistryDesks$Run" "day" "I") ∈ lw_all := lw_g (lw_at lw_m1 238 rfl) rfl
theorem q399 : (Jvm.Cond.soleField "MinistryDesks$Run" "day") ∈ lw_all := lw_g (lw_at lw_m1 239 rfl) rfl
theorem q400 : (Jvm.Cond.laysFinal "MinistryDesks$Run" "MinistryDesks$Run" "many" "[I") ∈ lw_all := lw_g (lw_at lw_m2 0 rfl) rfl
theorem q401 : (Jvm.Cond.soleField "MinistryDesks$Run" "many") ∈ lw_all := lw_g (lw_at lw_m2 1 rfl) rfl
theorem q402 : (Jvm.Cond.laysFinal "MinistryDesks$Run" "MinistryDesks$Run" "loss" "[I") ∈ lw_all := lw_g (lw_at lw_m2 2 rfl) rfl
theorem q403 : (Jvm.Cond.soleField "MinistryDesks$Run" "loss") ∈ lw_all := lw_g (lw_at lw_m2 3 rfl) rfl
theorem q404 : (Jvm.Cond.laysFinal "MinistryDesks$Run" "MinistryDesks$Run" "fell" "[I") ∈ lw_all := lw_g (lw_at lw_m2 4 rfl) rfl
theorem q405 : (Jvm.Cond.soleField "MinistryDesks$Run" "fell") ∈ lw_all := lw_g (lw_at lw_m2 5 rfl) rfl
theorem q406 : (Jvm.Cond.laysFinal "MinistryDesks$Run" "MinistryDesks$Run" "letGo" "[Z") ∈ lw_all := lw_g (lw_at lw_m2 6 rfl) rfl
theorem q407 : (Jvm.Cond.soleField "MinistryDesks$Run" "letGo") ∈ lw_all := lw_g (lw_at lw_m2 7 rfl) rfl
theorem q408 : (Jvm.Cond.laysFinal "MinistryDesks$Run" "MinistryDesks$Run" "fact" "[I") ∈ lw_all := lw_g (lw_at lw_m2 8 rfl) rfl
theorem q409 : (Jvm.Cond.soleField "MinistryDesks$Run" "fact") ∈ lw_all := lw_g (lw_at lw_m2 9 rfl) rfl
theorem q410 : (Jvm.Cond.laysFinal "MinistryDesks$Run" "MinistryDesks$Run" "till" "[I") ∈ lw_all := lw_g (lw_at lw_m2 10 rfl) rfl
theorem q411 : (Jvm.Cond.soleField "MinistryDesks$Run" "till") ∈ lw_all := lw_g (lw_at lw_m2 11 rfl) rfl
theorem q412 : (Jvm.Cond.laysFinal "MinistryDesks$Run" "MinistryDesks$Run" "since" "[I") ∈ lw_all := lw_g (lw_at lw_m2 12 rfl) rfl
theorem q413 : (Jvm.Cond.soleField "MinistryDesks$Run" "since") ∈ lw_all := lw_g (lw_at lw_m2 13 rfl) rfl
theorem q414 : (Jvm.Cond.laysFinal "MinistryDesks$Run" "MinistryDesks$Run" "thenHeld" "[I") ∈ lw_all := lw_g (lw_at lw_m2 14 rfl) rfl
theorem q415 : (Jvm.Cond.soleField "MinistryDesks$Run" "thenHeld") ∈ lw_all := lw_g (lw_at lw_m2 15 rfl) rfl
theorem q416 : (Jvm.Cond.laysFinal "MinistryDesks$Run" "MinistryDesks$Run" "thenMany" "[I") ∈ lw_all := lw_g (lw_at lw_m2 16 rfl) rfl
theorem q417 : (Jvm.Cond.soleField "MinistryDesks$Run" "thenMany") ∈ lw_all := lw_g (lw_at lw_m2 17 rfl) rfl
theorem q418 : (Jvm.Cond.laysFinal "MinistryDesks$Run" "MinistryDesks$Run" "thenFact" "[I") ∈ lw_all := lw_g (lw_at lw_m2 18 rfl) rfl
theorem q419 : (Jvm.Cond.soleField "MinistryDesks$Run" "thenFact") ∈ lw_all := lw_g (lw_at lw_m2 19 rfl) rfl
theorem q420 : (Jvm.Cond.laysFinal "MinistryDesks$Run" "MinistryDesks$Run" "thenTill" "[I") ∈ lw_all := lw_g (lw_at lw_m2 20 rfl) rfl
theorem q421 : (Jvm.Cond.soleField "MinistryDesks$Run" "thenTill") ∈ lw_all := lw_g (lw_at lw_m2 21 rfl) rfl
theorem q422 : (Jvm.Cond.lays "MinistryDesks$Run" "MinistryDesks$Run" "noon" "Z") ∈ lw_all := lw_g (lw_at lw_m2 22 rfl) rfl
theorem q423 : (Jvm.Cond.soleField "MinistryDesks$Run" "noon") ∈ lw_all := lw_g (lw_at lw_m2 23 rfl) rfl
theorem q424 : (Jvm.Cond.laysFinal "MinistryDesks$Run" "MinistryDesks$Run" "answer" "[I") ∈ lw_all := lw_g (lw_at lw_m2 24 rfl) rfl
theorem q425 : (Jvm.Cond.soleField "MinistryDesks$Run" "answer") ∈ lw_all := lw_g (lw_at lw_m2 25 rfl) rfl
theorem q426 : (Jvm.Cond.laysFinal "MinistryDesks$Run" "MinistryDesks$Run" "gone" "[I") ∈ lw_all := lw_g (lw_at lw_m2 26 rfl) rfl
theorem q427 : (Jvm.Cond.soleField "MinistryDesks$Run" "gone") ∈ lw_all := lw_g (lw_at lw_m2 27 rfl) rfl
theorem q428 : (Jvm.Cond.lays "MinistryDesks$Run" "MinistryDesks$Run" "went" "I") ∈ lw_all := lw_g (lw_at lw_m2 28 rfl) rfl
theorem q429 : (Jvm.Cond.soleField "MinistryDesks$Run" "went") ∈ lw_all := lw_g (lw_at lw_m2 29 rfl) rfl
theorem q430 : (Jvm.Cond.laysFinal "MinistryDesks$Run" "MinistryDesks$Run" "this$0" "LMinistryDesks;") ∈ lw_all := lw_g (lw_at lw_m2 30 rfl) rfl
theorem q431 : (Jvm.Cond.soleField "MinistryDesks$Run" "this$0") ∈ lw_all := lw_g (lw_at lw_m2 31 rfl) rfl
theorem q432 : (Jvm.Cond.superclass "MinistryDesks$Run" "java/lang/Object") ∈ lw_all := lw_g (lw_at lw_m2 32 rfl) rfl
theorem q436 : (Jvm.Cond.instanceMethod ({ cls := "MinistryDesks$Run", name := "begin", desc := "(LMinistryDesks$Change;)V" } : Jvm.MethodName)) ∈ lw_all := lw_g (lw_at lw_m2 36 rfl) rfl
theorem q437 : (Jvm.Cond.selects "MinistryDesks$Run" ({ cls := "MinistryDesks$Run", name := "begin", desc := "(LMinistryDesks$Change;)V" } : Jvm.MethodName) ({ cls := "MinistryDesks$Run", name := "begin", desc := "(LMinistryDesks$Change;)V" } : Jvm.MethodName)) ∈ lw_all := lw_g (lw_at lw_m2 37 rfl) rfl
theorem q438 : (Jvm.Cond.code ({ cls := "MinistryDesks$Run", name := "begin", desc := "(LMinistryDesks$Change;)V" } : Jvm.MethodName) prog_18_method_2_code (3 : Nat) (Option.none : Option Jvm.ClassFile.FieldType)) ∈ lw_all := lw_g (lw_at lw_m2 38 rfl) rfl
theorem q445 : (Jvm.Cond.fieldLinkNest "MinistryDesks$Run" (77 : Nat) "MinistryDesks" "house" "LMinistryDesks$House;" "MinistryDesks") ∈ lw_tbl := lw_at lw_m2 45 rfl
theorem q447 : (Jvm.Cond.fieldLinkNest "MinistryDesks$Run" (137 : Nat) "MinistryDesks" "scene" "LMinistryDesks$Scene;" "MinistryDesks") ∈ lw_tbl := lw_at lw_m2 47 rfl
theorem q853 : (Jvm.Cond.fieldLinkNest "MinistryDesks$Run" (95 : Nat) "MinistryDesks$Desk" "lines" "I" "MinistryDesks") ∈ lw_tbl := lw_at lw_m3 213 rfl
theorem q856 : (Jvm.Cond.fieldLinkNest "MinistryDesks$Run" (109 : Nat) "MinistryDesks$Desk" "asks" "I" "MinistryDesks") ∈ lw_tbl := lw_at lw_m3 216 rfl
theorem q912 : (Jvm.Cond.selects "MinistryDesks$Run" ({ cls := "java/lang/Object", name := "getClass", desc := "()Ljava/lang/Class;" } : Jvm.MethodName) ({ cls := "java/lang/Object", name := "getClass", desc := "()Ljava/lang/Class;" } : Jvm.MethodName)) ∈ lw_all := lw_g (lw_at lw_m4 32 rfl) rfl
theorem q968 : (Jvm.Cond.fieldLinkNest "MinistryDesks$Run" (201 : Nat) "MinistryDesks$Coming" "day" "I" "MinistryDesks") ∈ lw_tbl := lw_at lw_m4 88 rfl
theorem q971 : (Jvm.Cond.fieldLinkNest "MinistryDesks$Run" (205 : Nat) "MinistryDesks$Coming" "desk" "I" "MinistryDesks") ∈ lw_tbl := lw_at lw_m4 91 rfl
theorem q974 : (Jvm.Cond.fieldLinkNest "MinistryDesks$Run" (206 : Nat) "MinistryDesks$Coming" "fact" "I" "MinistryDesks") ∈ lw_tbl := lw_at lw_m4 94 rfl
theorem q977 : (Jvm.Cond.fieldLinkNest "MinistryDesks$Run" (207 : Nat) "MinistryDesks$Coming" "till" "I" "MinistryDesks") ∈ lw_tbl := lw_at lw_m4 97 rfl
theorem q995 : (Jvm.Cond.fieldLinkNest "MinistryDesks$Run" (131 : Nat) "MinistryDesks$Question" "day" "I" "MinistryDesks") ∈ lw_tbl := lw_at lw_m4 115 rfl
theorem q998 : (Jvm.Cond.fieldLinkNest "MinistryDesks$Run" (132 : Nat) "MinistryDesks$Question" "desk" "I" "MinistryDesks") ∈ lw_tbl := lw_at lw_m4 118 rfl
theorem q1001 : (Jvm.Cond.fieldLinkNest "MinistryDesks$Run" (135 : Nat) "MinistryDesks$Question" "fact" "I" "MinistryDesks") ∈ lw_tbl := lw_at lw_m4 121 rfl
theorem q1021 : (Jvm.Cond.fieldLinkNest "MinistryDesks$Run" (228 : Nat) "MinistryDesks$Fire" "day" "I" "MinistryDesks") ∈ lw_tbl := lw_at lw_m4 141 rfl
theorem q1023 : (Jvm.Cond.fieldLinkNest "MinistryDesks$Run" (229 : Nat) "MinistryDesks$Fire" "desk" "I" "MinistryDesks") ∈ lw_tbl := lw_at lw_m4 143 rfl
theorem q1260 : (Jvm.Cond.instanceMethod ({ cls := "MinistryDesks$Run", name := "to", desc := "(I)LMinistryDesks$Run;" } : Jvm.MethodName)) ∈ lw_all := lw_g (lw_at lw_m5 140 rfl) rfl
theorem q1261 : (Jvm.Cond.selects "MinistryDesks$Run" ({ cls := "MinistryDesks$Run", name := "to", desc := "(I)LMinistryDesks$Run;" } : Jvm.MethodName) ({ cls := "MinistryDesks$Run", name := "to", desc := "(I)LMinistryDesks$Run;" } : Jvm.MethodName)) ∈ lw_all := lw_g (lw_at lw_m5 141 rfl) rfl
theorem q1262 : (Jvm.Cond.code ({ cls := "MinistryDesks$Run", name := "to", desc := "(I)LMinistryDesks$Run;" } : Jvm.MethodName) prog_18_method_25_code (2 : Nat) (Option.some (Jvm.ClassFile.FieldType.object "MinistryDesks$Run"))) ∈ lw_all := lw_g (lw_at lw_m5 142 rfl) rfl
theorem q1263 : (Jvm.Cond.methodLink "MinistryDesks$Run" (240 : Nat) ({ cls := "MinistryDesks$Run", name := "dawn", desc := "()V" } : Jvm.MethodName)) ∈ lw_all := lw_g (lw_at lw_m5 143 rfl) rfl
theorem q1264 : (Jvm.Cond.privateMethod ({ cls := "MinistryDesks$Run", name := "dawn", desc := "()V" } : Jvm.MethodName)) ∈ lw_tbl := lw_at lw_m5 144 rfl
theorem q1265 : (Jvm.Cond.instanceMethod ({ cls := "MinistryDesks$Run", name := "dawn", desc := "()V" } : Jvm.MethodName)) ∈ lw_all := lw_g (lw_at lw_m5 145 rfl) rfl
theorem q1266 : (Jvm.Cond.code ({ cls := "MinistryDesks$Run", name := "dawn", desc := "()V" } : Jvm.MethodName) prog_18_method_17_code (3 : Nat) (Option.none : Option Jvm.ClassFile.FieldType)) ∈ lw_all := lw_g (lw_at lw_m5 146 rfl) rfl
theorem q1267 : (Jvm.Cond.methodLinkNest "MinistryDesks$Run" (112 : Nat) ({ cls := "MinistryDesks", name := "desks", desc := "()I" } : Jvm.MethodName) "MinistryDesks") ∈ lw_tbl := lw_at lw_m5 147 rfl
theorem q1268 : (Jvm.Cond.methodLink "MinistryDesks$Run" (189 : Nat) ({ cls := "MinistryDesks$Run", name := "goes", desc := "(III)V" } : Jvm.MethodName)) ∈ lw_all := lw_g (lw_at lw_m5 148 rfl) rfl
theorem q1269 : (Jvm.Cond.privateMethod ({ cls := "MinistryDesks$Run", name := "goes", desc := "(III)V" } : Jvm.MethodName)) ∈ lw_tbl := lw_at lw_m5 149 rfl
theorem q1270 : (Jvm.Cond.instanceMethod ({ cls := "MinistryDesks$Run", name := "goes", desc := "(III)V" } : Jvm.MethodName)) ∈ lw_all := lw_g (lw_at lw_m5 150 rfl) rfl
theorem q1271 : (Jvm.Cond.code ({ cls := "MinistryDesks$Run", name := "goes", desc := "(III)V" } : Jvm.MethodName) prog_18_method_6_code (4 : Nat) (Option.none : Option Jvm.ClassFile.FieldType)) ∈ lw_all := lw_g (lw_at lw_m5 151 rfl) rfl
theorem q1272 : (Jvm.Cond.methodLink "MinistryDesks$Run" (192 : Nat) ({ cls := "MinistryDesks$Run", name := "strike", desc := "(II)V" } : Jvm.MethodName)) ∈ lw_all := lw_g (lw_at lw_m5 152 rfl) rfl
theorem q1273 : (Jvm.Cond.privateMethod ({ cls := "MinistryDesks$Run", name := "strike", desc := "(II)V" } : Jvm.MethodName)) ∈ lw_tbl := lw_at lw_m5 153 rfl
theorem q1274 : (Jvm.Cond.instanceMethod ({ cls := "MinistryDesks$Run", name := "strike", desc := "(II)V" } : Jvm.MethodName)) ∈ lw_all := lw_g (lw_at lw_m5 154 rfl) rfl
theorem q1275 : (Jvm.Cond.code ({ cls := "MinistryDesks$Run", name := "strike", desc := "(II)V" } : Jvm.MethodName) prog_18_method_14_code (4 : Nat) (Option.none : Option Jvm.ClassFile.FieldType)) ∈ lw_all := lw_g (lw_at lw_m5 155 rfl) rfl
theorem q1276 : (Jvm.Cond.methodLink "MinistryDesks$Run" (243 : Nat) ({ cls := "MinistryDesks$Run", name := "morning", desc := "()V" } : Jvm.MethodName)) ∈ lw_all := lw_g (lw_at lw_m5 156 rfl) rfl
theorem q1277 : (Jvm.Cond.privateMethod ({ cls := "MinistryDesks$Run", name := "morning", desc := "()V" } : Jvm.MethodName)) ∈ lw_tbl := lw_at lw_m5 157 rfl
theorem q1278 : (Jvm.Cond.instanceMethod ({ cls := "MinistryDesks$Run", name := "morning", desc := "()V" } : Jvm.MethodName)) ∈ lw_all := lw_g (lw_at lw_m5 158 rfl) rfl
theorem q1279 : (Jvm.Cond.code ({ cls := "MinistryDesks$Run", name := "morning", desc := "()V" } : Jvm.MethodName) prog_18_method_18_code (3 : Nat) (Option.none : Option Jvm.ClassFile.FieldType)) ∈ lw_all := lw_g (lw_at lw_m5 159 rfl) rfl
theorem q1280 : (Jvm.Cond.methodLink "MinistryDesks$Run" (126 : Nat) ({ cls := "java/util/ArrayList", name := "size", desc := "()I" } : Jvm.MethodName)) ∈ lw_all := lw_g (lw_at lw_m5 160 rfl) rfl
theorem q1281 : (Jvm.Cond.methodLink "MinistryDesks$Run" (87 : Nat) ({ cls := "java/util/ArrayList", name := "get", desc := "(I)Ljava/lang/Object;" } : Jvm.MethodName)) ∈ lw_all := lw_g (lw_at lw_m5 161 rfl) rfl
theorem q1282 : (Jvm.Cond.classLink "MinistryDesks$Run" (199 : Nat) "MinistryDesks$Coming") ∈ lw_all := lw_g (lw_at lw_m5 162 rfl) rfl
theorem q1283 : (Jvm.Cond.methodLink "MinistryDesks$Run" (209 : Nat) ({ cls := "MinistryDesks$Run", name := "comes", desc := "(III)V" } : Jvm.MethodName)) ∈ lw_all := lw_g (lw_at lw_m5 163 rfl) rfl
theorem q1284 : (Jvm.Cond.privateMethod ({ cls := "MinistryDesks$Run", name := "comes", desc := "(III)V" } : Jvm.MethodName)) ∈ lw_tbl := lw_at lw_m5 164 rfl
theorem q1285 : (Jvm.Cond.instanceMethod ({ cls := "MinistryDesks$Run", name := "comes", desc := "(III)V" } : Jvm.MethodName)) ∈ lw_all := lw_g (lw_at lw_m5 165 rfl) rfl
theorem q1286 : (Jvm.Cond.code ({ cls := "MinistryDesks$Run", name := "comes", desc := "(III)V" } : Jvm.MethodName) prog_18_method_16_code (6 : Nat) (Option.none : Option Jvm.ClassFile.FieldType)) ∈ lw_all := lw_g (lw_at lw_m5 166 rfl) rfl
theorem q1287 : (Jvm.Cond.methodLink "MinistryDesks$Run" (176 : Nat) ({ cls := "MinistryDesks$Run", name := "lineOf", desc := "(II)I" } : Jvm.MethodName)) ∈ lw_all := lw_g (lw_at lw_m5 167 rfl) rfl
theorem q1288 : (Jvm.Cond.instanceMethod ({ cls := "MinistryDesks$Run", name := "lineOf", desc := "(II)I" } : Jvm.MethodName)) ∈ lw_all := lw_g (lw_at lw_m5 168 rfl) rfl
theorem q1289 : (Jvm.Cond.selects "MinistryDesks$Run" ({ cls := "MinistryDesks$Run", name := "lineOf", desc := "(II)I" } : Jvm.MethodName) ({ cls := "MinistryDesks$Run", name := "lineOf", desc := "(II)I" } : Jvm.MethodName)) ∈ lw_all := lw_g (lw_at lw_m5 169 rfl) rfl
theorem q1290 : (Jvm.Cond.code ({ cls := "MinistryDesks$Run", name := "lineOf", desc := "(II)I" } : Jvm.MethodName) prog_18_method_7_code (4 : Nat) (Option.some Jvm.ClassFile.FieldType.int)) ∈ lw_all := lw_g (lw_at lw_m5 170 rfl) rfl
theorem q1291 : (Jvm.Cond.methodLink "MinistryDesks$Run" (179 : Nat) ({ cls := "MinistryDesks$Run", name := "lines", desc := "(I)I" } : Jvm.MethodName)) ∈ lw_all := lw_g (lw_at lw_m5 171 rfl) rfl
theorem q1292 : (Jvm.Cond.instanceMethod ({ cls := "MinistryDesks$Run", name := "lines", desc := "(I)I" } : Jvm.MethodName)) ∈ lw_all := lw_g (lw_at lw_m5 172 rfl) rfl
theorem q1293 : (Jvm.Cond.selects "MinistryDesks$Run" ({ cls := "MinistryDesks$Run", name := "lines", desc := "(I)I" } : Jvm.MethodName) ({ cls := "MinistryDesks$Run", name := "lines", desc := "(I)I" } : Jvm.MethodName)) ∈ lw_all := lw_g (lw_at lw_m5 173 rfl) rfl
theorem q1294 : (Jvm.Cond.code ({ cls := "MinistryDesks$Run", name := "lines", desc := "(I)I" } : Jvm.MethodName) prog_18_method_4_code (2 : Nat) (Option.some Jvm.ClassFile.FieldType.int)) ∈ lw_all := lw_g (lw_at lw_m5 174 rfl) rfl
theorem q1295 : (Jvm.Cond.classLink "MinistryDesks$Run" (93 : Nat) "MinistryDesks$Desk") ∈ lw_all := lw_g (lw_at lw_m5 175 rfl) rfl
theorem q1296 : (Jvm.Cond.methodLink "MinistryDesks$Run" (181 : Nat) ({ cls := "MinistryDesks$Run", name := "add", desc := "(III)V" } : Jvm.MethodName)) ∈ lw_all := lw_g (lw_at lw_m5 176 rfl) rfl
theorem q1297 : (Jvm.Cond.privateMethod ({ cls := "MinistryDesks$Run", name := "add", desc := "(III)V" } : Jvm.MethodName)) ∈ lw_tbl := lw_at lw_m5 177 rfl
theorem q1298 : (Jvm.Cond.instanceMethod ({ cls := "MinistryDesks$Run", name := "add", desc := "(III)V" } : Jvm.MethodName)) ∈ lw_all := lw_g (lw_at lw_m5 178 rfl) rfl
theorem q1299 : (Jvm.Cond.code ({ cls := "MinistryDesks$Run", name := "add", desc := "(III)V" } : Jvm.MethodName) prog_18_method_13_code (5 : Nat) (Option.none : Option Jvm.ClassFile.FieldType)) ∈ lw_all := lw_g (lw_at lw_m5 179 rfl) rfl
theorem q1300 : (Jvm.Cond.methodLink "MinistryDesks$Run" (185 : Nat) ({ cls := "MinistryDesks$Run", name := "worst", desc := "(III)I" } : Jvm.MethodName)) ∈ lw_all := lw_g (lw_at lw_m5 180 rfl) rfl
theorem q1301 : (Jvm.Cond.privateMethod ({ cls := "MinistryDesks$Run", name := "worst", desc := "(III)I" } : Jvm.MethodName)) ∈ lw_tbl := lw_at lw_m5 181 rfl
theorem q1302 : (Jvm.Cond.instanceMethod ({ cls := "MinistryDesks$Run", name := "worst", desc := "(III)I" } : Jvm.MethodName)) ∈ lw_all := lw_g (lw_at lw_m5 182 rfl) rfl
theorem q1303 : (Jvm.Cond.code ({ cls := "MinistryDesks$Run", name := "worst", desc := "(III)I" } : Jvm.MethodName) prog_18_method_15_code (11 : Nat) (Option.some Jvm.ClassFile.FieldType.int)) ∈ lw_all := lw_g (lw_at lw_m5 183 rfl) rfl
theorem q1304 : (Jvm.Cond.methodLink "MinistryDesks$Run" (172 : Nat) ({ cls := "MinistryDesks$Run", name := "keepOf", desc := "(IIIII)J" } : Jvm.MethodName)) ∈ lw_all := lw_g (lw_at lw_m5 184 rfl) rfl
theorem q1305 : (Jvm.Cond.privateMethod ({ cls := "MinistryDesks$Run", name := "keepOf", desc := "(IIIII)J" } : Jvm.MethodName)) ∈ lw_tbl := lw_at lw_m5 185 rfl
theorem q1306 : (Jvm.Cond.instanceMethod ({ cls := "MinistryDesks$Run", name := "keepOf", desc := "(IIIII)J" } : Jvm.MethodName)) ∈ lw_all := lw_g (lw_at lw_m5 186 rfl) rfl
theorem q1307 : (Jvm.Cond.code ({ cls := "MinistryDesks$Run", name := "keepOf", desc := "(IIIII)J" } : Jvm.MethodName) prog_18_method_12_code (6 : Nat) (Option.some Jvm.ClassFile.FieldType.long)) ∈ lw_all := lw_g (lw_at lw_m5 187 rfl) rfl
theorem q1308 : (Jvm.Cond.methodLink "MinistryDesks$Run" (157 : Nat) ({ cls := "MinistryDesks$Run", name := "layNames", desc := "(IIIII)V" } : Jvm.MethodName)) ∈ lw_all := lw_g (lw_at lw_m5 188 rfl) rfl
theorem q1309 : (Jvm.Cond.privateMethod ({ cls := "MinistryDesks$Run", name := "layNames", desc := "(IIIII)V" } : Jvm.MethodName)) ∈ lw_tbl := lw_at lw_m5 189 rfl
theorem q1310 : (Jvm.Cond.instanceMethod ({ cls := "MinistryDesks$Run", name := "layNames", desc := "(IIIII)V" } : Jvm.MethodName)) ∈ lw_all := lw_g (lw_at lw_m5 190 rfl) rfl
theorem q1311 : (Jvm.Cond.code ({ cls := "MinistryDesks$Run", name := "layNames", desc := "(IIIII)V" } : Jvm.MethodName) prog_18_method_11_code (6 : Nat) (Option.none : Option Jvm.ClassFile.FieldType)) ∈ lw_all := lw_g (lw_at lw_m5 191 rfl) rfl
theorem q1312 : (Jvm.Cond.methodLinkNest "MinistryDesks$Run" (141 : Nat) ({ cls := "MinistryDesks", name := "worth", desc := "(I)I" } : Jvm.MethodName) "MinistryDesks") ∈ lw_tbl := lw_at lw_m5 192 rfl
theorem q1318 : (Jvm.Cond.methodLink "MinistryDesks$Run" (144 : Nat) ({ cls := "MinistryDesks$Run", name := "others", desc := "(II)I" } : Jvm.MethodName)) ∈ lw_all := lw_g (lw_at lw_m5 198 rfl) rfl
theorem q1319 : (Jvm.Cond.privateMethod ({ cls := "MinistryDesks$Run", name := "others", desc := "(II)I" } : Jvm.MethodName)) ∈ lw_tbl := lw_at lw_m5 199 rfl
theorem q1320 : (Jvm.Cond.instanceMethod ({ cls := "MinistryDesks$Run", name := "others", desc := "(II)I" } : Jvm.MethodName)) ∈ lw_all := lw_g (lw_at lw_m5 200 rfl) rfl
theorem q1321 : (Jvm.Cond.code ({ cls := "MinistryDesks$Run", name := "others", desc := "(II)I" } : Jvm.MethodName) prog_18_method_9_code (5 : Nat) (Option.some Jvm.ClassFile.FieldType.int)) ∈ lw_all := lw_g (lw_at lw_m5 201 rfl) rfl
theorem q1322 : (Jvm.Cond.methodLink "MinistryDesks$Run" (115 : Nat) ({ cls := "MinistryDesks$Run", name := "held", desc := "(I)I" } : Jvm.MethodName)) ∈ lw_all := lw_g (lw_at lw_m5 202 rfl) rfl
theorem q1323 : (Jvm.Cond.instanceMethod ({ cls := "MinistryDesks$Run", name := "held", desc := "(I)I" } : Jvm.MethodName)) ∈ lw_all := lw_g (lw_at lw_m5 203 rfl) rfl
theorem q1324 : (Jvm.Cond.selects "MinistryDesks$Run" ({ cls := "MinistryDesks$Run", name := "held", desc := "(I)I" } : Jvm.MethodName) ({ cls := "MinistryDesks$Run", name := "held", desc := "(I)I" } : Jvm.MethodName)) ∈ lw_all := lw_g (lw_at lw_m5 204 rfl) rfl
theorem q1325 : (Jvm.Cond.code ({ cls := "MinistryDesks$Run", name := "held", desc := "(I)I" } : Jvm.MethodName) prog_18_method_8_code (4 : Nat) (Option.some Jvm.ClassFile.FieldType.int)) ∈ lw_all := lw_g (lw_at lw_m5 205 rfl) rfl
theorem q1326 : (Jvm.Cond.methodLinkNest "MinistryDesks$Run" (119 : Nat) ({ cls := "MinistryDesks", name := "isOf", desc := "(II)Z" } : Jvm.MethodName) "MinistryDesks") ∈ lw_tbl := lw_at lw_m5 206 rfl
theorem q1329 : (Jvm.Cond.methodLink "MinistryDesks$Run" (148 : Nat) ({ cls := "MinistryDesks$Run", name := "asked", desc := "(II)I" } : Jvm.MethodName)) ∈ lw_all := lw_g (lw_at lw_m5 209 rfl) rfl
theorem q1330 : (Jvm.Cond.privateMethod ({ cls := "MinistryDesks$Run", name := "asked", desc := "(II)I" } : Jvm.MethodName)) ∈ lw_tbl := lw_at lw_m5 210 rfl
theorem q1331 : (Jvm.Cond.instanceMethod ({ cls := "MinistryDesks$Run", name := "asked", desc := "(II)I" } : Jvm.MethodName)) ∈ lw_all := lw_g (lw_at lw_m5 211 rfl) rfl
theorem q1332 : (Jvm.Cond.code ({ cls := "MinistryDesks$Run", name := "asked", desc := "(II)I" } : Jvm.MethodName) prog_18_method_10_code (6 : Nat) (Option.some Jvm.ClassFile.FieldType.int)) ∈ lw_all := lw_g (lw_at lw_m5 212 rfl) rfl
theorem q1333 : (Jvm.Cond.classLink "MinistryDesks$Run" (129 : Nat) "MinistryDesks$Question") ∈ lw_all := lw_g (lw_at lw_m5 213 rfl) rfl
theorem q1334 : (Jvm.Cond.methodLink "MinistryDesks$Run" (151 : Nat) ({ cls := "MinistryDesks$Scene", name := "lay", desc := "(IIIIII)V" } : Jvm.MethodName)) ∈ lw_all := lw_g (lw_at lw_m5 214 rfl) rfl
theorem q1335 : (Jvm.Cond.methodLinkNest "MinistryDesks$Run" (165 : Nat) ({ cls := "MinistryDesks", name := "value", desc := "(LMinistryDesks$Node;J)J" } : Jvm.MethodName) "MinistryDesks") ∈ lw_tbl := lw_at lw_m5 215 rfl
theorem q1339 : (Jvm.Cond.methodLink "MinistryDesks$Run" (246 : Nat) ({ cls := "MinistryDesks$Run", name := "noon", desc := "()V" } : Jvm.MethodName)) ∈ lw_all := lw_g (lw_at lw_m5 219 rfl) rfl
theorem q1340 : (Jvm.Cond.privateMethod ({ cls := "MinistryDesks$Run", name := "noon", desc := "()V" } : Jvm.MethodName)) ∈ lw_tbl := lw_at lw_m5 220 rfl
theorem q1341 : (Jvm.Cond.instanceMethod ({ cls := "MinistryDesks$Run", name := "noon", desc := "()V" } : Jvm.MethodName)) ∈ lw_all := lw_g (lw_at lw_m5 221 rfl) rfl
theorem q1342 : (Jvm.Cond.code ({ cls := "MinistryDesks$Run", name := "noon", desc := "()V" } : Jvm.MethodName) prog_18_method_21_code (2 : Nat) (Option.none : Option Jvm.ClassFile.FieldType)) ∈ lw_all := lw_g (lw_at lw_m5 222 rfl) rfl
theorem q1343 : (Jvm.Cond.methodLink "MinistryDesks$Run" (215 : Nat) ({ cls := "MinistryDesks$Run", name := "layThen", desc := "()V" } : Jvm.MethodName)) ∈ lw_all := lw_g (lw_at lw_m5 223 rfl) rfl
theorem q1344 : (Jvm.Cond.privateMethod ({ cls := "MinistryDesks$Run", name := "layThen", desc := "()V" } : Jvm.MethodName)) ∈ lw_tbl := lw_at lw_m5 224 rfl
theorem q1345 : (Jvm.Cond.instanceMethod ({ cls := "MinistryDesks$Run", name := "layThen", desc := "()V" } : Jvm.MethodName)) ∈ lw_all := lw_g (lw_at lw_m5 225 rfl) rfl
theorem q1346 : (Jvm.Cond.code ({ cls := "MinistryDesks$Run", name := "layThen", desc := "()V" } : Jvm.MethodName) prog_18_method_19_code (2 : Nat) (Option.none : Option Jvm.ClassFile.FieldType)) ∈ lw_all := lw_g (lw_at lw_m5 226 rfl) rfl
theorem q1347 : (Jvm.Cond.methodLink "MinistryDesks$Run" (71 : Nat) ({ cls := "java/lang/System", name := "arraycopy", desc := "(Ljava/lang/Object;ILjava/lang/Object;II)V" } : Jvm.MethodName)) ∈ lw_all := lw_g (lw_at lw_m5 227 rfl) rfl
theorem q1348 : (Jvm.Cond.methodLink "MinistryDesks$Run" (218 : Nat) ({ cls := "MinistryDesks$Run", name := "asks", desc := "(I)I" } : Jvm.MethodName)) ∈ lw_all := lw_g (lw_at lw_m5 228 rfl) rfl
theorem q1349 : (Jvm.Cond.instanceMethod ({ cls := "MinistryDesks$Run", name := "asks", desc := "(I)I" } : Jvm.MethodName)) ∈ lw_all := lw_g (lw_at lw_m5 229 rfl) rfl
theorem q1350 : (Jvm.Cond.selects "MinistryDesks$Run" ({ cls := "MinistryDesks$Run", name := "asks", desc := "(I)I" } : Jvm.MethodName) ({ cls := "MinistryDesks$Run", name := "asks", desc := "(I)I" } : Jvm.MethodName)) ∈ lw_all := lw_g (lw_at lw_m5 230 rfl) rfl
theorem q1351 : (Jvm.Cond.code ({ cls := "MinistryDesks$Run", name := "asks", desc := "(I)I" } : Jvm.MethodName) prog_18_method_5_code (2 : Nat) (Option.some Jvm.ClassFile.FieldType.int)) ∈ lw_all := lw_g (lw_at lw_m5 231 rfl) rfl
theorem q1352 : (Jvm.Cond.methodLink "MinistryDesks$Run" (220 : Nat) ({ cls := "MinistryDesks$Run", name := "asksAt", desc := "(II)V" } : Jvm.MethodName)) ∈ lw_all := lw_g (lw_at lw_m5 232 rfl) rfl
theorem q1353 : (Jvm.Cond.privateMethod ({ cls := "MinistryDesks$Run", name := "asksAt", desc := "(II)V" } : Jvm.MethodName)) ∈ lw_tbl := lw_at lw_m5 233 rfl
theorem q1354 : (Jvm.Cond.instanceMethod ({ cls := "MinistryDesks$Run", name := "asksAt", desc := "(II)V" } : Jvm.MethodName)) ∈ lw_all := lw_g (lw_at lw_m5 234 rfl) rfl
theorem q1355 : (Jvm.Cond.code ({ cls := "MinistryDesks$Run", name := "asksAt", desc := "(II)V" } : Jvm.MethodName) prog_18_method_20_code (10 : Nat) (Option.none : Option Jvm.ClassFile.FieldType)) ∈ lw_all := lw_g (lw_at lw_m5 235 rfl) rfl
theorem q1356 : (Jvm.Cond.methodLink "MinistryDesks$Run" (248 : Nat) ({ cls := "MinistryDesks$Run", name := "three", desc := "()V" } : Jvm.MethodName)) ∈ lw_all := lw_g (lw_at lw_m5 236 rfl) rfl
theorem q1357 : (Jvm.Cond.privateMethod ({ cls := "MinistryDesks$Run", name := "three", desc := "()V" } : Jvm.MethodName)) ∈ lw_tbl := lw_at lw_m5 237 rfl
theorem q1358 : (Jvm.Cond.instanceMethod ({ cls := "MinistryDesks$Run", name := "three", desc := "()V" } : Jvm.MethodName)) ∈ lw_all := lw_g (lw_at lw_m5 238 rfl) rfl
theorem q1359 : (Jvm.Cond.code ({ cls := "MinistryDesks$Run", name := "three", desc := "()V" } : Jvm.MethodName) prog_18_method_22_code (4 : Nat) (Option.none : Option Jvm.ClassFile.FieldType)) ∈ lw_all := lw_g (lw_at lw_m5 239 rfl) rfl
theorem q1360 : (Jvm.Cond.classLink "MinistryDesks$Run" (226 : Nat) "MinistryDesks$Fire") ∈ lw_all := lw_g (lw_at lw_m6 0 rfl) rfl
theorem q1361 : (Jvm.Cond.methodLink "MinistryDesks$Run" (251 : Nat) ({ cls := "MinistryDesks$Run", name := "four", desc := "()V" } : Jvm.MethodName)) ∈ lw_all := lw_g (lw_at lw_m6 1 rfl) rfl
theorem q1362 : (Jvm.Cond.privateMethod ({ cls := "MinistryDesks$Run", name := "four", desc := "()V" } : Jvm.MethodName)) ∈ lw_tbl := lw_at lw_m6 2 rfl
theorem q1363 : (Jvm.Cond.instanceMethod ({ cls := "MinistryDesks$Run", name := "four", desc := "()V" } : Jvm.MethodName)) ∈ lw_all := lw_g (lw_at lw_m6 3 rfl) rfl
theorem q1364 : (Jvm.Cond.code ({ cls := "MinistryDesks$Run", name := "four", desc := "()V" } : Jvm.MethodName) prog_18_method_24_code (3 : Nat) (Option.none : Option Jvm.ClassFile.FieldType)) ∈ lw_all := lw_g (lw_at lw_m6 4 rfl) rfl
theorem q1365 : (Jvm.Cond.methodLink "MinistryDesks$Run" (233 : Nat) ({ cls := "MinistryDesks$Run", name := "isThere", desc := "(I)Z" } : Jvm.MethodName)) ∈ lw_all := lw_g (lw_at lw_m6 5 rfl) rfl
theorem q1366 : (Jvm.Cond.privateMethod ({ cls := "MinistryDesks$Run", name := "isThere", desc := "(I)Z" } : Jvm.MethodName)) ∈ lw_tbl := lw_at lw_m6 6 rfl
theorem q1367 : (Jvm.Cond.instanceMethod ({ cls := "MinistryDesks$Run", name := "isThere", desc := "(I)Z" } : Jvm.MethodName)) ∈ lw_all := lw_g (lw_at lw_m6 7 rfl) rfl
theorem q1368 : (Jvm.Cond.code ({ cls := "MinistryDesks$Run", name := "isThere", desc := "(I)Z" } : Jvm.MethodName) prog_18_method_23_code (4 : Nat) (Option.some Jvm.ClassFile.FieldType.boolean)) ∈ lw_all := lw_g (lw_at lw_m6 8 rfl) rfl
theorem q1584 : (Jvm.Cond.instanceMethod ({ cls := "MinistryDesks$Run", name := "copy", desc := "(LMinistryDesks$Run;)V" } : Jvm.MethodName)) ∈ lw_all := lw_g (lw_at lw_m6 224 rfl) rfl
theorem q1585 : (Jvm.Cond.selects "MinistryDesks$Run" ({ cls := "MinistryDesks$Run", name := "copy", desc := "(LMinistryDesks$Run;)V" } : Jvm.MethodName) ({ cls := "MinistryDesks$Run", name := "copy", desc := "(LMinistryDesks$Run;)V" } : Jvm.MethodName)) ∈ lw_all := lw_g (lw_at lw_m6 225 rfl) rfl
theorem q1586 : (Jvm.Cond.code ({ cls := "MinistryDesks$Run", name := "copy", desc := "(LMinistryDesks$Run;)V" } : Jvm.MethodName) prog_18_method_3_code (2 : Nat) (Option.none : Option Jvm.ClassFile.FieldType)) ∈ lw_all := lw_g (lw_at lw_m6 226 rfl) rfl
theorem q2408 : (Jvm.Cond.castable "MinistryDesks$Run" "java/lang/Object") ∈ lw_tbl := lw_at lw_m10 88 rfl
theorem in_X5 : ∀ w ∈ wsX50, w ∈ lw_all := lw_in wsX50 [396, 398, 400, 402, 404, 406, 408, 410, 412, 414, 416, 418, 420, 422, 424, 426, 428, 430] (by decide +kernel) (by decide +kernel)

