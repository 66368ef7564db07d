set_option maxRecDepth 100000
abbrev cX6_init : ByteArray := prog_23_method_1_code
def yX6_init : MethodName := ⟨RX6, "<init>", "()V"⟩
def dkwX6_init_22 : List UInt8 := [181, 0, 163, 177]
abbrev dktX6_init_22 : List UInt8 := dkwX6_init_22 ++ []
def dkwX6_init_21 : List UInt8 := [181, 0, 154, 42, 16, 24, 188, 10, 181, 0, 157, 42, 16, 24, 188, 10, 181, 0, 160, 42, 16, 24, 188, 4]
abbrev dktX6_init_21 : List UInt8 := dkwX6_init_21 ++ dktX6_init_22
def dkwX6_init_20 : List UInt8 := [181, 0, 145, 42, 16, 16, 188, 10, 181, 0, 148, 42, 17, 75, 8, 188, 10, 181, 0, 151, 42, 2]
abbrev dktX6_init_20 : List UInt8 := dkwX6_init_20 ++ dktX6_init_21
def dkwX6_init_19 : List UInt8 := [42, 17, 17, 0, 188, 11, 181, 0, 139, 42, 16, 16, 188, 10, 181, 0, 142, 42, 16, 16, 188, 10]
abbrev dktX6_init_19 : List UInt8 := dkwX6_init_19 ++ dktX6_init_20
def dkwX6_init_18 : List UInt8 := [181, 0, 127, 42, 7, 188, 10, 181, 0, 130, 42, 7, 188, 10, 181, 0, 133, 42, 7, 188, 10, 181, 0, 136]
abbrev dktX6_init_18 : List UInt8 := dkwX6_init_18 ++ dktX6_init_19
def dkwX6_init_17 : List UInt8 := [17, 7, 128, 188, 10, 181, 0, 121, 42, 17, 7, 128, 188, 10, 181, 0, 124, 42, 17, 7, 128, 188, 10]
abbrev dktX6_init_17 : List UInt8 := dkwX6_init_17 ++ dktX6_init_18
def dkwX6_init_16 : List UInt8 := [188, 10, 181, 0, 112, 42, 6, 188, 10, 181, 0, 115, 42, 17, 7, 128, 188, 10, 181, 0, 118, 42]
abbrev dktX6_init_16 : List UInt8 := dkwX6_init_16 ++ dktX6_init_17
def dkwX6_init_15 : List UInt8 := [188, 10, 181, 0, 102, 42, 16, 12, 188, 10, 181, 0, 105, 42, 16, 12, 188, 4, 181, 0, 108, 42, 16, 48]
abbrev dktX6_init_15 : List UInt8 := dkwX6_init_15 ++ dktX6_init_16
def dkwX6_init_14 : List UInt8 := [188, 10, 181, 0, 93, 42, 16, 84, 188, 10, 181, 0, 96, 42, 16, 84, 188, 10, 181, 0, 99, 42, 16, 12]
abbrev dktX6_init_14 : List UInt8 := dkwX6_init_14 ++ dktX6_init_15
def dkwX6_init_13 : List UInt8 := [188, 11, 181, 0, 84, 42, 6, 188, 10, 181, 0, 87, 42, 16, 12, 188, 10, 181, 0, 90, 42, 16, 84]
abbrev dktX6_init_13 : List UInt8 := dkwX6_init_13 ++ dktX6_init_14
def dkwX6_init_12 : List UInt8 := [17, 0, 128, 188, 10, 181, 0, 73, 42, 2, 181, 0, 76, 42, 16, 6, 188, 11, 181, 0, 80, 42, 16, 64]
abbrev dktX6_init_12 : List UInt8 := dkwX6_init_12 ++ dktX6_init_13
def dkwX6_init_11 : List UInt8 := [188, 10, 181, 0, 64, 42, 16, 12, 188, 10, 181, 0, 67, 42, 17, 0, 128, 188, 10, 181, 0, 70, 42]
abbrev dktX6_init_11 : List UInt8 := dkwX6_init_11 ++ dktX6_init_12
def dkwX6_init_10 : List UInt8 := [188, 10, 181, 0, 55, 42, 16, 8, 188, 10, 181, 0, 58, 42, 16, 8, 188, 10, 181, 0, 61, 42, 16, 12]
abbrev dktX6_init_10 : List UInt8 := dkwX6_init_10 ++ dktX6_init_11
def dkwX6_init_9 : List UInt8 := [188, 10, 181, 0, 46, 42, 16, 32, 188, 10, 181, 0, 49, 42, 16, 32, 188, 10, 181, 0, 52, 42, 16, 8]
abbrev dktX6_init_9 : List UInt8 := dkwX6_init_9 ++ dktX6_init_10
def dkwX6_init_8 : List UInt8 := [188, 10, 181, 0, 37, 42, 16, 32, 188, 10, 181, 0, 40, 42, 16, 32, 188, 10, 181, 0, 43, 42, 16, 32]
abbrev dktX6_init_8 : List UInt8 := dkwX6_init_8 ++ dktX6_init_9
def dkwX6_init_7 : List UInt8 := [188, 10, 181, 0, 28, 42, 16, 32, 188, 10, 181, 0, 31, 42, 16, 32, 188, 10, 181, 0, 34, 42, 16, 32]
abbrev dktX6_init_7 : List UInt8 := dkwX6_init_7 ++ dktX6_init_8
def dkwX6_init_6 : List UInt8 := [89, 16, 6, 2, 79, 89, 16, 7, 2, 79, 181, 0, 22, 42, 16, 14, 188, 10, 181, 0, 25, 42, 16, 14]
abbrev dktX6_init_6 : List UInt8 := dkwX6_init_6 ++ dktX6_init_7
def dkwX6_init_5 : List UInt8 := [89, 3, 2, 79, 89, 4, 2, 79, 89, 5, 2, 79, 89, 6, 2, 79, 89, 7, 2, 79, 89, 8, 2, 79]
abbrev dktX6_init_5 : List UInt8 := dkwX6_init_5 ++ dktX6_init_6
def dkwX6_init_4 : List UInt8 := [181, 0, 13, 42, 16, 8, 188, 10, 181, 0, 16, 42, 16, 8, 188, 10, 181, 0, 19, 42, 16, 8, 188, 10]
abbrev dktX6_init_4 : List UInt8 := dkwX6_init_4 ++ dktX6_init_5
def dkwX6_init_3 : List UInt8 := [79, 89, 16, 12, 3, 79, 89, 16, 13, 3, 79, 89, 16, 14, 16, 99, 79, 89, 16, 15, 3, 79]
abbrev dktX6_init_3 : List UInt8 := dkwX6_init_3 ++ dktX6_init_4
def dkwX6_init_2 : List UInt8 := [89, 16, 7, 3, 79, 89, 16, 8, 3, 79, 89, 16, 9, 3, 79, 89, 16, 10, 3, 79, 89, 16, 11, 3]
abbrev dktX6_init_2 : List UInt8 := dkwX6_init_2 ++ dktX6_init_3
def dkwX6_init_1 : List UInt8 := [3, 79, 89, 5, 3, 79, 89, 6, 3, 79, 89, 7, 3, 79, 89, 8, 3, 79, 89, 16, 6, 16, 99, 79]
abbrev dktX6_init_1 : List UInt8 := dkwX6_init_1 ++ dktX6_init_2
def dkwX6_init_0 : List UInt8 := [42, 183, 0, 3, 42, 17, 3, 132, 188, 10, 181, 0, 9, 42, 16, 16, 188, 10, 89, 3, 3, 79, 89, 4]
abbrev dktX6_init_0 : List UInt8 := dkwX6_init_0 ++ dktX6_init_1
theorem dksX6_init_0 : cX6_init.data.toList.drop 0 = dktX6_init_0 := by decide +kernel
theorem dksX6_init_1 : cX6_init.data.toList.drop 24 = dktX6_init_1 := dk_seg dksX6_init_0 24 rfl rfl
theorem dksX6_init_2 : cX6_init.data.toList.drop 48 = dktX6_init_2 := dk_seg dksX6_init_1 24 rfl rfl
theorem dksX6_init_3 : cX6_init.data.toList.drop 72 = dktX6_init_3 := dk_seg dksX6_init_2 24 rfl rfl
theorem dksX6_init_4 : cX6_init.data.toList.drop 94 = dktX6_init_4 := dk_seg dksX6_init_3 22 rfl rfl
theorem dksX6_init_5 : cX6_init.data.toList.drop 118 = dktX6_init_5 := dk_seg dksX6_init_4 24 rfl rfl
theorem dksX6_init_6 : cX6_init.data.toList.drop 142 = dktX6_init_6 := dk_seg dksX6_init_5 24 rfl rfl
theorem dksX6_init_7 : cX6_init.data.toList.drop 166 = dktX6_init_7 := dk_seg dksX6_init_6 24 rfl rfl
theorem dksX6_init_8 : cX6_init.data.toList.drop 190 = dktX6_init_8 := dk_seg dksX6_init_7 24 rfl rfl
theorem dksX6_init_9 : cX6_init.data.toList.drop 214 = dktX6_init_9 := dk_seg dksX6_init_8 24 rfl rfl
theorem dksX6_init_10 : cX6_init.data.toList.drop 238 = dktX6_init_10 := dk_seg dksX6_init_9 24 rfl rfl
theorem dksX6_init_11 : cX6_init.data.toList.drop 262 = dktX6_init_11 := dk_seg dksX6_init_10 24 rfl rfl
theorem dksX6_init_12 : cX6_init.data.toList.drop 285 = dktX6_init_12 := dk_seg dksX6_init_11 23 rfl rfl
theorem dksX6_init_13 : cX6_init.data.toList.drop 309 = dktX6_init_13 := dk_seg dksX6_init_12 24 rfl rfl
theorem dksX6_init_14 : cX6_init.data.toList.drop 332 = dktX6_init_14 := dk_seg dksX6_init_13 23 rfl rfl
theorem dksX6_init_15 : cX6_init.data.toList.drop 356 = dktX6_init_15 := dk_seg dksX6_init_14 24 rfl rfl
theorem dksX6_init_16 : cX6_init.data.toList.drop 380 = dktX6_init_16 := dk_seg dksX6_init_15 24 rfl rfl
theorem dksX6_init_17 : cX6_init.data.toList.drop 402 = dktX6_init_17 := dk_seg dksX6_init_16 22 rfl rfl
theorem dksX6_init_18 : cX6_init.data.toList.drop 425 = dktX6_init_18 := dk_seg dksX6_init_17 23 rfl rfl
theorem dksX6_init_19 : cX6_init.data.toList.drop 449 = dktX6_init_19 := dk_seg dksX6_init_18 24 rfl rfl
theorem dksX6_init_20 : cX6_init.data.toList.drop 471 = dktX6_init_20 := dk_seg dksX6_init_19 22 rfl rfl
theorem dksX6_init_21 : cX6_init.data.toList.drop 493 = dktX6_init_21 := dk_seg dksX6_init_20 22 rfl rfl
theorem dksX6_init_22 : cX6_init.data.toList.drop 517 = dktX6_init_22 := dk_seg dksX6_init_21 24 rfl rfl
theorem dX6_init_0 : decode cX6_init 0 = .ok (.aload_n 0, 1) := dk_42 (dk_at dksX6_init_0 0 rfl rfl)
theorem dX6_init_1 : decode cX6_init 1 = .ok (.invokespecial 3, 3) := dk_183 0 3 (dk_at dksX6_init_0 1 rfl rfl)
theorem dX6_init_4 : decode cX6_init 4 = .ok (.aload_n 0, 1) := dk_42 (dk_at dksX6_init_0 4 rfl rfl)
theorem dX6_init_5 : decode cX6_init 5 = .ok (.sipush 900, 3) := dk_17 3 132 (dk_at dksX6_init_0 5 rfl rfl)
theorem dX6_init_8 : decode cX6_init 8 = .ok (.newarray .int, 2) := dk_188_10 (dk_at dksX6_init_0 8 rfl rfl)
theorem dX6_init_10 : decode cX6_init 10 = .ok (.putfield 9, 3) := dk_181 0 9 (dk_at dksX6_init_0 10 rfl rfl)
theorem dX6_init_13 : decode cX6_init 13 = .ok (.aload_n 0, 1) := dk_42 (dk_at dksX6_init_0 13 rfl rfl)
theorem dX6_init_14 : decode cX6_init 14 = .ok (.bipush 16, 2) := dk_16 16 (dk_at dksX6_init_0 14 rfl rfl)
theorem dX6_init_16 : decode cX6_init 16 = .ok (.newarray .int, 2) := dk_188_10 (dk_at dksX6_init_0 16 rfl rfl)
theorem dX6_init_18 : decode cX6_init 18 = .ok (.dup, 1) := dk_89 (dk_at dksX6_init_0 18 rfl rfl)
theorem dX6_init_19 : decode cX6_init 19 = .ok (.iconst 0, 1) := dk_3 (dk_at dksX6_init_0 19 rfl rfl)
theorem dX6_init_20 : decode cX6_init 20 = .ok (.iconst 0, 1) := dk_3 (dk_at dksX6_init_0 20 rfl rfl)
theorem dX6_init_21 : decode cX6_init 21 = .ok (.iastore, 1) := dk_79 (dk_at dksX6_init_0 21 rfl rfl)
theorem dX6_init_22 : decode cX6_init 22 = .ok (.dup, 1) := dk_89 (dk_at dksX6_init_0 22 rfl rfl)
theorem dX6_init_23 : decode cX6_init 23 = .ok (.iconst 1, 1) := dk_4 (dk_at dksX6_init_0 23 rfl rfl)
theorem dX6_init_24 : decode cX6_init 24 = .ok (.iconst 0, 1) := dk_3 (dk_at dksX6_init_1 0 rfl rfl)
theorem dX6_init_25 : decode cX6_init 25 = .ok (.iastore, 1) := dk_79 (dk_at dksX6_init_1 1 rfl rfl)
theorem dX6_init_26 : decode cX6_init 26 = .ok (.dup, 1) := dk_89 (dk_at dksX6_init_1 2 rfl rfl)
theorem dX6_init_27 : decode cX6_init 27 = .ok (.iconst 2, 1) := dk_5 (dk_at dksX6_init_1 3 rfl rfl)
theorem dX6_init_28 : decode cX6_init 28 = .ok (.iconst 0, 1) := dk_3 (dk_at dksX6_init_1 4 rfl rfl)
theorem dX6_init_29 : decode cX6_init 29 = .ok (.iastore, 1) := dk_79 (dk_at dksX6_init_1 5 rfl rfl)
theorem dX6_init_30 : decode cX6_init 30 = .ok (.dup, 1) := dk_89 (dk_at dksX6_init_1 6 rfl rfl)
theorem dX6_init_31 : decode cX6_init 31 = .ok (.iconst 3, 1) := dk_6 (dk_at dksX6_init_1 7 rfl rfl)
theorem dX6_init_32 : decode cX6_init 32 = .ok (.iconst 0, 1) := dk_3 (dk_at dksX6_init_1 8 rfl rfl)
theorem dX6_init_33 : decode cX6_init 33 = .ok (.iastore, 1) := dk_79 (dk_at dksX6_init_1 9 rfl rfl)
theorem dX6_init_34 : decode cX6_init 34 = .ok (.dup, 1) := dk_89 (dk_at dksX6_init_1 10 rfl rfl)
theorem dX6_init_35 : decode cX6_init 35 = .ok (.iconst 4, 1) := dk_7 (dk_at dksX6_init_1 11 rfl rfl)
theorem dX6_init_36 : decode cX6_init 36 = .ok (.iconst 0, 1) := dk_3 (dk_at dksX6_init_1 12 rfl rfl)
theorem dX6_init_37 : decode cX6_init 37 = .ok (.iastore, 1) := dk_79 (dk_at dksX6_init_1 13 rfl rfl)
theorem dX6_init_38 : decode cX6_init 38 = .ok (.dup, 1) := dk_89 (dk_at dksX6_init_1 14 rfl rfl)
theorem dX6_init_39 : decode cX6_init 39 = .ok (.iconst 5, 1) := dk_8 (dk_at dksX6_init_1 15 rfl rfl)
theorem dX6_init_40 : decode cX6_init 40 = .ok (.iconst 0, 1) := dk_3 (dk_at dksX6_init_1 16 rfl rfl)
theorem dX6_init_41 : decode cX6_init 41 = .ok (.iastore, 1) := dk_79 (dk_at dksX6_init_1 17 rfl rfl)
theorem dX6_init_42 : decode cX6_init 42 = .ok (.dup, 1) := dk_89 (dk_at dksX6_init_1 18 rfl rfl)
theorem dX6_init_43 : decode cX6_init 43 = .ok (.bipush 6, 2) := dk_16 6 (dk_at dksX6_init_1 19 rfl rfl)
theorem dX6_init_45 : decode cX6_init 45 = .ok (.bipush 99, 2) := dk_16 99 (dk_at dksX6_init_1 21 rfl rfl)
theorem dX6_init_47 : decode cX6_init 47 = .ok (.iastore, 1) := dk_79 (dk_at dksX6_init_1 23 rfl rfl)
theorem dX6_init_48 : decode cX6_init 48 = .ok (.dup, 1) := dk_89 (dk_at dksX6_init_2 0 rfl rfl)
theorem dX6_init_49 : decode cX6_init 49 = .ok (.bipush 7, 2) := dk_16 7 (dk_at dksX6_init_2 1 rfl rfl)
theorem dX6_init_51 : decode cX6_init 51 = .ok (.iconst 0, 1) := dk_3 (dk_at dksX6_init_2 3 rfl rfl)
theorem dX6_init_52 : decode cX6_init 52 = .ok (.iastore, 1) := dk_79 (dk_at dksX6_init_2 4 rfl rfl)
theorem dX6_init_53 : decode cX6_init 53 = .ok (.dup, 1) := dk_89 (dk_at dksX6_init_2 5 rfl rfl)
theorem dX6_init_54 : decode cX6_init 54 = .ok (.bipush 8, 2) := dk_16 8 (dk_at dksX6_init_2 6 rfl rfl)
theorem dX6_init_56 : decode cX6_init 56 = .ok (.iconst 0, 1) := dk_3 (dk_at dksX6_init_2 8 rfl rfl)
theorem dX6_init_57 : decode cX6_init 57 = .ok (.iastore, 1) := dk_79 (dk_at dksX6_init_2 9 rfl rfl)
theorem dX6_init_58 : decode cX6_init 58 = .ok (.dup, 1) := dk_89 (dk_at dksX6_init_2 10 rfl rfl)
theorem dX6_init_59 : decode cX6_init 59 = .ok (.bipush 9, 2) := dk_16 9 (dk_at dksX6_init_2 11 rfl rfl)
theorem dX6_init_61 : decode cX6_init 61 = .ok (.iconst 0, 1) := dk_3 (dk_at dksX6_init_2 13 rfl rfl)
theorem dX6_init_62 : decode cX6_init 62 = .ok (.iastore, 1) := dk_79 (dk_at dksX6_init_2 14 rfl rfl)
theorem dX6_init_63 : decode cX6_init 63 = .ok (.dup, 1) := dk_89 (dk_at dksX6_init_2 15 rfl rfl)
theorem dX6_init_64 : decode cX6_init 64 = .ok (.bipush 10, 2) := dk_16 10 (dk_at dksX6_init_2 16 rfl rfl)
theorem dX6_init_66 : decode cX6_init 66 = .ok (.iconst 0, 1) := dk_3 (dk_at dksX6_init_2 18 rfl rfl)
theorem dX6_init_67 : decode cX6_init 67 = .ok (.iastore, 1) := dk_79 (dk_at dksX6_init_2 19 rfl rfl)
theorem dX6_init_68 : decode cX6_init 68 = .ok (.dup, 1) := dk_89 (dk_at dksX6_init_2 20 rfl rfl)
theorem dX6_init_69 : decode cX6_init 69 = .ok (.bipush 11, 2) := dk_16 11 (dk_at dksX6_init_2 21 rfl rfl)
theorem dX6_init_71 : decode cX6_init 71 = .ok (.iconst 0, 1) := dk_3 (dk_at dksX6_init_2 23 rfl rfl)
theorem dX6_init_72 : decode cX6_init 72 = .ok (.iastore, 1) := dk_79 (dk_at dksX6_init_3 0 rfl rfl)
theorem dX6_init_73 : decode cX6_init 73 = .ok (.dup, 1) := dk_89 (dk_at dksX6_init_3 1 rfl rfl)
theorem dX6_init_74 : decode cX6_init 74 = .ok (.bipush 12, 2) := dk_16 12 (dk_at dksX6_init_3 2 rfl rfl)
theorem dX6_init_76 : decode cX6_init 76 = .ok (.iconst 0, 1) := dk_3 (dk_at dksX6_init_3 4 rfl rfl)
theorem dX6_init_77 : decode cX6_init 77 = .ok (.iastore, 1) := dk_79 (dk_at dksX6_init_3 5 rfl rfl)
theorem dX6_init_78 : decode cX6_init 78 = .ok (.dup, 1) := dk_89 (dk_at dksX6_init_3 6 rfl rfl)
theorem dX6_init_79 : decode cX6_init 79 = .ok (.bipush 13, 2) := dk_16 13 (dk_at dksX6_init_3 7 rfl rfl)
theorem dX6_init_81 : decode cX6_init 81 = .ok (.iconst 0, 1) := dk_3 (dk_at dksX6_init_3 9 rfl rfl)
theorem dX6_init_82 : decode cX6_init 82 = .ok (.iastore, 1) := dk_79 (dk_at dksX6_init_3 10 rfl rfl)
theorem dX6_init_83 : decode cX6_init 83 = .ok (.dup, 1) := dk_89 (dk_at dksX6_init_3 11 rfl rfl)
theorem dX6_init_84 : decode cX6_init 84 = .ok (.bipush 14, 2) := dk_16 14 (dk_at dksX6_init_3 12 rfl rfl)
theorem dX6_init_86 : decode cX6_init 86 = .ok (.bipush 99, 2) := dk_16 99 (dk_at dksX6_init_3 14 rfl rfl)
theorem dX6_init_88 : decode cX6_init 88 = .ok (.iastore, 1) := dk_79 (dk_at dksX6_init_3 16 rfl rfl)
theorem dX6_init_89 : decode cX6_init 89 = .ok (.dup, 1) := dk_89 (dk_at dksX6_init_3 17 rfl rfl)
theorem dX6_init_90 : decode cX6_init 90 = .ok (.bipush 15, 2) := dk_16 15 (dk_at dksX6_init_3 18 rfl rfl)
theorem dX6_init_92 : decode cX6_init 92 = .ok (.iconst 0, 1) := dk_3 (dk_at dksX6_init_3 20 rfl rfl)
theorem dX6_init_93 : decode cX6_init 93 = .ok (.iastore, 1) := dk_79 (dk_at dksX6_init_3 21 rfl rfl)
theorem dX6_init_94 : decode cX6_init 94 = .ok (.putfield 13, 3) := dk_181 0 13 (dk_at dksX6_init_4 0 rfl rfl)
theorem dX6_init_97 : decode cX6_init 97 = .ok (.aload_n 0, 1) := dk_42 (dk_at dksX6_init_4 3 rfl rfl)
theorem dX6_init_98 : decode cX6_init 98 = .ok (.bipush 8, 2) := dk_16 8 (dk_at dksX6_init_4 4 rfl rfl)
theorem dX6_init_100 : decode cX6_init 100 = .ok (.newarray .int, 2) := dk_188_10 (dk_at dksX6_init_4 6 rfl rfl)
theorem dX6_init_102 : decode cX6_init 102 = .ok (.putfield 16, 3) := dk_181 0 16 (dk_at dksX6_init_4 8 rfl rfl)
theorem dX6_init_105 : decode cX6_init 105 = .ok (.aload_n 0, 1) := dk_42 (dk_at dksX6_init_4 11 rfl rfl)
theorem dX6_init_106 : decode cX6_init 106 = .ok (.bipush 8, 2) := dk_16 8 (dk_at dksX6_init_4 12 rfl rfl)
theorem dX6_init_108 : decode cX6_init 108 = .ok (.newarray .int, 2) := dk_188_10 (dk_at dksX6_init_4 14 rfl rfl)
theorem dX6_init_110 : decode cX6_init 110 = .ok (.putfield 19, 3) := dk_181 0 19 (dk_at dksX6_init_4 16 rfl rfl)
theorem dX6_init_113 : decode cX6_init 113 = .ok (.aload_n 0, 1) := dk_42 (dk_at dksX6_init_4 19 rfl rfl)
theorem dX6_init_114 : decode cX6_init 114 = .ok (.bipush 8, 2) := dk_16 8 (dk_at dksX6_init_4 20 rfl rfl)
theorem dX6_init_116 : decode cX6_init 116 = .ok (.newarray .int, 2) := dk_188_10 (dk_at dksX6_init_4 22 rfl rfl)
theorem dX6_init_118 : decode cX6_init 118 = .ok (.dup, 1) := dk_89 (dk_at dksX6_init_5 0 rfl rfl)
theorem dX6_init_119 : decode cX6_init 119 = .ok (.iconst 0, 1) := dk_3 (dk_at dksX6_init_5 1 rfl rfl)
theorem dX6_init_120 : decode cX6_init 120 = .ok (.iconst (-1), 1) := dk_2 (dk_at dksX6_init_5 2 rfl rfl)
theorem dX6_init_121 : decode cX6_init 121 = .ok (.iastore, 1) := dk_79 (dk_at dksX6_init_5 3 rfl rfl)
theorem dX6_init_122 : decode cX6_init 122 = .ok (.dup, 1) := dk_89 (dk_at dksX6_init_5 4 rfl rfl)
theorem dX6_init_123 : decode cX6_init 123 = .ok (.iconst 1, 1) := dk_4 (dk_at dksX6_init_5 5 rfl rfl)
theorem dX6_init_124 : decode cX6_init 124 = .ok (.iconst (-1), 1) := dk_2 (dk_at dksX6_init_5 6 rfl rfl)
theorem dX6_init_125 : decode cX6_init 125 = .ok (.iastore, 1) := dk_79 (dk_at dksX6_init_5 7 rfl rfl)
theorem dX6_init_126 : decode cX6_init 126 = .ok (.dup, 1) := dk_89 (dk_at dksX6_init_5 8 rfl rfl)
theorem dX6_init_127 : decode cX6_init 127 = .ok (.iconst 2, 1) := dk_5 (dk_at dksX6_init_5 9 rfl rfl)
theorem dX6_init_128 : decode cX6_init 128 = .ok (.iconst (-1), 1) := dk_2 (dk_at dksX6_init_5 10 rfl rfl)
theorem dX6_init_129 : decode cX6_init 129 = .ok (.iastore, 1) := dk_79 (dk_at dksX6_init_5 11 rfl rfl)
theorem dX6_init_130 : decode cX6_init 130 = .ok (.dup, 1) := dk_89 (dk_at dksX6_init_5 12 rfl rfl)
theorem dX6_init_131 : decode cX6_init 131 = .ok (.iconst 3, 1) := dk_6 (dk_at dksX6_init_5 13 rfl rfl)
theorem dX6_init_132 : decode cX6_init 132 = .ok (.iconst (-1), 1) := dk_2 (dk_at dksX6_init_5 14 rfl rfl)
theorem dX6_init_133 : decode cX6_init 133 = .ok (.iastore, 1) := dk_79 (dk_at dksX6_init_5 15 rfl rfl)
theorem dX6_init_134 : decode cX6_init 134 = .ok (.dup, 1) := dk_89 (dk_at dksX6_init_5 16 rfl rfl)
theorem dX6_init_135 : decode cX6_init 135 = .ok (.iconst 4, 1) := dk_7 (dk_at dksX6_init_5 17 rfl rfl)
theorem dX6_init_136 : decode cX6_init 136 = .ok (.iconst (-1), 1) := dk_2 (dk_at dksX6_init_5 18 rfl rfl)
theorem dX6_init_137 : decode cX6_init 137 = .ok (.iastore, 1) := dk_79 (dk_at dksX6_init_5 19 rfl rfl)
theorem dX6_init_138 : decode cX6_init 138 = .ok (.dup, 1) := dk_89 (dk_at dksX6_init_5 20 rfl rfl)
theorem dX6_init_139 : decode cX6_init 139 = .ok (.iconst 5, 1) := dk_8 (dk_at dksX6_init_5 21 rfl rfl)
theorem dX6_init_140 : decode cX6_init 140 = .ok (.iconst (-1), 1) := dk_2 (dk_at dksX6_init_5 22 rfl rfl)
theorem dX6_init_141 : decode cX6_init 141 = .ok (.iastore, 1) := dk_79 (dk_at dksX6_init_5 23 rfl rfl)
theorem dX6_init_142 : decode cX6_init 142 = .ok (.dup, 1) := dk_89 (dk_at dksX6_init_6 0 rfl rfl)
theorem dX6_init_143 : decode cX6_init 143 = .ok (.bipush 6, 2) := dk_16 6 (dk_at dksX6_init_6 1 rfl rfl)
theorem dX6_init_145 : decode cX6_init 145 = .ok (.iconst (-1), 1) := dk_2 (dk_at dksX6_init_6 3 rfl rfl)
theorem dX6_init_146 : decode cX6_init 146 = .ok (.iastore, 1) := dk_79 (dk_at dksX6_init_6 4 rfl rfl)
theorem dX6_init_147 : decode cX6_init 147 = .ok (.dup, 1) := dk_89 (dk_at dksX6_init_6 5 rfl rfl)
theorem dX6_init_148 : decode cX6_init 148 = .ok (.bipush 7, 2) := dk_16 7 (dk_at dksX6_init_6 6 rfl rfl)
theorem dX6_init_150 : decode cX6_init 150 = .ok (.iconst (-1), 1) := dk_2 (dk_at dksX6_init_6 8 rfl rfl)
theorem dX6_init_151 : decode cX6_init 151 = .ok (.iastore, 1) := dk_79 (dk_at dksX6_init_6 9 rfl rfl)
theorem dX6_init_152 : decode cX6_init 152 = .ok (.putfield 22, 3) := dk_181 0 22 (dk_at dksX6_init_6 10 rfl rfl)
theorem dX6_init_155 : decode cX6_init 155 = .ok (.aload_n 0, 1) := dk_42 (dk_at dksX6_init_6 13 rfl rfl)
theorem dX6_init_156 : decode cX6_init 156 = .ok (.bipush 14, 2) := dk_16 14 (dk_at dksX6_init_6 14 rfl rfl)
theorem dX6_init_158 : decode cX6_init 158 = .ok (.newarray .int, 2) := dk_188_10 (dk_at dksX6_init_6 16 rfl rfl)
theorem dX6_init_160 : decode cX6_init 160 = .ok (.putfield 25, 3) := dk_181 0 25 (dk_at dksX6_init_6 18 rfl rfl)
theorem dX6_init_163 : decode cX6_init 163 = .ok (.aload_n 0, 1) := dk_42 (dk_at dksX6_init_6 21 rfl rfl)
theorem dX6_init_164 : decode cX6_init 164 = .ok (.bipush 14, 2) := dk_16 14 (dk_at dksX6_init_6 22 rfl rfl)
theorem dX6_init_166 : decode cX6_init 166 = .ok (.newarray .int, 2) := dk_188_10 (dk_at dksX6_init_7 0 rfl rfl)
theorem dX6_init_168 : decode cX6_init 168 = .ok (.putfield 28, 3) := dk_181 0 28 (dk_at dksX6_init_7 2 rfl rfl)
theorem dX6_init_171 : decode cX6_init 171 = .ok (.aload_n 0, 1) := dk_42 (dk_at dksX6_init_7 5 rfl rfl)
theorem dX6_init_172 : decode cX6_init 172 = .ok (.bipush 32, 2) := dk_16 32 (dk_at dksX6_init_7 6 rfl rfl)
theorem dX6_init_174 : decode cX6_init 174 = .ok (.newarray .int, 2) := dk_188_10 (dk_at dksX6_init_7 8 rfl rfl)
theorem dX6_init_176 : decode cX6_init 176 = .ok (.putfield 31, 3) := dk_181 0 31 (dk_at dksX6_init_7 10 rfl rfl)
theorem dX6_init_179 : decode cX6_init 179 = .ok (.aload_n 0, 1) := dk_42 (dk_at dksX6_init_7 13 rfl rfl)
theorem dX6_init_180 : decode cX6_init 180 = .ok (.bipush 32, 2) := dk_16 32 (dk_at dksX6_init_7 14 rfl rfl)
theorem dX6_init_182 : decode cX6_init 182 = .ok (.newarray .int, 2) := dk_188_10 (dk_at dksX6_init_7 16 rfl rfl)
theorem dX6_init_184 : decode cX6_init 184 = .ok (.putfield 34, 3) := dk_181 0 34 (dk_at dksX6_init_7 18 rfl rfl)
theorem dX6_init_187 : decode cX6_init 187 = .ok (.aload_n 0, 1) := dk_42 (dk_at dksX6_init_7 21 rfl rfl)
theorem dX6_init_188 : decode cX6_init 188 = .ok (.bipush 32, 2) := dk_16 32 (dk_at dksX6_init_7 22 rfl rfl)
theorem dX6_init_190 : decode cX6_init 190 = .ok (.newarray .int, 2) := dk_188_10 (dk_at dksX6_init_8 0 rfl rfl)
theorem dX6_init_192 : decode cX6_init 192 = .ok (.putfield 37, 3) := dk_181 0 37 (dk_at dksX6_init_8 2 rfl rfl)
theorem dX6_init_195 : decode cX6_init 195 = .ok (.aload_n 0, 1) := dk_42 (dk_at dksX6_init_8 5 rfl rfl)
theorem dX6_init_196 : decode cX6_init 196 = .ok (.bipush 32, 2) := dk_16 32 (dk_at dksX6_init_8 6 rfl rfl)
theorem dX6_init_198 : decode cX6_init 198 = .ok (.newarray .int, 2) := dk_188_10 (dk_at dksX6_init_8 8 rfl rfl)
theorem dX6_init_200 : decode cX6_init 200 = .ok (.putfield 40, 3) := dk_181 0 40 (dk_at dksX6_init_8 10 rfl rfl)
theorem dX6_init_203 : decode cX6_init 203 = .ok (.aload_n 0, 1) := dk_42 (dk_at dksX6_init_8 13 rfl rfl)
theorem dX6_init_204 : decode cX6_init 204 = .ok (.bipush 32, 2) := dk_16 32 (dk_at dksX6_init_8 14 rfl rfl)
theorem dX6_init_206 : decode cX6_init 206 = .ok (.newarray .int, 2) := dk_188_10 (dk_at dksX6_init_8 16 rfl rfl)
theorem dX6_init_208 : decode cX6_init 208 = .ok (.putfield 43, 3) := dk_181 0 43 (dk_at dksX6_init_8 18 rfl rfl)
theorem dX6_init_211 : decode cX6_init 211 = .ok (.aload_n 0, 1) := dk_42 (dk_at dksX6_init_8 21 rfl rfl)
theorem dX6_init_212 : decode cX6_init 212 = .ok (.bipush 32, 2) := dk_16 32 (dk_at dksX6_init_8 22 rfl rfl)
theorem dX6_init_214 : decode cX6_init 214 = .ok (.newarray .int, 2) := dk_188_10 (dk_at dksX6_init_9 0 rfl rfl)
theorem dX6_init_216 : decode cX6_init 216 = .ok (.putfield 46, 3) := dk_181 0 46 (dk_at dksX6_init_9 2 rfl rfl)
theorem dX6_init_219 : decode cX6_init 219 = .ok (.aload_n 0, 1) := dk_42 (dk_at dksX6_init_9 5 rfl rfl)
theorem dX6_init_220 : decode cX6_init 220 = .ok (.bipush 32, 2) := dk_16 32 (dk_at dksX6_init_9 6 rfl rfl)
theorem dX6_init_222 : decode cX6_init 222 = .ok (.newarray .int, 2) := dk_188_10 (dk_at dksX6_init_9 8 rfl rfl)
theorem dX6_init_224 : decode cX6_init 224 = .ok (.putfield 49, 3) := dk_181 0 49 (dk_at dksX6_init_9 10 rfl rfl)
theorem dX6_init_227 : decode cX6_init 227 = .ok (.aload_n 0, 1) := dk_42 (dk_at dksX6_init_9 13 rfl rfl)
theorem dX6_init_228 : decode cX6_init 228 = .ok (.bipush 32, 2) := dk_16 32 (dk_at dksX6_init_9 14 rfl rfl)
theorem dX6_init_230 : decode cX6_init 230 = .ok (.newarray .int, 2) := dk_188_10 (dk_at dksX6_init_9 16 rfl rfl)
theorem dX6_init_232 : decode cX6_init 232 = .ok (.putfield 52, 3) := dk_181 0 52 (dk_at dksX6_init_9 18 rfl rfl)
theorem dX6_init_235 : decode cX6_init 235 = .ok (.aload_n 0, 1) := dk_42 (dk_at dksX6_init_9 21 rfl rfl)
theorem dX6_init_236 : decode cX6_init 236 = .ok (.bipush 8, 2) := dk_16 8 (dk_at dksX6_init_9 22 rfl rfl)
theorem dX6_init_238 : decode cX6_init 238 = .ok (.newarray .int, 2) := dk_188_10 (dk_at dksX6_init_10 0 rfl rfl)
theorem dX6_init_240 : decode cX6_init 240 = .ok (.putfield 55, 3) := dk_181 0 55 (dk_at dksX6_init_10 2 rfl rfl)
theorem dX6_init_243 : decode cX6_init 243 = .ok (.aload_n 0, 1) := dk_42 (dk_at dksX6_init_10 5 rfl rfl)
theorem dX6_init_244 : decode cX6_init 244 = .ok (.bipush 8, 2) := dk_16 8 (dk_at dksX6_init_10 6 rfl rfl)
theorem dX6_init_246 : decode cX6_init 246 = .ok (.newarray .int, 2) := dk_188_10 (dk_at dksX6_init_10 8 rfl rfl)
theorem dX6_init_248 : decode cX6_init 248 = .ok (.putfield 58, 3) := dk_181 0 58 (dk_at dksX6_init_10 10 rfl rfl)
theorem dX6_init_251 : decode cX6_init 251 = .ok (.aload_n 0, 1) := dk_42 (dk_at dksX6_init_10 13 rfl rfl)
theorem dX6_init_252 : decode cX6_init 252 = .ok (.bipush 8, 2) := dk_16 8 (dk_at dksX6_init_10 14 rfl rfl)
theorem dX6_init_254 : decode cX6_init 254 = .ok (.newarray .int, 2) := dk_188_10 (dk_at dksX6_init_10 16 rfl rfl)
theorem dX6_init_256 : decode cX6_init 256 = .ok (.putfield 61, 3) := dk_181 0 61 (dk_at dksX6_init_10 18 rfl rfl)
theorem dX6_init_259 : decode cX6_init 259 = .ok (.aload_n 0, 1) := dk_42 (dk_at dksX6_init_10 21 rfl rfl)
theorem dX6_init_260 : decode cX6_init 260 = .ok (.bipush 12, 2) := dk_16 12 (dk_at dksX6_init_10 22 rfl rfl)
theorem dX6_init_262 : decode cX6_init 262 = .ok (.newarray .int, 2) := dk_188_10 (dk_at dksX6_init_11 0 rfl rfl)
theorem dX6_init_264 : decode cX6_init 264 = .ok (.putfield 64, 3) := dk_181 0 64 (dk_at dksX6_init_11 2 rfl rfl)
theorem dX6_init_267 : decode cX6_init 267 = .ok (.aload_n 0, 1) := dk_42 (dk_at dksX6_init_11 5 rfl rfl)
theorem dX6_init_268 : decode cX6_init 268 = .ok (.bipush 12, 2) := dk_16 12 (dk_at dksX6_init_11 6 rfl rfl)
theorem dX6_init_270 : decode cX6_init 270 = .ok (.newarray .int, 2) := dk_188_10 (dk_at dksX6_init_11 8 rfl rfl)
theorem dX6_init_272 : decode cX6_init 272 = .ok (.putfield 67, 3) := dk_181 0 67 (dk_at dksX6_init_11 10 rfl rfl)
theorem dX6_init_275 : decode cX6_init 275 = .ok (.aload_n 0, 1) := dk_42 (dk_at dksX6_init_11 13 rfl rfl)
theorem dX6_init_276 : decode cX6_init 276 = .ok (.sipush 128, 3) := dk_17 0 128 (dk_at dksX6_init_11 14 rfl rfl)
theorem dX6_init_279 : decode cX6_init 279 = .ok (.newarray .int, 2) := dk_188_10 (dk_at dksX6_init_11 17 rfl rfl)
theorem dX6_init_281 : decode cX6_init 281 = .ok (.putfield 70, 3) := dk_181 0 70 (dk_at dksX6_init_11 19 rfl rfl)
theorem dX6_init_284 : decode cX6_init 284 = .ok (.aload_n 0, 1) := dk_42 (dk_at dksX6_init_11 22 rfl rfl)
theorem dX6_init_285 : decode cX6_init 285 = .ok (.sipush 128, 3) := dk_17 0 128 (dk_at dksX6_init_12 0 rfl rfl)
theorem dX6_init_288 : decode cX6_init 288 = .ok (.newarray .int, 2) := dk_188_10 (dk_at dksX6_init_12 3 rfl rfl)
theorem dX6_init_290 : decode cX6_init 290 = .ok (.putfield 73, 3) := dk_181 0 73 (dk_at dksX6_init_12 5 rfl rfl)
theorem dX6_init_293 : decode cX6_init 293 = .ok (.aload_n 0, 1) := dk_42 (dk_at dksX6_init_12 8 rfl rfl)
theorem dX6_init_294 : decode cX6_init 294 = .ok (.iconst (-1), 1) := dk_2 (dk_at dksX6_init_12 9 rfl rfl)
theorem dX6_init_295 : decode cX6_init 295 = .ok (.putfield 76, 3) := dk_181 0 76 (dk_at dksX6_init_12 10 rfl rfl)
theorem dX6_init_298 : decode cX6_init 298 = .ok (.aload_n 0, 1) := dk_42 (dk_at dksX6_init_12 13 rfl rfl)
theorem dX6_init_299 : decode cX6_init 299 = .ok (.bipush 6, 2) := dk_16 6 (dk_at dksX6_init_12 14 rfl rfl)
theorem dX6_init_301 : decode cX6_init 301 = .ok (.newarray .long, 2) := dk_188_11 (dk_at dksX6_init_12 16 rfl rfl)
theorem dX6_init_303 : decode cX6_init 303 = .ok (.putfield 80, 3) := dk_181 0 80 (dk_at dksX6_init_12 18 rfl rfl)
theorem dX6_init_306 : decode cX6_init 306 = .ok (.aload_n 0, 1) := dk_42 (dk_at dksX6_init_12 21 rfl rfl)
theorem dX6_init_307 : decode cX6_init 307 = .ok (.bipush 64, 2) := dk_16 64 (dk_at dksX6_init_12 22 rfl rfl)
theorem dX6_init_309 : decode cX6_init 309 = .ok (.newarray .long, 2) := dk_188_11 (dk_at dksX6_init_13 0 rfl rfl)
theorem dX6_init_311 : decode cX6_init 311 = .ok (.putfield 84, 3) := dk_181 0 84 (dk_at dksX6_init_13 2 rfl rfl)
theorem dX6_init_314 : decode cX6_init 314 = .ok (.aload_n 0, 1) := dk_42 (dk_at dksX6_init_13 5 rfl rfl)
theorem dX6_init_315 : decode cX6_init 315 = .ok (.iconst 3, 1) := dk_6 (dk_at dksX6_init_13 6 rfl rfl)
theorem dX6_init_316 : decode cX6_init 316 = .ok (.newarray .int, 2) := dk_188_10 (dk_at dksX6_init_13 7 rfl rfl)
theorem dX6_init_318 : decode cX6_init 318 = .ok (.putfield 87, 3) := dk_181 0 87 (dk_at dksX6_init_13 9 rfl rfl)
theorem dX6_init_321 : decode cX6_init 321 = .ok (.aload_n 0, 1) := dk_42 (dk_at dksX6_init_13 12 rfl rfl)
theorem dX6_init_322 : decode cX6_init 322 = .ok (.bipush 12, 2) := dk_16 12 (dk_at dksX6_init_13 13 rfl rfl)
theorem dX6_init_324 : decode cX6_init 324 = .ok (.newarray .int, 2) := dk_188_10 (dk_at dksX6_init_13 15 rfl rfl)
theorem dX6_init_326 : decode cX6_init 326 = .ok (.putfield 90, 3) := dk_181 0 90 (dk_at dksX6_init_13 17 rfl rfl)
theorem dX6_init_329 : decode cX6_init 329 = .ok (.aload_n 0, 1) := dk_42 (dk_at dksX6_init_13 20 rfl rfl)
theorem dX6_init_330 : decode cX6_init 330 = .ok (.bipush 84, 2) := dk_16 84 (dk_at dksX6_init_13 21 rfl rfl)
theorem dX6_init_332 : decode cX6_init 332 = .ok (.newarray .int, 2) := dk_188_10 (dk_at dksX6_init_14 0 rfl rfl)
theorem dX6_init_334 : decode cX6_init 334 = .ok (.putfield 93, 3) := dk_181 0 93 (dk_at dksX6_init_14 2 rfl rfl)
theorem dX6_init_337 : decode cX6_init 337 = .ok (.aload_n 0, 1) := dk_42 (dk_at dksX6_init_14 5 rfl rfl)
theorem dX6_init_338 : decode cX6_init 338 = .ok (.bipush 84, 2) := dk_16 84 (dk_at dksX6_init_14 6 rfl rfl)
theorem dX6_init_340 : decode cX6_init 340 = .ok (.newarray .int, 2) := dk_188_10 (dk_at dksX6_init_14 8 rfl rfl)
theorem dX6_init_342 : decode cX6_init 342 = .ok (.putfield 96, 3) := dk_181 0 96 (dk_at dksX6_init_14 10 rfl rfl)
theorem dX6_init_345 : decode cX6_init 345 = .ok (.aload_n 0, 1) := dk_42 (dk_at dksX6_init_14 13 rfl rfl)
theorem dX6_init_346 : decode cX6_init 346 = .ok (.bipush 84, 2) := dk_16 84 (dk_at dksX6_init_14 14 rfl rfl)
theorem dX6_init_348 : decode cX6_init 348 = .ok (.newarray .int, 2) := dk_188_10 (dk_at dksX6_init_14 16 rfl rfl)
theorem dX6_init_350 : decode cX6_init 350 = .ok (.putfield 99, 3) := dk_181 0 99 (dk_at dksX6_init_14 18 rfl rfl)
theorem dX6_init_353 : decode cX6_init 353 = .ok (.aload_n 0, 1) := dk_42 (dk_at dksX6_init_14 21 rfl rfl)
theorem dX6_init_354 : decode cX6_init 354 = .ok (.bipush 12, 2) := dk_16 12 (dk_at dksX6_init_14 22 rfl rfl)
theorem dX6_init_356 : decode cX6_init 356 = .ok (.newarray .int, 2) := dk_188_10 (dk_at dksX6_init_15 0 rfl rfl)
theorem dX6_init_358 : decode cX6_init 358 = .ok (.putfield 102, 3) := dk_181 0 102 (dk_at dksX6_init_15 2 rfl rfl)
theorem dX6_init_361 : decode cX6_init 361 = .ok (.aload_n 0, 1) := dk_42 (dk_at dksX6_init_15 5 rfl rfl)
theorem dX6_init_362 : decode cX6_init 362 = .ok (.bipush 12, 2) := dk_16 12 (dk_at dksX6_init_15 6 rfl rfl)
theorem dX6_init_364 : decode cX6_init 364 = .ok (.newarray .int, 2) := dk_188_10 (dk_at dksX6_init_15 8 rfl rfl)
theorem dX6_init_366 : decode cX6_init 366 = .ok (.putfield 105, 3) := dk_181 0 105 (dk_at dksX6_init_15 10 rfl rfl)
theorem dX6_init_369 : decode cX6_init 369 = .ok (.aload_n 0, 1) := dk_42 (dk_at dksX6_init_15 13 rfl rfl)
theorem dX6_init_370 : decode cX6_init 370 = .ok (.bipush 12, 2) := dk_16 12 (dk_at dksX6_init_15 14 rfl rfl)
theorem dX6_init_372 : decode cX6_init 372 = .ok (.newarray .boolean, 2) := dk_188_4 (dk_at dksX6_init_15 16 rfl rfl)
theorem dX6_init_374 : decode cX6_init 374 = .ok (.putfield 108, 3) := dk_181 0 108 (dk_at dksX6_init_15 18 rfl rfl)
theorem dX6_init_377 : decode cX6_init 377 = .ok (.aload_n 0, 1) := dk_42 (dk_at dksX6_init_15 21 rfl rfl)
theorem dX6_init_378 : decode cX6_init 378 = .ok (.bipush 48, 2) := dk_16 48 (dk_at dksX6_init_15 22 rfl rfl)
theorem dX6_init_380 : decode cX6_init 380 = .ok (.newarray .int, 2) := dk_188_10 (dk_at dksX6_init_16 0 rfl rfl)
theorem dX6_init_382 : decode cX6_init 382 = .ok (.putfield 112, 3) := dk_181 0 112 (dk_at dksX6_init_16 2 rfl rfl)
theorem dX6_init_385 : decode cX6_init 385 = .ok (.aload_n 0, 1) := dk_42 (dk_at dksX6_init_16 5 rfl rfl)
theorem dX6_init_386 : decode cX6_init 386 = .ok (.iconst 3, 1) := dk_6 (dk_at dksX6_init_16 6 rfl rfl)
theorem dX6_init_387 : decode cX6_init 387 = .ok (.newarray .int, 2) := dk_188_10 (dk_at dksX6_init_16 7 rfl rfl)
theorem dX6_init_389 : decode cX6_init 389 = .ok (.putfield 115, 3) := dk_181 0 115 (dk_at dksX6_init_16 9 rfl rfl)
theorem dX6_init_392 : decode cX6_init 392 = .ok (.aload_n 0, 1) := dk_42 (dk_at dksX6_init_16 12 rfl rfl)
theorem dX6_init_393 : decode cX6_init 393 = .ok (.sipush 1920, 3) := dk_17 7 128 (dk_at dksX6_init_16 13 rfl rfl)
theorem dX6_init_396 : decode cX6_init 396 = .ok (.newarray .int, 2) := dk_188_10 (dk_at dksX6_init_16 16 rfl rfl)
theorem dX6_init_398 : decode cX6_init 398 = .ok (.putfield 118, 3) := dk_181 0 118 (dk_at dksX6_init_16 18 rfl rfl)
theorem dX6_init_401 : decode cX6_init 401 = .ok (.aload_n 0, 1) := dk_42 (dk_at dksX6_init_16 21 rfl rfl)
theorem dX6_init_402 : decode cX6_init 402 = .ok (.sipush 1920, 3) := dk_17 7 128 (dk_at dksX6_init_17 0 rfl rfl)
theorem dX6_init_405 : decode cX6_init 405 = .ok (.newarray .int, 2) := dk_188_10 (dk_at dksX6_init_17 3 rfl rfl)
theorem dX6_init_407 : decode cX6_init 407 = .ok (.putfield 121, 3) := dk_181 0 121 (dk_at dksX6_init_17 5 rfl rfl)
theorem dX6_init_410 : decode cX6_init 410 = .ok (.aload_n 0, 1) := dk_42 (dk_at dksX6_init_17 8 rfl rfl)
theorem dX6_init_411 : decode cX6_init 411 = .ok (.sipush 1920, 3) := dk_17 7 128 (dk_at dksX6_init_17 9 rfl rfl)
theorem dX6_init_414 : decode cX6_init 414 = .ok (.newarray .int, 2) := dk_188_10 (dk_at dksX6_init_17 12 rfl rfl)
theorem dX6_init_416 : decode cX6_init 416 = .ok (.putfield 124, 3) := dk_181 0 124 (dk_at dksX6_init_17 14 rfl rfl)
theorem dX6_init_419 : decode cX6_init 419 = .ok (.aload_n 0, 1) := dk_42 (dk_at dksX6_init_17 17 rfl rfl)
theorem dX6_init_420 : decode cX6_init 420 = .ok (.sipush 1920, 3) := dk_17 7 128 (dk_at dksX6_init_17 18 rfl rfl)
theorem dX6_init_423 : decode cX6_init 423 = .ok (.newarray .int, 2) := dk_188_10 (dk_at dksX6_init_17 21 rfl rfl)
theorem dX6_init_425 : decode cX6_init 425 = .ok (.putfield 127, 3) := dk_181 0 127 (dk_at dksX6_init_18 0 rfl rfl)
theorem dX6_init_428 : decode cX6_init 428 = .ok (.aload_n 0, 1) := dk_42 (dk_at dksX6_init_18 3 rfl rfl)
theorem dX6_init_429 : decode cX6_init 429 = .ok (.iconst 4, 1) := dk_7 (dk_at dksX6_init_18 4 rfl rfl)
theorem dX6_init_430 : decode cX6_init 430 = .ok (.newarray .int, 2) := dk_188_10 (dk_at dksX6_init_18 5 rfl rfl)
theorem dX6_init_432 : decode cX6_init 432 = .ok (.putfield 130, 3) := dk_181 0 130 (dk_at dksX6_init_18 7 rfl rfl)
theorem dX6_init_435 : decode cX6_init 435 = .ok (.aload_n 0, 1) := dk_42 (dk_at dksX6_init_18 10 rfl rfl)
theorem dX6_init_436 : decode cX6_init 436 = .ok (.iconst 4, 1) := dk_7 (dk_at dksX6_init_18 11 rfl rfl)
theorem dX6_init_437 : decode cX6_init 437 = .ok (.newarray .int, 2) := dk_188_10 (dk_at dksX6_init_18 12 rfl rfl)
theorem dX6_init_439 : decode cX6_init 439 = .ok (.putfield 133, 3) := dk_181 0 133 (dk_at dksX6_init_18 14 rfl rfl)
theorem dX6_init_442 : decode cX6_init 442 = .ok (.aload_n 0, 1) := dk_42 (dk_at dksX6_init_18 17 rfl rfl)
theorem dX6_init_443 : decode cX6_init 443 = .ok (.iconst 4, 1) := dk_7 (dk_at dksX6_init_18 18 rfl rfl)
theorem dX6_init_444 : decode cX6_init 444 = .ok (.newarray .int, 2) := dk_188_10 (dk_at dksX6_init_18 19 rfl rfl)
theorem dX6_init_446 : decode cX6_init 446 = .ok (.putfield 136, 3) := dk_181 0 136 (dk_at dksX6_init_18 21 rfl rfl)
theorem dX6_init_449 : decode cX6_init 449 = .ok (.aload_n 0, 1) := dk_42 (dk_at dksX6_init_19 0 rfl rfl)
theorem dX6_init_450 : decode cX6_init 450 = .ok (.sipush 4352, 3) := dk_17 17 0 (dk_at dksX6_init_19 1 rfl rfl)
theorem dX6_init_453 : decode cX6_init 453 = .ok (.newarray .long, 2) := dk_188_11 (dk_at dksX6_init_19 4 rfl rfl)
theorem dX6_init_455 : decode cX6_init 455 = .ok (.putfield 139, 3) := dk_181 0 139 (dk_at dksX6_init_19 6 rfl rfl)
theorem dX6_init_458 : decode cX6_init 458 = .ok (.aload_n 0, 1) := dk_42 (dk_at dksX6_init_19 9 rfl rfl)
theorem dX6_init_459 : decode cX6_init 459 = .ok (.bipush 16, 2) := dk_16 16 (dk_at dksX6_init_19 10 rfl rfl)
theorem dX6_init_461 : decode cX6_init 461 = .ok (.newarray .int, 2) := dk_188_10 (dk_at dksX6_init_19 12 rfl rfl)
theorem dX6_init_463 : decode cX6_init 463 = .ok (.putfield 142, 3) := dk_181 0 142 (dk_at dksX6_init_19 14 rfl rfl)
theorem dX6_init_466 : decode cX6_init 466 = .ok (.aload_n 0, 1) := dk_42 (dk_at dksX6_init_19 17 rfl rfl)
theorem dX6_init_467 : decode cX6_init 467 = .ok (.bipush 16, 2) := dk_16 16 (dk_at dksX6_init_19 18 rfl rfl)
theorem dX6_init_469 : decode cX6_init 469 = .ok (.newarray .int, 2) := dk_188_10 (dk_at dksX6_init_19 20 rfl rfl)
theorem dX6_init_471 : decode cX6_init 471 = .ok (.putfield 145, 3) := dk_181 0 145 (dk_at dksX6_init_20 0 rfl rfl)
theorem dX6_init_474 : decode cX6_init 474 = .ok (.aload_n 0, 1) := dk_42 (dk_at dksX6_init_20 3 rfl rfl)
theorem dX6_init_475 : decode cX6_init 475 = .ok (.bipush 16, 2) := dk_16 16 (dk_at dksX6_init_20 4 rfl rfl)
theorem dX6_init_477 : decode cX6_init 477 = .ok (.newarray .int, 2) := dk_188_10 (dk_at dksX6_init_20 6 rfl rfl)
theorem dX6_init_479 : decode cX6_init 479 = .ok (.putfield 148, 3) := dk_181 0 148 (dk_at dksX6_init_20 8 rfl rfl)
theorem dX6_init_482 : decode cX6_init 482 = .ok (.aload_n 0, 1) := dk_42 (dk_at dksX6_init_20 11 rfl rfl)
theorem dX6_init_483 : decode cX6_init 483 = .ok (.sipush 19208, 3) := dk_17 75 8 (dk_at dksX6_init_20 12 rfl rfl)
theorem dX6_init_486 : decode cX6_init 486 = .ok (.newarray .int, 2) := dk_188_10 (dk_at dksX6_init_20 15 rfl rfl)
theorem dX6_init_488 : decode cX6_init 488 = .ok (.putfield 151, 3) := dk_181 0 151 (dk_at dksX6_init_20 17 rfl rfl)
theorem dX6_init_491 : decode cX6_init 491 = .ok (.aload_n 0, 1) := dk_42 (dk_at dksX6_init_20 20 rfl rfl)
theorem dX6_init_492 : decode cX6_init 492 = .ok (.iconst (-1), 1) := dk_2 (dk_at dksX6_init_20 21 rfl rfl)
theorem dX6_init_493 : decode cX6_init 493 = .ok (.putfield 154, 3) := dk_181 0 154 (dk_at dksX6_init_21 0 rfl rfl)
theorem dX6_init_496 : decode cX6_init 496 = .ok (.aload_n 0, 1) := dk_42 (dk_at dksX6_init_21 3 rfl rfl)
theorem dX6_init_497 : decode cX6_init 497 = .ok (.bipush 24, 2) := dk_16 24 (dk_at dksX6_init_21 4 rfl rfl)
theorem dX6_init_499 : decode cX6_init 499 = .ok (.newarray .int, 2) := dk_188_10 (dk_at dksX6_init_21 6 rfl rfl)
theorem dX6_init_501 : decode cX6_init 501 = .ok (.putfield 157, 3) := dk_181 0 157 (dk_at dksX6_init_21 8 rfl rfl)
theorem dX6_init_504 : decode cX6_init 504 = .ok (.aload_n 0, 1) := dk_42 (dk_at dksX6_init_21 11 rfl rfl)
theorem dX6_init_505 : decode cX6_init 505 = .ok (.bipush 24, 2) := dk_16 24 (dk_at dksX6_init_21 12 rfl rfl)
theorem dX6_init_507 : decode cX6_init 507 = .ok (.newarray .int, 2) := dk_188_10 (dk_at dksX6_init_21 14 rfl rfl)
theorem dX6_init_509 : decode cX6_init 509 = .ok (.putfield 160, 3) := dk_181 0 160 (dk_at dksX6_init_21 16 rfl rfl)
theorem dX6_init_512 : decode cX6_init 512 = .ok (.aload_n 0, 1) := dk_42 (dk_at dksX6_init_21 19 rfl rfl)
theorem dX6_init_513 : decode cX6_init 513 = .ok (.bipush 24, 2) := dk_16 24 (dk_at dksX6_init_21 20 rfl rfl)
theorem dX6_init_515 : decode cX6_init 515 = .ok (.newarray .boolean, 2) := dk_188_4 (dk_at dksX6_init_21 22 rfl rfl)
theorem dX6_init_517 : decode cX6_init 517 = .ok (.putfield 163, 3) := dk_181 0 163 (dk_at dksX6_init_22 0 rfl rfl)
theorem dX6_init_520 : decode cX6_init 520 = .ok (.return_, 1) := dk_177 (dk_at dksX6_init_22 3 rfl rfl)
abbrev cX6_thrown : ByteArray := prog_23_method_2_code
def yX6_thrown : MethodName := ⟨RX6, "thrown", "()I"⟩
theorem dX6_thrown_0 : decode cX6_thrown 0 = .ok (.aload_n 0, 1) := by decide +kernel
theorem dX6_thrown_1 : decode cX6_thrown 1 = .ok (.getfield 166, 3) := by decide +kernel
theorem dX6_thrown_4 : decode cX6_thrown 4 = .ok (.ireturn, 1) := by decide +kernel
abbrev cX6_feed : ByteArray := prog_23_method_3_code
def yX6_feed : MethodName := ⟨RX6, "feed", "(IIIII)I"⟩
def dkwX6_feed_5 : List UInt8 := [181, 0, 169, 42, 180, 0, 169, 172]
abbrev dktX6_feed_5 : List UInt8 := dkwX6_feed_5 ++ []
def dkwX6_feed_4 : List UInt8 := [112, 104, 100, 122, 17, 0, 255, 126, 79, 132, 6, 1, 167, 255, 169, 42, 89, 180, 0, 169, 16, 20, 96]
abbrev dktX6_feed_4 : List UInt8 := dkwX6_feed_4 ++ dktX6_feed_5
def dkwX6_feed_3 : List UInt8 := [21, 5, 54, 7, 42, 180, 0, 9, 42, 180, 0, 169, 21, 6, 96, 21, 7, 16, 24, 16, 8, 21, 6, 7]
abbrev dktX6_feed_3 : List UInt8 := dkwX6_feed_3 ++ dktX6_feed_4
def dkwX6_feed_2 : List UInt8 := [21, 6, 16, 12, 162, 0, 7, 29, 167, 0, 17, 21, 6, 16, 16, 162, 0, 8, 21, 4, 167, 0, 5]
abbrev dktX6_feed_2 : List UInt8 := dkwX6_feed_2 ++ dktX6_feed_3
def dkwX6_feed_1 : List UInt8 := [162, 0, 86, 21, 6, 7, 162, 0, 7, 27, 167, 0, 39, 21, 6, 16, 8, 162, 0, 7, 28, 167, 0, 28]
abbrev dktX6_feed_1 : List UInt8 := dkwX6_feed_1 ++ dktX6_feed_2
def dkwX6_feed_0 : List UInt8 := [42, 3, 181, 0, 166, 42, 180, 0, 169, 17, 3, 112, 164, 0, 5, 2, 172, 3, 54, 6, 21, 6, 16, 20]
abbrev dktX6_feed_0 : List UInt8 := dkwX6_feed_0 ++ dktX6_feed_1
theorem dksX6_feed_0 : cX6_feed.data.toList.drop 0 = dktX6_feed_0 := by decide +kernel
theorem dksX6_feed_1 : cX6_feed.data.toList.drop 24 = dktX6_feed_1 := dk_seg dksX6_feed_0 24 rfl rfl
theorem dksX6_feed_2 : cX6_feed.data.toList.drop 48 = dktX6_feed_2 := dk_seg dksX6_feed_1 24 rfl rfl
theorem dksX6_feed_3 : cX6_feed.data.toList.drop 71 = dktX6_feed_3 := dk_seg dksX6_feed_2 23 rfl rfl
theorem dksX6_feed_4 : cX6_feed.data.toList.drop 95 = dktX6_feed_4 := dk_seg dksX6_feed_3 24 rfl rfl
theorem dksX6_feed_5 : cX6_feed.data.toList.drop 118 = dktX6_feed_5 := dk_seg dksX6_feed_4 23 rfl rfl
theorem dX6_feed_0 : decode cX6_feed 0 = .ok (.aload_n 0, 1) := dk_42 (dk_at dksX6_feed_0 0 rfl rfl)
theorem dX6_feed_1 : decode cX6_feed 1 = .ok (.iconst 0, 1) := dk_3 (dk_at dksX6_feed_0 1 rfl rfl)
theorem dX6_feed_2 : decode cX6_feed 2 = .ok (.putfield 166, 3) := dk_181 0 166 (dk_at dksX6_feed_0 2 rfl rfl)
theorem dX6_feed_5 : decode cX6_feed 5 = .ok (.aload_n 0, 1) := dk_42 (dk_at dksX6_feed_0 5 rfl rfl)
theorem dX6_feed_6 : decode cX6_feed 6 = .ok (.getfield 169, 3) := dk_180 0 169 (dk_at dksX6_feed_0 6 rfl rfl)
theorem dX6_feed_9 : decode cX6_feed 9 = .ok (.sipush 880, 3) := dk_17 3 112 (dk_at dksX6_feed_0 9 rfl rfl)
theorem dX6_feed_12 : decode cX6_feed 12 = .ok (.if_icmp .le 5, 3) := dk_164 0 5 (dk_at dksX6_feed_0 12 rfl rfl)
theorem dX6_feed_15 : decode cX6_feed 15 = .ok (.iconst (-1), 1) := dk_2 (dk_at dksX6_feed_0 15 rfl rfl)
theorem dX6_feed_16 : decode cX6_feed 16 = .ok (.ireturn, 1) := dk_172 (dk_at dksX6_feed_0 16 rfl rfl)
theorem dX6_feed_17 : decode cX6_feed 17 = .ok (.iconst 0, 1) := dk_3 (dk_at dksX6_feed_0 17 rfl rfl)
theorem dX6_feed_18 : decode cX6_feed 18 = .ok (.istore 6, 2) := dk_54 6 (dk_at dksX6_feed_0 18 rfl rfl)
theorem dX6_feed_20 : decode cX6_feed 20 = .ok (.iload 6, 2) := dk_21 6 (dk_at dksX6_feed_0 20 rfl rfl)
theorem dX6_feed_22 : decode cX6_feed 22 = .ok (.bipush 20, 2) := dk_16 20 (dk_at dksX6_feed_0 22 rfl rfl)
theorem dX6_feed_24 : decode cX6_feed 24 = .ok (.if_icmp .ge 86, 3) := dk_162 0 86 (dk_at dksX6_feed_1 0 rfl rfl)
theorem dX6_feed_27 : decode cX6_feed 27 = .ok (.iload 6, 2) := dk_21 6 (dk_at dksX6_feed_1 3 rfl rfl)
theorem dX6_feed_29 : decode cX6_feed 29 = .ok (.iconst 4, 1) := dk_7 (dk_at dksX6_feed_1 5 rfl rfl)
theorem dX6_feed_30 : decode cX6_feed 30 = .ok (.if_icmp .ge 7, 3) := dk_162 0 7 (dk_at dksX6_feed_1 6 rfl rfl)
theorem dX6_feed_33 : decode cX6_feed 33 = .ok (.iload_n 1, 1) := dk_27 (dk_at dksX6_feed_1 9 rfl rfl)
theorem dX6_feed_34 : decode cX6_feed 34 = .ok (.goto 39, 3) := dk_167 0 39 (dk_at dksX6_feed_1 10 rfl rfl)
theorem dX6_feed_37 : decode cX6_feed 37 = .ok (.iload 6, 2) := dk_21 6 (dk_at dksX6_feed_1 13 rfl rfl)
theorem dX6_feed_39 : decode cX6_feed 39 = .ok (.bipush 8, 2) := dk_16 8 (dk_at dksX6_feed_1 15 rfl rfl)
theorem dX6_feed_41 : decode cX6_feed 41 = .ok (.if_icmp .ge 7, 3) := dk_162 0 7 (dk_at dksX6_feed_1 17 rfl rfl)
theorem dX6_feed_44 : decode cX6_feed 44 = .ok (.iload_n 2, 1) := dk_28 (dk_at dksX6_feed_1 20 rfl rfl)
theorem dX6_feed_45 : decode cX6_feed 45 = .ok (.goto 28, 3) := dk_167 0 28 (dk_at dksX6_feed_1 21 rfl rfl)
theorem dX6_feed_48 : decode cX6_feed 48 = .ok (.iload 6, 2) := dk_21 6 (dk_at dksX6_feed_2 0 rfl rfl)
theorem dX6_feed_50 : decode cX6_feed 50 = .ok (.bipush 12, 2) := dk_16 12 (dk_at dksX6_feed_2 2 rfl rfl)
theorem dX6_feed_52 : decode cX6_feed 52 = .ok (.if_icmp .ge 7, 3) := dk_162 0 7 (dk_at dksX6_feed_2 4 rfl rfl)
theorem dX6_feed_55 : decode cX6_feed 55 = .ok (.iload_n 3, 1) := dk_29 (dk_at dksX6_feed_2 7 rfl rfl)
theorem dX6_feed_56 : decode cX6_feed 56 = .ok (.goto 17, 3) := dk_167 0 17 (dk_at dksX6_feed_2 8 rfl rfl)
theorem dX6_feed_59 : decode cX6_feed 59 = .ok (.iload 6, 2) := dk_21 6 (dk_at dksX6_feed_2 11 rfl rfl)
theorem dX6_feed_61 : decode cX6_feed 61 = .ok (.bipush 16, 2) := dk_16 16 (dk_at dksX6_feed_2 13 rfl rfl)
theorem dX6_feed_63 : decode cX6_feed 63 = .ok (.if_icmp .ge 8, 3) := dk_162 0 8 (dk_at dksX6_feed_2 15 rfl rfl)
theorem dX6_feed_66 : decode cX6_feed 66 = .ok (.iload 4, 2) := dk_21 4 (dk_at dksX6_feed_2 18 rfl rfl)
theorem dX6_feed_68 : decode cX6_feed 68 = .ok (.goto 5, 3) := dk_167 0 5 (dk_at dksX6_feed_2 20 rfl rfl)
theorem dX6_feed_71 : decode cX6_feed 71 = .ok (.iload 5, 2) := dk_21 5 (dk_at dksX6_feed_3 0 rfl rfl)
theorem dX6_feed_73 : decode cX6_feed 73 = .ok (.istore 7, 2) := dk_54 7 (dk_at dksX6_feed_3 2 rfl rfl)
theorem dX6_feed_75 : decode cX6_feed 75 = .ok (.aload_n 0, 1) := dk_42 (dk_at dksX6_feed_3 4 rfl rfl)
theorem dX6_feed_76 : decode cX6_feed 76 = .ok (.getfield 9, 3) := dk_180 0 9 (dk_at dksX6_feed_3 5 rfl rfl)
theorem dX6_feed_79 : decode cX6_feed 79 = .ok (.aload_n 0, 1) := dk_42 (dk_at dksX6_feed_3 8 rfl rfl)
theorem dX6_feed_80 : decode cX6_feed 80 = .ok (.getfield 169, 3) := dk_180 0 169 (dk_at dksX6_feed_3 9 rfl rfl)
theorem dX6_feed_83 : decode cX6_feed 83 = .ok (.iload 6, 2) := dk_21 6 (dk_at dksX6_feed_3 12 rfl rfl)
theorem dX6_feed_85 : decode cX6_feed 85 = .ok (.iadd, 1) := dk_96 (dk_at dksX6_feed_3 14 rfl rfl)
theorem dX6_feed_86 : decode cX6_feed 86 = .ok (.iload 7, 2) := dk_21 7 (dk_at dksX6_feed_3 15 rfl rfl)
theorem dX6_feed_88 : decode cX6_feed 88 = .ok (.bipush 24, 2) := dk_16 24 (dk_at dksX6_feed_3 17 rfl rfl)
theorem dX6_feed_90 : decode cX6_feed 90 = .ok (.bipush 8, 2) := dk_16 8 (dk_at dksX6_feed_3 19 rfl rfl)
theorem dX6_feed_92 : decode cX6_feed 92 = .ok (.iload 6, 2) := dk_21 6 (dk_at dksX6_feed_3 21 rfl rfl)
theorem dX6_feed_94 : decode cX6_feed 94 = .ok (.iconst 4, 1) := dk_7 (dk_at dksX6_feed_3 23 rfl rfl)
theorem dX6_feed_95 : decode cX6_feed 95 = .ok (.irem, 1) := dk_112 (dk_at dksX6_feed_4 0 rfl rfl)
theorem dX6_feed_96 : decode cX6_feed 96 = .ok (.imul, 1) := dk_104 (dk_at dksX6_feed_4 1 rfl rfl)
theorem dX6_feed_97 : decode cX6_feed 97 = .ok (.isub, 1) := dk_100 (dk_at dksX6_feed_4 2 rfl rfl)
theorem dX6_feed_98 : decode cX6_feed 98 = .ok (.ishr, 1) := dk_122 (dk_at dksX6_feed_4 3 rfl rfl)
theorem dX6_feed_99 : decode cX6_feed 99 = .ok (.sipush 255, 3) := dk_17 0 255 (dk_at dksX6_feed_4 4 rfl rfl)
theorem dX6_feed_102 : decode cX6_feed 102 = .ok (.iand, 1) := dk_126 (dk_at dksX6_feed_4 7 rfl rfl)
theorem dX6_feed_103 : decode cX6_feed 103 = .ok (.iastore, 1) := dk_79 (dk_at dksX6_feed_4 8 rfl rfl)
theorem dX6_feed_104 : decode cX6_feed 104 = .ok (.iinc 6 1, 3) := dk_132 6 1 (dk_at dksX6_feed_4 9 rfl rfl)
theorem dX6_feed_107 : decode cX6_feed 107 = .ok (.goto (-87), 3) := dk_167 255 169 (dk_at dksX6_feed_4 12 rfl rfl)
theorem dX6_feed_110 : decode cX6_feed 110 = .ok (.aload_n 0, 1) := dk_42 (dk_at dksX6_feed_4 15 rfl rfl)
theorem dX6_feed_111 : decode cX6_feed 111 = .ok (.dup, 1) := dk_89 (dk_at dksX6_feed_4 16 rfl rfl)
theorem dX6_feed_112 : decode cX6_feed 112 = .ok (.getfield 169, 3) := dk_180 0 169 (dk_at dksX6_feed_4 17 rfl rfl)
theorem dX6_feed_115 : decode cX6_feed 115 = .ok (.bipush 20, 2) := dk_16 20 (dk_at dksX6_feed_4 20 rfl rfl)
theorem dX6_feed_117 : decode cX6_feed 117 = .ok (.iadd, 1) := dk_96 (dk_at dksX6_feed_4 22 rfl rfl)
theorem dX6_feed_118 : decode cX6_feed 118 = .ok (.putfield 169, 3) := dk_181 0 169 (dk_at dksX6_feed_5 0 rfl rfl)
theorem dX6_feed_121 : decode cX6_feed 121 = .ok (.aload_n 0, 1) := dk_42 (dk_at dksX6_feed_5 3 rfl rfl)
theorem dX6_feed_122 : decode cX6_feed 122 = .ok (.getfield 169, 3) := dk_180 0 169 (dk_at dksX6_feed_5 4 rfl rfl)
theorem dX6_feed_125 : decode cX6_feed 125 = .ok (.ireturn, 1) := dk_172 (dk_at dksX6_feed_5 7 rfl rfl)
abbrev cX6_text : ByteArray := prog_23_method_39_code
def yX6_text : MethodName := ⟨RX6, "text", "(I)I"⟩
def dkwX6_text_15 : List UInt8 := [180, 1, 27, 172]
abbrev dktX6_text_15 : List UInt8 := dkwX6_text_15 ++ []
def dkwX6_text_14 : List UInt8 := [181, 1, 77, 42, 2, 181, 0, 154, 42, 3, 181, 1, 80, 42, 182, 1, 84, 42, 3, 182, 1, 87, 42]
abbrev dktX6_text_14 : List UInt8 := dkwX6_text_14 ++ dktX6_text_15
def dkwX6_text_13 : List UInt8 := [42, 180, 0, 67, 184, 1, 73, 42, 180, 0, 70, 184, 1, 73, 42, 180, 0, 73, 184, 1, 73, 42, 3]
abbrev dktX6_text_13 : List UInt8 := dkwX6_text_13 ++ dktX6_text_14
def dkwX6_text_12 : List UInt8 := [184, 1, 73, 42, 180, 0, 58, 184, 1, 73, 42, 180, 0, 61, 184, 1, 73, 42, 180, 0, 64, 184, 1, 73]
abbrev dktX6_text_12 : List UInt8 := dkwX6_text_12 ++ dktX6_text_13
def dkwX6_text_11 : List UInt8 := [180, 0, 46, 184, 1, 73, 42, 180, 0, 49, 184, 1, 73, 42, 180, 0, 52, 184, 1, 73, 42, 180, 0, 55]
abbrev dktX6_text_11 : List UInt8 := dkwX6_text_11 ++ dktX6_text_12
def dkwX6_text_10 : List UInt8 := [42, 180, 0, 37, 184, 1, 73, 42, 180, 0, 40, 184, 1, 73, 42, 180, 0, 43, 184, 1, 73, 42]
abbrev dktX6_text_10 : List UInt8 := dkwX6_text_10 ++ dktX6_text_11
def dkwX6_text_9 : List UInt8 := [184, 1, 73, 42, 180, 0, 28, 184, 1, 73, 42, 180, 0, 31, 184, 1, 73, 42, 180, 0, 34, 184, 1, 73]
abbrev dktX6_text_9 : List UInt8 := dkwX6_text_9 ++ dktX6_text_10
def dkwX6_text_8 : List UInt8 := [180, 0, 16, 184, 1, 73, 42, 180, 0, 19, 184, 1, 73, 42, 180, 0, 22, 184, 1, 73, 42, 180, 0, 25]
abbrev dktX6_text_8 : List UInt8 := dkwX6_text_8 ++ dktX6_text_9
def dkwX6_text_7 : List UInt8 := [42, 180, 0, 222, 181, 0, 76, 42, 180, 0, 219, 153, 0, 5, 2, 172, 42, 180, 0, 13, 184, 1, 73, 42]
abbrev dktX6_text_7 : List UInt8 := dkwX6_text_7 ++ dktX6_text_8
def dkwX6_text_6 : List UInt8 := [42, 180, 0, 185, 7, 159, 0, 10, 42, 182, 1, 67, 167, 255, 237, 42, 42, 180, 0, 219, 181, 1, 70, 42]
abbrev dktX6_text_6 : List UInt8 := dkwX6_text_6 ++ dktX6_text_7
def dkwX6_text_5 : List UInt8 := [181, 1, 27, 42, 3, 181, 1, 64, 42, 3, 181, 1, 36, 42, 182, 0, 225, 42, 180, 0, 219, 154, 0, 18]
abbrev dktX6_text_5 : List UInt8 := dkwX6_text_5 ++ dktX6_text_6
def dkwX6_text_4 : List UInt8 := [28, 3, 79, 42, 180, 0, 67, 28, 3, 79, 132, 2, 1, 167, 255, 233, 42, 3, 181, 0, 249, 42, 3]
abbrev dktX6_text_4 : List UInt8 := dkwX6_text_4 ++ dktX6_text_5
def dkwX6_text_3 : List UInt8 := [167, 0, 4, 3, 79, 132, 2, 1, 167, 255, 226, 16, 6, 61, 28, 16, 12, 162, 0, 23, 42, 180, 0, 64]
abbrev dktX6_text_3 : List UInt8 := dkwX6_text_3 ++ dktX6_text_4
def dkwX6_text_2 : List UInt8 := [61, 28, 16, 8, 162, 0, 30, 42, 180, 0, 13, 16, 8, 28, 96, 28, 16, 6, 160, 0, 8, 16, 99]
abbrev dktX6_text_2 : List UInt8 := dkwX6_text_2 ++ dktX6_text_3
def dkwX6_text_1 : List UInt8 := [181, 0, 175, 42, 3, 181, 0, 169, 42, 3, 181, 0, 172, 42, 3, 181, 0, 219, 42, 2, 181, 0, 222, 3]
abbrev dktX6_text_1 : List UInt8 := dkwX6_text_1 ++ dktX6_text_2
def dkwX6_text_0 : List UInt8 := [42, 3, 181, 0, 166, 27, 155, 0, 11, 27, 42, 180, 0, 169, 164, 0, 6, 16, 254, 172, 42, 27]
abbrev dktX6_text_0 : List UInt8 := dkwX6_text_0 ++ dktX6_text_1
theorem dksX6_text_0 : cX6_text.data.toList.drop 0 = dktX6_text_0 := by decide +kernel
theorem dksX6_text_1 : cX6_text.data.toList.drop 22 = dktX6_text_1 := dk_seg dksX6_text_0 22 rfl rfl
theorem dksX6_text_2 : cX6_text.data.toList.drop 46 = dktX6_text_2 := dk_seg dksX6_text_1 24 rfl rfl
theorem dksX6_text_3 : cX6_text.data.toList.drop 69 = dktX6_text_3 := dk_seg dksX6_text_2 23 rfl rfl
theorem dksX6_text_4 : cX6_text.data.toList.drop 93 = dktX6_text_4 := dk_seg dksX6_text_3 24 rfl rfl
theorem dksX6_text_5 : cX6_text.data.toList.drop 116 = dktX6_text_5 := dk_seg dksX6_text_4 23 rfl rfl
theorem dksX6_text_6 : cX6_text.data.toList.drop 140 = dktX6_text_6 := dk_seg dksX6_text_5 24 rfl rfl
theorem dksX6_text_7 : cX6_text.data.toList.drop 164 = dktX6_text_7 := dk_seg dksX6_text_6 24 rfl rfl
theorem dksX6_text_8 : cX6_text.data.toList.drop 188 = dktX6_text_8 := dk_seg dksX6_text_7 24 rfl rfl
theorem dksX6_text_9 : cX6_text.data.toList.drop 212 = dktX6_text_9 := dk_seg dksX6_text_8 24 rfl rfl
theorem dksX6_text_10 : cX6_text.data.toList.drop 236 = dktX6_text_10 := dk_seg dksX6_text_9 24 rfl rfl
theorem dksX6_text_11 : cX6_text.data.toList.drop 258 = dktX6_text_11 := dk_seg dksX6_text_10 22 rfl rfl
theorem dksX6_text_12 : cX6_text.data.toList.drop 282 = dktX6_text_12 := dk_seg dksX6_text_11 24 rfl rfl
theorem dksX6_text_13 : cX6_text.data.toList.drop 306 = dktX6_text_13 := dk_seg dksX6_text_12 24 rfl rfl
theorem dksX6_text_14 : cX6_text.data.toList.drop 329 = dktX6_text_14 := dk_seg dksX6_text_13 23 rfl rfl
theorem dksX6_text_15 : cX6_text.data.toList.drop 352 = dktX6_text_15 := dk_seg dksX6_text_14 23 rfl rfl
theorem dX6_text_0 : decode cX6_text 0 = .ok (.aload_n 0, 1) := dk_42 (dk_at dksX6_text_0 0 rfl rfl)
theorem dX6_text_1 : decode cX6_text 1 = .ok (.iconst 0, 1) := dk_3 (dk_at dksX6_text_0 1 rfl rfl)
theorem dX6_text_2 : decode cX6_text 2 = .ok (.putfield 166, 3) := dk_181 0 166 (dk_at dksX6_text_0 2 rfl rfl)
theorem dX6_text_5 : decode cX6_text 5 = .ok (.iload_n 1, 1) := dk_27 (dk_at dksX6_text_0 5 rfl rfl)
theorem dX6_text_6 : decode cX6_text 6 = .ok (.ifCond .lt 11, 3) := dk_155 0 11 (dk_at dksX6_text_0 6 rfl rfl)
theorem dX6_text_9 : decode cX6_text 9 = .ok (.iload_n 1, 1) := dk_27 (dk_at dksX6_text_0 9 rfl rfl)
theorem dX6_text_10 : decode cX6_text 10 = .ok (.aload_n 0, 1) := dk_42 (dk_at dksX6_text_0 10 rfl rfl)
theorem dX6_text_11 : decode cX6_text 11 = .ok (.getfield 169, 3) := dk_180 0 169 (dk_at dksX6_text_0 11 rfl rfl)
theorem dX6_text_14 : decode cX6_text 14 = .ok (.if_icmp .le 6, 3) := dk_164 0 6 (dk_at dksX6_text_0 14 rfl rfl)
theorem dX6_text_17 : decode cX6_text 17 = .ok (.bipush (-2), 2) := dk_16 254 (dk_at dksX6_text_0 17 rfl rfl)
theorem dX6_text_19 : decode cX6_text 19 = .ok (.ireturn, 1) := dk_172 (dk_at dksX6_text_0 19 rfl rfl)
theorem dX6_text_20 : decode cX6_text 20 = .ok (.aload_n 0, 1) := dk_42 (dk_at dksX6_text_0 20 rfl rfl)
theorem dX6_text_21 : decode cX6_text 21 = .ok (.iload_n 1, 1) := dk_27 (dk_at dksX6_text_0 21 rfl rfl)
theorem dX6_text_22 : decode cX6_text 22 = .ok (.putfield 175, 3) := dk_181 0 175 (dk_at dksX6_text_1 0 rfl rfl)
theorem dX6_text_25 : decode cX6_text 25 = .ok (.aload_n 0, 1) := dk_42 (dk_at dksX6_text_1 3 rfl rfl)
theorem dX6_text_26 : decode cX6_text 26 = .ok (.iconst 0, 1) := dk_3 (dk_at dksX6_text_1 4 rfl rfl)
theorem dX6_text_27 : decode cX6_text 27 = .ok (.putfield 169, 3) := dk_181 0 169 (dk_at dksX6_text_1 5 rfl rfl)
theorem dX6_text_30 : decode cX6_text 30 = .ok (.aload_n 0, 1) := dk_42 (dk_at dksX6_text_1 8 rfl rfl)
theorem dX6_text_31 : decode cX6_text 31 = .ok (.iconst 0, 1) := dk_3 (dk_at dksX6_text_1 9 rfl rfl)
theorem dX6_text_32 : decode cX6_text 32 = .ok (.putfield 172, 3) := dk_181 0 172 (dk_at dksX6_text_1 10 rfl rfl)
theorem dX6_text_35 : decode cX6_text 35 = .ok (.aload_n 0, 1) := dk_42 (dk_at dksX6_text_1 13 rfl rfl)
theorem dX6_text_36 : decode cX6_text 36 = .ok (.iconst 0, 1) := dk_3 (dk_at dksX6_text_1 14 rfl rfl)
theorem dX6_text_37 : decode cX6_text 37 = .ok (.putfield 219, 3) := dk_181 0 219 (dk_at dksX6_text_1 15 rfl rfl)
theorem dX6_text_40 : decode cX6_text 40 = .ok (.aload_n 0, 1) := dk_42 (dk_at dksX6_text_1 18 rfl rfl)
theorem dX6_text_41 : decode cX6_text 41 = .ok (.iconst (-1), 1) := dk_2 (dk_at dksX6_text_1 19 rfl rfl)
theorem dX6_text_42 : decode cX6_text 42 = .ok (.putfield 222, 3) := dk_181 0 222 (dk_at dksX6_text_1 20 rfl rfl)
theorem dX6_text_45 : decode cX6_text 45 = .ok (.iconst 0, 1) := dk_3 (dk_at dksX6_text_1 23 rfl rfl)
theorem dX6_text_46 : decode cX6_text 46 = .ok (.istore_n 2, 1) := dk_61 (dk_at dksX6_text_2 0 rfl rfl)
theorem dX6_text_47 : decode cX6_text 47 = .ok (.iload_n 2, 1) := dk_28 (dk_at dksX6_text_2 1 rfl rfl)
theorem dX6_text_48 : decode cX6_text 48 = .ok (.bipush 8, 2) := dk_16 8 (dk_at dksX6_text_2 2 rfl rfl)
theorem dX6_text_50 : decode cX6_text 50 = .ok (.if_icmp .ge 30, 3) := dk_162 0 30 (dk_at dksX6_text_2 4 rfl rfl)
theorem dX6_text_53 : decode cX6_text 53 = .ok (.aload_n 0, 1) := dk_42 (dk_at dksX6_text_2 7 rfl rfl)
theorem dX6_text_54 : decode cX6_text 54 = .ok (.getfield 13, 3) := dk_180 0 13 (dk_at dksX6_text_2 8 rfl rfl)
theorem dX6_text_57 : decode cX6_text 57 = .ok (.bipush 8, 2) := dk_16 8 (dk_at dksX6_text_2 11 rfl rfl)
theorem dX6_text_59 : decode cX6_text 59 = .ok (.iload_n 2, 1) := dk_28 (dk_at dksX6_text_2 13 rfl rfl)
theorem dX6_text_60 : decode cX6_text 60 = .ok (.iadd, 1) := dk_96 (dk_at dksX6_text_2 14 rfl rfl)
theorem dX6_text_61 : decode cX6_text 61 = .ok (.iload_n 2, 1) := dk_28 (dk_at dksX6_text_2 15 rfl rfl)
theorem dX6_text_62 : decode cX6_text 62 = .ok (.bipush 6, 2) := dk_16 6 (dk_at dksX6_text_2 16 rfl rfl)
theorem dX6_text_64 : decode cX6_text 64 = .ok (.if_icmp .ne 8, 3) := dk_160 0 8 (dk_at dksX6_text_2 18 rfl rfl)
theorem dX6_text_67 : decode cX6_text 67 = .ok (.bipush 99, 2) := dk_16 99 (dk_at dksX6_text_2 21 rfl rfl)
theorem dX6_text_69 : decode cX6_text 69 = .ok (.goto 4, 3) := dk_167 0 4 (dk_at dksX6_text_3 0 rfl rfl)
theorem dX6_text_72 : decode cX6_text 72 = .ok (.iconst 0, 1) := dk_3 (dk_at dksX6_text_3 3 rfl rfl)
theorem dX6_text_73 : decode cX6_text 73 = .ok (.iastore, 1) := dk_79 (dk_at dksX6_text_3 4 rfl rfl)
theorem dX6_text_74 : decode cX6_text 74 = .ok (.iinc 2 1, 3) := dk_132 2 1 (dk_at dksX6_text_3 5 rfl rfl)
theorem dX6_text_77 : decode cX6_text 77 = .ok (.goto (-30), 3) := dk_167 255 226 (dk_at dksX6_text_3 8 rfl rfl)
theorem dX6_text_80 : decode cX6_text 80 = .ok (.bipush 6, 2) := dk_16 6 (dk_at dksX6_text_3 11 rfl rfl)
theorem dX6_text_82 : decode cX6_text 82 = .ok (.istore_n 2, 1) := dk_61 (dk_at dksX6_text_3 13 rfl rfl)
theorem dX6_text_83 : decode cX6_text 83 = .ok (.iload_n 2, 1) := dk_28 (dk_at dksX6_text_3 14 rfl rfl)
theorem dX6_text_84 : decode cX6_text 84 = .ok (.bipush 12, 2) := dk_16 12 (dk_at dksX6_text_3 15 rfl rfl)
theorem dX6_text_86 : decode cX6_text 86 = .ok (.if_icmp .ge 23, 3) := dk_162 0 23 (dk_at dksX6_text_3 17 rfl rfl)
theorem dX6_text_89 : decode cX6_text 89 = .ok (.aload_n 0, 1) := dk_42 (dk_at dksX6_text_3 20 rfl rfl)
theorem dX6_text_90 : decode cX6_text 90 = .ok (.getfield 64, 3) := dk_180 0 64 (dk_at dksX6_text_3 21 rfl rfl)
theorem dX6_text_93 : decode cX6_text 93 = .ok (.iload_n 2, 1) := dk_28 (dk_at dksX6_text_4 0 rfl rfl)
theorem dX6_text_94 : decode cX6_text 94 = .ok (.iconst 0, 1) := dk_3 (dk_at dksX6_text_4 1 rfl rfl)
theorem dX6_text_95 : decode cX6_text 95 = .ok (.iastore, 1) := dk_79 (dk_at dksX6_text_4 2 rfl rfl)
theorem dX6_text_96 : decode cX6_text 96 = .ok (.aload_n 0, 1) := dk_42 (dk_at dksX6_text_4 3 rfl rfl)
theorem dX6_text_97 : decode cX6_text 97 = .ok (.getfield 67, 3) := dk_180 0 67 (dk_at dksX6_text_4 4 rfl rfl)
theorem dX6_text_100 : decode cX6_text 100 = .ok (.iload_n 2, 1) := dk_28 (dk_at dksX6_text_4 7 rfl rfl)
theorem dX6_text_101 : decode cX6_text 101 = .ok (.iconst 0, 1) := dk_3 (dk_at dksX6_text_4 8 rfl rfl)
theorem dX6_text_102 : decode cX6_text 102 = .ok (.iastore, 1) := dk_79 (dk_at dksX6_text_4 9 rfl rfl)
theorem dX6_text_103 : decode cX6_text 103 = .ok (.iinc 2 1, 3) := dk_132 2 1 (dk_at dksX6_text_4 10 rfl rfl)
theorem dX6_text_106 : decode cX6_text 106 = .ok (.goto (-23), 3) := dk_167 255 233 (dk_at dksX6_text_4 13 rfl rfl)
theorem dX6_text_109 : decode cX6_text 109 = .ok (.aload_n 0, 1) := dk_42 (dk_at dksX6_text_4 16 rfl rfl)
theorem dX6_text_110 : decode cX6_text 110 = .ok (.iconst 0, 1) := dk_3 (dk_at dksX6_text_4 17 rfl rfl)
theorem dX6_text_111 : decode cX6_text 111 = .ok (.putfield 249, 3) := dk_181 0 249 (dk_at dksX6_text_4 18 rfl rfl)
theorem dX6_text_114 : decode cX6_text 114 = .ok (.aload_n 0, 1) := dk_42 (dk_at dksX6_text_4 21 rfl rfl)
theorem dX6_text_115 : decode cX6_text 115 = .ok (.iconst 0, 1) := dk_3 (dk_at dksX6_text_4 22 rfl rfl)
theorem dX6_text_116 : decode cX6_text 116 = .ok (.putfield 283, 3) := dk_181 1 27 (dk_at dksX6_text_5 0 rfl rfl)
theorem dX6_text_119 : decode cX6_text 119 = .ok (.aload_n 0, 1) := dk_42 (dk_at dksX6_text_5 3 rfl rfl)
theorem dX6_text_120 : decode cX6_text 120 = .ok (.iconst 0, 1) := dk_3 (dk_at dksX6_text_5 4 rfl rfl)
theorem dX6_text_121 : decode cX6_text 121 = .ok (.putfield 320, 3) := dk_181 1 64 (dk_at dksX6_text_5 5 rfl rfl)
theorem dX6_text_124 : decode cX6_text 124 = .ok (.aload_n 0, 1) := dk_42 (dk_at dksX6_text_5 8 rfl rfl)
theorem dX6_text_125 : decode cX6_text 125 = .ok (.iconst 0, 1) := dk_3 (dk_at dksX6_text_5 9 rfl rfl)
theorem dX6_text_126 : decode cX6_text 126 = .ok (.putfield 292, 3) := dk_181 1 36 (dk_at dksX6_text_5 10 rfl rfl)
theorem dX6_text_129 : decode cX6_text 129 = .ok (.aload_n 0, 1) := dk_42 (dk_at dksX6_text_5 13 rfl rfl)
theorem dX6_text_130 : decode cX6_text 130 = .ok (.invokevirtual 225, 3) := dk_182 0 225 (dk_at dksX6_text_5 14 rfl rfl)
theorem dX6_text_133 : decode cX6_text 133 = .ok (.aload_n 0, 1) := dk_42 (dk_at dksX6_text_5 17 rfl rfl)
theorem dX6_text_134 : decode cX6_text 134 = .ok (.getfield 219, 3) := dk_180 0 219 (dk_at dksX6_text_5 18 rfl rfl)
theorem dX6_text_137 : decode cX6_text 137 = .ok (.ifCond .ne 18, 3) := dk_154 0 18 (dk_at dksX6_text_5 21 rfl rfl)
theorem dX6_text_140 : decode cX6_text 140 = .ok (.aload_n 0, 1) := dk_42 (dk_at dksX6_text_6 0 rfl rfl)
theorem dX6_text_141 : decode cX6_text 141 = .ok (.getfield 185, 3) := dk_180 0 185 (dk_at dksX6_text_6 1 rfl rfl)
theorem dX6_text_144 : decode cX6_text 144 = .ok (.iconst 4, 1) := dk_7 (dk_at dksX6_text_6 4 rfl rfl)
theorem dX6_text_145 : decode cX6_text 145 = .ok (.if_icmp .eq 10, 3) := dk_159 0 10 (dk_at dksX6_text_6 5 rfl rfl)
theorem dX6_text_148 : decode cX6_text 148 = .ok (.aload_n 0, 1) := dk_42 (dk_at dksX6_text_6 8 rfl rfl)
theorem dX6_text_149 : decode cX6_text 149 = .ok (.invokevirtual 323, 3) := dk_182 1 67 (dk_at dksX6_text_6 9 rfl rfl)
theorem dX6_text_152 : decode cX6_text 152 = .ok (.goto (-19), 3) := dk_167 255 237 (dk_at dksX6_text_6 12 rfl rfl)
theorem dX6_text_155 : decode cX6_text 155 = .ok (.aload_n 0, 1) := dk_42 (dk_at dksX6_text_6 15 rfl rfl)
theorem dX6_text_156 : decode cX6_text 156 = .ok (.aload_n 0, 1) := dk_42 (dk_at dksX6_text_6 16 rfl rfl)
theorem dX6_text_157 : decode cX6_text 157 = .ok (.getfield 219, 3) := dk_180 0 219 (dk_at dksX6_text_6 17 rfl rfl)
theorem dX6_text_160 : decode cX6_text 160 = .ok (.putfield 326, 3) := dk_181 1 70 (dk_at dksX6_text_6 20 rfl rfl)
theorem dX6_text_163 : decode cX6_text 163 = .ok (.aload_n 0, 1) := dk_42 (dk_at dksX6_text_6 23 rfl rfl)
theorem dX6_text_164 : decode cX6_text 164 = .ok (.aload_n 0, 1) := dk_42 (dk_at dksX6_text_7 0 rfl rfl)
theorem dX6_text_165 : decode cX6_text 165 = .ok (.getfield 222, 3) := dk_180 0 222 (dk_at dksX6_text_7 1 rfl rfl)
theorem dX6_text_168 : decode cX6_text 168 = .ok (.putfield 76, 3) := dk_181 0 76 (dk_at dksX6_text_7 4 rfl rfl)
theorem dX6_text_171 : decode cX6_text 171 = .ok (.aload_n 0, 1) := dk_42 (dk_at dksX6_text_7 7 rfl rfl)
theorem dX6_text_172 : decode cX6_text 172 = .ok (.getfield 219, 3) := dk_180 0 219 (dk_at dksX6_text_7 8 rfl rfl)
theorem dX6_text_175 : decode cX6_text 175 = .ok (.ifCond .eq 5, 3) := dk_153 0 5 (dk_at dksX6_text_7 11 rfl rfl)
theorem dX6_text_178 : decode cX6_text 178 = .ok (.iconst (-1), 1) := dk_2 (dk_at dksX6_text_7 14 rfl rfl)
theorem dX6_text_179 : decode cX6_text 179 = .ok (.ireturn, 1) := dk_172 (dk_at dksX6_text_7 15 rfl rfl)
theorem dX6_text_180 : decode cX6_text 180 = .ok (.aload_n 0, 1) := dk_42 (dk_at dksX6_text_7 16 rfl rfl)
theorem dX6_text_181 : decode cX6_text 181 = .ok (.getfield 13, 3) := dk_180 0 13 (dk_at dksX6_text_7 17 rfl rfl)
theorem dX6_text_184 : decode cX6_text 184 = .ok (.invokestatic 329, 3) := dk_184 1 73 (dk_at dksX6_text_7 20 rfl rfl)
theorem dX6_text_187 : decode cX6_text 187 = .ok (.aload_n 0, 1) := dk_42 (dk_at dksX6_text_7 23 rfl rfl)
theorem dX6_text_188 : decode cX6_text 188 = .ok (.getfield 16, 3) := dk_180 0 16 (dk_at dksX6_text_8 0 rfl rfl)
theorem dX6_text_191 : decode cX6_text 191 = .ok (.invokestatic 329, 3) := dk_184 1 73 (dk_at dksX6_text_8 3 rfl rfl)
theorem dX6_text_194 : decode cX6_text 194 = .ok (.aload_n 0, 1) := dk_42 (dk_at dksX6_text_8 6 rfl rfl)
theorem dX6_text_195 : decode cX6_text 195 = .ok (.getfield 19, 3) := dk_180 0 19 (dk_at dksX6_text_8 7 rfl rfl)
theorem dX6_text_198 : decode cX6_text 198 = .ok (.invokestatic 329, 3) := dk_184 1 73 (dk_at dksX6_text_8 10 rfl rfl)
theorem dX6_text_201 : decode cX6_text 201 = .ok (.aload_n 0, 1) := dk_42 (dk_at dksX6_text_8 13 rfl rfl)
theorem dX6_text_202 : decode cX6_text 202 = .ok (.getfield 22, 3) := dk_180 0 22 (dk_at dksX6_text_8 14 rfl rfl)
theorem dX6_text_205 : decode cX6_text 205 = .ok (.invokestatic 329, 3) := dk_184 1 73 (dk_at dksX6_text_8 17 rfl rfl)
theorem dX6_text_208 : decode cX6_text 208 = .ok (.aload_n 0, 1) := dk_42 (dk_at dksX6_text_8 20 rfl rfl)
theorem dX6_text_209 : decode cX6_text 209 = .ok (.getfield 25, 3) := dk_180 0 25 (dk_at dksX6_text_8 21 rfl rfl)
theorem dX6_text_212 : decode cX6_text 212 = .ok (.invokestatic 329, 3) := dk_184 1 73 (dk_at dksX6_text_9 0 rfl rfl)
theorem dX6_text_215 : decode cX6_text 215 = .ok (.aload_n 0, 1) := dk_42 (dk_at dksX6_text_9 3 rfl rfl)
theorem dX6_text_216 : decode cX6_text 216 = .ok (.getfield 28, 3) := dk_180 0 28 (dk_at dksX6_text_9 4 rfl rfl)
theorem dX6_text_219 : decode cX6_text 219 = .ok (.invokestatic 329, 3) := dk_184 1 73 (dk_at dksX6_text_9 7 rfl rfl)
theorem dX6_text_222 : decode cX6_text 222 = .ok (.aload_n 0, 1) := dk_42 (dk_at dksX6_text_9 10 rfl rfl)
theorem dX6_text_223 : decode cX6_text 223 = .ok (.getfield 31, 3) := dk_180 0 31 (dk_at dksX6_text_9 11 rfl rfl)
theorem dX6_text_226 : decode cX6_text 226 = .ok (.invokestatic 329, 3) := dk_184 1 73 (dk_at dksX6_text_9 14 rfl rfl)
theorem dX6_text_229 : decode cX6_text 229 = .ok (.aload_n 0, 1) := dk_42 (dk_at dksX6_text_9 17 rfl rfl)
theorem dX6_text_230 : decode cX6_text 230 = .ok (.getfield 34, 3) := dk_180 0 34 (dk_at dksX6_text_9 18 rfl rfl)
theorem dX6_text_233 : decode cX6_text 233 = .ok (.invokestatic 329, 3) := dk_184 1 73 (dk_at dksX6_text_9 21 rfl rfl)
theorem dX6_text_236 : decode cX6_text 236 = .ok (.aload_n 0, 1) := dk_42 (dk_at dksX6_text_10 0 rfl rfl)
theorem dX6_text_237 : decode cX6_text 237 = .ok (.getfield 37, 3) := dk_180 0 37 (dk_at dksX6_text_10 1 rfl rfl)
theorem dX6_text_240 : decode cX6_text 240 = .ok (.invokestatic 329, 3) := dk_184 1 73 (dk_at dksX6_text_10 4 rfl rfl)
theorem dX6_text_243 : decode cX6_text 243 = .ok (.aload_n 0, 1) := dk_42 (dk_at dksX6_text_10 7 rfl rfl)
theorem dX6_text_244 : decode cX6_text 244 = .ok (.getfield 40, 3) := dk_180 0 40 (dk_at dksX6_text_10 8 rfl rfl)
theorem dX6_text_247 : decode cX6_text 247 = .ok (.invokestatic 329, 3) := dk_184 1 73 (dk_at dksX6_text_10 11 rfl rfl)
theorem dX6_text_250 : decode cX6_text 250 = .ok (.aload_n 0, 1) := dk_42 (dk_at dksX6_text_10 14 rfl rfl)
theorem dX6_text_251 : decode cX6_text 251 = .ok (.getfield 43, 3) := dk_180 0 43 (dk_at dksX6_text_10 15 rfl rfl)
theorem dX6_text_254 : decode cX6_text 254 = .ok (.invokestatic 329, 3) := dk_184 1 73 (dk_at dksX6_text_10 18 rfl rfl)
theorem dX6_text_257 : decode cX6_text 257 = .ok (.aload_n 0, 1) := dk_42 (dk_at dksX6_text_10 21 rfl rfl)
theorem dX6_text_258 : decode cX6_text 258 = .ok (.getfield 46, 3) := dk_180 0 46 (dk_at dksX6_text_11 0 rfl rfl)
theorem dX6_text_261 : decode cX6_text 261 = .ok (.invokestatic 329, 3) := dk_184 1 73 (dk_at dksX6_text_11 3 rfl rfl)
theorem dX6_text_264 : decode cX6_text 264 = .ok (.aload_n 0, 1) := dk_42 (dk_at dksX6_text_11 6 rfl rfl)
theorem dX6_text_265 : decode cX6_text 265 = .ok (.getfield 49, 3) := dk_180 0 49 (dk_at dksX6_text_11 7 rfl rfl)
theorem dX6_text_268 : decode cX6_text 268 = .ok (.invokestatic 329, 3) := dk_184 1 73 (dk_at dksX6_text_11 10 rfl rfl)
theorem dX6_text_271 : decode cX6_text 271 = .ok (.aload_n 0, 1) := dk_42 (dk_at dksX6_text_11 13 rfl rfl)
theorem dX6_text_272 : decode cX6_text 272 = .ok (.getfield 52, 3) := dk_180 0 52 (dk_at dksX6_text_11 14 rfl rfl)
theorem dX6_text_275 : decode cX6_text 275 = .ok (.invokestatic 329, 3) := dk_184 1 73 (dk_at dksX6_text_11 17 rfl rfl)
theorem dX6_text_278 : decode cX6_text 278 = .ok (.aload_n 0, 1) := dk_42 (dk_at dksX6_text_11 20 rfl rfl)
theorem dX6_text_279 : decode cX6_text 279 = .ok (.getfield 55, 3) := dk_180 0 55 (dk_at dksX6_text_11 21 rfl rfl)
theorem dX6_text_282 : decode cX6_text 282 = .ok (.invokestatic 329, 3) := dk_184 1 73 (dk_at dksX6_text_12 0 rfl rfl)
theorem dX6_text_285 : decode cX6_text 285 = .ok (.aload_n 0, 1) := dk_42 (dk_at dksX6_text_12 3 rfl rfl)
theorem dX6_text_286 : decode cX6_text 286 = .ok (.getfield 58, 3) := dk_180 0 58 (dk_at dksX6_text_12 4 rfl rfl)
theorem dX6_text_289 : decode cX6_text 289 = .ok (.invokestatic 329, 3) := dk_184 1 73 (dk_at dksX6_text_12 7 rfl rfl)
theorem dX6_text_292 : decode cX6_text 292 = .ok (.aload_n 0, 1) := dk_42 (dk_at dksX6_text_12 10 rfl rfl)
theorem dX6_text_293 : decode cX6_text 293 = .ok (.getfield 61, 3) := dk_180 0 61 (dk_at dksX6_text_12 11 rfl rfl)
theorem dX6_text_296 : decode cX6_text 296 = .ok (.invokestatic 329, 3) := dk_184 1 73 (dk_at dksX6_text_12 14 rfl rfl)
theorem dX6_text_299 : decode cX6_text 299 = .ok (.aload_n 0, 1) := dk_42 (dk_at dksX6_text_12 17 rfl rfl)
theorem dX6_text_300 : decode cX6_text 300 = .ok (.getfield 64, 3) := dk_180 0 64 (dk_at dksX6_text_12 18 rfl rfl)
theorem dX6_text_303 : decode cX6_text 303 = .ok (.invokestatic 329, 3) := dk_184 1 73 (dk_at dksX6_text_12 21 rfl rfl)
theorem dX6_text_306 : decode cX6_text 306 = .ok (.aload_n 0, 1) := dk_42 (dk_at dksX6_text_13 0 rfl rfl)
theorem dX6_text_307 : decode cX6_text 307 = .ok (.getfield 67, 3) := dk_180 0 67 (dk_at dksX6_text_13 1 rfl rfl)
theorem dX6_text_310 : decode cX6_text 310 = .ok (.invokestatic 329, 3) := dk_184 1 73 (dk_at dksX6_text_13 4 rfl rfl)
theorem dX6_text_313 : decode cX6_text 313 = .ok (.aload_n 0, 1) := dk_42 (dk_at dksX6_text_13 7 rfl rfl)
theorem dX6_text_314 : decode cX6_text 314 = .ok (.getfield 70, 3) := dk_180 0 70 (dk_at dksX6_text_13 8 rfl rfl)
theorem dX6_text_317 : decode cX6_text 317 = .ok (.invokestatic 329, 3) := dk_184 1 73 (dk_at dksX6_text_13 11 rfl rfl)
theorem dX6_text_320 : decode cX6_text 320 = .ok (.aload_n 0, 1) := dk_42 (dk_at dksX6_text_13 14 rfl rfl)
theorem dX6_text_321 : decode cX6_text 321 = .ok (.getfield 73, 3) := dk_180 0 73 (dk_at dksX6_text_13 15 rfl rfl)
theorem dX6_text_324 : decode cX6_text 324 = .ok (.invokestatic 329, 3) := dk_184 1 73 (dk_at dksX6_text_13 18 rfl rfl)
theorem dX6_text_327 : decode cX6_text 327 = .ok (.aload_n 0, 1) := dk_42 (dk_at dksX6_text_13 21 rfl rfl)
theorem dX6_text_328 : decode cX6_text 328 = .ok (.iconst 0, 1) := dk_3 (dk_at dksX6_text_13 22 rfl rfl)
theorem dX6_text_329 : decode cX6_text 329 = .ok (.putfield 333, 3) := dk_181 1 77 (dk_at dksX6_text_14 0 rfl rfl)
theorem dX6_text_332 : decode cX6_text 332 = .ok (.aload_n 0, 1) := dk_42 (dk_at dksX6_text_14 3 rfl rfl)
theorem dX6_text_333 : decode cX6_text 333 = .ok (.iconst (-1), 1) := dk_2 (dk_at dksX6_text_14 4 rfl rfl)
theorem dX6_text_334 : decode cX6_text 334 = .ok (.putfield 154, 3) := dk_181 0 154 (dk_at dksX6_text_14 5 rfl rfl)
theorem dX6_text_337 : decode cX6_text 337 = .ok (.aload_n 0, 1) := dk_42 (dk_at dksX6_text_14 8 rfl rfl)
theorem dX6_text_338 : decode cX6_text 338 = .ok (.iconst 0, 1) := dk_3 (dk_at dksX6_text_14 9 rfl rfl)
theorem dX6_text_339 : decode cX6_text 339 = .ok (.putfield 336, 3) := dk_181 1 80 (dk_at dksX6_text_14 10 rfl rfl)
theorem dX6_text_342 : decode cX6_text 342 = .ok (.aload_n 0, 1) := dk_42 (dk_at dksX6_text_14 13 rfl rfl)
theorem dX6_text_343 : decode cX6_text 343 = .ok (.invokevirtual 340, 3) := dk_182 1 84 (dk_at dksX6_text_14 14 rfl rfl)
theorem dX6_text_346 : decode cX6_text 346 = .ok (.aload_n 0, 1) := dk_42 (dk_at dksX6_text_14 17 rfl rfl)
theorem dX6_text_347 : decode cX6_text 347 = .ok (.iconst 0, 1) := dk_3 (dk_at dksX6_text_14 18 rfl rfl)
theorem dX6_text_348 : decode cX6_text 348 = .ok (.invokevirtual 343, 3) := dk_182 1 87 (dk_at dksX6_text_14 19 rfl rfl)
theorem dX6_text_351 : decode cX6_text 351 = .ok (.aload_n 0, 1) := dk_42 (dk_at dksX6_text_14 22 rfl rfl)
theorem dX6_text_352 : decode cX6_text 352 = .ok (.getfield 283, 3) := dk_180 1 27 (dk_at dksX6_text_15 0 rfl rfl)
theorem dX6_text_355 : decode cX6_text 355 = .ok (.ireturn, 1) := dk_172 (dk_at dksX6_text_15 3 rfl rfl)
abbrev cX6_token : ByteArray := prog_23_method_7_code
def yX6_token : MethodName := ⟨RX6, "token", "()V"⟩
def dkwX6_token_9 : List UInt8 := [180, 0, 172, 4, 96, 181, 0, 172, 167, 255, 200, 42, 27, 182, 0, 204, 177]
abbrev dktX6_token_9 : List UInt8 := dkwX6_token_9 ++ []
def dkwX6_token_8 : List UInt8 := [167, 0, 18, 16, 10, 42, 180, 0, 195, 104, 42, 182, 0, 178, 96, 16, 48, 100, 181, 0, 195, 42, 89]
abbrev dktX6_token_8 : List UInt8 := dkwX6_token_8 ++ dktX6_token_9
def dkwX6_token_7 : List UInt8 := [182, 0, 178, 184, 0, 201, 153, 0, 57, 42, 42, 180, 0, 195, 17, 39, 15, 164, 0, 10, 42, 180, 0, 195]
abbrev dktX6_token_7 : List UInt8 := dkwX6_token_7 ++ dktX6_token_8
def dkwX6_token_6 : List UInt8 := [182, 0, 198, 167, 0, 84, 27, 184, 0, 201, 153, 0, 72, 42, 5, 181, 0, 185, 42, 3, 181, 0, 195, 42]
abbrev dktX6_token_6 : List UInt8 := dkwX6_token_6 ++ dktX6_token_7
def dkwX6_token_5 : List UInt8 := [100, 16, 6, 164, 0, 7, 8, 167, 0, 4, 4, 181, 0, 185, 42, 180, 0, 185, 4, 160, 0, 91, 42]
abbrev dktX6_token_5 : List UInt8 := dkwX6_token_5 ++ dktX6_token_6
def dkwX6_token_4 : List UInt8 := [181, 0, 195, 42, 42, 180, 0, 195, 2, 159, 0, 7, 3, 167, 0, 22, 42, 180, 0, 172, 42, 180, 0, 182]
abbrev dktX6_token_4 : List UInt8 := dkwX6_token_4 ++ dktX6_token_5
def dkwX6_token_3 : List UInt8 := [184, 0, 188, 153, 0, 16, 42, 89, 180, 0, 172, 4, 96, 181, 0, 172, 167, 255, 236, 42, 42, 182, 0, 192]
abbrev dktX6_token_3 : List UInt8 := dkwX6_token_3 ++ dktX6_token_4
def dkwX6_token_2 : List UInt8 := [160, 0, 11, 42, 7, 181, 0, 185, 167, 0, 172, 27, 184, 0, 188, 153, 0, 84, 42, 182, 0, 178]
abbrev dktX6_token_2 : List UInt8 := dkwX6_token_2 ++ dktX6_token_3
def dkwX6_token_1 : List UInt8 := [96, 181, 0, 172, 167, 255, 228, 42, 42, 180, 0, 172, 181, 0, 182, 42, 182, 0, 178, 60, 27, 2]
abbrev dktX6_token_1 : List UInt8 := dkwX6_token_1 ++ dktX6_token_2
def dkwX6_token_0 : List UInt8 := [42, 182, 0, 178, 16, 10, 159, 0, 12, 42, 182, 0, 178, 16, 32, 160, 0, 16, 42, 89, 180, 0, 172, 4]
abbrev dktX6_token_0 : List UInt8 := dkwX6_token_0 ++ dktX6_token_1
theorem dksX6_token_0 : cX6_token.data.toList.drop 0 = dktX6_token_0 := by decide +kernel
theorem dksX6_token_1 : cX6_token.data.toList.drop 24 = dktX6_token_1 := dk_seg dksX6_token_0 24 rfl rfl
theorem dksX6_token_2 : cX6_token.data.toList.drop 46 = dktX6_token_2 := dk_seg dksX6_token_1 22 rfl rfl
theorem dksX6_token_3 : cX6_token.data.toList.drop 68 = dktX6_token_3 := dk_seg dksX6_token_2 22 rfl rfl
theorem dksX6_token_4 : cX6_token.data.toList.drop 92 = dktX6_token_4 := dk_seg dksX6_token_3 24 rfl rfl
theorem dksX6_token_5 : cX6_token.data.toList.drop 116 = dktX6_token_5 := dk_seg dksX6_token_4 24 rfl rfl
theorem dksX6_token_6 : cX6_token.data.toList.drop 139 = dktX6_token_6 := dk_seg dksX6_token_5 23 rfl rfl
theorem dksX6_token_7 : cX6_token.data.toList.drop 163 = dktX6_token_7 := dk_seg dksX6_token_6 24 rfl rfl
theorem dksX6_token_8 : cX6_token.data.toList.drop 187 = dktX6_token_8 := dk_seg dksX6_token_7 24 rfl rfl
theorem dksX6_token_9 : cX6_token.data.toList.drop 210 = dktX6_token_9 := dk_seg dksX6_token_8 23 rfl rfl
theorem dX6_token_0 : decode cX6_token 0 = .ok (.aload_n 0, 1) := dk_42 (dk_at dksX6_token_0 0 rfl rfl)
theorem dX6_token_1 : decode cX6_token 1 = .ok (.invokevirtual 178, 3) := dk_182 0 178 (dk_at dksX6_token_0 1 rfl rfl)
theorem dX6_token_4 : decode cX6_token 4 = .ok (.bipush 10, 2) := dk_16 10 (dk_at dksX6_token_0 4 rfl rfl)
theorem dX6_token_6 : decode cX6_token 6 = .ok (.if_icmp .eq 12, 3) := dk_159 0 12 (dk_at dksX6_token_0 6 rfl rfl)
theorem dX6_token_9 : decode cX6_token 9 = .ok (.aload_n 0, 1) := dk_42 (dk_at dksX6_token_0 9 rfl rfl)
theorem dX6_token_10 : decode cX6_token 10 = .ok (.invokevirtual 178, 3) := dk_182 0 178 (dk_at dksX6_token_0 10 rfl rfl)
theorem dX6_token_13 : decode cX6_token 13 = .ok (.bipush 32, 2) := dk_16 32 (dk_at dksX6_token_0 13 rfl rfl)
theorem dX6_token_15 : decode cX6_token 15 = .ok (.if_icmp .ne 16, 3) := dk_160 0 16 (dk_at dksX6_token_0 15 rfl rfl)
theorem dX6_token_18 : decode cX6_token 18 = .ok (.aload_n 0, 1) := dk_42 (dk_at dksX6_token_0 18 rfl rfl)
theorem dX6_token_19 : decode cX6_token 19 = .ok (.dup, 1) := dk_89 (dk_at dksX6_token_0 19 rfl rfl)
theorem dX6_token_20 : decode cX6_token 20 = .ok (.getfield 172, 3) := dk_180 0 172 (dk_at dksX6_token_0 20 rfl rfl)
theorem dX6_token_23 : decode cX6_token 23 = .ok (.iconst 1, 1) := dk_4 (dk_at dksX6_token_0 23 rfl rfl)
theorem dX6_token_24 : decode cX6_token 24 = .ok (.iadd, 1) := dk_96 (dk_at dksX6_token_1 0 rfl rfl)
theorem dX6_token_25 : decode cX6_token 25 = .ok (.putfield 172, 3) := dk_181 0 172 (dk_at dksX6_token_1 1 rfl rfl)
theorem dX6_token_28 : decode cX6_token 28 = .ok (.goto (-28), 3) := dk_167 255 228 (dk_at dksX6_token_1 4 rfl rfl)
theorem dX6_token_31 : decode cX6_token 31 = .ok (.aload_n 0, 1) := dk_42 (dk_at dksX6_token_1 7 rfl rfl)
theorem dX6_token_32 : decode cX6_token 32 = .ok (.aload_n 0, 1) := dk_42 (dk_at dksX6_token_1 8 rfl rfl)
theorem dX6_token_33 : decode cX6_token 33 = .ok (.getfield 172, 3) := dk_180 0 172 (dk_at dksX6_token_1 9 rfl rfl)
theorem dX6_token_36 : decode cX6_token 36 = .ok (.putfield 182, 3) := dk_181 0 182 (dk_at dksX6_token_1 12 rfl rfl)
theorem dX6_token_39 : decode cX6_token 39 = .ok (.aload_n 0, 1) := dk_42 (dk_at dksX6_token_1 15 rfl rfl)
theorem dX6_token_40 : decode cX6_token 40 = .ok (.invokevirtual 178, 3) := dk_182 0 178 (dk_at dksX6_token_1 16 rfl rfl)
theorem dX6_token_43 : decode cX6_token 43 = .ok (.istore_n 1, 1) := dk_60 (dk_at dksX6_token_1 19 rfl rfl)
theorem dX6_token_44 : decode cX6_token 44 = .ok (.iload_n 1, 1) := dk_27 (dk_at dksX6_token_1 20 rfl rfl)
theorem dX6_token_45 : decode cX6_token 45 = .ok (.iconst (-1), 1) := dk_2 (dk_at dksX6_token_1 21 rfl rfl)
theorem dX6_token_46 : decode cX6_token 46 = .ok (.if_icmp .ne 11, 3) := dk_160 0 11 (dk_at dksX6_token_2 0 rfl rfl)
theorem dX6_token_49 : decode cX6_token 49 = .ok (.aload_n 0, 1) := dk_42 (dk_at dksX6_token_2 3 rfl rfl)
theorem dX6_token_50 : decode cX6_token 50 = .ok (.iconst 4, 1) := dk_7 (dk_at dksX6_token_2 4 rfl rfl)
theorem dX6_token_51 : decode cX6_token 51 = .ok (.putfield 185, 3) := dk_181 0 185 (dk_at dksX6_token_2 5 rfl rfl)
theorem dX6_token_54 : decode cX6_token 54 = .ok (.goto 172, 3) := dk_167 0 172 (dk_at dksX6_token_2 8 rfl rfl)
theorem dX6_token_57 : decode cX6_token 57 = .ok (.iload_n 1, 1) := dk_27 (dk_at dksX6_token_2 11 rfl rfl)
theorem dX6_token_58 : decode cX6_token 58 = .ok (.invokestatic 188, 3) := dk_184 0 188 (dk_at dksX6_token_2 12 rfl rfl)
theorem dX6_token_61 : decode cX6_token 61 = .ok (.ifCond .eq 84, 3) := dk_153 0 84 (dk_at dksX6_token_2 15 rfl rfl)
theorem dX6_token_64 : decode cX6_token 64 = .ok (.aload_n 0, 1) := dk_42 (dk_at dksX6_token_2 18 rfl rfl)
theorem dX6_token_65 : decode cX6_token 65 = .ok (.invokevirtual 178, 3) := dk_182 0 178 (dk_at dksX6_token_2 19 rfl rfl)
theorem dX6_token_68 : decode cX6_token 68 = .ok (.invokestatic 188, 3) := dk_184 0 188 (dk_at dksX6_token_3 0 rfl rfl)
theorem dX6_token_71 : decode cX6_token 71 = .ok (.ifCond .eq 16, 3) := dk_153 0 16 (dk_at dksX6_token_3 3 rfl rfl)
theorem dX6_token_74 : decode cX6_token 74 = .ok (.aload_n 0, 1) := dk_42 (dk_at dksX6_token_3 6 rfl rfl)
theorem dX6_token_75 : decode cX6_token 75 = .ok (.dup, 1) := dk_89 (dk_at dksX6_token_3 7 rfl rfl)
theorem dX6_token_76 : decode cX6_token 76 = .ok (.getfield 172, 3) := dk_180 0 172 (dk_at dksX6_token_3 8 rfl rfl)
theorem dX6_token_79 : decode cX6_token 79 = .ok (.iconst 1, 1) := dk_4 (dk_at dksX6_token_3 11 rfl rfl)
theorem dX6_token_80 : decode cX6_token 80 = .ok (.iadd, 1) := dk_96 (dk_at dksX6_token_3 12 rfl rfl)
theorem dX6_token_81 : decode cX6_token 81 = .ok (.putfield 172, 3) := dk_181 0 172 (dk_at dksX6_token_3 13 rfl rfl)
theorem dX6_token_84 : decode cX6_token 84 = .ok (.goto (-20), 3) := dk_167 255 236 (dk_at dksX6_token_3 16 rfl rfl)
theorem dX6_token_87 : decode cX6_token 87 = .ok (.aload_n 0, 1) := dk_42 (dk_at dksX6_token_3 19 rfl rfl)
theorem dX6_token_88 : decode cX6_token 88 = .ok (.aload_n 0, 1) := dk_42 (dk_at dksX6_token_3 20 rfl rfl)
theorem dX6_token_89 : decode cX6_token 89 = .ok (.invokevirtual 192, 3) := dk_182 0 192 (dk_at dksX6_token_3 21 rfl rfl)
theorem dX6_token_92 : decode cX6_token 92 = .ok (.putfield 195, 3) := dk_181 0 195 (dk_at dksX6_token_4 0 rfl rfl)
theorem dX6_token_95 : decode cX6_token 95 = .ok (.aload_n 0, 1) := dk_42 (dk_at dksX6_token_4 3 rfl rfl)
theorem dX6_token_96 : decode cX6_token 96 = .ok (.aload_n 0, 1) := dk_42 (dk_at dksX6_token_4 4 rfl rfl)
theorem dX6_token_97 : decode cX6_token 97 = .ok (.getfield 195, 3) := dk_180 0 195 (dk_at dksX6_token_4 5 rfl rfl)
theorem dX6_token_100 : decode cX6_token 100 = .ok (.iconst (-1), 1) := dk_2 (dk_at dksX6_token_4 8 rfl rfl)
theorem dX6_token_101 : decode cX6_token 101 = .ok (.if_icmp .eq 7, 3) := dk_159 0 7 (dk_at dksX6_token_4 9 rfl rfl)
theorem dX6_token_104 : decode cX6_token 104 = .ok (.iconst 0, 1) := dk_3 (dk_at dksX6_token_4 12 rfl rfl)
theorem dX6_token_105 : decode cX6_token 105 = .ok (.goto 22, 3) := dk_167 0 22 (dk_at dksX6_token_4 13 rfl rfl)
theorem dX6_token_108 : decode cX6_token 108 = .ok (.aload_n 0, 1) := dk_42 (dk_at dksX6_token_4 16 rfl rfl)
theorem dX6_token_109 : decode cX6_token 109 = .ok (.getfield 172, 3) := dk_180 0 172 (dk_at dksX6_token_4 17 rfl rfl)
theorem dX6_token_112 : decode cX6_token 112 = .ok (.aload_n 0, 1) := dk_42 (dk_at dksX6_token_4 20 rfl rfl)
theorem dX6_token_113 : decode cX6_token 113 = .ok (.getfield 182, 3) := dk_180 0 182 (dk_at dksX6_token_4 21 rfl rfl)
theorem dX6_token_116 : decode cX6_token 116 = .ok (.isub, 1) := dk_100 (dk_at dksX6_token_5 0 rfl rfl)
theorem dX6_token_117 : decode cX6_token 117 = .ok (.bipush 6, 2) := dk_16 6 (dk_at dksX6_token_5 1 rfl rfl)
theorem dX6_token_119 : decode cX6_token 119 = .ok (.if_icmp .le 7, 3) := dk_164 0 7 (dk_at dksX6_token_5 3 rfl rfl)
theorem dX6_token_122 : decode cX6_token 122 = .ok (.iconst 5, 1) := dk_8 (dk_at dksX6_token_5 6 rfl rfl)
theorem dX6_token_123 : decode cX6_token 123 = .ok (.goto 4, 3) := dk_167 0 4 (dk_at dksX6_token_5 7 rfl rfl)
theorem dX6_token_126 : decode cX6_token 126 = .ok (.iconst 1, 1) := dk_4 (dk_at dksX6_token_5 10 rfl rfl)
theorem dX6_token_127 : decode cX6_token 127 = .ok (.putfield 185, 3) := dk_181 0 185 (dk_at dksX6_token_5 11 rfl rfl)
theorem dX6_token_130 : decode cX6_token 130 = .ok (.aload_n 0, 1) := dk_42 (dk_at dksX6_token_5 14 rfl rfl)
theorem dX6_token_131 : decode cX6_token 131 = .ok (.getfield 185, 3) := dk_180 0 185 (dk_at dksX6_token_5 15 rfl rfl)
theorem dX6_token_134 : decode cX6_token 134 = .ok (.iconst 1, 1) := dk_4 (dk_at dksX6_token_5 18 rfl rfl)
theorem dX6_token_135 : decode cX6_token 135 = .ok (.if_icmp .ne 91, 3) := dk_160 0 91 (dk_at dksX6_token_5 19 rfl rfl)
theorem dX6_token_138 : decode cX6_token 138 = .ok (.aload_n 0, 1) := dk_42 (dk_at dksX6_token_5 22 rfl rfl)
theorem dX6_token_139 : decode cX6_token 139 = .ok (.invokevirtual 198, 3) := dk_182 0 198 (dk_at dksX6_token_6 0 rfl rfl)
theorem dX6_token_142 : decode cX6_token 142 = .ok (.goto 84, 3) := dk_167 0 84 (dk_at dksX6_token_6 3 rfl rfl)
theorem dX6_token_145 : decode cX6_token 145 = .ok (.iload_n 1, 1) := dk_27 (dk_at dksX6_token_6 6 rfl rfl)
theorem dX6_token_146 : decode cX6_token 146 = .ok (.invokestatic 201, 3) := dk_184 0 201 (dk_at dksX6_token_6 7 rfl rfl)
theorem dX6_token_149 : decode cX6_token 149 = .ok (.ifCond .eq 72, 3) := dk_153 0 72 (dk_at dksX6_token_6 10 rfl rfl)
theorem dX6_token_152 : decode cX6_token 152 = .ok (.aload_n 0, 1) := dk_42 (dk_at dksX6_token_6 13 rfl rfl)
theorem dX6_token_153 : decode cX6_token 153 = .ok (.iconst 2, 1) := dk_5 (dk_at dksX6_token_6 14 rfl rfl)
theorem dX6_token_154 : decode cX6_token 154 = .ok (.putfield 185, 3) := dk_181 0 185 (dk_at dksX6_token_6 15 rfl rfl)
theorem dX6_token_157 : decode cX6_token 157 = .ok (.aload_n 0, 1) := dk_42 (dk_at dksX6_token_6 18 rfl rfl)
theorem dX6_token_158 : decode cX6_token 158 = .ok (.iconst 0, 1) := dk_3 (dk_at dksX6_token_6 19 rfl rfl)
theorem dX6_token_159 : decode cX6_token 159 = .ok (.putfield 195, 3) := dk_181 0 195 (dk_at dksX6_token_6 20 rfl rfl)
theorem dX6_token_162 : decode cX6_token 162 = .ok (.aload_n 0, 1) := dk_42 (dk_at dksX6_token_6 23 rfl rfl)
theorem dX6_token_163 : decode cX6_token 163 = .ok (.invokevirtual 178, 3) := dk_182 0 178 (dk_at dksX6_token_7 0 rfl rfl)
theorem dX6_token_166 : decode cX6_token 166 = .ok (.invokestatic 201, 3) := dk_184 0 201 (dk_at dksX6_token_7 3 rfl rfl)
theorem dX6_token_169 : decode cX6_token 169 = .ok (.ifCond .eq 57, 3) := dk_153 0 57 (dk_at dksX6_token_7 6 rfl rfl)
theorem dX6_token_172 : decode cX6_token 172 = .ok (.aload_n 0, 1) := dk_42 (dk_at dksX6_token_7 9 rfl rfl)
theorem dX6_token_173 : decode cX6_token 173 = .ok (.aload_n 0, 1) := dk_42 (dk_at dksX6_token_7 10 rfl rfl)
theorem dX6_token_174 : decode cX6_token 174 = .ok (.getfield 195, 3) := dk_180 0 195 (dk_at dksX6_token_7 11 rfl rfl)
theorem dX6_token_177 : decode cX6_token 177 = .ok (.sipush 9999, 3) := dk_17 39 15 (dk_at dksX6_token_7 14 rfl rfl)
theorem dX6_token_180 : decode cX6_token 180 = .ok (.if_icmp .le 10, 3) := dk_164 0 10 (dk_at dksX6_token_7 17 rfl rfl)
theorem dX6_token_183 : decode cX6_token 183 = .ok (.aload_n 0, 1) := dk_42 (dk_at dksX6_token_7 20 rfl rfl)
theorem dX6_token_184 : decode cX6_token 184 = .ok (.getfield 195, 3) := dk_180 0 195 (dk_at dksX6_token_7 21 rfl rfl)
theorem dX6_token_187 : decode cX6_token 187 = .ok (.goto 18, 3) := dk_167 0 18 (dk_at dksX6_token_8 0 rfl rfl)
theorem dX6_token_190 : decode cX6_token 190 = .ok (.bipush 10, 2) := dk_16 10 (dk_at dksX6_token_8 3 rfl rfl)
theorem dX6_token_192 : decode cX6_token 192 = .ok (.aload_n 0, 1) := dk_42 (dk_at dksX6_token_8 5 rfl rfl)
theorem dX6_token_193 : decode cX6_token 193 = .ok (.getfield 195, 3) := dk_180 0 195 (dk_at dksX6_token_8 6 rfl rfl)
theorem dX6_token_196 : decode cX6_token 196 = .ok (.imul, 1) := dk_104 (dk_at dksX6_token_8 9 rfl rfl)
theorem dX6_token_197 : decode cX6_token 197 = .ok (.aload_n 0, 1) := dk_42 (dk_at dksX6_token_8 10 rfl rfl)
theorem dX6_token_198 : decode cX6_token 198 = .ok (.invokevirtual 178, 3) := dk_182 0 178 (dk_at dksX6_token_8 11 rfl rfl)
theorem dX6_token_201 : decode cX6_token 201 = .ok (.iadd, 1) := dk_96 (dk_at dksX6_token_8 14 rfl rfl)
theorem dX6_token_202 : decode cX6_token 202 = .ok (.bipush 48, 2) := dk_16 48 (dk_at dksX6_token_8 15 rfl rfl)
theorem dX6_token_204 : decode cX6_token 204 = .ok (.isub, 1) := dk_100 (dk_at dksX6_token_8 17 rfl rfl)
theorem dX6_token_205 : decode cX6_token 205 = .ok (.putfield 195, 3) := dk_181 0 195 (dk_at dksX6_token_8 18 rfl rfl)
theorem dX6_token_208 : decode cX6_token 208 = .ok (.aload_n 0, 1) := dk_42 (dk_at dksX6_token_8 21 rfl rfl)
theorem dX6_token_209 : decode cX6_token 209 = .ok (.dup, 1) := dk_89 (dk_at dksX6_token_8 22 rfl rfl)
theorem dX6_token_210 : decode cX6_token 210 = .ok (.getfield 172, 3) := dk_180 0 172 (dk_at dksX6_token_9 0 rfl rfl)
theorem dX6_token_213 : decode cX6_token 213 = .ok (.iconst 1, 1) := dk_4 (dk_at dksX6_token_9 3 rfl rfl)
theorem dX6_token_214 : decode cX6_token 214 = .ok (.iadd, 1) := dk_96 (dk_at dksX6_token_9 4 rfl rfl)
theorem dX6_token_215 : decode cX6_token 215 = .ok (.putfield 172, 3) := dk_181 0 172 (dk_at dksX6_token_9 5 rfl rfl)
theorem dX6_token_218 : decode cX6_token 218 = .ok (.goto (-56), 3) := dk_167 255 200 (dk_at dksX6_token_9 8 rfl rfl)
theorem dX6_token_221 : decode cX6_token 221 = .ok (.aload_n 0, 1) := dk_42 (dk_at dksX6_token_9 11 rfl rfl)
theorem dX6_token_222 : decode cX6_token 222 = .ok (.iload_n 1, 1) := dk_27 (dk_at dksX6_token_9 12 rfl rfl)
theorem dX6_token_223 : decode cX6_token 223 = .ok (.invokevirtual 204, 3) := dk_182 0 204 (dk_at dksX6_token_9 13 rfl rfl)
theorem dX6_token_226 : decode cX6_token 226 = .ok (.return_, 1) := dk_177 (dk_at dksX6_token_9 16 rfl rfl)
abbrev cX6_here : ByteArray := prog_23_method_4_code
def yX6_here : MethodName := ⟨RX6, "here", "()I"⟩
def dkwX6_here_1 : List UInt8 := [172]
abbrev dktX6_here_1 : List UInt8 := dkwX6_here_1 ++ []
def dkwX6_here_0 : List UInt8 := [42, 180, 0, 172, 42, 180, 0, 175, 162, 0, 15, 42, 180, 0, 9, 42, 180, 0, 172, 46, 167, 0, 4, 2]
abbrev dktX6_here_0 : List UInt8 := dkwX6_here_0 ++ dktX6_here_1
theorem dksX6_here_0 : cX6_here.data.toList.drop 0 = dktX6_here_0 := by decide +kernel
theorem dksX6_here_1 : cX6_here.data.toList.drop 24 = dktX6_here_1 := dk_seg dksX6_here_0 24 rfl rfl
theorem dX6_here_0 : decode cX6_here 0 = .ok (.aload_n 0, 1) := dk_42 (dk_at dksX6_here_0 0 rfl rfl)
theorem dX6_here_1 : decode cX6_here 1 = .ok (.getfield 172, 3) := dk_180 0 172 (dk_at dksX6_here_0 1 rfl rfl)
theorem dX6_here_4 : decode cX6_here 4 = .ok (.aload_n 0, 1) := dk_42 (dk_at dksX6_here_0 4 rfl rfl)
theorem dX6_here_5 : decode cX6_here 5 = .ok (.getfield 175, 3) := dk_180 0 175 (dk_at dksX6_here_0 5 rfl rfl)
theorem dX6_here_8 : decode cX6_here 8 = .ok (.if_icmp .ge 15, 3) := dk_162 0 15 (dk_at dksX6_here_0 8 rfl rfl)
theorem dX6_here_11 : decode cX6_here 11 = .ok (.aload_n 0, 1) := dk_42 (dk_at dksX6_here_0 11 rfl rfl)
theorem dX6_here_12 : decode cX6_here 12 = .ok (.getfield 9, 3) := dk_180 0 9 (dk_at dksX6_here_0 12 rfl rfl)
theorem dX6_here_15 : decode cX6_here 15 = .ok (.aload_n 0, 1) := dk_42 (dk_at dksX6_here_0 15 rfl rfl)
theorem dX6_here_16 : decode cX6_here 16 = .ok (.getfield 172, 3) := dk_180 0 172 (dk_at dksX6_here_0 16 rfl rfl)
theorem dX6_here_19 : decode cX6_here 19 = .ok (.iaload, 1) := dk_46 (dk_at dksX6_here_0 19 rfl rfl)
theorem dX6_here_20 : decode cX6_here 20 = .ok (.goto 4, 3) := dk_167 0 4 (dk_at dksX6_here_0 20 rfl rfl)
theorem dX6_here_23 : decode cX6_here 23 = .ok (.iconst (-1), 1) := dk_2 (dk_at dksX6_here_0 23 rfl rfl)
theorem dX6_here_24 : decode cX6_here 24 = .ok (.ireturn, 1) := dk_172 (dk_at dksX6_here_1 0 rfl rfl)
abbrev cX6_isSmall : ByteArray := prog_23_method_5_code
def yX6_isSmall : MethodName := ⟨RX6, "isSmall", "(I)Z"⟩
def dkwX6_isSmall_0 : List UInt8 := [26, 16, 97, 161, 0, 13, 26, 16, 122, 163, 0, 7, 4, 167, 0, 4, 3, 172]
abbrev dktX6_isSmall_0 : List UInt8 := dkwX6_isSmall_0 ++ []
theorem dksX6_isSmall_0 : cX6_isSmall.data.toList.drop 0 = dktX6_isSmall_0 := by decide +kernel
theorem dX6_isSmall_0 : decode cX6_isSmall 0 = .ok (.iload_n 0, 1) := dk_26 (dk_at dksX6_isSmall_0 0 rfl rfl)
theorem dX6_isSmall_1 : decode cX6_isSmall 1 = .ok (.bipush 97, 2) := dk_16 97 (dk_at dksX6_isSmall_0 1 rfl rfl)
theorem dX6_isSmall_3 : decode cX6_isSmall 3 = .ok (.if_icmp .lt 13, 3) := dk_161 0 13 (dk_at dksX6_isSmall_0 3 rfl rfl)
theorem dX6_isSmall_6 : decode cX6_isSmall 6 = .ok (.iload_n 0, 1) := dk_26 (dk_at dksX6_isSmall_0 6 rfl rfl)
theorem dX6_isSmall_7 : decode cX6_isSmall 7 = .ok (.bipush 122, 2) := dk_16 122 (dk_at dksX6_isSmall_0 7 rfl rfl)
theorem dX6_isSmall_9 : decode cX6_isSmall 9 = .ok (.if_icmp .gt 7, 3) := dk_163 0 7 (dk_at dksX6_isSmall_0 9 rfl rfl)
theorem dX6_isSmall_12 : decode cX6_isSmall 12 = .ok (.iconst 1, 1) := dk_4 (dk_at dksX6_isSmall_0 12 rfl rfl)
theorem dX6_isSmall_13 : decode cX6_isSmall 13 = .ok (.goto 4, 3) := dk_167 0 4 (dk_at dksX6_isSmall_0 13 rfl rfl)
theorem dX6_isSmall_16 : decode cX6_isSmall 16 = .ok (.iconst 0, 1) := dk_3 (dk_at dksX6_isSmall_0 16 rfl rfl)
theorem dX6_isSmall_17 : decode cX6_isSmall 17 = .ok (.ireturn, 1) := dk_172 (dk_at dksX6_isSmall_0 17 rfl rfl)
abbrev cX6_word : ByteArray := prog_23_method_9_code
def yX6_word : MethodName := ⟨RX6, "word", "()I"⟩
def dkwX6_word_5 : List UInt8 := [132, 2, 1, 132, 1, 1, 167, 255, 140, 2, 172]
abbrev dktX6_word_5 : List UInt8 := dkwX6_word_5 ++ []
def dkwX6_word_4 : List UInt8 := [160, 0, 5, 27, 172, 18, 208, 28, 182, 0, 215, 16, 32, 159, 0, 9, 132, 2, 1, 167, 255, 242]
abbrev dktX6_word_4 : List UInt8 := dkwX6_word_4 ++ dktX6_word_5
def dkwX6_word_3 : List UInt8 := [18, 208, 28, 29, 96, 182, 0, 215, 16, 32, 160, 0, 18, 42, 180, 0, 182, 29, 96, 42, 180, 0, 172]
abbrev dktX6_word_3 : List UInt8 := dkwX6_word_3 ++ dktX6_word_4
def dkwX6_word_2 : List UInt8 := [180, 0, 182, 29, 96, 46, 18, 208, 28, 29, 96, 182, 0, 215, 160, 0, 9, 132, 3, 1, 167, 255, 205]
abbrev dktX6_word_2 : List UInt8 := dkwX6_word_2 ++ dktX6_word_3
def dkwX6_word_1 : List UInt8 := [16, 32, 159, 0, 44, 42, 180, 0, 182, 29, 96, 42, 180, 0, 172, 162, 0, 31, 42, 180, 0, 9, 42]
abbrev dktX6_word_1 : List UInt8 := dkwX6_word_1 ++ dktX6_word_2
def dkwX6_word_0 : List UInt8 := [3, 60, 3, 61, 28, 18, 208, 182, 0, 210, 162, 0, 113, 3, 62, 18, 208, 28, 29, 96, 182, 0, 215]
abbrev dktX6_word_0 : List UInt8 := dkwX6_word_0 ++ dktX6_word_1
theorem dksX6_word_0 : cX6_word.data.toList.drop 0 = dktX6_word_0 := by decide +kernel
theorem dksX6_word_1 : cX6_word.data.toList.drop 23 = dktX6_word_1 := dk_seg dksX6_word_0 23 rfl rfl
theorem dksX6_word_2 : cX6_word.data.toList.drop 46 = dktX6_word_2 := dk_seg dksX6_word_1 23 rfl rfl
theorem dksX6_word_3 : cX6_word.data.toList.drop 69 = dktX6_word_3 := dk_seg dksX6_word_2 23 rfl rfl
theorem dksX6_word_4 : cX6_word.data.toList.drop 92 = dktX6_word_4 := dk_seg dksX6_word_3 23 rfl rfl
theorem dksX6_word_5 : cX6_word.data.toList.drop 114 = dktX6_word_5 := dk_seg dksX6_word_4 22 rfl rfl
theorem dX6_word_0 : decode cX6_word 0 = .ok (.iconst 0, 1) := dk_3 (dk_at dksX6_word_0 0 rfl rfl)
theorem dX6_word_1 : decode cX6_word 1 = .ok (.istore_n 1, 1) := dk_60 (dk_at dksX6_word_0 1 rfl rfl)
theorem dX6_word_2 : decode cX6_word 2 = .ok (.iconst 0, 1) := dk_3 (dk_at dksX6_word_0 2 rfl rfl)
theorem dX6_word_3 : decode cX6_word 3 = .ok (.istore_n 2, 1) := dk_61 (dk_at dksX6_word_0 3 rfl rfl)
theorem dX6_word_4 : decode cX6_word 4 = .ok (.iload_n 2, 1) := dk_28 (dk_at dksX6_word_0 4 rfl rfl)
theorem dX6_word_5 : decode cX6_word 5 = .ok (.ldc 208, 2) := dk_18 208 (dk_at dksX6_word_0 5 rfl rfl)
theorem dX6_word_7 : decode cX6_word 7 = .ok (.invokevirtual 210, 3) := dk_182 0 210 (dk_at dksX6_word_0 7 rfl rfl)
theorem dX6_word_10 : decode cX6_word 10 = .ok (.if_icmp .ge 113, 3) := dk_162 0 113 (dk_at dksX6_word_0 10 rfl rfl)
theorem dX6_word_13 : decode cX6_word 13 = .ok (.iconst 0, 1) := dk_3 (dk_at dksX6_word_0 13 rfl rfl)
theorem dX6_word_14 : decode cX6_word 14 = .ok (.istore_n 3, 1) := dk_62 (dk_at dksX6_word_0 14 rfl rfl)
theorem dX6_word_15 : decode cX6_word 15 = .ok (.ldc 208, 2) := dk_18 208 (dk_at dksX6_word_0 15 rfl rfl)
theorem dX6_word_17 : decode cX6_word 17 = .ok (.iload_n 2, 1) := dk_28 (dk_at dksX6_word_0 17 rfl rfl)
theorem dX6_word_18 : decode cX6_word 18 = .ok (.iload_n 3, 1) := dk_29 (dk_at dksX6_word_0 18 rfl rfl)
theorem dX6_word_19 : decode cX6_word 19 = .ok (.iadd, 1) := dk_96 (dk_at dksX6_word_0 19 rfl rfl)
theorem dX6_word_20 : decode cX6_word 20 = .ok (.invokevirtual 215, 3) := dk_182 0 215 (dk_at dksX6_word_0 20 rfl rfl)
theorem dX6_word_23 : decode cX6_word 23 = .ok (.bipush 32, 2) := dk_16 32 (dk_at dksX6_word_1 0 rfl rfl)
theorem dX6_word_25 : decode cX6_word 25 = .ok (.if_icmp .eq 44, 3) := dk_159 0 44 (dk_at dksX6_word_1 2 rfl rfl)
theorem dX6_word_28 : decode cX6_word 28 = .ok (.aload_n 0, 1) := dk_42 (dk_at dksX6_word_1 5 rfl rfl)
theorem dX6_word_29 : decode cX6_word 29 = .ok (.getfield 182, 3) := dk_180 0 182 (dk_at dksX6_word_1 6 rfl rfl)
theorem dX6_word_32 : decode cX6_word 32 = .ok (.iload_n 3, 1) := dk_29 (dk_at dksX6_word_1 9 rfl rfl)
theorem dX6_word_33 : decode cX6_word 33 = .ok (.iadd, 1) := dk_96 (dk_at dksX6_word_1 10 rfl rfl)
theorem dX6_word_34 : decode cX6_word 34 = .ok (.aload_n 0, 1) := dk_42 (dk_at dksX6_word_1 11 rfl rfl)
theorem dX6_word_35 : decode cX6_word 35 = .ok (.getfield 172, 3) := dk_180 0 172 (dk_at dksX6_word_1 12 rfl rfl)
theorem dX6_word_38 : decode cX6_word 38 = .ok (.if_icmp .ge 31, 3) := dk_162 0 31 (dk_at dksX6_word_1 15 rfl rfl)
theorem dX6_word_41 : decode cX6_word 41 = .ok (.aload_n 0, 1) := dk_42 (dk_at dksX6_word_1 18 rfl rfl)
theorem dX6_word_42 : decode cX6_word 42 = .ok (.getfield 9, 3) := dk_180 0 9 (dk_at dksX6_word_1 19 rfl rfl)
theorem dX6_word_45 : decode cX6_word 45 = .ok (.aload_n 0, 1) := dk_42 (dk_at dksX6_word_1 22 rfl rfl)
theorem dX6_word_46 : decode cX6_word 46 = .ok (.getfield 182, 3) := dk_180 0 182 (dk_at dksX6_word_2 0 rfl rfl)
theorem dX6_word_49 : decode cX6_word 49 = .ok (.iload_n 3, 1) := dk_29 (dk_at dksX6_word_2 3 rfl rfl)
theorem dX6_word_50 : decode cX6_word 50 = .ok (.iadd, 1) := dk_96 (dk_at dksX6_word_2 4 rfl rfl)
theorem dX6_word_51 : decode cX6_word 51 = .ok (.iaload, 1) := dk_46 (dk_at dksX6_word_2 5 rfl rfl)
theorem dX6_word_52 : decode cX6_word 52 = .ok (.ldc 208, 2) := dk_18 208 (dk_at dksX6_word_2 6 rfl rfl)
theorem dX6_word_54 : decode cX6_word 54 = .ok (.iload_n 2, 1) := dk_28 (dk_at dksX6_word_2 8 rfl rfl)
theorem dX6_word_55 : decode cX6_word 55 = .ok (.iload_n 3, 1) := dk_29 (dk_at dksX6_word_2 9 rfl rfl)
theorem dX6_word_56 : decode cX6_word 56 = .ok (.iadd, 1) := dk_96 (dk_at dksX6_word_2 10 rfl rfl)
theorem dX6_word_57 : decode cX6_word 57 = .ok (.invokevirtual 215, 3) := dk_182 0 215 (dk_at dksX6_word_2 11 rfl rfl)
theorem dX6_word_60 : decode cX6_word 60 = .ok (.if_icmp .ne 9, 3) := dk_160 0 9 (dk_at dksX6_word_2 14 rfl rfl)
theorem dX6_word_63 : decode cX6_word 63 = .ok (.iinc 3 1, 3) := dk_132 3 1 (dk_at dksX6_word_2 17 rfl rfl)
theorem dX6_word_66 : decode cX6_word 66 = .ok (.goto (-51), 3) := dk_167 255 205 (dk_at dksX6_word_2 20 rfl rfl)
theorem dX6_word_69 : decode cX6_word 69 = .ok (.ldc 208, 2) := dk_18 208 (dk_at dksX6_word_3 0 rfl rfl)
theorem dX6_word_71 : decode cX6_word 71 = .ok (.iload_n 2, 1) := dk_28 (dk_at dksX6_word_3 2 rfl rfl)
theorem dX6_word_72 : decode cX6_word 72 = .ok (.iload_n 3, 1) := dk_29 (dk_at dksX6_word_3 3 rfl rfl)
theorem dX6_word_73 : decode cX6_word 73 = .ok (.iadd, 1) := dk_96 (dk_at dksX6_word_3 4 rfl rfl)
theorem dX6_word_74 : decode cX6_word 74 = .ok (.invokevirtual 215, 3) := dk_182 0 215 (dk_at dksX6_word_3 5 rfl rfl)
theorem dX6_word_77 : decode cX6_word 77 = .ok (.bipush 32, 2) := dk_16 32 (dk_at dksX6_word_3 8 rfl rfl)
theorem dX6_word_79 : decode cX6_word 79 = .ok (.if_icmp .ne 18, 3) := dk_160 0 18 (dk_at dksX6_word_3 10 rfl rfl)
theorem dX6_word_82 : decode cX6_word 82 = .ok (.aload_n 0, 1) := dk_42 (dk_at dksX6_word_3 13 rfl rfl)
theorem dX6_word_83 : decode cX6_word 83 = .ok (.getfield 182, 3) := dk_180 0 182 (dk_at dksX6_word_3 14 rfl rfl)
theorem dX6_word_86 : decode cX6_word 86 = .ok (.iload_n 3, 1) := dk_29 (dk_at dksX6_word_3 17 rfl rfl)
theorem dX6_word_87 : decode cX6_word 87 = .ok (.iadd, 1) := dk_96 (dk_at dksX6_word_3 18 rfl rfl)
theorem dX6_word_88 : decode cX6_word 88 = .ok (.aload_n 0, 1) := dk_42 (dk_at dksX6_word_3 19 rfl rfl)
theorem dX6_word_89 : decode cX6_word 89 = .ok (.getfield 172, 3) := dk_180 0 172 (dk_at dksX6_word_3 20 rfl rfl)
theorem dX6_word_92 : decode cX6_word 92 = .ok (.if_icmp .ne 5, 3) := dk_160 0 5 (dk_at dksX6_word_4 0 rfl rfl)
theorem dX6_word_95 : decode cX6_word 95 = .ok (.iload_n 1, 1) := dk_27 (dk_at dksX6_word_4 3 rfl rfl)
theorem dX6_word_96 : decode cX6_word 96 = .ok (.ireturn, 1) := dk_172 (dk_at dksX6_word_4 4 rfl rfl)
theorem dX6_word_97 : decode cX6_word 97 = .ok (.ldc 208, 2) := dk_18 208 (dk_at dksX6_word_4 5 rfl rfl)
theorem dX6_word_99 : decode cX6_word 99 = .ok (.iload_n 2, 1) := dk_28 (dk_at dksX6_word_4 7 rfl rfl)
theorem dX6_word_100 : decode cX6_word 100 = .ok (.invokevirtual 215, 3) := dk_182 0 215 (dk_at dksX6_word_4 8 rfl rfl)
theorem dX6_word_103 : decode cX6_word 103 = .ok (.bipush 32, 2) := dk_16 32 (dk_at dksX6_word_4 11 rfl rfl)
theorem dX6_word_105 : decode cX6_word 105 = .ok (.if_icmp .eq 9, 3) := dk_159 0 9 (dk_at dksX6_word_4 13 rfl rfl)
theorem dX6_word_108 : decode cX6_word 108 = .ok (.iinc 2 1, 3) := dk_132 2 1 (dk_at dksX6_word_4 16 rfl rfl)
theorem dX6_word_111 : decode cX6_word 111 = .ok (.goto (-14), 3) := dk_167 255 242 (dk_at dksX6_word_4 19 rfl rfl)
theorem dX6_word_114 : decode cX6_word 114 = .ok (.iinc 2 1, 3) := dk_132 2 1 (dk_at dksX6_word_5 0 rfl rfl)
theorem dX6_word_117 : decode cX6_word 117 = .ok (.iinc 1 1, 3) := dk_132 1 1 (dk_at dksX6_word_5 3 rfl rfl)
theorem dX6_word_120 : decode cX6_word 120 = .ok (.goto (-116), 3) := dk_167 255 140 (dk_at dksX6_word_5 6 rfl rfl)
theorem dX6_word_123 : decode cX6_word 123 = .ok (.iconst (-1), 1) := dk_2 (dk_at dksX6_word_5 9 rfl rfl)
theorem dX6_word_124 : decode cX6_word 124 = .ok (.ireturn, 1) := dk_172 (dk_at dksX6_word_5 10 rfl rfl)
abbrev cX6_name : ByteArray := prog_23_method_10_code
def yX6_name : MethodName := ⟨RX6, "name", "()V"⟩
def dkwX6_name_2 : List UInt8 := [96, 167, 0, 4, 3, 128, 181, 0, 195, 132, 1, 1, 167, 255, 203, 177]
abbrev dktX6_name_2 : List UInt8 := dkwX6_name_2 ++ []
def dkwX6_name_1 : List UInt8 := [27, 96, 42, 180, 0, 172, 162, 0, 22, 42, 180, 0, 9, 42, 180, 0, 182, 27, 96, 46, 16, 97, 100, 4]
abbrev dktX6_name_1 : List UInt8 := dkwX6_name_1 ++ dktX6_name_2
def dkwX6_name_0 : List UInt8 := [42, 3, 181, 0, 195, 3, 60, 27, 16, 6, 162, 0, 53, 42, 42, 180, 0, 195, 8, 120, 42, 180, 0, 182]
abbrev dktX6_name_0 : List UInt8 := dkwX6_name_0 ++ dktX6_name_1
theorem dksX6_name_0 : cX6_name.data.toList.drop 0 = dktX6_name_0 := by decide +kernel
theorem dksX6_name_1 : cX6_name.data.toList.drop 24 = dktX6_name_1 := dk_seg dksX6_name_0 24 rfl rfl
theorem dksX6_name_2 : cX6_name.data.toList.drop 48 = dktX6_name_2 := dk_seg dksX6_name_1 24 rfl rfl
theorem dX6_name_0 : decode cX6_name 0 = .ok (.aload_n 0, 1) := dk_42 (dk_at dksX6_name_0 0 rfl rfl)
theorem dX6_name_1 : decode cX6_name 1 = .ok (.iconst 0, 1) := dk_3 (dk_at dksX6_name_0 1 rfl rfl)
theorem dX6_name_2 : decode cX6_name 2 = .ok (.putfield 195, 3) := dk_181 0 195 (dk_at dksX6_name_0 2 rfl rfl)
theorem dX6_name_5 : decode cX6_name 5 = .ok (.iconst 0, 1) := dk_3 (dk_at dksX6_name_0 5 rfl rfl)
theorem dX6_name_6 : decode cX6_name 6 = .ok (.istore_n 1, 1) := dk_60 (dk_at dksX6_name_0 6 rfl rfl)
theorem dX6_name_7 : decode cX6_name 7 = .ok (.iload_n 1, 1) := dk_27 (dk_at dksX6_name_0 7 rfl rfl)
theorem dX6_name_8 : decode cX6_name 8 = .ok (.bipush 6, 2) := dk_16 6 (dk_at dksX6_name_0 8 rfl rfl)
theorem dX6_name_10 : decode cX6_name 10 = .ok (.if_icmp .ge 53, 3) := dk_162 0 53 (dk_at dksX6_name_0 10 rfl rfl)
theorem dX6_name_13 : decode cX6_name 13 = .ok (.aload_n 0, 1) := dk_42 (dk_at dksX6_name_0 13 rfl rfl)
theorem dX6_name_14 : decode cX6_name 14 = .ok (.aload_n 0, 1) := dk_42 (dk_at dksX6_name_0 14 rfl rfl)
theorem dX6_name_15 : decode cX6_name 15 = .ok (.getfield 195, 3) := dk_180 0 195 (dk_at dksX6_name_0 15 rfl rfl)
theorem dX6_name_18 : decode cX6_name 18 = .ok (.iconst 5, 1) := dk_8 (dk_at dksX6_name_0 18 rfl rfl)
theorem dX6_name_19 : decode cX6_name 19 = .ok (.ishl, 1) := dk_120 (dk_at dksX6_name_0 19 rfl rfl)
theorem dX6_name_20 : decode cX6_name 20 = .ok (.aload_n 0, 1) := dk_42 (dk_at dksX6_name_0 20 rfl rfl)
theorem dX6_name_21 : decode cX6_name 21 = .ok (.getfield 182, 3) := dk_180 0 182 (dk_at dksX6_name_0 21 rfl rfl)
theorem dX6_name_24 : decode cX6_name 24 = .ok (.iload_n 1, 1) := dk_27 (dk_at dksX6_name_1 0 rfl rfl)
theorem dX6_name_25 : decode cX6_name 25 = .ok (.iadd, 1) := dk_96 (dk_at dksX6_name_1 1 rfl rfl)
theorem dX6_name_26 : decode cX6_name 26 = .ok (.aload_n 0, 1) := dk_42 (dk_at dksX6_name_1 2 rfl rfl)
theorem dX6_name_27 : decode cX6_name 27 = .ok (.getfield 172, 3) := dk_180 0 172 (dk_at dksX6_name_1 3 rfl rfl)
theorem dX6_name_30 : decode cX6_name 30 = .ok (.if_icmp .ge 22, 3) := dk_162 0 22 (dk_at dksX6_name_1 6 rfl rfl)
theorem dX6_name_33 : decode cX6_name 33 = .ok (.aload_n 0, 1) := dk_42 (dk_at dksX6_name_1 9 rfl rfl)
theorem dX6_name_34 : decode cX6_name 34 = .ok (.getfield 9, 3) := dk_180 0 9 (dk_at dksX6_name_1 10 rfl rfl)
theorem dX6_name_37 : decode cX6_name 37 = .ok (.aload_n 0, 1) := dk_42 (dk_at dksX6_name_1 13 rfl rfl)
theorem dX6_name_38 : decode cX6_name 38 = .ok (.getfield 182, 3) := dk_180 0 182 (dk_at dksX6_name_1 14 rfl rfl)
theorem dX6_name_41 : decode cX6_name 41 = .ok (.iload_n 1, 1) := dk_27 (dk_at dksX6_name_1 17 rfl rfl)
theorem dX6_name_42 : decode cX6_name 42 = .ok (.iadd, 1) := dk_96 (dk_at dksX6_name_1 18 rfl rfl)
theorem dX6_name_43 : decode cX6_name 43 = .ok (.iaload, 1) := dk_46 (dk_at dksX6_name_1 19 rfl rfl)
theorem dX6_name_44 : decode cX6_name 44 = .ok (.bipush 97, 2) := dk_16 97 (dk_at dksX6_name_1 20 rfl rfl)
theorem dX6_name_46 : decode cX6_name 46 = .ok (.isub, 1) := dk_100 (dk_at dksX6_name_1 22 rfl rfl)
theorem dX6_name_47 : decode cX6_name 47 = .ok (.iconst 1, 1) := dk_4 (dk_at dksX6_name_1 23 rfl rfl)
theorem dX6_name_48 : decode cX6_name 48 = .ok (.iadd, 1) := dk_96 (dk_at dksX6_name_2 0 rfl rfl)
theorem dX6_name_49 : decode cX6_name 49 = .ok (.goto 4, 3) := dk_167 0 4 (dk_at dksX6_name_2 1 rfl rfl)
theorem dX6_name_52 : decode cX6_name 52 = .ok (.iconst 0, 1) := dk_3 (dk_at dksX6_name_2 4 rfl rfl)
theorem dX6_name_53 : decode cX6_name 53 = .ok (.ior, 1) := dk_128 (dk_at dksX6_name_2 5 rfl rfl)
theorem dX6_name_54 : decode cX6_name 54 = .ok (.putfield 195, 3) := dk_181 0 195 (dk_at dksX6_name_2 6 rfl rfl)
theorem dX6_name_57 : decode cX6_name 57 = .ok (.iinc 1 1, 3) := dk_132 1 1 (dk_at dksX6_name_2 9 rfl rfl)
theorem dX6_name_60 : decode cX6_name 60 = .ok (.goto (-53), 3) := dk_167 255 203 (dk_at dksX6_name_2 12 rfl rfl)
theorem dX6_name_63 : decode cX6_name 63 = .ok (.return_, 1) := dk_177 (dk_at dksX6_name_2 15 rfl rfl)
abbrev cX6_isDigit : ByteArray := prog_23_method_6_code
def yX6_isDigit : MethodName := ⟨RX6, "isDigit", "(I)Z"⟩
def dkwX6_isDigit_0 : List UInt8 := [26, 16, 48, 161, 0, 13, 26, 16, 57, 163, 0, 7, 4, 167, 0, 4, 3, 172]
abbrev dktX6_isDigit_0 : List UInt8 := dkwX6_isDigit_0 ++ []
theorem dksX6_isDigit_0 : cX6_isDigit.data.toList.drop 0 = dktX6_isDigit_0 := by decide +kernel
theorem dX6_isDigit_0 : decode cX6_isDigit 0 = .ok (.iload_n 0, 1) := dk_26 (dk_at dksX6_isDigit_0 0 rfl rfl)
theorem dX6_isDigit_1 : decode cX6_isDigit 1 = .ok (.bipush 48, 2) := dk_16 48 (dk_at dksX6_isDigit_0 1 rfl rfl)
theorem dX6_isDigit_3 : decode cX6_isDigit 3 = .ok (.if_icmp .lt 13, 3) := dk_161 0 13 (dk_at dksX6_isDigit_0 3 rfl rfl)
theorem dX6_isDigit_6 : decode cX6_isDigit 6 = .ok (.iload_n 0, 1) := dk_26 (dk_at dksX6_isDigit_0 6 rfl rfl)
theorem dX6_isDigit_7 : decode cX6_isDigit 7 = .ok (.bipush 57, 2) := dk_16 57 (dk_at dksX6_isDigit_0 7 rfl rfl)
theorem dX6_isDigit_9 : decode cX6_isDigit 9 = .ok (.if_icmp .gt 7, 3) := dk_163 0 7 (dk_at dksX6_isDigit_0 9 rfl rfl)
theorem dX6_isDigit_12 : decode cX6_isDigit 12 = .ok (.iconst 1, 1) := dk_4 (dk_at dksX6_isDigit_0 12 rfl rfl)
theorem dX6_isDigit_13 : decode cX6_isDigit 13 = .ok (.goto 4, 3) := dk_167 0 4 (dk_at dksX6_isDigit_0 13 rfl rfl)
theorem dX6_isDigit_16 : decode cX6_isDigit 16 = .ok (.iconst 0, 1) := dk_3 (dk_at dksX6_isDigit_0 16 rfl rfl)
theorem dX6_isDigit_17 : decode cX6_isDigit 17 = .ok (.ireturn, 1) := dk_172 (dk_at dksX6_isDigit_0 17 rfl rfl)
abbrev cX6_sign : ByteArray := prog_23_method_8_code
def yX6_sign : MethodName := ⟨RX6, "sign", "(I)V"⟩
def dkwX6_sign_7 : List UInt8 := [180, 0, 172, 4, 96, 181, 0, 172, 177]
abbrev dktX6_sign_7 : List UInt8 := dkwX6_sign_7 ++ []
def dkwX6_sign_6 : List UInt8 := [160, 0, 10, 42, 17, 1, 2, 181, 0, 195, 42, 180, 0, 195, 17, 1, 0, 161, 0, 13, 42, 89]
abbrev dktX6_sign_6 : List UInt8 := dkwX6_sign_6 ++ dktX6_sign_7
def dkwX6_sign_5 : List UInt8 := [160, 0, 10, 42, 17, 1, 1, 181, 0, 195, 27, 16, 62, 160, 0, 19, 42, 182, 0, 178, 16, 61]
abbrev dktX6_sign_5 : List UInt8 := dkwX6_sign_5 ++ dktX6_sign_6
def dkwX6_sign_4 : List UInt8 := [160, 0, 10, 42, 17, 1, 0, 181, 0, 195, 27, 16, 60, 160, 0, 19, 42, 182, 0, 178, 16, 62]
abbrev dktX6_sign_4 : List UInt8 := dkwX6_sign_4 ++ dktX6_sign_5
def dkwX6_sign_3 : List UInt8 := [167, 0, 4, 8, 181, 0, 185, 42, 27, 181, 0, 195, 27, 16, 60, 160, 0, 19, 42, 182, 0, 178, 16, 61]
abbrev dktX6_sign_3 : List UInt8 := dkwX6_sign_3 ++ dktX6_sign_4
def dkwX6_sign_2 : List UInt8 := [16, 47, 159, 0, 21, 27, 16, 60, 159, 0, 15, 27, 16, 61, 159, 0, 9, 27, 16, 62, 160, 0, 7, 6]
abbrev dktX6_sign_2 : List UInt8 := dkwX6_sign_2 ++ dktX6_sign_3
def dkwX6_sign_1 : List UInt8 := [16, 41, 159, 0, 45, 27, 16, 43, 159, 0, 39, 27, 16, 45, 159, 0, 33, 27, 16, 42, 159, 0, 27, 27]
abbrev dktX6_sign_1 : List UInt8 := dkwX6_sign_1 ++ dktX6_sign_2
def dkwX6_sign_0 : List UInt8 := [42, 89, 180, 0, 172, 4, 96, 181, 0, 172, 42, 27, 16, 59, 159, 0, 57, 27, 16, 40, 159, 0, 51, 27]
abbrev dktX6_sign_0 : List UInt8 := dkwX6_sign_0 ++ dktX6_sign_1
theorem dksX6_sign_0 : cX6_sign.data.toList.drop 0 = dktX6_sign_0 := by decide +kernel
theorem dksX6_sign_1 : cX6_sign.data.toList.drop 24 = dktX6_sign_1 := dk_seg dksX6_sign_0 24 rfl rfl
theorem dksX6_sign_2 : cX6_sign.data.toList.drop 48 = dktX6_sign_2 := dk_seg dksX6_sign_1 24 rfl rfl
theorem dksX6_sign_3 : cX6_sign.data.toList.drop 72 = dktX6_sign_3 := dk_seg dksX6_sign_2 24 rfl rfl
theorem dksX6_sign_4 : cX6_sign.data.toList.drop 96 = dktX6_sign_4 := dk_seg dksX6_sign_3 24 rfl rfl
theorem dksX6_sign_5 : cX6_sign.data.toList.drop 118 = dktX6_sign_5 := dk_seg dksX6_sign_4 22 rfl rfl
theorem dksX6_sign_6 : cX6_sign.data.toList.drop 140 = dktX6_sign_6 := dk_seg dksX6_sign_5 22 rfl rfl
theorem dksX6_sign_7 : cX6_sign.data.toList.drop 162 = dktX6_sign_7 := dk_seg dksX6_sign_6 22 rfl rfl
theorem dX6_sign_0 : decode cX6_sign 0 = .ok (.aload_n 0, 1) := dk_42 (dk_at dksX6_sign_0 0 rfl rfl)
theorem dX6_sign_1 : decode cX6_sign 1 = .ok (.dup, 1) := dk_89 (dk_at dksX6_sign_0 1 rfl rfl)
theorem dX6_sign_2 : decode cX6_sign 2 = .ok (.getfield 172, 3) := dk_180 0 172 (dk_at dksX6_sign_0 2 rfl rfl)
theorem dX6_sign_5 : decode cX6_sign 5 = .ok (.iconst 1, 1) := dk_4 (dk_at dksX6_sign_0 5 rfl rfl)
theorem dX6_sign_6 : decode cX6_sign 6 = .ok (.iadd, 1) := dk_96 (dk_at dksX6_sign_0 6 rfl rfl)
theorem dX6_sign_7 : decode cX6_sign 7 = .ok (.putfield 172, 3) := dk_181 0 172 (dk_at dksX6_sign_0 7 rfl rfl)
theorem dX6_sign_10 : decode cX6_sign 10 = .ok (.aload_n 0, 1) := dk_42 (dk_at dksX6_sign_0 10 rfl rfl)
theorem dX6_sign_11 : decode cX6_sign 11 = .ok (.iload_n 1, 1) := dk_27 (dk_at dksX6_sign_0 11 rfl rfl)
theorem dX6_sign_12 : decode cX6_sign 12 = .ok (.bipush 59, 2) := dk_16 59 (dk_at dksX6_sign_0 12 rfl rfl)
theorem dX6_sign_14 : decode cX6_sign 14 = .ok (.if_icmp .eq 57, 3) := dk_159 0 57 (dk_at dksX6_sign_0 14 rfl rfl)
theorem dX6_sign_17 : decode cX6_sign 17 = .ok (.iload_n 1, 1) := dk_27 (dk_at dksX6_sign_0 17 rfl rfl)
theorem dX6_sign_18 : decode cX6_sign 18 = .ok (.bipush 40, 2) := dk_16 40 (dk_at dksX6_sign_0 18 rfl rfl)
theorem dX6_sign_20 : decode cX6_sign 20 = .ok (.if_icmp .eq 51, 3) := dk_159 0 51 (dk_at dksX6_sign_0 20 rfl rfl)
theorem dX6_sign_23 : decode cX6_sign 23 = .ok (.iload_n 1, 1) := dk_27 (dk_at dksX6_sign_0 23 rfl rfl)
theorem dX6_sign_24 : decode cX6_sign 24 = .ok (.bipush 41, 2) := dk_16 41 (dk_at dksX6_sign_1 0 rfl rfl)
theorem dX6_sign_26 : decode cX6_sign 26 = .ok (.if_icmp .eq 45, 3) := dk_159 0 45 (dk_at dksX6_sign_1 2 rfl rfl)
theorem dX6_sign_29 : decode cX6_sign 29 = .ok (.iload_n 1, 1) := dk_27 (dk_at dksX6_sign_1 5 rfl rfl)
theorem dX6_sign_30 : decode cX6_sign 30 = .ok (.bipush 43, 2) := dk_16 43 (dk_at dksX6_sign_1 6 rfl rfl)
theorem dX6_sign_32 : decode cX6_sign 32 = .ok (.if_icmp .eq 39, 3) := dk_159 0 39 (dk_at dksX6_sign_1 8 rfl rfl)
theorem dX6_sign_35 : decode cX6_sign 35 = .ok (.iload_n 1, 1) := dk_27 (dk_at dksX6_sign_1 11 rfl rfl)
theorem dX6_sign_36 : decode cX6_sign 36 = .ok (.bipush 45, 2) := dk_16 45 (dk_at dksX6_sign_1 12 rfl rfl)
theorem dX6_sign_38 : decode cX6_sign 38 = .ok (.if_icmp .eq 33, 3) := dk_159 0 33 (dk_at dksX6_sign_1 14 rfl rfl)
theorem dX6_sign_41 : decode cX6_sign 41 = .ok (.iload_n 1, 1) := dk_27 (dk_at dksX6_sign_1 17 rfl rfl)
theorem dX6_sign_42 : decode cX6_sign 42 = .ok (.bipush 42, 2) := dk_16 42 (dk_at dksX6_sign_1 18 rfl rfl)
theorem dX6_sign_44 : decode cX6_sign 44 = .ok (.if_icmp .eq 27, 3) := dk_159 0 27 (dk_at dksX6_sign_1 20 rfl rfl)
theorem dX6_sign_47 : decode cX6_sign 47 = .ok (.iload_n 1, 1) := dk_27 (dk_at dksX6_sign_1 23 rfl rfl)
theorem dX6_sign_48 : decode cX6_sign 48 = .ok (.bipush 47, 2) := dk_16 47 (dk_at dksX6_sign_2 0 rfl rfl)
theorem dX6_sign_50 : decode cX6_sign 50 = .ok (.if_icmp .eq 21, 3) := dk_159 0 21 (dk_at dksX6_sign_2 2 rfl rfl)
theorem dX6_sign_53 : decode cX6_sign 53 = .ok (.iload_n 1, 1) := dk_27 (dk_at dksX6_sign_2 5 rfl rfl)
theorem dX6_sign_54 : decode cX6_sign 54 = .ok (.bipush 60, 2) := dk_16 60 (dk_at dksX6_sign_2 6 rfl rfl)
theorem dX6_sign_56 : decode cX6_sign 56 = .ok (.if_icmp .eq 15, 3) := dk_159 0 15 (dk_at dksX6_sign_2 8 rfl rfl)
theorem dX6_sign_59 : decode cX6_sign 59 = .ok (.iload_n 1, 1) := dk_27 (dk_at dksX6_sign_2 11 rfl rfl)
theorem dX6_sign_60 : decode cX6_sign 60 = .ok (.bipush 61, 2) := dk_16 61 (dk_at dksX6_sign_2 12 rfl rfl)
theorem dX6_sign_62 : decode cX6_sign 62 = .ok (.if_icmp .eq 9, 3) := dk_159 0 9 (dk_at dksX6_sign_2 14 rfl rfl)
theorem dX6_sign_65 : decode cX6_sign 65 = .ok (.iload_n 1, 1) := dk_27 (dk_at dksX6_sign_2 17 rfl rfl)
theorem dX6_sign_66 : decode cX6_sign 66 = .ok (.bipush 62, 2) := dk_16 62 (dk_at dksX6_sign_2 18 rfl rfl)
theorem dX6_sign_68 : decode cX6_sign 68 = .ok (.if_icmp .ne 7, 3) := dk_160 0 7 (dk_at dksX6_sign_2 20 rfl rfl)
theorem dX6_sign_71 : decode cX6_sign 71 = .ok (.iconst 3, 1) := dk_6 (dk_at dksX6_sign_2 23 rfl rfl)
theorem dX6_sign_72 : decode cX6_sign 72 = .ok (.goto 4, 3) := dk_167 0 4 (dk_at dksX6_sign_3 0 rfl rfl)
theorem dX6_sign_75 : decode cX6_sign 75 = .ok (.iconst 5, 1) := dk_8 (dk_at dksX6_sign_3 3 rfl rfl)
theorem dX6_sign_76 : decode cX6_sign 76 = .ok (.putfield 185, 3) := dk_181 0 185 (dk_at dksX6_sign_3 4 rfl rfl)
theorem dX6_sign_79 : decode cX6_sign 79 = .ok (.aload_n 0, 1) := dk_42 (dk_at dksX6_sign_3 7 rfl rfl)
theorem dX6_sign_80 : decode cX6_sign 80 = .ok (.iload_n 1, 1) := dk_27 (dk_at dksX6_sign_3 8 rfl rfl)
theorem dX6_sign_81 : decode cX6_sign 81 = .ok (.putfield 195, 3) := dk_181 0 195 (dk_at dksX6_sign_3 9 rfl rfl)
theorem dX6_sign_84 : decode cX6_sign 84 = .ok (.iload_n 1, 1) := dk_27 (dk_at dksX6_sign_3 12 rfl rfl)
theorem dX6_sign_85 : decode cX6_sign 85 = .ok (.bipush 60, 2) := dk_16 60 (dk_at dksX6_sign_3 13 rfl rfl)
theorem dX6_sign_87 : decode cX6_sign 87 = .ok (.if_icmp .ne 19, 3) := dk_160 0 19 (dk_at dksX6_sign_3 15 rfl rfl)
theorem dX6_sign_90 : decode cX6_sign 90 = .ok (.aload_n 0, 1) := dk_42 (dk_at dksX6_sign_3 18 rfl rfl)
theorem dX6_sign_91 : decode cX6_sign 91 = .ok (.invokevirtual 178, 3) := dk_182 0 178 (dk_at dksX6_sign_3 19 rfl rfl)
theorem dX6_sign_94 : decode cX6_sign 94 = .ok (.bipush 61, 2) := dk_16 61 (dk_at dksX6_sign_3 22 rfl rfl)
theorem dX6_sign_96 : decode cX6_sign 96 = .ok (.if_icmp .ne 10, 3) := dk_160 0 10 (dk_at dksX6_sign_4 0 rfl rfl)
theorem dX6_sign_99 : decode cX6_sign 99 = .ok (.aload_n 0, 1) := dk_42 (dk_at dksX6_sign_4 3 rfl rfl)
theorem dX6_sign_100 : decode cX6_sign 100 = .ok (.sipush 256, 3) := dk_17 1 0 (dk_at dksX6_sign_4 4 rfl rfl)
theorem dX6_sign_103 : decode cX6_sign 103 = .ok (.putfield 195, 3) := dk_181 0 195 (dk_at dksX6_sign_4 7 rfl rfl)
theorem dX6_sign_106 : decode cX6_sign 106 = .ok (.iload_n 1, 1) := dk_27 (dk_at dksX6_sign_4 10 rfl rfl)
theorem dX6_sign_107 : decode cX6_sign 107 = .ok (.bipush 60, 2) := dk_16 60 (dk_at dksX6_sign_4 11 rfl rfl)
theorem dX6_sign_109 : decode cX6_sign 109 = .ok (.if_icmp .ne 19, 3) := dk_160 0 19 (dk_at dksX6_sign_4 13 rfl rfl)
theorem dX6_sign_112 : decode cX6_sign 112 = .ok (.aload_n 0, 1) := dk_42 (dk_at dksX6_sign_4 16 rfl rfl)
theorem dX6_sign_113 : decode cX6_sign 113 = .ok (.invokevirtual 178, 3) := dk_182 0 178 (dk_at dksX6_sign_4 17 rfl rfl)
theorem dX6_sign_116 : decode cX6_sign 116 = .ok (.bipush 62, 2) := dk_16 62 (dk_at dksX6_sign_4 20 rfl rfl)
theorem dX6_sign_118 : decode cX6_sign 118 = .ok (.if_icmp .ne 10, 3) := dk_160 0 10 (dk_at dksX6_sign_5 0 rfl rfl)
theorem dX6_sign_121 : decode cX6_sign 121 = .ok (.aload_n 0, 1) := dk_42 (dk_at dksX6_sign_5 3 rfl rfl)
theorem dX6_sign_122 : decode cX6_sign 122 = .ok (.sipush 257, 3) := dk_17 1 1 (dk_at dksX6_sign_5 4 rfl rfl)
theorem dX6_sign_125 : decode cX6_sign 125 = .ok (.putfield 195, 3) := dk_181 0 195 (dk_at dksX6_sign_5 7 rfl rfl)
theorem dX6_sign_128 : decode cX6_sign 128 = .ok (.iload_n 1, 1) := dk_27 (dk_at dksX6_sign_5 10 rfl rfl)
theorem dX6_sign_129 : decode cX6_sign 129 = .ok (.bipush 62, 2) := dk_16 62 (dk_at dksX6_sign_5 11 rfl rfl)
theorem dX6_sign_131 : decode cX6_sign 131 = .ok (.if_icmp .ne 19, 3) := dk_160 0 19 (dk_at dksX6_sign_5 13 rfl rfl)
theorem dX6_sign_134 : decode cX6_sign 134 = .ok (.aload_n 0, 1) := dk_42 (dk_at dksX6_sign_5 16 rfl rfl)
theorem dX6_sign_135 : decode cX6_sign 135 = .ok (.invokevirtual 178, 3) := dk_182 0 178 (dk_at dksX6_sign_5 17 rfl rfl)
theorem dX6_sign_138 : decode cX6_sign 138 = .ok (.bipush 61, 2) := dk_16 61 (dk_at dksX6_sign_5 20 rfl rfl)
theorem dX6_sign_140 : decode cX6_sign 140 = .ok (.if_icmp .ne 10, 3) := dk_160 0 10 (dk_at dksX6_sign_6 0 rfl rfl)
theorem dX6_sign_143 : decode cX6_sign 143 = .ok (.aload_n 0, 1) := dk_42 (dk_at dksX6_sign_6 3 rfl rfl)
theorem dX6_sign_144 : decode cX6_sign 144 = .ok (.sipush 258, 3) := dk_17 1 2 (dk_at dksX6_sign_6 4 rfl rfl)
theorem dX6_sign_147 : decode cX6_sign 147 = .ok (.putfield 195, 3) := dk_181 0 195 (dk_at dksX6_sign_6 7 rfl rfl)
theorem dX6_sign_150 : decode cX6_sign 150 = .ok (.aload_n 0, 1) := dk_42 (dk_at dksX6_sign_6 10 rfl rfl)
theorem dX6_sign_151 : decode cX6_sign 151 = .ok (.getfield 195, 3) := dk_180 0 195 (dk_at dksX6_sign_6 11 rfl rfl)
theorem dX6_sign_154 : decode cX6_sign 154 = .ok (.sipush 256, 3) := dk_17 1 0 (dk_at dksX6_sign_6 14 rfl rfl)
theorem dX6_sign_157 : decode cX6_sign 157 = .ok (.if_icmp .lt 13, 3) := dk_161 0 13 (dk_at dksX6_sign_6 17 rfl rfl)
theorem dX6_sign_160 : decode cX6_sign 160 = .ok (.aload_n 0, 1) := dk_42 (dk_at dksX6_sign_6 20 rfl rfl)
theorem dX6_sign_161 : decode cX6_sign 161 = .ok (.dup, 1) := dk_89 (dk_at dksX6_sign_6 21 rfl rfl)
theorem dX6_sign_162 : decode cX6_sign 162 = .ok (.getfield 172, 3) := dk_180 0 172 (dk_at dksX6_sign_7 0 rfl rfl)
theorem dX6_sign_165 : decode cX6_sign 165 = .ok (.iconst 1, 1) := dk_4 (dk_at dksX6_sign_7 3 rfl rfl)
theorem dX6_sign_166 : decode cX6_sign 166 = .ok (.iadd, 1) := dk_96 (dk_at dksX6_sign_7 4 rfl rfl)
theorem dX6_sign_167 : decode cX6_sign 167 = .ok (.putfield 172, 3) := dk_181 0 172 (dk_at dksX6_sign_7 5 rfl rfl)
theorem dX6_sign_170 : decode cX6_sign 170 = .ok (.return_, 1) := dk_177 (dk_at dksX6_sign_7 8 rfl rfl)
abbrev cX6_line : ByteArray := prog_23_method_23_code
def yX6_line : MethodName := ⟨RX6, "line", "()V"⟩
def dkwX6_line_19 : List UInt8 := [180, 1, 27, 4, 96, 181, 1, 27, 177]
abbrev dktX6_line_19 : List UInt8 := dkwX6_line_19 ++ []
def dkwX6_line_18 : List UInt8 := [42, 16, 59, 182, 1, 24, 154, 0, 11, 42, 4, 182, 0, 228, 167, 0, 7, 42, 182, 0, 225, 42, 89]
abbrev dktX6_line_18 : List UInt8 := dkwX6_line_18 ++ dktX6_line_19
def dkwX6_line_17 : List UInt8 := [16, 8, 28, 96, 42, 16, 7, 182, 0, 242, 79, 42, 8, 182, 1, 3, 42, 180, 0, 219, 153, 0, 4, 177]
abbrev dktX6_line_17 : List UInt8 := dkwX6_line_17 ++ dktX6_line_18
def dkwX6_line_16 : List UInt8 := [42, 180, 0, 64, 16, 8, 28, 96, 42, 16, 7, 182, 0, 242, 79, 42, 182, 1, 21, 42, 180, 0, 67]
abbrev dktX6_line_16 : List UInt8 := dkwX6_line_16 ++ dktX6_line_17
def dkwX6_line_15 : List UInt8 := [42, 8, 182, 0, 242, 61, 42, 180, 0, 61, 7, 28, 96, 42, 42, 180, 0, 61, 7, 28, 182, 0, 252, 79]
abbrev dktX6_line_15 : List UInt8 := dkwX6_line_15 ++ dktX6_line_16
def dkwX6_line_14 : List UInt8 := [180, 0, 13, 16, 14, 42, 3, 17, 3, 231, 182, 0, 255, 79, 167, 0, 73, 42, 182, 1, 18, 167, 0, 66]
abbrev dktX6_line_14 : List UInt8 := dkwX6_line_14 ++ dktX6_line_15
def dkwX6_line_13 : List UInt8 := [42, 182, 1, 15, 79, 42, 7, 182, 1, 3, 167, 0, 101, 42, 89, 180, 0, 249, 4, 128, 181, 0, 249, 42]
abbrev dktX6_line_13 : List UInt8 := dkwX6_line_13 ++ dktX6_line_14
def dkwX6_line_12 : List UInt8 := [7, 182, 0, 242, 96, 42, 3, 16, 60, 182, 0, 255, 79, 42, 180, 0, 58, 7, 42, 7, 182, 0, 242, 96]
abbrev dktX6_line_12 : List UInt8 := dkwX6_line_12 ++ dktX6_line_13
def dkwX6_line_11 : List UInt8 := [167, 0, 159, 42, 16, 16, 42, 6, 182, 0, 242, 96, 182, 1, 12, 167, 0, 144, 42, 180, 0, 55, 7, 42]
abbrev dktX6_line_11 : List UInt8 := dkwX6_line_11 ++ dktX6_line_12
def dkwX6_line_10 : List UInt8 := [182, 0, 255, 79, 42, 4, 182, 1, 3, 167, 0, 174, 42, 16, 16, 42, 5, 182, 0, 242, 96, 182, 1, 9]
abbrev dktX6_line_10 : List UInt8 := dkwX6_line_10 ++ dktX6_line_11
def dkwX6_line_9 : List UInt8 := [182, 0, 242, 182, 0, 252, 79, 42, 180, 0, 28, 16, 7, 42, 4, 182, 0, 242, 96, 42, 3, 16, 99]
abbrev dktX6_line_9 : List UInt8 := dkwX6_line_9 ++ dktX6_line_10
def dkwX6_line_8 : List UInt8 := [167, 0, 230, 42, 180, 0, 25, 16, 7, 42, 4, 182, 0, 242, 96, 42, 42, 180, 0, 25, 16, 7, 42, 4]
abbrev dktX6_line_8 : List UInt8 := dkwX6_line_8 ++ dktX6_line_9
def dkwX6_line_7 : List UInt8 := [180, 0, 22, 7, 42, 3, 182, 0, 242, 96, 2, 79, 42, 3, 182, 1, 3, 167, 0, 237, 42, 182, 1, 6]
abbrev dktX6_line_7 : List UInt8 := dkwX6_line_7 ++ dktX6_line_8
def dkwX6_line_6 : List UInt8 := [182, 0, 252, 79, 42, 180, 0, 19, 7, 42, 3, 182, 0, 242, 96, 42, 4, 16, 6, 182, 0, 255, 79, 42]
abbrev dktX6_line_6 : List UInt8 := dkwX6_line_6 ++ dktX6_line_7
def dkwX6_line_5 : List UInt8 := [42, 180, 0, 16, 7, 42, 3, 182, 0, 242, 96, 42, 42, 180, 0, 16, 7, 42, 3, 182, 0, 242]
abbrev dktX6_line_5 : List UInt8 := dkwX6_line_5 ++ dktX6_line_6
def dkwX6_line_4 : List UInt8 := [170, 0, 0, 0, 0, 1, 28, 0, 0, 0, 0, 0, 0, 0, 7, 0, 0, 0, 47, 0, 0, 0, 113, 0, 0, 0, 120, 0, 0, 0, 176, 0, 0, 0, 191, 0, 0, 0, 206, 0, 0, 0, 249, 0, 0, 1, 21]
abbrev dktX6_line_4 : List UInt8 := dkwX6_line_4 ++ dktX6_line_5
def dkwX6_line_3 : List UInt8 := [153, 0, 4, 177, 42, 182, 0, 225, 27]
abbrev dktX6_line_3 : List UInt8 := dkwX6_line_3 ++ dktX6_line_4
def dkwX6_line_2 : List UInt8 := [160, 0, 18, 42, 180, 0, 249, 4, 126, 4, 160, 0, 8, 42, 6, 182, 0, 228, 42, 180, 0, 219]
abbrev dktX6_line_2 : List UInt8 := dkwX6_line_2 ++ dktX6_line_3
def dkwX6_line_1 : List UInt8 := [180, 0, 195, 60, 42, 27, 182, 0, 246, 153, 0, 11, 42, 5, 182, 0, 228, 167, 0, 24, 27, 16, 6]
abbrev dktX6_line_1 : List UInt8 := dkwX6_line_1 ++ dktX6_line_2
def dkwX6_line_0 : List UInt8 := [42, 180, 0, 185, 154, 0, 12, 42, 180, 0, 195, 16, 8, 164, 0, 9, 42, 4, 182, 0, 228, 177, 42]
abbrev dktX6_line_0 : List UInt8 := dkwX6_line_0 ++ dktX6_line_1
theorem dksX6_line_0 : cX6_line.data.toList.drop 0 = dktX6_line_0 := by decide +kernel
theorem dksX6_line_1 : cX6_line.data.toList.drop 23 = dktX6_line_1 := dk_seg dksX6_line_0 23 rfl rfl
theorem dksX6_line_2 : cX6_line.data.toList.drop 46 = dktX6_line_2 := dk_seg dksX6_line_1 23 rfl rfl
theorem dksX6_line_3 : cX6_line.data.toList.drop 68 = dktX6_line_3 := dk_seg dksX6_line_2 22 rfl rfl
theorem dksX6_line_4 : cX6_line.data.toList.drop 77 = dktX6_line_4 := dk_seg dksX6_line_3 9 rfl rfl
theorem dksX6_line_5 : cX6_line.data.toList.drop 124 = dktX6_line_5 := dk_seg dksX6_line_4 47 rfl rfl
theorem dksX6_line_6 : cX6_line.data.toList.drop 146 = dktX6_line_6 := dk_seg dksX6_line_5 22 rfl rfl
theorem dksX6_line_7 : cX6_line.data.toList.drop 170 = dktX6_line_7 := dk_seg dksX6_line_6 24 rfl rfl
theorem dksX6_line_8 : cX6_line.data.toList.drop 194 = dktX6_line_8 := dk_seg dksX6_line_7 24 rfl rfl
theorem dksX6_line_9 : cX6_line.data.toList.drop 218 = dktX6_line_9 := dk_seg dksX6_line_8 24 rfl rfl
theorem dksX6_line_10 : cX6_line.data.toList.drop 241 = dktX6_line_10 := dk_seg dksX6_line_9 23 rfl rfl
theorem dksX6_line_11 : cX6_line.data.toList.drop 265 = dktX6_line_11 := dk_seg dksX6_line_10 24 rfl rfl
theorem dksX6_line_12 : cX6_line.data.toList.drop 289 = dktX6_line_12 := dk_seg dksX6_line_11 24 rfl rfl
theorem dksX6_line_13 : cX6_line.data.toList.drop 313 = dktX6_line_13 := dk_seg dksX6_line_12 24 rfl rfl
theorem dksX6_line_14 : cX6_line.data.toList.drop 337 = dktX6_line_14 := dk_seg dksX6_line_13 24 rfl rfl
theorem dksX6_line_15 : cX6_line.data.toList.drop 361 = dktX6_line_15 := dk_seg dksX6_line_14 24 rfl rfl
theorem dksX6_line_16 : cX6_line.data.toList.drop 385 = dktX6_line_16 := dk_seg dksX6_line_15 24 rfl rfl
theorem dksX6_line_17 : cX6_line.data.toList.drop 408 = dktX6_line_17 := dk_seg dksX6_line_16 23 rfl rfl
theorem dksX6_line_18 : cX6_line.data.toList.drop 432 = dktX6_line_18 := dk_seg dksX6_line_17 24 rfl rfl
theorem dksX6_line_19 : cX6_line.data.toList.drop 455 = dktX6_line_19 := dk_seg dksX6_line_18 23 rfl rfl
theorem dX6_line_0 : decode cX6_line 0 = .ok (.aload_n 0, 1) := dk_42 (dk_at dksX6_line_0 0 rfl rfl)
theorem dX6_line_1 : decode cX6_line 1 = .ok (.getfield 185, 3) := dk_180 0 185 (dk_at dksX6_line_0 1 rfl rfl)
theorem dX6_line_4 : decode cX6_line 4 = .ok (.ifCond .ne 12, 3) := dk_154 0 12 (dk_at dksX6_line_0 4 rfl rfl)
theorem dX6_line_7 : decode cX6_line 7 = .ok (.aload_n 0, 1) := dk_42 (dk_at dksX6_line_0 7 rfl rfl)
theorem dX6_line_8 : decode cX6_line 8 = .ok (.getfield 195, 3) := dk_180 0 195 (dk_at dksX6_line_0 8 rfl rfl)
theorem dX6_line_11 : decode cX6_line 11 = .ok (.bipush 8, 2) := dk_16 8 (dk_at dksX6_line_0 11 rfl rfl)
theorem dX6_line_13 : decode cX6_line 13 = .ok (.if_icmp .le 9, 3) := dk_164 0 9 (dk_at dksX6_line_0 13 rfl rfl)
theorem dX6_line_16 : decode cX6_line 16 = .ok (.aload_n 0, 1) := dk_42 (dk_at dksX6_line_0 16 rfl rfl)
theorem dX6_line_17 : decode cX6_line 17 = .ok (.iconst 1, 1) := dk_4 (dk_at dksX6_line_0 17 rfl rfl)
theorem dX6_line_18 : decode cX6_line 18 = .ok (.invokevirtual 228, 3) := dk_182 0 228 (dk_at dksX6_line_0 18 rfl rfl)
theorem dX6_line_21 : decode cX6_line 21 = .ok (.return_, 1) := dk_177 (dk_at dksX6_line_0 21 rfl rfl)
theorem dX6_line_22 : decode cX6_line 22 = .ok (.aload_n 0, 1) := dk_42 (dk_at dksX6_line_0 22 rfl rfl)
theorem dX6_line_23 : decode cX6_line 23 = .ok (.getfield 195, 3) := dk_180 0 195 (dk_at dksX6_line_1 0 rfl rfl)
theorem dX6_line_26 : decode cX6_line 26 = .ok (.istore_n 1, 1) := dk_60 (dk_at dksX6_line_1 3 rfl rfl)
theorem dX6_line_27 : decode cX6_line 27 = .ok (.aload_n 0, 1) := dk_42 (dk_at dksX6_line_1 4 rfl rfl)
theorem dX6_line_28 : decode cX6_line 28 = .ok (.iload_n 1, 1) := dk_27 (dk_at dksX6_line_1 5 rfl rfl)
theorem dX6_line_29 : decode cX6_line 29 = .ok (.invokevirtual 246, 3) := dk_182 0 246 (dk_at dksX6_line_1 6 rfl rfl)
theorem dX6_line_32 : decode cX6_line 32 = .ok (.ifCond .eq 11, 3) := dk_153 0 11 (dk_at dksX6_line_1 9 rfl rfl)
theorem dX6_line_35 : decode cX6_line 35 = .ok (.aload_n 0, 1) := dk_42 (dk_at dksX6_line_1 12 rfl rfl)
theorem dX6_line_36 : decode cX6_line 36 = .ok (.iconst 2, 1) := dk_5 (dk_at dksX6_line_1 13 rfl rfl)
theorem dX6_line_37 : decode cX6_line 37 = .ok (.invokevirtual 228, 3) := dk_182 0 228 (dk_at dksX6_line_1 14 rfl rfl)
theorem dX6_line_40 : decode cX6_line 40 = .ok (.goto 24, 3) := dk_167 0 24 (dk_at dksX6_line_1 17 rfl rfl)
theorem dX6_line_43 : decode cX6_line 43 = .ok (.iload_n 1, 1) := dk_27 (dk_at dksX6_line_1 20 rfl rfl)
theorem dX6_line_44 : decode cX6_line 44 = .ok (.bipush 6, 2) := dk_16 6 (dk_at dksX6_line_1 21 rfl rfl)
theorem dX6_line_46 : decode cX6_line 46 = .ok (.if_icmp .ne 18, 3) := dk_160 0 18 (dk_at dksX6_line_2 0 rfl rfl)
theorem dX6_line_49 : decode cX6_line 49 = .ok (.aload_n 0, 1) := dk_42 (dk_at dksX6_line_2 3 rfl rfl)
theorem dX6_line_50 : decode cX6_line 50 = .ok (.getfield 249, 3) := dk_180 0 249 (dk_at dksX6_line_2 4 rfl rfl)
theorem dX6_line_53 : decode cX6_line 53 = .ok (.iconst 1, 1) := dk_4 (dk_at dksX6_line_2 7 rfl rfl)
theorem dX6_line_54 : decode cX6_line 54 = .ok (.iand, 1) := dk_126 (dk_at dksX6_line_2 8 rfl rfl)
theorem dX6_line_55 : decode cX6_line 55 = .ok (.iconst 1, 1) := dk_4 (dk_at dksX6_line_2 9 rfl rfl)
theorem dX6_line_56 : decode cX6_line 56 = .ok (.if_icmp .ne 8, 3) := dk_160 0 8 (dk_at dksX6_line_2 10 rfl rfl)
theorem dX6_line_59 : decode cX6_line 59 = .ok (.aload_n 0, 1) := dk_42 (dk_at dksX6_line_2 13 rfl rfl)
theorem dX6_line_60 : decode cX6_line 60 = .ok (.iconst 3, 1) := dk_6 (dk_at dksX6_line_2 14 rfl rfl)
theorem dX6_line_61 : decode cX6_line 61 = .ok (.invokevirtual 228, 3) := dk_182 0 228 (dk_at dksX6_line_2 15 rfl rfl)
theorem dX6_line_64 : decode cX6_line 64 = .ok (.aload_n 0, 1) := dk_42 (dk_at dksX6_line_2 18 rfl rfl)
theorem dX6_line_65 : decode cX6_line 65 = .ok (.getfield 219, 3) := dk_180 0 219 (dk_at dksX6_line_2 19 rfl rfl)
theorem dX6_line_68 : decode cX6_line 68 = .ok (.ifCond .eq 4, 3) := dk_153 0 4 (dk_at dksX6_line_3 0 rfl rfl)
theorem dX6_line_71 : decode cX6_line 71 = .ok (.return_, 1) := dk_177 (dk_at dksX6_line_3 3 rfl rfl)
theorem dX6_line_72 : decode cX6_line 72 = .ok (.aload_n 0, 1) := dk_42 (dk_at dksX6_line_3 4 rfl rfl)
theorem dX6_line_73 : decode cX6_line 73 = .ok (.invokevirtual 225, 3) := dk_182 0 225 (dk_at dksX6_line_3 5 rfl rfl)
theorem dX6_line_76 : decode cX6_line 76 = .ok (.iload_n 1, 1) := dk_27 (dk_at dksX6_line_3 8 rfl rfl)
theorem dX6_line_77 : decode cX6_line 77 = .ok (.tableswitch 284 0 7 #[47, 113, 120, 176, 191, 206, 249, 277], 47) := by decide +kernel
theorem dX6_line_124 : decode cX6_line 124 = .ok (.aload_n 0, 1) := dk_42 (dk_at dksX6_line_5 0 rfl rfl)
theorem dX6_line_125 : decode cX6_line 125 = .ok (.getfield 16, 3) := dk_180 0 16 (dk_at dksX6_line_5 1 rfl rfl)
theorem dX6_line_128 : decode cX6_line 128 = .ok (.iconst 4, 1) := dk_7 (dk_at dksX6_line_5 4 rfl rfl)
theorem dX6_line_129 : decode cX6_line 129 = .ok (.aload_n 0, 1) := dk_42 (dk_at dksX6_line_5 5 rfl rfl)
theorem dX6_line_130 : decode cX6_line 130 = .ok (.iconst 0, 1) := dk_3 (dk_at dksX6_line_5 6 rfl rfl)
theorem dX6_line_131 : decode cX6_line 131 = .ok (.invokevirtual 242, 3) := dk_182 0 242 (dk_at dksX6_line_5 7 rfl rfl)
theorem dX6_line_134 : decode cX6_line 134 = .ok (.iadd, 1) := dk_96 (dk_at dksX6_line_5 10 rfl rfl)
theorem dX6_line_135 : decode cX6_line 135 = .ok (.aload_n 0, 1) := dk_42 (dk_at dksX6_line_5 11 rfl rfl)
theorem dX6_line_136 : decode cX6_line 136 = .ok (.aload_n 0, 1) := dk_42 (dk_at dksX6_line_5 12 rfl rfl)
theorem dX6_line_137 : decode cX6_line 137 = .ok (.getfield 16, 3) := dk_180 0 16 (dk_at dksX6_line_5 13 rfl rfl)
theorem dX6_line_140 : decode cX6_line 140 = .ok (.iconst 4, 1) := dk_7 (dk_at dksX6_line_5 16 rfl rfl)
theorem dX6_line_141 : decode cX6_line 141 = .ok (.aload_n 0, 1) := dk_42 (dk_at dksX6_line_5 17 rfl rfl)
theorem dX6_line_142 : decode cX6_line 142 = .ok (.iconst 0, 1) := dk_3 (dk_at dksX6_line_5 18 rfl rfl)
theorem dX6_line_143 : decode cX6_line 143 = .ok (.invokevirtual 242, 3) := dk_182 0 242 (dk_at dksX6_line_5 19 rfl rfl)
theorem dX6_line_146 : decode cX6_line 146 = .ok (.invokevirtual 252, 3) := dk_182 0 252 (dk_at dksX6_line_6 0 rfl rfl)
theorem dX6_line_149 : decode cX6_line 149 = .ok (.iastore, 1) := dk_79 (dk_at dksX6_line_6 3 rfl rfl)
theorem dX6_line_150 : decode cX6_line 150 = .ok (.aload_n 0, 1) := dk_42 (dk_at dksX6_line_6 4 rfl rfl)
theorem dX6_line_151 : decode cX6_line 151 = .ok (.getfield 19, 3) := dk_180 0 19 (dk_at dksX6_line_6 5 rfl rfl)
theorem dX6_line_154 : decode cX6_line 154 = .ok (.iconst 4, 1) := dk_7 (dk_at dksX6_line_6 8 rfl rfl)
theorem dX6_line_155 : decode cX6_line 155 = .ok (.aload_n 0, 1) := dk_42 (dk_at dksX6_line_6 9 rfl rfl)
theorem dX6_line_156 : decode cX6_line 156 = .ok (.iconst 0, 1) := dk_3 (dk_at dksX6_line_6 10 rfl rfl)
theorem dX6_line_157 : decode cX6_line 157 = .ok (.invokevirtual 242, 3) := dk_182 0 242 (dk_at dksX6_line_6 11 rfl rfl)
theorem dX6_line_160 : decode cX6_line 160 = .ok (.iadd, 1) := dk_96 (dk_at dksX6_line_6 14 rfl rfl)
theorem dX6_line_161 : decode cX6_line 161 = .ok (.aload_n 0, 1) := dk_42 (dk_at dksX6_line_6 15 rfl rfl)
theorem dX6_line_162 : decode cX6_line 162 = .ok (.iconst 1, 1) := dk_4 (dk_at dksX6_line_6 16 rfl rfl)
theorem dX6_line_163 : decode cX6_line 163 = .ok (.bipush 6, 2) := dk_16 6 (dk_at dksX6_line_6 17 rfl rfl)
theorem dX6_line_165 : decode cX6_line 165 = .ok (.invokevirtual 255, 3) := dk_182 0 255 (dk_at dksX6_line_6 19 rfl rfl)
theorem dX6_line_168 : decode cX6_line 168 = .ok (.iastore, 1) := dk_79 (dk_at dksX6_line_6 22 rfl rfl)
theorem dX6_line_169 : decode cX6_line 169 = .ok (.aload_n 0, 1) := dk_42 (dk_at dksX6_line_6 23 rfl rfl)
theorem dX6_line_170 : decode cX6_line 170 = .ok (.getfield 22, 3) := dk_180 0 22 (dk_at dksX6_line_7 0 rfl rfl)
theorem dX6_line_173 : decode cX6_line 173 = .ok (.iconst 4, 1) := dk_7 (dk_at dksX6_line_7 3 rfl rfl)
theorem dX6_line_174 : decode cX6_line 174 = .ok (.aload_n 0, 1) := dk_42 (dk_at dksX6_line_7 4 rfl rfl)
theorem dX6_line_175 : decode cX6_line 175 = .ok (.iconst 0, 1) := dk_3 (dk_at dksX6_line_7 5 rfl rfl)
theorem dX6_line_176 : decode cX6_line 176 = .ok (.invokevirtual 242, 3) := dk_182 0 242 (dk_at dksX6_line_7 6 rfl rfl)
theorem dX6_line_179 : decode cX6_line 179 = .ok (.iadd, 1) := dk_96 (dk_at dksX6_line_7 9 rfl rfl)
theorem dX6_line_180 : decode cX6_line 180 = .ok (.iconst (-1), 1) := dk_2 (dk_at dksX6_line_7 10 rfl rfl)
theorem dX6_line_181 : decode cX6_line 181 = .ok (.iastore, 1) := dk_79 (dk_at dksX6_line_7 11 rfl rfl)
theorem dX6_line_182 : decode cX6_line 182 = .ok (.aload_n 0, 1) := dk_42 (dk_at dksX6_line_7 12 rfl rfl)
theorem dX6_line_183 : decode cX6_line 183 = .ok (.iconst 0, 1) := dk_3 (dk_at dksX6_line_7 13 rfl rfl)
theorem dX6_line_184 : decode cX6_line 184 = .ok (.invokevirtual 259, 3) := dk_182 1 3 (dk_at dksX6_line_7 14 rfl rfl)
theorem dX6_line_187 : decode cX6_line 187 = .ok (.goto 237, 3) := dk_167 0 237 (dk_at dksX6_line_7 17 rfl rfl)
theorem dX6_line_190 : decode cX6_line 190 = .ok (.aload_n 0, 1) := dk_42 (dk_at dksX6_line_7 20 rfl rfl)
theorem dX6_line_191 : decode cX6_line 191 = .ok (.invokevirtual 262, 3) := dk_182 1 6 (dk_at dksX6_line_7 21 rfl rfl)
theorem dX6_line_194 : decode cX6_line 194 = .ok (.goto 230, 3) := dk_167 0 230 (dk_at dksX6_line_8 0 rfl rfl)
theorem dX6_line_197 : decode cX6_line 197 = .ok (.aload_n 0, 1) := dk_42 (dk_at dksX6_line_8 3 rfl rfl)
theorem dX6_line_198 : decode cX6_line 198 = .ok (.getfield 25, 3) := dk_180 0 25 (dk_at dksX6_line_8 4 rfl rfl)
theorem dX6_line_201 : decode cX6_line 201 = .ok (.bipush 7, 2) := dk_16 7 (dk_at dksX6_line_8 7 rfl rfl)
theorem dX6_line_203 : decode cX6_line 203 = .ok (.aload_n 0, 1) := dk_42 (dk_at dksX6_line_8 9 rfl rfl)
theorem dX6_line_204 : decode cX6_line 204 = .ok (.iconst 1, 1) := dk_4 (dk_at dksX6_line_8 10 rfl rfl)
theorem dX6_line_205 : decode cX6_line 205 = .ok (.invokevirtual 242, 3) := dk_182 0 242 (dk_at dksX6_line_8 11 rfl rfl)
theorem dX6_line_208 : decode cX6_line 208 = .ok (.iadd, 1) := dk_96 (dk_at dksX6_line_8 14 rfl rfl)
theorem dX6_line_209 : decode cX6_line 209 = .ok (.aload_n 0, 1) := dk_42 (dk_at dksX6_line_8 15 rfl rfl)
theorem dX6_line_210 : decode cX6_line 210 = .ok (.aload_n 0, 1) := dk_42 (dk_at dksX6_line_8 16 rfl rfl)
theorem dX6_line_211 : decode cX6_line 211 = .ok (.getfield 25, 3) := dk_180 0 25 (dk_at dksX6_line_8 17 rfl rfl)
theorem dX6_line_214 : decode cX6_line 214 = .ok (.bipush 7, 2) := dk_16 7 (dk_at dksX6_line_8 20 rfl rfl)
theorem dX6_line_216 : decode cX6_line 216 = .ok (.aload_n 0, 1) := dk_42 (dk_at dksX6_line_8 22 rfl rfl)
theorem dX6_line_217 : decode cX6_line 217 = .ok (.iconst 1, 1) := dk_4 (dk_at dksX6_line_8 23 rfl rfl)
theorem dX6_line_218 : decode cX6_line 218 = .ok (.invokevirtual 242, 3) := dk_182 0 242 (dk_at dksX6_line_9 0 rfl rfl)
theorem dX6_line_221 : decode cX6_line 221 = .ok (.invokevirtual 252, 3) := dk_182 0 252 (dk_at dksX6_line_9 3 rfl rfl)
theorem dX6_line_224 : decode cX6_line 224 = .ok (.iastore, 1) := dk_79 (dk_at dksX6_line_9 6 rfl rfl)
theorem dX6_line_225 : decode cX6_line 225 = .ok (.aload_n 0, 1) := dk_42 (dk_at dksX6_line_9 7 rfl rfl)
theorem dX6_line_226 : decode cX6_line 226 = .ok (.getfield 28, 3) := dk_180 0 28 (dk_at dksX6_line_9 8 rfl rfl)
theorem dX6_line_229 : decode cX6_line 229 = .ok (.bipush 7, 2) := dk_16 7 (dk_at dksX6_line_9 11 rfl rfl)
theorem dX6_line_231 : decode cX6_line 231 = .ok (.aload_n 0, 1) := dk_42 (dk_at dksX6_line_9 13 rfl rfl)
theorem dX6_line_232 : decode cX6_line 232 = .ok (.iconst 1, 1) := dk_4 (dk_at dksX6_line_9 14 rfl rfl)
theorem dX6_line_233 : decode cX6_line 233 = .ok (.invokevirtual 242, 3) := dk_182 0 242 (dk_at dksX6_line_9 15 rfl rfl)
theorem dX6_line_236 : decode cX6_line 236 = .ok (.iadd, 1) := dk_96 (dk_at dksX6_line_9 18 rfl rfl)
theorem dX6_line_237 : decode cX6_line 237 = .ok (.aload_n 0, 1) := dk_42 (dk_at dksX6_line_9 19 rfl rfl)
theorem dX6_line_238 : decode cX6_line 238 = .ok (.iconst 0, 1) := dk_3 (dk_at dksX6_line_9 20 rfl rfl)
theorem dX6_line_239 : decode cX6_line 239 = .ok (.bipush 99, 2) := dk_16 99 (dk_at dksX6_line_9 21 rfl rfl)
theorem dX6_line_241 : decode cX6_line 241 = .ok (.invokevirtual 255, 3) := dk_182 0 255 (dk_at dksX6_line_10 0 rfl rfl)
theorem dX6_line_244 : decode cX6_line 244 = .ok (.iastore, 1) := dk_79 (dk_at dksX6_line_10 3 rfl rfl)
theorem dX6_line_245 : decode cX6_line 245 = .ok (.aload_n 0, 1) := dk_42 (dk_at dksX6_line_10 4 rfl rfl)
theorem dX6_line_246 : decode cX6_line 246 = .ok (.iconst 1, 1) := dk_4 (dk_at dksX6_line_10 5 rfl rfl)
theorem dX6_line_247 : decode cX6_line 247 = .ok (.invokevirtual 259, 3) := dk_182 1 3 (dk_at dksX6_line_10 6 rfl rfl)
theorem dX6_line_250 : decode cX6_line 250 = .ok (.goto 174, 3) := dk_167 0 174 (dk_at dksX6_line_10 9 rfl rfl)
theorem dX6_line_253 : decode cX6_line 253 = .ok (.aload_n 0, 1) := dk_42 (dk_at dksX6_line_10 12 rfl rfl)
theorem dX6_line_254 : decode cX6_line 254 = .ok (.bipush 16, 2) := dk_16 16 (dk_at dksX6_line_10 13 rfl rfl)
theorem dX6_line_256 : decode cX6_line 256 = .ok (.aload_n 0, 1) := dk_42 (dk_at dksX6_line_10 15 rfl rfl)
theorem dX6_line_257 : decode cX6_line 257 = .ok (.iconst 2, 1) := dk_5 (dk_at dksX6_line_10 16 rfl rfl)
theorem dX6_line_258 : decode cX6_line 258 = .ok (.invokevirtual 242, 3) := dk_182 0 242 (dk_at dksX6_line_10 17 rfl rfl)
theorem dX6_line_261 : decode cX6_line 261 = .ok (.iadd, 1) := dk_96 (dk_at dksX6_line_10 20 rfl rfl)
theorem dX6_line_262 : decode cX6_line 262 = .ok (.invokevirtual 265, 3) := dk_182 1 9 (dk_at dksX6_line_10 21 rfl rfl)
theorem dX6_line_265 : decode cX6_line 265 = .ok (.goto 159, 3) := dk_167 0 159 (dk_at dksX6_line_11 0 rfl rfl)
theorem dX6_line_268 : decode cX6_line 268 = .ok (.aload_n 0, 1) := dk_42 (dk_at dksX6_line_11 3 rfl rfl)
theorem dX6_line_269 : decode cX6_line 269 = .ok (.bipush 16, 2) := dk_16 16 (dk_at dksX6_line_11 4 rfl rfl)
theorem dX6_line_271 : decode cX6_line 271 = .ok (.aload_n 0, 1) := dk_42 (dk_at dksX6_line_11 6 rfl rfl)
theorem dX6_line_272 : decode cX6_line 272 = .ok (.iconst 3, 1) := dk_6 (dk_at dksX6_line_11 7 rfl rfl)
theorem dX6_line_273 : decode cX6_line 273 = .ok (.invokevirtual 242, 3) := dk_182 0 242 (dk_at dksX6_line_11 8 rfl rfl)
theorem dX6_line_276 : decode cX6_line 276 = .ok (.iadd, 1) := dk_96 (dk_at dksX6_line_11 11 rfl rfl)
theorem dX6_line_277 : decode cX6_line 277 = .ok (.invokevirtual 268, 3) := dk_182 1 12 (dk_at dksX6_line_11 12 rfl rfl)
theorem dX6_line_280 : decode cX6_line 280 = .ok (.goto 144, 3) := dk_167 0 144 (dk_at dksX6_line_11 15 rfl rfl)
theorem dX6_line_283 : decode cX6_line 283 = .ok (.aload_n 0, 1) := dk_42 (dk_at dksX6_line_11 18 rfl rfl)
theorem dX6_line_284 : decode cX6_line 284 = .ok (.getfield 55, 3) := dk_180 0 55 (dk_at dksX6_line_11 19 rfl rfl)
theorem dX6_line_287 : decode cX6_line 287 = .ok (.iconst 4, 1) := dk_7 (dk_at dksX6_line_11 22 rfl rfl)
theorem dX6_line_288 : decode cX6_line 288 = .ok (.aload_n 0, 1) := dk_42 (dk_at dksX6_line_11 23 rfl rfl)
theorem dX6_line_289 : decode cX6_line 289 = .ok (.iconst 4, 1) := dk_7 (dk_at dksX6_line_12 0 rfl rfl)
theorem dX6_line_290 : decode cX6_line 290 = .ok (.invokevirtual 242, 3) := dk_182 0 242 (dk_at dksX6_line_12 1 rfl rfl)
theorem dX6_line_293 : decode cX6_line 293 = .ok (.iadd, 1) := dk_96 (dk_at dksX6_line_12 4 rfl rfl)
theorem dX6_line_294 : decode cX6_line 294 = .ok (.aload_n 0, 1) := dk_42 (dk_at dksX6_line_12 5 rfl rfl)
theorem dX6_line_295 : decode cX6_line 295 = .ok (.iconst 0, 1) := dk_3 (dk_at dksX6_line_12 6 rfl rfl)
theorem dX6_line_296 : decode cX6_line 296 = .ok (.bipush 60, 2) := dk_16 60 (dk_at dksX6_line_12 7 rfl rfl)
theorem dX6_line_298 : decode cX6_line 298 = .ok (.invokevirtual 255, 3) := dk_182 0 255 (dk_at dksX6_line_12 9 rfl rfl)
theorem dX6_line_301 : decode cX6_line 301 = .ok (.iastore, 1) := dk_79 (dk_at dksX6_line_12 12 rfl rfl)
theorem dX6_line_302 : decode cX6_line 302 = .ok (.aload_n 0, 1) := dk_42 (dk_at dksX6_line_12 13 rfl rfl)
theorem dX6_line_303 : decode cX6_line 303 = .ok (.getfield 58, 3) := dk_180 0 58 (dk_at dksX6_line_12 14 rfl rfl)
theorem dX6_line_306 : decode cX6_line 306 = .ok (.iconst 4, 1) := dk_7 (dk_at dksX6_line_12 17 rfl rfl)
theorem dX6_line_307 : decode cX6_line 307 = .ok (.aload_n 0, 1) := dk_42 (dk_at dksX6_line_12 18 rfl rfl)
theorem dX6_line_308 : decode cX6_line 308 = .ok (.iconst 4, 1) := dk_7 (dk_at dksX6_line_12 19 rfl rfl)
theorem dX6_line_309 : decode cX6_line 309 = .ok (.invokevirtual 242, 3) := dk_182 0 242 (dk_at dksX6_line_12 20 rfl rfl)
theorem dX6_line_312 : decode cX6_line 312 = .ok (.iadd, 1) := dk_96 (dk_at dksX6_line_12 23 rfl rfl)
theorem dX6_line_313 : decode cX6_line 313 = .ok (.aload_n 0, 1) := dk_42 (dk_at dksX6_line_13 0 rfl rfl)
theorem dX6_line_314 : decode cX6_line 314 = .ok (.invokevirtual 271, 3) := dk_182 1 15 (dk_at dksX6_line_13 1 rfl rfl)
theorem dX6_line_317 : decode cX6_line 317 = .ok (.iastore, 1) := dk_79 (dk_at dksX6_line_13 4 rfl rfl)
theorem dX6_line_318 : decode cX6_line 318 = .ok (.aload_n 0, 1) := dk_42 (dk_at dksX6_line_13 5 rfl rfl)
theorem dX6_line_319 : decode cX6_line 319 = .ok (.iconst 4, 1) := dk_7 (dk_at dksX6_line_13 6 rfl rfl)
theorem dX6_line_320 : decode cX6_line 320 = .ok (.invokevirtual 259, 3) := dk_182 1 3 (dk_at dksX6_line_13 7 rfl rfl)
theorem dX6_line_323 : decode cX6_line 323 = .ok (.goto 101, 3) := dk_167 0 101 (dk_at dksX6_line_13 10 rfl rfl)
theorem dX6_line_326 : decode cX6_line 326 = .ok (.aload_n 0, 1) := dk_42 (dk_at dksX6_line_13 13 rfl rfl)
theorem dX6_line_327 : decode cX6_line 327 = .ok (.dup, 1) := dk_89 (dk_at dksX6_line_13 14 rfl rfl)
theorem dX6_line_328 : decode cX6_line 328 = .ok (.getfield 249, 3) := dk_180 0 249 (dk_at dksX6_line_13 15 rfl rfl)
theorem dX6_line_331 : decode cX6_line 331 = .ok (.iconst 1, 1) := dk_4 (dk_at dksX6_line_13 18 rfl rfl)
theorem dX6_line_332 : decode cX6_line 332 = .ok (.ior, 1) := dk_128 (dk_at dksX6_line_13 19 rfl rfl)
theorem dX6_line_333 : decode cX6_line 333 = .ok (.putfield 249, 3) := dk_181 0 249 (dk_at dksX6_line_13 20 rfl rfl)
theorem dX6_line_336 : decode cX6_line 336 = .ok (.aload_n 0, 1) := dk_42 (dk_at dksX6_line_13 23 rfl rfl)
theorem dX6_line_337 : decode cX6_line 337 = .ok (.getfield 13, 3) := dk_180 0 13 (dk_at dksX6_line_14 0 rfl rfl)
theorem dX6_line_340 : decode cX6_line 340 = .ok (.bipush 14, 2) := dk_16 14 (dk_at dksX6_line_14 3 rfl rfl)
theorem dX6_line_342 : decode cX6_line 342 = .ok (.aload_n 0, 1) := dk_42 (dk_at dksX6_line_14 5 rfl rfl)
theorem dX6_line_343 : decode cX6_line 343 = .ok (.iconst 0, 1) := dk_3 (dk_at dksX6_line_14 6 rfl rfl)
theorem dX6_line_344 : decode cX6_line 344 = .ok (.sipush 999, 3) := dk_17 3 231 (dk_at dksX6_line_14 7 rfl rfl)
theorem dX6_line_347 : decode cX6_line 347 = .ok (.invokevirtual 255, 3) := dk_182 0 255 (dk_at dksX6_line_14 10 rfl rfl)
theorem dX6_line_350 : decode cX6_line 350 = .ok (.iastore, 1) := dk_79 (dk_at dksX6_line_14 13 rfl rfl)
theorem dX6_line_351 : decode cX6_line 351 = .ok (.goto 73, 3) := dk_167 0 73 (dk_at dksX6_line_14 14 rfl rfl)
theorem dX6_line_354 : decode cX6_line 354 = .ok (.aload_n 0, 1) := dk_42 (dk_at dksX6_line_14 17 rfl rfl)
theorem dX6_line_355 : decode cX6_line 355 = .ok (.invokevirtual 274, 3) := dk_182 1 18 (dk_at dksX6_line_14 18 rfl rfl)
theorem dX6_line_358 : decode cX6_line 358 = .ok (.goto 66, 3) := dk_167 0 66 (dk_at dksX6_line_14 21 rfl rfl)
theorem dX6_line_361 : decode cX6_line 361 = .ok (.aload_n 0, 1) := dk_42 (dk_at dksX6_line_15 0 rfl rfl)
theorem dX6_line_362 : decode cX6_line 362 = .ok (.iconst 5, 1) := dk_8 (dk_at dksX6_line_15 1 rfl rfl)
theorem dX6_line_363 : decode cX6_line 363 = .ok (.invokevirtual 242, 3) := dk_182 0 242 (dk_at dksX6_line_15 2 rfl rfl)
theorem dX6_line_366 : decode cX6_line 366 = .ok (.istore_n 2, 1) := dk_61 (dk_at dksX6_line_15 5 rfl rfl)
theorem dX6_line_367 : decode cX6_line 367 = .ok (.aload_n 0, 1) := dk_42 (dk_at dksX6_line_15 6 rfl rfl)
theorem dX6_line_368 : decode cX6_line 368 = .ok (.getfield 61, 3) := dk_180 0 61 (dk_at dksX6_line_15 7 rfl rfl)
theorem dX6_line_371 : decode cX6_line 371 = .ok (.iconst 4, 1) := dk_7 (dk_at dksX6_line_15 10 rfl rfl)
theorem dX6_line_372 : decode cX6_line 372 = .ok (.iload_n 2, 1) := dk_28 (dk_at dksX6_line_15 11 rfl rfl)
theorem dX6_line_373 : decode cX6_line 373 = .ok (.iadd, 1) := dk_96 (dk_at dksX6_line_15 12 rfl rfl)
theorem dX6_line_374 : decode cX6_line 374 = .ok (.aload_n 0, 1) := dk_42 (dk_at dksX6_line_15 13 rfl rfl)
theorem dX6_line_375 : decode cX6_line 375 = .ok (.aload_n 0, 1) := dk_42 (dk_at dksX6_line_15 14 rfl rfl)
theorem dX6_line_376 : decode cX6_line 376 = .ok (.getfield 61, 3) := dk_180 0 61 (dk_at dksX6_line_15 15 rfl rfl)
theorem dX6_line_379 : decode cX6_line 379 = .ok (.iconst 4, 1) := dk_7 (dk_at dksX6_line_15 18 rfl rfl)
theorem dX6_line_380 : decode cX6_line 380 = .ok (.iload_n 2, 1) := dk_28 (dk_at dksX6_line_15 19 rfl rfl)
theorem dX6_line_381 : decode cX6_line 381 = .ok (.invokevirtual 252, 3) := dk_182 0 252 (dk_at dksX6_line_15 20 rfl rfl)
theorem dX6_line_384 : decode cX6_line 384 = .ok (.iastore, 1) := dk_79 (dk_at dksX6_line_15 23 rfl rfl)
theorem dX6_line_385 : decode cX6_line 385 = .ok (.aload_n 0, 1) := dk_42 (dk_at dksX6_line_16 0 rfl rfl)
theorem dX6_line_386 : decode cX6_line 386 = .ok (.getfield 64, 3) := dk_180 0 64 (dk_at dksX6_line_16 1 rfl rfl)
theorem dX6_line_389 : decode cX6_line 389 = .ok (.bipush 8, 2) := dk_16 8 (dk_at dksX6_line_16 4 rfl rfl)
theorem dX6_line_391 : decode cX6_line 391 = .ok (.iload_n 2, 1) := dk_28 (dk_at dksX6_line_16 6 rfl rfl)
theorem dX6_line_392 : decode cX6_line 392 = .ok (.iadd, 1) := dk_96 (dk_at dksX6_line_16 7 rfl rfl)
theorem dX6_line_393 : decode cX6_line 393 = .ok (.aload_n 0, 1) := dk_42 (dk_at dksX6_line_16 8 rfl rfl)
theorem dX6_line_394 : decode cX6_line 394 = .ok (.bipush 7, 2) := dk_16 7 (dk_at dksX6_line_16 9 rfl rfl)
theorem dX6_line_396 : decode cX6_line 396 = .ok (.invokevirtual 242, 3) := dk_182 0 242 (dk_at dksX6_line_16 11 rfl rfl)
theorem dX6_line_399 : decode cX6_line 399 = .ok (.iastore, 1) := dk_79 (dk_at dksX6_line_16 14 rfl rfl)
theorem dX6_line_400 : decode cX6_line 400 = .ok (.aload_n 0, 1) := dk_42 (dk_at dksX6_line_16 15 rfl rfl)
theorem dX6_line_401 : decode cX6_line 401 = .ok (.invokevirtual 277, 3) := dk_182 1 21 (dk_at dksX6_line_16 16 rfl rfl)
theorem dX6_line_404 : decode cX6_line 404 = .ok (.aload_n 0, 1) := dk_42 (dk_at dksX6_line_16 19 rfl rfl)
theorem dX6_line_405 : decode cX6_line 405 = .ok (.getfield 67, 3) := dk_180 0 67 (dk_at dksX6_line_16 20 rfl rfl)
theorem dX6_line_408 : decode cX6_line 408 = .ok (.bipush 8, 2) := dk_16 8 (dk_at dksX6_line_17 0 rfl rfl)
theorem dX6_line_410 : decode cX6_line 410 = .ok (.iload_n 2, 1) := dk_28 (dk_at dksX6_line_17 2 rfl rfl)
theorem dX6_line_411 : decode cX6_line 411 = .ok (.iadd, 1) := dk_96 (dk_at dksX6_line_17 3 rfl rfl)
theorem dX6_line_412 : decode cX6_line 412 = .ok (.aload_n 0, 1) := dk_42 (dk_at dksX6_line_17 4 rfl rfl)
theorem dX6_line_413 : decode cX6_line 413 = .ok (.bipush 7, 2) := dk_16 7 (dk_at dksX6_line_17 5 rfl rfl)
theorem dX6_line_415 : decode cX6_line 415 = .ok (.invokevirtual 242, 3) := dk_182 0 242 (dk_at dksX6_line_17 7 rfl rfl)
theorem dX6_line_418 : decode cX6_line 418 = .ok (.iastore, 1) := dk_79 (dk_at dksX6_line_17 10 rfl rfl)
theorem dX6_line_419 : decode cX6_line 419 = .ok (.aload_n 0, 1) := dk_42 (dk_at dksX6_line_17 11 rfl rfl)
theorem dX6_line_420 : decode cX6_line 420 = .ok (.iconst 5, 1) := dk_8 (dk_at dksX6_line_17 12 rfl rfl)
theorem dX6_line_421 : decode cX6_line 421 = .ok (.invokevirtual 259, 3) := dk_182 1 3 (dk_at dksX6_line_17 13 rfl rfl)
theorem dX6_line_424 : decode cX6_line 424 = .ok (.aload_n 0, 1) := dk_42 (dk_at dksX6_line_17 16 rfl rfl)
theorem dX6_line_425 : decode cX6_line 425 = .ok (.getfield 219, 3) := dk_180 0 219 (dk_at dksX6_line_17 17 rfl rfl)
theorem dX6_line_428 : decode cX6_line 428 = .ok (.ifCond .eq 4, 3) := dk_153 0 4 (dk_at dksX6_line_17 20 rfl rfl)
theorem dX6_line_431 : decode cX6_line 431 = .ok (.return_, 1) := dk_177 (dk_at dksX6_line_17 23 rfl rfl)
theorem dX6_line_432 : decode cX6_line 432 = .ok (.aload_n 0, 1) := dk_42 (dk_at dksX6_line_18 0 rfl rfl)
theorem dX6_line_433 : decode cX6_line 433 = .ok (.bipush 59, 2) := dk_16 59 (dk_at dksX6_line_18 1 rfl rfl)
theorem dX6_line_435 : decode cX6_line 435 = .ok (.invokevirtual 280, 3) := dk_182 1 24 (dk_at dksX6_line_18 3 rfl rfl)
theorem dX6_line_438 : decode cX6_line 438 = .ok (.ifCond .ne 11, 3) := dk_154 0 11 (dk_at dksX6_line_18 6 rfl rfl)
theorem dX6_line_441 : decode cX6_line 441 = .ok (.aload_n 0, 1) := dk_42 (dk_at dksX6_line_18 9 rfl rfl)
theorem dX6_line_442 : decode cX6_line 442 = .ok (.iconst 1, 1) := dk_4 (dk_at dksX6_line_18 10 rfl rfl)
theorem dX6_line_443 : decode cX6_line 443 = .ok (.invokevirtual 228, 3) := dk_182 0 228 (dk_at dksX6_line_18 11 rfl rfl)
theorem dX6_line_446 : decode cX6_line 446 = .ok (.goto 7, 3) := dk_167 0 7 (dk_at dksX6_line_18 14 rfl rfl)
theorem dX6_line_449 : decode cX6_line 449 = .ok (.aload_n 0, 1) := dk_42 (dk_at dksX6_line_18 17 rfl rfl)
theorem dX6_line_450 : decode cX6_line 450 = .ok (.invokevirtual 225, 3) := dk_182 0 225 (dk_at dksX6_line_18 18 rfl rfl)
theorem dX6_line_453 : decode cX6_line 453 = .ok (.aload_n 0, 1) := dk_42 (dk_at dksX6_line_18 21 rfl rfl)
theorem dX6_line_454 : decode cX6_line 454 = .ok (.dup, 1) := dk_89 (dk_at dksX6_line_18 22 rfl rfl)
theorem dX6_line_455 : decode cX6_line 455 = .ok (.getfield 283, 3) := dk_180 1 27 (dk_at dksX6_line_19 0 rfl rfl)
theorem dX6_line_458 : decode cX6_line 458 = .ok (.iconst 1, 1) := dk_4 (dk_at dksX6_line_19 3 rfl rfl)
theorem dX6_line_459 : decode cX6_line 459 = .ok (.iadd, 1) := dk_96 (dk_at dksX6_line_19 4 rfl rfl)
theorem dX6_line_460 : decode cX6_line 460 = .ok (.putfield 283, 3) := dk_181 1 27 (dk_at dksX6_line_19 5 rfl rfl)
theorem dX6_line_463 : decode cX6_line 463 = .ok (.return_, 1) := dk_177 (dk_at dksX6_line_19 8 rfl rfl)
abbrev cX6_wrong : ByteArray := prog_23_method_11_code
def yX6_wrong : MethodName := ⟨RX6, "wrong", "(I)V"⟩
def dkwX6_wrong_0 : List UInt8 := [42, 180, 0, 219, 153, 0, 4, 177, 42, 27, 181, 0, 219, 42, 42, 180, 0, 182, 181, 0, 222, 177]
abbrev dktX6_wrong_0 : List UInt8 := dkwX6_wrong_0 ++ []
theorem dksX6_wrong_0 : cX6_wrong.data.toList.drop 0 = dktX6_wrong_0 := by decide +kernel
theorem dX6_wrong_0 : decode cX6_wrong 0 = .ok (.aload_n 0, 1) := dk_42 (dk_at dksX6_wrong_0 0 rfl rfl)
theorem dX6_wrong_1 : decode cX6_wrong 1 = .ok (.getfield 219, 3) := dk_180 0 219 (dk_at dksX6_wrong_0 1 rfl rfl)
theorem dX6_wrong_4 : decode cX6_wrong 4 = .ok (.ifCond .eq 4, 3) := dk_153 0 4 (dk_at dksX6_wrong_0 4 rfl rfl)
theorem dX6_wrong_7 : decode cX6_wrong 7 = .ok (.return_, 1) := dk_177 (dk_at dksX6_wrong_0 7 rfl rfl)
theorem dX6_wrong_8 : decode cX6_wrong 8 = .ok (.aload_n 0, 1) := dk_42 (dk_at dksX6_wrong_0 8 rfl rfl)
theorem dX6_wrong_9 : decode cX6_wrong 9 = .ok (.iload_n 1, 1) := dk_27 (dk_at dksX6_wrong_0 9 rfl rfl)
theorem dX6_wrong_10 : decode cX6_wrong 10 = .ok (.putfield 219, 3) := dk_181 0 219 (dk_at dksX6_wrong_0 10 rfl rfl)
theorem dX6_wrong_13 : decode cX6_wrong 13 = .ok (.aload_n 0, 1) := dk_42 (dk_at dksX6_wrong_0 13 rfl rfl)
theorem dX6_wrong_14 : decode cX6_wrong 14 = .ok (.aload_n 0, 1) := dk_42 (dk_at dksX6_wrong_0 14 rfl rfl)
theorem dX6_wrong_15 : decode cX6_wrong 15 = .ok (.getfield 182, 3) := dk_180 0 182 (dk_at dksX6_wrong_0 15 rfl rfl)
theorem dX6_wrong_18 : decode cX6_wrong 18 = .ok (.putfield 222, 3) := dk_181 0 222 (dk_at dksX6_wrong_0 18 rfl rfl)
theorem dX6_wrong_21 : decode cX6_wrong 21 = .ok (.return_, 1) := dk_177 (dk_at dksX6_wrong_0 21 rfl rfl)
abbrev cX6_isFull : ByteArray := prog_23_method_22_code
def yX6_isFull : MethodName := ⟨RX6, "isFull", "(I)Z"⟩
def dkwX6_isFull_3 : List UInt8 := [159, 0, 18, 27, 16, 8, 160, 0, 16, 42, 8, 182, 0, 242, 7, 160, 0, 7, 4, 167, 0, 4, 3, 172]
abbrev dktX6_isFull_3 : List UInt8 := dkwX6_isFull_3 ++ []
def dkwX6_isFull_2 : List UInt8 := [160, 0, 13, 42, 6, 182, 0, 242, 16, 16, 159, 0, 32, 27, 8, 160, 0, 12, 42, 7, 182, 0, 242, 7]
abbrev dktX6_isFull_2 : List UInt8 := dkwX6_isFull_2 ++ dktX6_isFull_3
def dkwX6_isFull_1 : List UInt8 := [16, 7, 159, 0, 62, 27, 6, 160, 0, 13, 42, 5, 182, 0, 242, 16, 16, 159, 0, 47, 27, 7]
abbrev dktX6_isFull_1 : List UInt8 := dkwX6_isFull_1 ++ dktX6_isFull_2
def dkwX6_isFull_0 : List UInt8 := [27, 154, 0, 12, 42, 3, 182, 0, 242, 7, 159, 0, 77, 27, 5, 160, 0, 13, 42, 4, 182, 0, 242]
abbrev dktX6_isFull_0 : List UInt8 := dkwX6_isFull_0 ++ dktX6_isFull_1
theorem dksX6_isFull_0 : cX6_isFull.data.toList.drop 0 = dktX6_isFull_0 := by decide +kernel
theorem dksX6_isFull_1 : cX6_isFull.data.toList.drop 23 = dktX6_isFull_1 := dk_seg dksX6_isFull_0 23 rfl rfl
theorem dksX6_isFull_2 : cX6_isFull.data.toList.drop 45 = dktX6_isFull_2 := dk_seg dksX6_isFull_1 22 rfl rfl
theorem dksX6_isFull_3 : cX6_isFull.data.toList.drop 69 = dktX6_isFull_3 := dk_seg dksX6_isFull_2 24 rfl rfl
theorem dX6_isFull_0 : decode cX6_isFull 0 = .ok (.iload_n 1, 1) := dk_27 (dk_at dksX6_isFull_0 0 rfl rfl)
theorem dX6_isFull_1 : decode cX6_isFull 1 = .ok (.ifCond .ne 12, 3) := dk_154 0 12 (dk_at dksX6_isFull_0 1 rfl rfl)
theorem dX6_isFull_4 : decode cX6_isFull 4 = .ok (.aload_n 0, 1) := dk_42 (dk_at dksX6_isFull_0 4 rfl rfl)
theorem dX6_isFull_5 : decode cX6_isFull 5 = .ok (.iconst 0, 1) := dk_3 (dk_at dksX6_isFull_0 5 rfl rfl)
theorem dX6_isFull_6 : decode cX6_isFull 6 = .ok (.invokevirtual 242, 3) := dk_182 0 242 (dk_at dksX6_isFull_0 6 rfl rfl)
theorem dX6_isFull_9 : decode cX6_isFull 9 = .ok (.iconst 4, 1) := dk_7 (dk_at dksX6_isFull_0 9 rfl rfl)
theorem dX6_isFull_10 : decode cX6_isFull 10 = .ok (.if_icmp .eq 77, 3) := dk_159 0 77 (dk_at dksX6_isFull_0 10 rfl rfl)
theorem dX6_isFull_13 : decode cX6_isFull 13 = .ok (.iload_n 1, 1) := dk_27 (dk_at dksX6_isFull_0 13 rfl rfl)
theorem dX6_isFull_14 : decode cX6_isFull 14 = .ok (.iconst 2, 1) := dk_5 (dk_at dksX6_isFull_0 14 rfl rfl)
theorem dX6_isFull_15 : decode cX6_isFull 15 = .ok (.if_icmp .ne 13, 3) := dk_160 0 13 (dk_at dksX6_isFull_0 15 rfl rfl)
theorem dX6_isFull_18 : decode cX6_isFull 18 = .ok (.aload_n 0, 1) := dk_42 (dk_at dksX6_isFull_0 18 rfl rfl)
theorem dX6_isFull_19 : decode cX6_isFull 19 = .ok (.iconst 1, 1) := dk_4 (dk_at dksX6_isFull_0 19 rfl rfl)
theorem dX6_isFull_20 : decode cX6_isFull 20 = .ok (.invokevirtual 242, 3) := dk_182 0 242 (dk_at dksX6_isFull_0 20 rfl rfl)
theorem dX6_isFull_23 : decode cX6_isFull 23 = .ok (.bipush 7, 2) := dk_16 7 (dk_at dksX6_isFull_1 0 rfl rfl)
theorem dX6_isFull_25 : decode cX6_isFull 25 = .ok (.if_icmp .eq 62, 3) := dk_159 0 62 (dk_at dksX6_isFull_1 2 rfl rfl)
theorem dX6_isFull_28 : decode cX6_isFull 28 = .ok (.iload_n 1, 1) := dk_27 (dk_at dksX6_isFull_1 5 rfl rfl)
theorem dX6_isFull_29 : decode cX6_isFull 29 = .ok (.iconst 3, 1) := dk_6 (dk_at dksX6_isFull_1 6 rfl rfl)
theorem dX6_isFull_30 : decode cX6_isFull 30 = .ok (.if_icmp .ne 13, 3) := dk_160 0 13 (dk_at dksX6_isFull_1 7 rfl rfl)
theorem dX6_isFull_33 : decode cX6_isFull 33 = .ok (.aload_n 0, 1) := dk_42 (dk_at dksX6_isFull_1 10 rfl rfl)
theorem dX6_isFull_34 : decode cX6_isFull 34 = .ok (.iconst 2, 1) := dk_5 (dk_at dksX6_isFull_1 11 rfl rfl)
theorem dX6_isFull_35 : decode cX6_isFull 35 = .ok (.invokevirtual 242, 3) := dk_182 0 242 (dk_at dksX6_isFull_1 12 rfl rfl)
theorem dX6_isFull_38 : decode cX6_isFull 38 = .ok (.bipush 16, 2) := dk_16 16 (dk_at dksX6_isFull_1 15 rfl rfl)
theorem dX6_isFull_40 : decode cX6_isFull 40 = .ok (.if_icmp .eq 47, 3) := dk_159 0 47 (dk_at dksX6_isFull_1 17 rfl rfl)
theorem dX6_isFull_43 : decode cX6_isFull 43 = .ok (.iload_n 1, 1) := dk_27 (dk_at dksX6_isFull_1 20 rfl rfl)
theorem dX6_isFull_44 : decode cX6_isFull 44 = .ok (.iconst 4, 1) := dk_7 (dk_at dksX6_isFull_1 21 rfl rfl)
theorem dX6_isFull_45 : decode cX6_isFull 45 = .ok (.if_icmp .ne 13, 3) := dk_160 0 13 (dk_at dksX6_isFull_2 0 rfl rfl)
theorem dX6_isFull_48 : decode cX6_isFull 48 = .ok (.aload_n 0, 1) := dk_42 (dk_at dksX6_isFull_2 3 rfl rfl)
theorem dX6_isFull_49 : decode cX6_isFull 49 = .ok (.iconst 3, 1) := dk_6 (dk_at dksX6_isFull_2 4 rfl rfl)
theorem dX6_isFull_50 : decode cX6_isFull 50 = .ok (.invokevirtual 242, 3) := dk_182 0 242 (dk_at dksX6_isFull_2 5 rfl rfl)
theorem dX6_isFull_53 : decode cX6_isFull 53 = .ok (.bipush 16, 2) := dk_16 16 (dk_at dksX6_isFull_2 8 rfl rfl)
theorem dX6_isFull_55 : decode cX6_isFull 55 = .ok (.if_icmp .eq 32, 3) := dk_159 0 32 (dk_at dksX6_isFull_2 10 rfl rfl)
theorem dX6_isFull_58 : decode cX6_isFull 58 = .ok (.iload_n 1, 1) := dk_27 (dk_at dksX6_isFull_2 13 rfl rfl)
theorem dX6_isFull_59 : decode cX6_isFull 59 = .ok (.iconst 5, 1) := dk_8 (dk_at dksX6_isFull_2 14 rfl rfl)
theorem dX6_isFull_60 : decode cX6_isFull 60 = .ok (.if_icmp .ne 12, 3) := dk_160 0 12 (dk_at dksX6_isFull_2 15 rfl rfl)
theorem dX6_isFull_63 : decode cX6_isFull 63 = .ok (.aload_n 0, 1) := dk_42 (dk_at dksX6_isFull_2 18 rfl rfl)
theorem dX6_isFull_64 : decode cX6_isFull 64 = .ok (.iconst 4, 1) := dk_7 (dk_at dksX6_isFull_2 19 rfl rfl)
theorem dX6_isFull_65 : decode cX6_isFull 65 = .ok (.invokevirtual 242, 3) := dk_182 0 242 (dk_at dksX6_isFull_2 20 rfl rfl)
theorem dX6_isFull_68 : decode cX6_isFull 68 = .ok (.iconst 4, 1) := dk_7 (dk_at dksX6_isFull_2 23 rfl rfl)
theorem dX6_isFull_69 : decode cX6_isFull 69 = .ok (.if_icmp .eq 18, 3) := dk_159 0 18 (dk_at dksX6_isFull_3 0 rfl rfl)
theorem dX6_isFull_72 : decode cX6_isFull 72 = .ok (.iload_n 1, 1) := dk_27 (dk_at dksX6_isFull_3 3 rfl rfl)
theorem dX6_isFull_73 : decode cX6_isFull 73 = .ok (.bipush 8, 2) := dk_16 8 (dk_at dksX6_isFull_3 4 rfl rfl)
theorem dX6_isFull_75 : decode cX6_isFull 75 = .ok (.if_icmp .ne 16, 3) := dk_160 0 16 (dk_at dksX6_isFull_3 6 rfl rfl)
theorem dX6_isFull_78 : decode cX6_isFull 78 = .ok (.aload_n 0, 1) := dk_42 (dk_at dksX6_isFull_3 9 rfl rfl)
theorem dX6_isFull_79 : decode cX6_isFull 79 = .ok (.iconst 5, 1) := dk_8 (dk_at dksX6_isFull_3 10 rfl rfl)
theorem dX6_isFull_80 : decode cX6_isFull 80 = .ok (.invokevirtual 242, 3) := dk_182 0 242 (dk_at dksX6_isFull_3 11 rfl rfl)
theorem dX6_isFull_83 : decode cX6_isFull 83 = .ok (.iconst 4, 1) := dk_7 (dk_at dksX6_isFull_3 14 rfl rfl)
theorem dX6_isFull_84 : decode cX6_isFull 84 = .ok (.if_icmp .ne 7, 3) := dk_160 0 7 (dk_at dksX6_isFull_3 15 rfl rfl)
theorem dX6_isFull_87 : decode cX6_isFull 87 = .ok (.iconst 1, 1) := dk_4 (dk_at dksX6_isFull_3 18 rfl rfl)
theorem dX6_isFull_88 : decode cX6_isFull 88 = .ok (.goto 4, 3) := dk_167 0 4 (dk_at dksX6_isFull_3 19 rfl rfl)
theorem dX6_isFull_91 : decode cX6_isFull 91 = .ok (.iconst 0, 1) := dk_3 (dk_at dksX6_isFull_3 22 rfl rfl)
theorem dX6_isFull_92 : decode cX6_isFull 92 = .ok (.ireturn, 1) := dk_172 (dk_at dksX6_isFull_3 23 rfl rfl)
abbrev cX6_fresher : ByteArray := prog_23_method_20_code
def yX6_fresher : MethodName := ⟨RX6, "fresher", "(I)I"⟩
def dkwX6_fresher_0 : List UInt8 := [42, 180, 0, 13, 16, 8, 27, 96, 46, 172]
abbrev dktX6_fresher_0 : List UInt8 := dkwX6_fresher_0 ++ []
theorem dksX6_fresher_0 : cX6_fresher.data.toList.drop 0 = dktX6_fresher_0 := by decide +kernel
theorem dX6_fresher_0 : decode cX6_fresher 0 = .ok (.aload_n 0, 1) := dk_42 (dk_at dksX6_fresher_0 0 rfl rfl)
theorem dX6_fresher_1 : decode cX6_fresher 1 = .ok (.getfield 13, 3) := dk_180 0 13 (dk_at dksX6_fresher_0 1 rfl rfl)
theorem dX6_fresher_4 : decode cX6_fresher 4 = .ok (.bipush 8, 2) := dk_16 8 (dk_at dksX6_fresher_0 4 rfl rfl)
theorem dX6_fresher_6 : decode cX6_fresher 6 = .ok (.iload_n 1, 1) := dk_27 (dk_at dksX6_fresher_0 6 rfl rfl)
theorem dX6_fresher_7 : decode cX6_fresher 7 = .ok (.iadd, 1) := dk_96 (dk_at dksX6_fresher_0 7 rfl rfl)
theorem dX6_fresher_8 : decode cX6_fresher 8 = .ok (.iaload, 1) := dk_46 (dk_at dksX6_fresher_0 8 rfl rfl)
theorem dX6_fresher_9 : decode cX6_fresher 9 = .ok (.ireturn, 1) := dk_172 (dk_at dksX6_fresher_0 9 rfl rfl)
abbrev cX6_fresh : ByteArray := prog_23_method_17_code
def yX6_fresh : MethodName := ⟨RX6, "fresh", "([III)I"⟩
def dkwX6_fresh_2 : List UInt8 := [180, 0, 219, 153, 0, 5, 3, 172, 42, 180, 0, 195, 54, 4, 42, 182, 0, 225, 21, 4, 172]
abbrev dktX6_fresh_2 : List UInt8 := dkwX6_fresh_2 ++ []
def dkwX6_fresh_1 : List UInt8 := [167, 0, 22, 43, 28, 29, 42, 180, 0, 195, 184, 0, 231, 2, 159, 0, 8, 42, 6, 182, 0, 228, 42]
abbrev dktX6_fresh_1 : List UInt8 := dkwX6_fresh_1 ++ dktX6_fresh_2
def dkwX6_fresh_0 : List UInt8 := [42, 180, 0, 219, 153, 0, 5, 3, 172, 42, 180, 0, 185, 4, 159, 0, 11, 42, 4, 182, 0, 228]
abbrev dktX6_fresh_0 : List UInt8 := dkwX6_fresh_0 ++ dktX6_fresh_1
theorem dksX6_fresh_0 : cX6_fresh.data.toList.drop 0 = dktX6_fresh_0 := by decide +kernel
theorem dksX6_fresh_1 : cX6_fresh.data.toList.drop 22 = dktX6_fresh_1 := dk_seg dksX6_fresh_0 22 rfl rfl
theorem dksX6_fresh_2 : cX6_fresh.data.toList.drop 45 = dktX6_fresh_2 := dk_seg dksX6_fresh_1 23 rfl rfl
theorem dX6_fresh_0 : decode cX6_fresh 0 = .ok (.aload_n 0, 1) := dk_42 (dk_at dksX6_fresh_0 0 rfl rfl)
theorem dX6_fresh_1 : decode cX6_fresh 1 = .ok (.getfield 219, 3) := dk_180 0 219 (dk_at dksX6_fresh_0 1 rfl rfl)
theorem dX6_fresh_4 : decode cX6_fresh 4 = .ok (.ifCond .eq 5, 3) := dk_153 0 5 (dk_at dksX6_fresh_0 4 rfl rfl)
theorem dX6_fresh_7 : decode cX6_fresh 7 = .ok (.iconst 0, 1) := dk_3 (dk_at dksX6_fresh_0 7 rfl rfl)
theorem dX6_fresh_8 : decode cX6_fresh 8 = .ok (.ireturn, 1) := dk_172 (dk_at dksX6_fresh_0 8 rfl rfl)
theorem dX6_fresh_9 : decode cX6_fresh 9 = .ok (.aload_n 0, 1) := dk_42 (dk_at dksX6_fresh_0 9 rfl rfl)
theorem dX6_fresh_10 : decode cX6_fresh 10 = .ok (.getfield 185, 3) := dk_180 0 185 (dk_at dksX6_fresh_0 10 rfl rfl)
theorem dX6_fresh_13 : decode cX6_fresh 13 = .ok (.iconst 1, 1) := dk_4 (dk_at dksX6_fresh_0 13 rfl rfl)
theorem dX6_fresh_14 : decode cX6_fresh 14 = .ok (.if_icmp .eq 11, 3) := dk_159 0 11 (dk_at dksX6_fresh_0 14 rfl rfl)
theorem dX6_fresh_17 : decode cX6_fresh 17 = .ok (.aload_n 0, 1) := dk_42 (dk_at dksX6_fresh_0 17 rfl rfl)
theorem dX6_fresh_18 : decode cX6_fresh 18 = .ok (.iconst 1, 1) := dk_4 (dk_at dksX6_fresh_0 18 rfl rfl)
theorem dX6_fresh_19 : decode cX6_fresh 19 = .ok (.invokevirtual 228, 3) := dk_182 0 228 (dk_at dksX6_fresh_0 19 rfl rfl)
theorem dX6_fresh_22 : decode cX6_fresh 22 = .ok (.goto 22, 3) := dk_167 0 22 (dk_at dksX6_fresh_1 0 rfl rfl)
theorem dX6_fresh_25 : decode cX6_fresh 25 = .ok (.aload_n 1, 1) := dk_43 (dk_at dksX6_fresh_1 3 rfl rfl)
theorem dX6_fresh_26 : decode cX6_fresh 26 = .ok (.iload_n 2, 1) := dk_28 (dk_at dksX6_fresh_1 4 rfl rfl)
theorem dX6_fresh_27 : decode cX6_fresh 27 = .ok (.iload_n 3, 1) := dk_29 (dk_at dksX6_fresh_1 5 rfl rfl)
theorem dX6_fresh_28 : decode cX6_fresh 28 = .ok (.aload_n 0, 1) := dk_42 (dk_at dksX6_fresh_1 6 rfl rfl)
theorem dX6_fresh_29 : decode cX6_fresh 29 = .ok (.getfield 195, 3) := dk_180 0 195 (dk_at dksX6_fresh_1 7 rfl rfl)
theorem dX6_fresh_32 : decode cX6_fresh 32 = .ok (.invokestatic 231, 3) := dk_184 0 231 (dk_at dksX6_fresh_1 10 rfl rfl)
theorem dX6_fresh_35 : decode cX6_fresh 35 = .ok (.iconst (-1), 1) := dk_2 (dk_at dksX6_fresh_1 13 rfl rfl)
theorem dX6_fresh_36 : decode cX6_fresh 36 = .ok (.if_icmp .eq 8, 3) := dk_159 0 8 (dk_at dksX6_fresh_1 14 rfl rfl)
theorem dX6_fresh_39 : decode cX6_fresh 39 = .ok (.aload_n 0, 1) := dk_42 (dk_at dksX6_fresh_1 17 rfl rfl)
theorem dX6_fresh_40 : decode cX6_fresh 40 = .ok (.iconst 3, 1) := dk_6 (dk_at dksX6_fresh_1 18 rfl rfl)
theorem dX6_fresh_41 : decode cX6_fresh 41 = .ok (.invokevirtual 228, 3) := dk_182 0 228 (dk_at dksX6_fresh_1 19 rfl rfl)
theorem dX6_fresh_44 : decode cX6_fresh 44 = .ok (.aload_n 0, 1) := dk_42 (dk_at dksX6_fresh_1 22 rfl rfl)
theorem dX6_fresh_45 : decode cX6_fresh 45 = .ok (.getfield 219, 3) := dk_180 0 219 (dk_at dksX6_fresh_2 0 rfl rfl)
theorem dX6_fresh_48 : decode cX6_fresh 48 = .ok (.ifCond .eq 5, 3) := dk_153 0 5 (dk_at dksX6_fresh_2 3 rfl rfl)
theorem dX6_fresh_51 : decode cX6_fresh 51 = .ok (.iconst 0, 1) := dk_3 (dk_at dksX6_fresh_2 6 rfl rfl)
theorem dX6_fresh_52 : decode cX6_fresh 52 = .ok (.ireturn, 1) := dk_172 (dk_at dksX6_fresh_2 7 rfl rfl)
theorem dX6_fresh_53 : decode cX6_fresh 53 = .ok (.aload_n 0, 1) := dk_42 (dk_at dksX6_fresh_2 8 rfl rfl)
theorem dX6_fresh_54 : decode cX6_fresh 54 = .ok (.getfield 195, 3) := dk_180 0 195 (dk_at dksX6_fresh_2 9 rfl rfl)
theorem dX6_fresh_57 : decode cX6_fresh 57 = .ok (.istore 4, 2) := dk_54 4 (dk_at dksX6_fresh_2 12 rfl rfl)
theorem dX6_fresh_59 : decode cX6_fresh 59 = .ok (.aload_n 0, 1) := dk_42 (dk_at dksX6_fresh_2 14 rfl rfl)
theorem dX6_fresh_60 : decode cX6_fresh 60 = .ok (.invokevirtual 225, 3) := dk_182 0 225 (dk_at dksX6_fresh_2 15 rfl rfl)
theorem dX6_fresh_63 : decode cX6_fresh 63 = .ok (.iload 4, 2) := dk_21 4 (dk_at dksX6_fresh_2 18 rfl rfl)
theorem dX6_fresh_65 : decode cX6_fresh 65 = .ok (.ireturn, 1) := dk_172 (dk_at dksX6_fresh_2 20 rfl rfl)
abbrev cX6_found : ByteArray := prog_23_method_16_code
def yX6_found : MethodName := ⟨RX6, "found", "([IIII)I"⟩
def dkwX6_found_1 : List UInt8 := [132, 4, 1, 167, 255, 234, 2, 172]
abbrev dktX6_found_1 : List UInt8 := dkwX6_found_1 ++ []
def dkwX6_found_0 : List UInt8 := [3, 54, 4, 21, 4, 28, 162, 0, 22, 42, 27, 21, 4, 96, 46, 29, 160, 0, 6, 21, 4, 172]
abbrev dktX6_found_0 : List UInt8 := dkwX6_found_0 ++ dktX6_found_1
theorem dksX6_found_0 : cX6_found.data.toList.drop 0 = dktX6_found_0 := by decide +kernel
theorem dksX6_found_1 : cX6_found.data.toList.drop 22 = dktX6_found_1 := dk_seg dksX6_found_0 22 rfl rfl
theorem dX6_found_0 : decode cX6_found 0 = .ok (.iconst 0, 1) := dk_3 (dk_at dksX6_found_0 0 rfl rfl)
theorem dX6_found_1 : decode cX6_found 1 = .ok (.istore 4, 2) := dk_54 4 (dk_at dksX6_found_0 1 rfl rfl)
theorem dX6_found_3 : decode cX6_found 3 = .ok (.iload 4, 2) := dk_21 4 (dk_at dksX6_found_0 3 rfl rfl)
theorem dX6_found_5 : decode cX6_found 5 = .ok (.iload_n 2, 1) := dk_28 (dk_at dksX6_found_0 5 rfl rfl)
theorem dX6_found_6 : decode cX6_found 6 = .ok (.if_icmp .ge 22, 3) := dk_162 0 22 (dk_at dksX6_found_0 6 rfl rfl)
theorem dX6_found_9 : decode cX6_found 9 = .ok (.aload_n 0, 1) := dk_42 (dk_at dksX6_found_0 9 rfl rfl)
theorem dX6_found_10 : decode cX6_found 10 = .ok (.iload_n 1, 1) := dk_27 (dk_at dksX6_found_0 10 rfl rfl)
theorem dX6_found_11 : decode cX6_found 11 = .ok (.iload 4, 2) := dk_21 4 (dk_at dksX6_found_0 11 rfl rfl)
theorem dX6_found_13 : decode cX6_found 13 = .ok (.iadd, 1) := dk_96 (dk_at dksX6_found_0 13 rfl rfl)
theorem dX6_found_14 : decode cX6_found 14 = .ok (.iaload, 1) := dk_46 (dk_at dksX6_found_0 14 rfl rfl)
theorem dX6_found_15 : decode cX6_found 15 = .ok (.iload_n 3, 1) := dk_29 (dk_at dksX6_found_0 15 rfl rfl)
theorem dX6_found_16 : decode cX6_found 16 = .ok (.if_icmp .ne 6, 3) := dk_160 0 6 (dk_at dksX6_found_0 16 rfl rfl)
theorem dX6_found_19 : decode cX6_found 19 = .ok (.iload 4, 2) := dk_21 4 (dk_at dksX6_found_0 19 rfl rfl)
theorem dX6_found_21 : decode cX6_found 21 = .ok (.ireturn, 1) := dk_172 (dk_at dksX6_found_0 21 rfl rfl)
theorem dX6_found_22 : decode cX6_found 22 = .ok (.iinc 4 1, 3) := dk_132 4 1 (dk_at dksX6_found_1 0 rfl rfl)
theorem dX6_found_25 : decode cX6_found 25 = .ok (.goto (-22), 3) := dk_167 255 234 (dk_at dksX6_found_1 3 rfl rfl)
theorem dX6_found_28 : decode cX6_found 28 = .ok (.iconst (-1), 1) := dk_2 (dk_at dksX6_found_1 6 rfl rfl)
theorem dX6_found_29 : decode cX6_found 29 = .ok (.ireturn, 1) := dk_172 (dk_at dksX6_found_1 7 rfl rfl)
abbrev cX6_numeral : ByteArray := prog_23_method_15_code
def yX6_numeral : MethodName := ⟨RX6, "numeral", "(II)I"⟩
def dkwX6_numeral_2 : List UInt8 := [42, 180, 0, 219, 153, 0, 5, 27, 172, 42, 180, 0, 195, 62, 42, 182, 0, 225, 29, 172]
abbrev dktX6_numeral_2 : List UInt8 := dkwX6_numeral_2 ++ []
def dkwX6_numeral_1 : List UInt8 := [167, 0, 24, 42, 180, 0, 195, 27, 161, 0, 11, 42, 180, 0, 195, 28, 164, 0, 8, 42, 5, 182, 0, 228]
abbrev dktX6_numeral_1 : List UInt8 := dkwX6_numeral_1 ++ dktX6_numeral_2
def dkwX6_numeral_0 : List UInt8 := [42, 180, 0, 219, 153, 0, 5, 27, 172, 42, 180, 0, 185, 5, 159, 0, 11, 42, 4, 182, 0, 228]
abbrev dktX6_numeral_0 : List UInt8 := dkwX6_numeral_0 ++ dktX6_numeral_1
theorem dksX6_numeral_0 : cX6_numeral.data.toList.drop 0 = dktX6_numeral_0 := by decide +kernel
theorem dksX6_numeral_1 : cX6_numeral.data.toList.drop 22 = dktX6_numeral_1 := dk_seg dksX6_numeral_0 22 rfl rfl
theorem dksX6_numeral_2 : cX6_numeral.data.toList.drop 46 = dktX6_numeral_2 := dk_seg dksX6_numeral_1 24 rfl rfl
theorem dX6_numeral_0 : decode cX6_numeral 0 = .ok (.aload_n 0, 1) := dk_42 (dk_at dksX6_numeral_0 0 rfl rfl)
theorem dX6_numeral_1 : decode cX6_numeral 1 = .ok (.getfield 219, 3) := dk_180 0 219 (dk_at dksX6_numeral_0 1 rfl rfl)
theorem dX6_numeral_4 : decode cX6_numeral 4 = .ok (.ifCond .eq 5, 3) := dk_153 0 5 (dk_at dksX6_numeral_0 4 rfl rfl)
theorem dX6_numeral_7 : decode cX6_numeral 7 = .ok (.iload_n 1, 1) := dk_27 (dk_at dksX6_numeral_0 7 rfl rfl)
theorem dX6_numeral_8 : decode cX6_numeral 8 = .ok (.ireturn, 1) := dk_172 (dk_at dksX6_numeral_0 8 rfl rfl)
theorem dX6_numeral_9 : decode cX6_numeral 9 = .ok (.aload_n 0, 1) := dk_42 (dk_at dksX6_numeral_0 9 rfl rfl)
theorem dX6_numeral_10 : decode cX6_numeral 10 = .ok (.getfield 185, 3) := dk_180 0 185 (dk_at dksX6_numeral_0 10 rfl rfl)
theorem dX6_numeral_13 : decode cX6_numeral 13 = .ok (.iconst 2, 1) := dk_5 (dk_at dksX6_numeral_0 13 rfl rfl)
theorem dX6_numeral_14 : decode cX6_numeral 14 = .ok (.if_icmp .eq 11, 3) := dk_159 0 11 (dk_at dksX6_numeral_0 14 rfl rfl)
theorem dX6_numeral_17 : decode cX6_numeral 17 = .ok (.aload_n 0, 1) := dk_42 (dk_at dksX6_numeral_0 17 rfl rfl)
theorem dX6_numeral_18 : decode cX6_numeral 18 = .ok (.iconst 1, 1) := dk_4 (dk_at dksX6_numeral_0 18 rfl rfl)
theorem dX6_numeral_19 : decode cX6_numeral 19 = .ok (.invokevirtual 228, 3) := dk_182 0 228 (dk_at dksX6_numeral_0 19 rfl rfl)
theorem dX6_numeral_22 : decode cX6_numeral 22 = .ok (.goto 24, 3) := dk_167 0 24 (dk_at dksX6_numeral_1 0 rfl rfl)
theorem dX6_numeral_25 : decode cX6_numeral 25 = .ok (.aload_n 0, 1) := dk_42 (dk_at dksX6_numeral_1 3 rfl rfl)
theorem dX6_numeral_26 : decode cX6_numeral 26 = .ok (.getfield 195, 3) := dk_180 0 195 (dk_at dksX6_numeral_1 4 rfl rfl)
theorem dX6_numeral_29 : decode cX6_numeral 29 = .ok (.iload_n 1, 1) := dk_27 (dk_at dksX6_numeral_1 7 rfl rfl)
theorem dX6_numeral_30 : decode cX6_numeral 30 = .ok (.if_icmp .lt 11, 3) := dk_161 0 11 (dk_at dksX6_numeral_1 8 rfl rfl)
theorem dX6_numeral_33 : decode cX6_numeral 33 = .ok (.aload_n 0, 1) := dk_42 (dk_at dksX6_numeral_1 11 rfl rfl)
theorem dX6_numeral_34 : decode cX6_numeral 34 = .ok (.getfield 195, 3) := dk_180 0 195 (dk_at dksX6_numeral_1 12 rfl rfl)
theorem dX6_numeral_37 : decode cX6_numeral 37 = .ok (.iload_n 2, 1) := dk_28 (dk_at dksX6_numeral_1 15 rfl rfl)
theorem dX6_numeral_38 : decode cX6_numeral 38 = .ok (.if_icmp .le 8, 3) := dk_164 0 8 (dk_at dksX6_numeral_1 16 rfl rfl)
theorem dX6_numeral_41 : decode cX6_numeral 41 = .ok (.aload_n 0, 1) := dk_42 (dk_at dksX6_numeral_1 19 rfl rfl)
theorem dX6_numeral_42 : decode cX6_numeral 42 = .ok (.iconst 2, 1) := dk_5 (dk_at dksX6_numeral_1 20 rfl rfl)
theorem dX6_numeral_43 : decode cX6_numeral 43 = .ok (.invokevirtual 228, 3) := dk_182 0 228 (dk_at dksX6_numeral_1 21 rfl rfl)
theorem dX6_numeral_46 : decode cX6_numeral 46 = .ok (.aload_n 0, 1) := dk_42 (dk_at dksX6_numeral_2 0 rfl rfl)
theorem dX6_numeral_47 : decode cX6_numeral 47 = .ok (.getfield 219, 3) := dk_180 0 219 (dk_at dksX6_numeral_2 1 rfl rfl)
theorem dX6_numeral_50 : decode cX6_numeral 50 = .ok (.ifCond .eq 5, 3) := dk_153 0 5 (dk_at dksX6_numeral_2 4 rfl rfl)
theorem dX6_numeral_53 : decode cX6_numeral 53 = .ok (.iload_n 1, 1) := dk_27 (dk_at dksX6_numeral_2 7 rfl rfl)
theorem dX6_numeral_54 : decode cX6_numeral 54 = .ok (.ireturn, 1) := dk_172 (dk_at dksX6_numeral_2 8 rfl rfl)
theorem dX6_numeral_55 : decode cX6_numeral 55 = .ok (.aload_n 0, 1) := dk_42 (dk_at dksX6_numeral_2 9 rfl rfl)
theorem dX6_numeral_56 : decode cX6_numeral 56 = .ok (.getfield 195, 3) := dk_180 0 195 (dk_at dksX6_numeral_2 10 rfl rfl)
theorem dX6_numeral_59 : decode cX6_numeral 59 = .ok (.istore_n 3, 1) := dk_62 (dk_at dksX6_numeral_2 13 rfl rfl)
theorem dX6_numeral_60 : decode cX6_numeral 60 = .ok (.aload_n 0, 1) := dk_42 (dk_at dksX6_numeral_2 14 rfl rfl)
theorem dX6_numeral_61 : decode cX6_numeral 61 = .ok (.invokevirtual 225, 3) := dk_182 0 225 (dk_at dksX6_numeral_2 15 rfl rfl)
theorem dX6_numeral_64 : decode cX6_numeral 64 = .ok (.iload_n 3, 1) := dk_29 (dk_at dksX6_numeral_2 18 rfl rfl)
theorem dX6_numeral_65 : decode cX6_numeral 65 = .ok (.ireturn, 1) := dk_172 (dk_at dksX6_numeral_2 19 rfl rfl)
abbrev cX6_oneMore : ByteArray := prog_23_method_21_code
def yX6_oneMore : MethodName := ⟨RX6, "oneMore", "(I)V"⟩
def dkwX6_oneMore_0 : List UInt8 := [42, 180, 0, 13, 16, 8, 27, 96, 92, 46, 4, 96, 79, 177]
abbrev dktX6_oneMore_0 : List UInt8 := dkwX6_oneMore_0 ++ []
theorem dksX6_oneMore_0 : cX6_oneMore.data.toList.drop 0 = dktX6_oneMore_0 := by decide +kernel
theorem dX6_oneMore_0 : decode cX6_oneMore 0 = .ok (.aload_n 0, 1) := dk_42 (dk_at dksX6_oneMore_0 0 rfl rfl)
theorem dX6_oneMore_1 : decode cX6_oneMore 1 = .ok (.getfield 13, 3) := dk_180 0 13 (dk_at dksX6_oneMore_0 1 rfl rfl)
theorem dX6_oneMore_4 : decode cX6_oneMore 4 = .ok (.bipush 8, 2) := dk_16 8 (dk_at dksX6_oneMore_0 4 rfl rfl)
theorem dX6_oneMore_6 : decode cX6_oneMore 6 = .ok (.iload_n 1, 1) := dk_27 (dk_at dksX6_oneMore_0 6 rfl rfl)
theorem dX6_oneMore_7 : decode cX6_oneMore 7 = .ok (.iadd, 1) := dk_96 (dk_at dksX6_oneMore_0 7 rfl rfl)
theorem dX6_oneMore_8 : decode cX6_oneMore 8 = .ok (.dup2, 1) := dk_92 (dk_at dksX6_oneMore_0 8 rfl rfl)
theorem dX6_oneMore_9 : decode cX6_oneMore 9 = .ok (.iaload, 1) := dk_46 (dk_at dksX6_oneMore_0 9 rfl rfl)
theorem dX6_oneMore_10 : decode cX6_oneMore 10 = .ok (.iconst 1, 1) := dk_4 (dk_at dksX6_oneMore_0 10 rfl rfl)
theorem dX6_oneMore_11 : decode cX6_oneMore 11 = .ok (.iadd, 1) := dk_96 (dk_at dksX6_oneMore_0 11 rfl rfl)
theorem dX6_oneMore_12 : decode cX6_oneMore 12 = .ok (.iastore, 1) := dk_79 (dk_at dksX6_oneMore_0 12 rfl rfl)
theorem dX6_oneMore_13 : decode cX6_oneMore 13 = .ok (.return_, 1) := dk_177 (dk_at dksX6_oneMore_0 13 rfl rfl)
abbrev cX6_asksLine : ByteArray := prog_23_method_26_code
def yX6_asksLine : MethodName := ⟨RX6, "asksLine", "()V"⟩
def dkwX6_asksLine_4 : List UInt8 := [79, 42, 182, 0, 225, 177]
abbrev dktX6_asksLine_4 : List UInt8 := dkwX6_asksLine_4 ++ []
def dkwX6_asksLine_3 : List UInt8 := [160, 0, 8, 42, 8, 182, 0, 228, 42, 180, 0, 219, 153, 0, 4, 177, 42, 180, 0, 22, 7, 27, 96, 28]
abbrev dktX6_asksLine_3 : List UInt8 := dkwX6_asksLine_3 ++ dktX6_asksLine_4
def dkwX6_asksLine_2 : List UInt8 := [180, 0, 16, 7, 42, 3, 182, 0, 242, 182, 0, 235, 61, 42, 180, 0, 219, 154, 0, 13, 27, 28]
abbrev dktX6_asksLine_2 : List UInt8 := dkwX6_asksLine_2 ++ dktX6_asksLine_3
def dkwX6_asksLine_1 : List UInt8 := [180, 0, 22, 7, 27, 96, 46, 2, 159, 0, 8, 42, 6, 182, 0, 228, 42, 182, 0, 239, 42, 42]
abbrev dktX6_asksLine_1 : List UInt8 := dkwX6_asksLine_1 ++ dktX6_asksLine_2
def dkwX6_asksLine_0 : List UInt8 := [42, 42, 180, 0, 16, 7, 42, 3, 182, 0, 242, 182, 0, 235, 60, 42, 180, 0, 219, 154, 0, 20, 42]
abbrev dktX6_asksLine_0 : List UInt8 := dkwX6_asksLine_0 ++ dktX6_asksLine_1
theorem dksX6_asksLine_0 : cX6_asksLine.data.toList.drop 0 = dktX6_asksLine_0 := by decide +kernel
theorem dksX6_asksLine_1 : cX6_asksLine.data.toList.drop 23 = dktX6_asksLine_1 := dk_seg dksX6_asksLine_0 23 rfl rfl
theorem dksX6_asksLine_2 : cX6_asksLine.data.toList.drop 45 = dktX6_asksLine_2 := dk_seg dksX6_asksLine_1 22 rfl rfl
theorem dksX6_asksLine_3 : cX6_asksLine.data.toList.drop 67 = dktX6_asksLine_3 := dk_seg dksX6_asksLine_2 22 rfl rfl
theorem dksX6_asksLine_4 : cX6_asksLine.data.toList.drop 91 = dktX6_asksLine_4 := dk_seg dksX6_asksLine_3 24 rfl rfl
theorem dX6_asksLine_0 : decode cX6_asksLine 0 = .ok (.aload_n 0, 1) := dk_42 (dk_at dksX6_asksLine_0 0 rfl rfl)
theorem dX6_asksLine_1 : decode cX6_asksLine 1 = .ok (.aload_n 0, 1) := dk_42 (dk_at dksX6_asksLine_0 1 rfl rfl)
theorem dX6_asksLine_2 : decode cX6_asksLine 2 = .ok (.getfield 16, 3) := dk_180 0 16 (dk_at dksX6_asksLine_0 2 rfl rfl)
theorem dX6_asksLine_5 : decode cX6_asksLine 5 = .ok (.iconst 4, 1) := dk_7 (dk_at dksX6_asksLine_0 5 rfl rfl)
theorem dX6_asksLine_6 : decode cX6_asksLine 6 = .ok (.aload_n 0, 1) := dk_42 (dk_at dksX6_asksLine_0 6 rfl rfl)
theorem dX6_asksLine_7 : decode cX6_asksLine 7 = .ok (.iconst 0, 1) := dk_3 (dk_at dksX6_asksLine_0 7 rfl rfl)
theorem dX6_asksLine_8 : decode cX6_asksLine 8 = .ok (.invokevirtual 242, 3) := dk_182 0 242 (dk_at dksX6_asksLine_0 8 rfl rfl)
theorem dX6_asksLine_11 : decode cX6_asksLine 11 = .ok (.invokevirtual 235, 3) := dk_182 0 235 (dk_at dksX6_asksLine_0 11 rfl rfl)
theorem dX6_asksLine_14 : decode cX6_asksLine 14 = .ok (.istore_n 1, 1) := dk_60 (dk_at dksX6_asksLine_0 14 rfl rfl)
theorem dX6_asksLine_15 : decode cX6_asksLine 15 = .ok (.aload_n 0, 1) := dk_42 (dk_at dksX6_asksLine_0 15 rfl rfl)
theorem dX6_asksLine_16 : decode cX6_asksLine 16 = .ok (.getfield 219, 3) := dk_180 0 219 (dk_at dksX6_asksLine_0 16 rfl rfl)
theorem dX6_asksLine_19 : decode cX6_asksLine 19 = .ok (.ifCond .ne 20, 3) := dk_154 0 20 (dk_at dksX6_asksLine_0 19 rfl rfl)
theorem dX6_asksLine_22 : decode cX6_asksLine 22 = .ok (.aload_n 0, 1) := dk_42 (dk_at dksX6_asksLine_0 22 rfl rfl)
theorem dX6_asksLine_23 : decode cX6_asksLine 23 = .ok (.getfield 22, 3) := dk_180 0 22 (dk_at dksX6_asksLine_1 0 rfl rfl)
theorem dX6_asksLine_26 : decode cX6_asksLine 26 = .ok (.iconst 4, 1) := dk_7 (dk_at dksX6_asksLine_1 3 rfl rfl)
theorem dX6_asksLine_27 : decode cX6_asksLine 27 = .ok (.iload_n 1, 1) := dk_27 (dk_at dksX6_asksLine_1 4 rfl rfl)
theorem dX6_asksLine_28 : decode cX6_asksLine 28 = .ok (.iadd, 1) := dk_96 (dk_at dksX6_asksLine_1 5 rfl rfl)
theorem dX6_asksLine_29 : decode cX6_asksLine 29 = .ok (.iaload, 1) := dk_46 (dk_at dksX6_asksLine_1 6 rfl rfl)
theorem dX6_asksLine_30 : decode cX6_asksLine 30 = .ok (.iconst (-1), 1) := dk_2 (dk_at dksX6_asksLine_1 7 rfl rfl)
theorem dX6_asksLine_31 : decode cX6_asksLine 31 = .ok (.if_icmp .eq 8, 3) := dk_159 0 8 (dk_at dksX6_asksLine_1 8 rfl rfl)
theorem dX6_asksLine_34 : decode cX6_asksLine 34 = .ok (.aload_n 0, 1) := dk_42 (dk_at dksX6_asksLine_1 11 rfl rfl)
theorem dX6_asksLine_35 : decode cX6_asksLine 35 = .ok (.iconst 3, 1) := dk_6 (dk_at dksX6_asksLine_1 12 rfl rfl)
theorem dX6_asksLine_36 : decode cX6_asksLine 36 = .ok (.invokevirtual 228, 3) := dk_182 0 228 (dk_at dksX6_asksLine_1 13 rfl rfl)
theorem dX6_asksLine_39 : decode cX6_asksLine 39 = .ok (.aload_n 0, 1) := dk_42 (dk_at dksX6_asksLine_1 16 rfl rfl)
theorem dX6_asksLine_40 : decode cX6_asksLine 40 = .ok (.invokevirtual 239, 3) := dk_182 0 239 (dk_at dksX6_asksLine_1 17 rfl rfl)
theorem dX6_asksLine_43 : decode cX6_asksLine 43 = .ok (.aload_n 0, 1) := dk_42 (dk_at dksX6_asksLine_1 20 rfl rfl)
theorem dX6_asksLine_44 : decode cX6_asksLine 44 = .ok (.aload_n 0, 1) := dk_42 (dk_at dksX6_asksLine_1 21 rfl rfl)
theorem dX6_asksLine_45 : decode cX6_asksLine 45 = .ok (.getfield 16, 3) := dk_180 0 16 (dk_at dksX6_asksLine_2 0 rfl rfl)
theorem dX6_asksLine_48 : decode cX6_asksLine 48 = .ok (.iconst 4, 1) := dk_7 (dk_at dksX6_asksLine_2 3 rfl rfl)
theorem dX6_asksLine_49 : decode cX6_asksLine 49 = .ok (.aload_n 0, 1) := dk_42 (dk_at dksX6_asksLine_2 4 rfl rfl)
theorem dX6_asksLine_50 : decode cX6_asksLine 50 = .ok (.iconst 0, 1) := dk_3 (dk_at dksX6_asksLine_2 5 rfl rfl)
theorem dX6_asksLine_51 : decode cX6_asksLine 51 = .ok (.invokevirtual 242, 3) := dk_182 0 242 (dk_at dksX6_asksLine_2 6 rfl rfl)
theorem dX6_asksLine_54 : decode cX6_asksLine 54 = .ok (.invokevirtual 235, 3) := dk_182 0 235 (dk_at dksX6_asksLine_2 9 rfl rfl)
theorem dX6_asksLine_57 : decode cX6_asksLine 57 = .ok (.istore_n 2, 1) := dk_61 (dk_at dksX6_asksLine_2 12 rfl rfl)
theorem dX6_asksLine_58 : decode cX6_asksLine 58 = .ok (.aload_n 0, 1) := dk_42 (dk_at dksX6_asksLine_2 13 rfl rfl)
theorem dX6_asksLine_59 : decode cX6_asksLine 59 = .ok (.getfield 219, 3) := dk_180 0 219 (dk_at dksX6_asksLine_2 14 rfl rfl)
theorem dX6_asksLine_62 : decode cX6_asksLine 62 = .ok (.ifCond .ne 13, 3) := dk_154 0 13 (dk_at dksX6_asksLine_2 17 rfl rfl)
theorem dX6_asksLine_65 : decode cX6_asksLine 65 = .ok (.iload_n 1, 1) := dk_27 (dk_at dksX6_asksLine_2 20 rfl rfl)
theorem dX6_asksLine_66 : decode cX6_asksLine 66 = .ok (.iload_n 2, 1) := dk_28 (dk_at dksX6_asksLine_2 21 rfl rfl)
theorem dX6_asksLine_67 : decode cX6_asksLine 67 = .ok (.if_icmp .ne 8, 3) := dk_160 0 8 (dk_at dksX6_asksLine_3 0 rfl rfl)
theorem dX6_asksLine_70 : decode cX6_asksLine 70 = .ok (.aload_n 0, 1) := dk_42 (dk_at dksX6_asksLine_3 3 rfl rfl)
theorem dX6_asksLine_71 : decode cX6_asksLine 71 = .ok (.iconst 5, 1) := dk_8 (dk_at dksX6_asksLine_3 4 rfl rfl)
theorem dX6_asksLine_72 : decode cX6_asksLine 72 = .ok (.invokevirtual 228, 3) := dk_182 0 228 (dk_at dksX6_asksLine_3 5 rfl rfl)
theorem dX6_asksLine_75 : decode cX6_asksLine 75 = .ok (.aload_n 0, 1) := dk_42 (dk_at dksX6_asksLine_3 8 rfl rfl)
theorem dX6_asksLine_76 : decode cX6_asksLine 76 = .ok (.getfield 219, 3) := dk_180 0 219 (dk_at dksX6_asksLine_3 9 rfl rfl)
theorem dX6_asksLine_79 : decode cX6_asksLine 79 = .ok (.ifCond .eq 4, 3) := dk_153 0 4 (dk_at dksX6_asksLine_3 12 rfl rfl)
theorem dX6_asksLine_82 : decode cX6_asksLine 82 = .ok (.return_, 1) := dk_177 (dk_at dksX6_asksLine_3 15 rfl rfl)
theorem dX6_asksLine_83 : decode cX6_asksLine 83 = .ok (.aload_n 0, 1) := dk_42 (dk_at dksX6_asksLine_3 16 rfl rfl)
theorem dX6_asksLine_84 : decode cX6_asksLine 84 = .ok (.getfield 22, 3) := dk_180 0 22 (dk_at dksX6_asksLine_3 17 rfl rfl)
theorem dX6_asksLine_87 : decode cX6_asksLine 87 = .ok (.iconst 4, 1) := dk_7 (dk_at dksX6_asksLine_3 20 rfl rfl)
theorem dX6_asksLine_88 : decode cX6_asksLine 88 = .ok (.iload_n 1, 1) := dk_27 (dk_at dksX6_asksLine_3 21 rfl rfl)
theorem dX6_asksLine_89 : decode cX6_asksLine 89 = .ok (.iadd, 1) := dk_96 (dk_at dksX6_asksLine_3 22 rfl rfl)
theorem dX6_asksLine_90 : decode cX6_asksLine 90 = .ok (.iload_n 2, 1) := dk_28 (dk_at dksX6_asksLine_3 23 rfl rfl)
theorem dX6_asksLine_91 : decode cX6_asksLine 91 = .ok (.iastore, 1) := dk_79 (dk_at dksX6_asksLine_4 0 rfl rfl)
theorem dX6_asksLine_92 : decode cX6_asksLine 92 = .ok (.aload_n 0, 1) := dk_42 (dk_at dksX6_asksLine_4 1 rfl rfl)
theorem dX6_asksLine_93 : decode cX6_asksLine 93 = .ok (.invokevirtual 225, 3) := dk_182 0 225 (dk_at dksX6_asksLine_4 2 rfl rfl)
theorem dX6_asksLine_96 : decode cX6_asksLine 96 = .ok (.return_, 1) := dk_177 (dk_at dksX6_asksLine_4 5 rfl rfl)
abbrev cX6_atHand : ByteArray := prog_23_method_18_code
def yX6_atHand : MethodName := ⟨RX6, "atHand", "([III)I"⟩
def dkwX6_atHand_2 : List UInt8 := [180, 0, 219, 153, 0, 7, 3, 167, 0, 13, 43, 28, 29, 42, 180, 0, 195, 184, 0, 231, 172]
abbrev dktX6_atHand_2 : List UInt8 := dkwX6_atHand_2 ++ []
def dkwX6_atHand_1 : List UInt8 := [167, 0, 22, 43, 28, 29, 42, 180, 0, 195, 184, 0, 231, 2, 160, 0, 8, 42, 7, 182, 0, 228, 42]
abbrev dktX6_atHand_1 : List UInt8 := dkwX6_atHand_1 ++ dktX6_atHand_2
def dkwX6_atHand_0 : List UInt8 := [42, 180, 0, 219, 153, 0, 5, 3, 172, 42, 180, 0, 185, 4, 159, 0, 11, 42, 4, 182, 0, 228]
abbrev dktX6_atHand_0 : List UInt8 := dkwX6_atHand_0 ++ dktX6_atHand_1
theorem dksX6_atHand_0 : cX6_atHand.data.toList.drop 0 = dktX6_atHand_0 := by decide +kernel
theorem dksX6_atHand_1 : cX6_atHand.data.toList.drop 22 = dktX6_atHand_1 := dk_seg dksX6_atHand_0 22 rfl rfl
theorem dksX6_atHand_2 : cX6_atHand.data.toList.drop 45 = dktX6_atHand_2 := dk_seg dksX6_atHand_1 23 rfl rfl
theorem dX6_atHand_0 : decode cX6_atHand 0 = .ok (.aload_n 0, 1) := dk_42 (dk_at dksX6_atHand_0 0 rfl rfl)
theorem dX6_atHand_1 : decode cX6_atHand 1 = .ok (.getfield 219, 3) := dk_180 0 219 (dk_at dksX6_atHand_0 1 rfl rfl)
theorem dX6_atHand_4 : decode cX6_atHand 4 = .ok (.ifCond .eq 5, 3) := dk_153 0 5 (dk_at dksX6_atHand_0 4 rfl rfl)
theorem dX6_atHand_7 : decode cX6_atHand 7 = .ok (.iconst 0, 1) := dk_3 (dk_at dksX6_atHand_0 7 rfl rfl)
theorem dX6_atHand_8 : decode cX6_atHand 8 = .ok (.ireturn, 1) := dk_172 (dk_at dksX6_atHand_0 8 rfl rfl)
theorem dX6_atHand_9 : decode cX6_atHand 9 = .ok (.aload_n 0, 1) := dk_42 (dk_at dksX6_atHand_0 9 rfl rfl)
theorem dX6_atHand_10 : decode cX6_atHand 10 = .ok (.getfield 185, 3) := dk_180 0 185 (dk_at dksX6_atHand_0 10 rfl rfl)
theorem dX6_atHand_13 : decode cX6_atHand 13 = .ok (.iconst 1, 1) := dk_4 (dk_at dksX6_atHand_0 13 rfl rfl)
theorem dX6_atHand_14 : decode cX6_atHand 14 = .ok (.if_icmp .eq 11, 3) := dk_159 0 11 (dk_at dksX6_atHand_0 14 rfl rfl)
theorem dX6_atHand_17 : decode cX6_atHand 17 = .ok (.aload_n 0, 1) := dk_42 (dk_at dksX6_atHand_0 17 rfl rfl)
theorem dX6_atHand_18 : decode cX6_atHand 18 = .ok (.iconst 1, 1) := dk_4 (dk_at dksX6_atHand_0 18 rfl rfl)
theorem dX6_atHand_19 : decode cX6_atHand 19 = .ok (.invokevirtual 228, 3) := dk_182 0 228 (dk_at dksX6_atHand_0 19 rfl rfl)
theorem dX6_atHand_22 : decode cX6_atHand 22 = .ok (.goto 22, 3) := dk_167 0 22 (dk_at dksX6_atHand_1 0 rfl rfl)
theorem dX6_atHand_25 : decode cX6_atHand 25 = .ok (.aload_n 1, 1) := dk_43 (dk_at dksX6_atHand_1 3 rfl rfl)
theorem dX6_atHand_26 : decode cX6_atHand 26 = .ok (.iload_n 2, 1) := dk_28 (dk_at dksX6_atHand_1 4 rfl rfl)
theorem dX6_atHand_27 : decode cX6_atHand 27 = .ok (.iload_n 3, 1) := dk_29 (dk_at dksX6_atHand_1 5 rfl rfl)
theorem dX6_atHand_28 : decode cX6_atHand 28 = .ok (.aload_n 0, 1) := dk_42 (dk_at dksX6_atHand_1 6 rfl rfl)
theorem dX6_atHand_29 : decode cX6_atHand 29 = .ok (.getfield 195, 3) := dk_180 0 195 (dk_at dksX6_atHand_1 7 rfl rfl)
theorem dX6_atHand_32 : decode cX6_atHand 32 = .ok (.invokestatic 231, 3) := dk_184 0 231 (dk_at dksX6_atHand_1 10 rfl rfl)
theorem dX6_atHand_35 : decode cX6_atHand 35 = .ok (.iconst (-1), 1) := dk_2 (dk_at dksX6_atHand_1 13 rfl rfl)
theorem dX6_atHand_36 : decode cX6_atHand 36 = .ok (.if_icmp .ne 8, 3) := dk_160 0 8 (dk_at dksX6_atHand_1 14 rfl rfl)
theorem dX6_atHand_39 : decode cX6_atHand 39 = .ok (.aload_n 0, 1) := dk_42 (dk_at dksX6_atHand_1 17 rfl rfl)
theorem dX6_atHand_40 : decode cX6_atHand 40 = .ok (.iconst 4, 1) := dk_7 (dk_at dksX6_atHand_1 18 rfl rfl)
theorem dX6_atHand_41 : decode cX6_atHand 41 = .ok (.invokevirtual 228, 3) := dk_182 0 228 (dk_at dksX6_atHand_1 19 rfl rfl)
theorem dX6_atHand_44 : decode cX6_atHand 44 = .ok (.aload_n 0, 1) := dk_42 (dk_at dksX6_atHand_1 22 rfl rfl)
theorem dX6_atHand_45 : decode cX6_atHand 45 = .ok (.getfield 219, 3) := dk_180 0 219 (dk_at dksX6_atHand_2 0 rfl rfl)
theorem dX6_atHand_48 : decode cX6_atHand 48 = .ok (.ifCond .eq 7, 3) := dk_153 0 7 (dk_at dksX6_atHand_2 3 rfl rfl)
theorem dX6_atHand_51 : decode cX6_atHand 51 = .ok (.iconst 0, 1) := dk_3 (dk_at dksX6_atHand_2 6 rfl rfl)
theorem dX6_atHand_52 : decode cX6_atHand 52 = .ok (.goto 13, 3) := dk_167 0 13 (dk_at dksX6_atHand_2 7 rfl rfl)
theorem dX6_atHand_55 : decode cX6_atHand 55 = .ok (.aload_n 1, 1) := dk_43 (dk_at dksX6_atHand_2 10 rfl rfl)
theorem dX6_atHand_56 : decode cX6_atHand 56 = .ok (.iload_n 2, 1) := dk_28 (dk_at dksX6_atHand_2 11 rfl rfl)
theorem dX6_atHand_57 : decode cX6_atHand 57 = .ok (.iload_n 3, 1) := dk_29 (dk_at dksX6_atHand_2 12 rfl rfl)
theorem dX6_atHand_58 : decode cX6_atHand 58 = .ok (.aload_n 0, 1) := dk_42 (dk_at dksX6_atHand_2 13 rfl rfl)
theorem dX6_atHand_59 : decode cX6_atHand 59 = .ok (.getfield 195, 3) := dk_180 0 195 (dk_at dksX6_atHand_2 14 rfl rfl)
theorem dX6_atHand_62 : decode cX6_atHand 62 = .ok (.invokestatic 231, 3) := dk_184 0 231 (dk_at dksX6_atHand_2 17 rfl rfl)
theorem dX6_atHand_65 : decode cX6_atHand 65 = .ok (.ireturn, 1) := dk_172 (dk_at dksX6_atHand_2 20 rfl rfl)
abbrev cX6_goOn : ByteArray := prog_23_method_14_code
def yX6_goOn : MethodName := ⟨RX6, "goOn", "()V"⟩
def dkwX6_goOn_0 : List UInt8 := [42, 180, 0, 219, 154, 0, 7, 42, 182, 0, 225, 177]
abbrev dktX6_goOn_0 : List UInt8 := dkwX6_goOn_0 ++ []
theorem dksX6_goOn_0 : cX6_goOn.data.toList.drop 0 = dktX6_goOn_0 := by decide +kernel
theorem dX6_goOn_0 : decode cX6_goOn 0 = .ok (.aload_n 0, 1) := dk_42 (dk_at dksX6_goOn_0 0 rfl rfl)
theorem dX6_goOn_1 : decode cX6_goOn 1 = .ok (.getfield 219, 3) := dk_180 0 219 (dk_at dksX6_goOn_0 1 rfl rfl)
theorem dX6_goOn_4 : decode cX6_goOn 4 = .ok (.ifCond .ne 7, 3) := dk_154 0 7 (dk_at dksX6_goOn_0 4 rfl rfl)
theorem dX6_goOn_7 : decode cX6_goOn 7 = .ok (.aload_n 0, 1) := dk_42 (dk_at dksX6_goOn_0 7 rfl rfl)
theorem dX6_goOn_8 : decode cX6_goOn 8 = .ok (.invokevirtual 225, 3) := dk_182 0 225 (dk_at dksX6_goOn_0 8 rfl rfl)
theorem dX6_goOn_11 : decode cX6_goOn 11 = .ok (.return_, 1) := dk_177 (dk_at dksX6_goOn_0 11 rfl rfl)
abbrev cX6_comesLine : ByteArray := prog_23_method_27_code
def yX6_comesLine : MethodName := ⟨RX6, "comesLine", "(I)V"⟩
def dkwX6_comesLine_2 : List UInt8 := [182, 0, 255, 79, 42, 5, 182, 1, 3, 177]
abbrev dktX6_comesLine_2 : List UInt8 := dkwX6_comesLine_2 ++ []
def dkwX6_comesLine_1 : List UInt8 := [180, 0, 37, 27, 42, 182, 1, 33, 79, 42, 180, 0, 40, 27, 42, 42, 180, 0, 31, 27, 46, 16, 99]
abbrev dktX6_comesLine_1 : List UInt8 := dkwX6_comesLine_1 ++ dktX6_comesLine_2
def dkwX6_comesLine_0 : List UInt8 := [42, 180, 0, 31, 27, 42, 3, 16, 60, 182, 0, 255, 79, 42, 180, 0, 34, 27, 42, 182, 1, 15, 79, 42]
abbrev dktX6_comesLine_0 : List UInt8 := dkwX6_comesLine_0 ++ dktX6_comesLine_1
theorem dksX6_comesLine_0 : cX6_comesLine.data.toList.drop 0 = dktX6_comesLine_0 := by decide +kernel
theorem dksX6_comesLine_1 : cX6_comesLine.data.toList.drop 24 = dktX6_comesLine_1 := dk_seg dksX6_comesLine_0 24 rfl rfl
theorem dksX6_comesLine_2 : cX6_comesLine.data.toList.drop 47 = dktX6_comesLine_2 := dk_seg dksX6_comesLine_1 23 rfl rfl
theorem dX6_comesLine_0 : decode cX6_comesLine 0 = .ok (.aload_n 0, 1) := dk_42 (dk_at dksX6_comesLine_0 0 rfl rfl)
theorem dX6_comesLine_1 : decode cX6_comesLine 1 = .ok (.getfield 31, 3) := dk_180 0 31 (dk_at dksX6_comesLine_0 1 rfl rfl)
theorem dX6_comesLine_4 : decode cX6_comesLine 4 = .ok (.iload_n 1, 1) := dk_27 (dk_at dksX6_comesLine_0 4 rfl rfl)
theorem dX6_comesLine_5 : decode cX6_comesLine 5 = .ok (.aload_n 0, 1) := dk_42 (dk_at dksX6_comesLine_0 5 rfl rfl)
theorem dX6_comesLine_6 : decode cX6_comesLine 6 = .ok (.iconst 0, 1) := dk_3 (dk_at dksX6_comesLine_0 6 rfl rfl)
theorem dX6_comesLine_7 : decode cX6_comesLine 7 = .ok (.bipush 60, 2) := dk_16 60 (dk_at dksX6_comesLine_0 7 rfl rfl)
theorem dX6_comesLine_9 : decode cX6_comesLine 9 = .ok (.invokevirtual 255, 3) := dk_182 0 255 (dk_at dksX6_comesLine_0 9 rfl rfl)
theorem dX6_comesLine_12 : decode cX6_comesLine 12 = .ok (.iastore, 1) := dk_79 (dk_at dksX6_comesLine_0 12 rfl rfl)
theorem dX6_comesLine_13 : decode cX6_comesLine 13 = .ok (.aload_n 0, 1) := dk_42 (dk_at dksX6_comesLine_0 13 rfl rfl)
theorem dX6_comesLine_14 : decode cX6_comesLine 14 = .ok (.getfield 34, 3) := dk_180 0 34 (dk_at dksX6_comesLine_0 14 rfl rfl)
theorem dX6_comesLine_17 : decode cX6_comesLine 17 = .ok (.iload_n 1, 1) := dk_27 (dk_at dksX6_comesLine_0 17 rfl rfl)
theorem dX6_comesLine_18 : decode cX6_comesLine 18 = .ok (.aload_n 0, 1) := dk_42 (dk_at dksX6_comesLine_0 18 rfl rfl)
theorem dX6_comesLine_19 : decode cX6_comesLine 19 = .ok (.invokevirtual 271, 3) := dk_182 1 15 (dk_at dksX6_comesLine_0 19 rfl rfl)
theorem dX6_comesLine_22 : decode cX6_comesLine 22 = .ok (.iastore, 1) := dk_79 (dk_at dksX6_comesLine_0 22 rfl rfl)
theorem dX6_comesLine_23 : decode cX6_comesLine 23 = .ok (.aload_n 0, 1) := dk_42 (dk_at dksX6_comesLine_0 23 rfl rfl)
theorem dX6_comesLine_24 : decode cX6_comesLine 24 = .ok (.getfield 37, 3) := dk_180 0 37 (dk_at dksX6_comesLine_1 0 rfl rfl)
theorem dX6_comesLine_27 : decode cX6_comesLine 27 = .ok (.iload_n 1, 1) := dk_27 (dk_at dksX6_comesLine_1 3 rfl rfl)
theorem dX6_comesLine_28 : decode cX6_comesLine 28 = .ok (.aload_n 0, 1) := dk_42 (dk_at dksX6_comesLine_1 4 rfl rfl)
theorem dX6_comesLine_29 : decode cX6_comesLine 29 = .ok (.invokevirtual 289, 3) := dk_182 1 33 (dk_at dksX6_comesLine_1 5 rfl rfl)
theorem dX6_comesLine_32 : decode cX6_comesLine 32 = .ok (.iastore, 1) := dk_79 (dk_at dksX6_comesLine_1 8 rfl rfl)
theorem dX6_comesLine_33 : decode cX6_comesLine 33 = .ok (.aload_n 0, 1) := dk_42 (dk_at dksX6_comesLine_1 9 rfl rfl)
theorem dX6_comesLine_34 : decode cX6_comesLine 34 = .ok (.getfield 40, 3) := dk_180 0 40 (dk_at dksX6_comesLine_1 10 rfl rfl)
theorem dX6_comesLine_37 : decode cX6_comesLine 37 = .ok (.iload_n 1, 1) := dk_27 (dk_at dksX6_comesLine_1 13 rfl rfl)
theorem dX6_comesLine_38 : decode cX6_comesLine 38 = .ok (.aload_n 0, 1) := dk_42 (dk_at dksX6_comesLine_1 14 rfl rfl)
theorem dX6_comesLine_39 : decode cX6_comesLine 39 = .ok (.aload_n 0, 1) := dk_42 (dk_at dksX6_comesLine_1 15 rfl rfl)
theorem dX6_comesLine_40 : decode cX6_comesLine 40 = .ok (.getfield 31, 3) := dk_180 0 31 (dk_at dksX6_comesLine_1 16 rfl rfl)
theorem dX6_comesLine_43 : decode cX6_comesLine 43 = .ok (.iload_n 1, 1) := dk_27 (dk_at dksX6_comesLine_1 19 rfl rfl)
theorem dX6_comesLine_44 : decode cX6_comesLine 44 = .ok (.iaload, 1) := dk_46 (dk_at dksX6_comesLine_1 20 rfl rfl)
theorem dX6_comesLine_45 : decode cX6_comesLine 45 = .ok (.bipush 99, 2) := dk_16 99 (dk_at dksX6_comesLine_1 21 rfl rfl)
theorem dX6_comesLine_47 : decode cX6_comesLine 47 = .ok (.invokevirtual 255, 3) := dk_182 0 255 (dk_at dksX6_comesLine_2 0 rfl rfl)
theorem dX6_comesLine_50 : decode cX6_comesLine 50 = .ok (.iastore, 1) := dk_79 (dk_at dksX6_comesLine_2 3 rfl rfl)
theorem dX6_comesLine_51 : decode cX6_comesLine 51 = .ok (.aload_n 0, 1) := dk_42 (dk_at dksX6_comesLine_2 4 rfl rfl)
theorem dX6_comesLine_52 : decode cX6_comesLine 52 = .ok (.iconst 2, 1) := dk_5 (dk_at dksX6_comesLine_2 5 rfl rfl)
theorem dX6_comesLine_53 : decode cX6_comesLine 53 = .ok (.invokevirtual 259, 3) := dk_182 1 3 (dk_at dksX6_comesLine_2 6 rfl rfl)
theorem dX6_comesLine_56 : decode cX6_comesLine 56 = .ok (.return_, 1) := dk_177 (dk_at dksX6_comesLine_2 9 rfl rfl)
abbrev cX6_desk : ByteArray := prog_23_method_24_code
def yX6_desk : MethodName := ⟨RX6, "desk", "()I"⟩
def dkwX6_desk_0 : List UInt8 := [42, 42, 180, 0, 16, 7, 42, 3, 182, 0, 242, 182, 1, 30, 172]
abbrev dktX6_desk_0 : List UInt8 := dkwX6_desk_0 ++ []
theorem dksX6_desk_0 : cX6_desk.data.toList.drop 0 = dktX6_desk_0 := by decide +kernel
theorem dX6_desk_0 : decode cX6_desk 0 = .ok (.aload_n 0, 1) := dk_42 (dk_at dksX6_desk_0 0 rfl rfl)
theorem dX6_desk_1 : decode cX6_desk 1 = .ok (.aload_n 0, 1) := dk_42 (dk_at dksX6_desk_0 1 rfl rfl)
theorem dX6_desk_2 : decode cX6_desk 2 = .ok (.getfield 16, 3) := dk_180 0 16 (dk_at dksX6_desk_0 2 rfl rfl)
theorem dX6_desk_5 : decode cX6_desk 5 = .ok (.iconst 4, 1) := dk_7 (dk_at dksX6_desk_0 5 rfl rfl)
theorem dX6_desk_6 : decode cX6_desk 6 = .ok (.aload_n 0, 1) := dk_42 (dk_at dksX6_desk_0 6 rfl rfl)
theorem dX6_desk_7 : decode cX6_desk 7 = .ok (.iconst 0, 1) := dk_3 (dk_at dksX6_desk_0 7 rfl rfl)
theorem dX6_desk_8 : decode cX6_desk 8 = .ok (.invokevirtual 242, 3) := dk_182 0 242 (dk_at dksX6_desk_0 8 rfl rfl)
theorem dX6_desk_11 : decode cX6_desk 11 = .ok (.invokevirtual 286, 3) := dk_182 1 30 (dk_at dksX6_desk_0 11 rfl rfl)
theorem dX6_desk_14 : decode cX6_desk 14 = .ok (.ireturn, 1) := dk_172 (dk_at dksX6_desk_0 14 rfl rfl)
abbrev cX6_ahead : ByteArray := prog_23_method_19_code
def yX6_ahead : MethodName := ⟨RX6, "ahead", "([III)I"⟩
def dkwX6_ahead_0 : List UInt8 := [42, 43, 28, 29, 182, 0, 235, 54, 4, 42, 182, 0, 239, 21, 4, 172]
abbrev dktX6_ahead_0 : List UInt8 := dkwX6_ahead_0 ++ []
theorem dksX6_ahead_0 : cX6_ahead.data.toList.drop 0 = dktX6_ahead_0 := by decide +kernel
theorem dX6_ahead_0 : decode cX6_ahead 0 = .ok (.aload_n 0, 1) := dk_42 (dk_at dksX6_ahead_0 0 rfl rfl)
theorem dX6_ahead_1 : decode cX6_ahead 1 = .ok (.aload_n 1, 1) := dk_43 (dk_at dksX6_ahead_0 1 rfl rfl)
theorem dX6_ahead_2 : decode cX6_ahead 2 = .ok (.iload_n 2, 1) := dk_28 (dk_at dksX6_ahead_0 2 rfl rfl)
theorem dX6_ahead_3 : decode cX6_ahead 3 = .ok (.iload_n 3, 1) := dk_29 (dk_at dksX6_ahead_0 3 rfl rfl)
theorem dX6_ahead_4 : decode cX6_ahead 4 = .ok (.invokevirtual 235, 3) := dk_182 0 235 (dk_at dksX6_ahead_0 4 rfl rfl)
theorem dX6_ahead_7 : decode cX6_ahead 7 = .ok (.istore 4, 2) := dk_54 4 (dk_at dksX6_ahead_0 7 rfl rfl)
theorem dX6_ahead_9 : decode cX6_ahead 9 = .ok (.aload_n 0, 1) := dk_42 (dk_at dksX6_ahead_0 9 rfl rfl)
theorem dX6_ahead_10 : decode cX6_ahead 10 = .ok (.invokevirtual 239, 3) := dk_182 0 239 (dk_at dksX6_ahead_0 10 rfl rfl)
theorem dX6_ahead_13 : decode cX6_ahead 13 = .ok (.iload 4, 2) := dk_21 4 (dk_at dksX6_ahead_0 13 rfl rfl)
theorem dX6_ahead_15 : decode cX6_ahead 15 = .ok (.ireturn, 1) := dk_172 (dk_at dksX6_ahead_0 15 rfl rfl)
abbrev cX6_fact : ByteArray := prog_23_method_25_code
def yX6_fact : MethodName := ⟨RX6, "fact", "()I"⟩
def dkwX6_fact_0 : List UInt8 := [42, 42, 180, 0, 25, 16, 7, 42, 4, 182, 0, 242, 182, 1, 30, 172]
abbrev dktX6_fact_0 : List UInt8 := dkwX6_fact_0 ++ []
theorem dksX6_fact_0 : cX6_fact.data.toList.drop 0 = dktX6_fact_0 := by decide +kernel
theorem dX6_fact_0 : decode cX6_fact 0 = .ok (.aload_n 0, 1) := dk_42 (dk_at dksX6_fact_0 0 rfl rfl)
theorem dX6_fact_1 : decode cX6_fact 1 = .ok (.aload_n 0, 1) := dk_42 (dk_at dksX6_fact_0 1 rfl rfl)
theorem dX6_fact_2 : decode cX6_fact 2 = .ok (.getfield 25, 3) := dk_180 0 25 (dk_at dksX6_fact_0 2 rfl rfl)
theorem dX6_fact_5 : decode cX6_fact 5 = .ok (.bipush 7, 2) := dk_16 7 (dk_at dksX6_fact_0 5 rfl rfl)
theorem dX6_fact_7 : decode cX6_fact 7 = .ok (.aload_n 0, 1) := dk_42 (dk_at dksX6_fact_0 7 rfl rfl)
theorem dX6_fact_8 : decode cX6_fact 8 = .ok (.iconst 1, 1) := dk_4 (dk_at dksX6_fact_0 8 rfl rfl)
theorem dX6_fact_9 : decode cX6_fact 9 = .ok (.invokevirtual 242, 3) := dk_182 0 242 (dk_at dksX6_fact_0 9 rfl rfl)
theorem dX6_fact_12 : decode cX6_fact 12 = .ok (.invokevirtual 286, 3) := dk_182 1 30 (dk_at dksX6_fact_0 12 rfl rfl)
theorem dX6_fact_15 : decode cX6_fact 15 = .ok (.ireturn, 1) := dk_172 (dk_at dksX6_fact_0 15 rfl rfl)
abbrev cX6_questionLine : ByteArray := prog_23_method_28_code
def yX6_questionLine : MethodName := ⟨RX6, "questionLine", "(I)V"⟩
def dkwX6_questionLine_2 : List UInt8 := [182, 1, 3, 177]
abbrev dktX6_questionLine_2 : List UInt8 := dkwX6_questionLine_2 ++ []
def dkwX6_questionLine_1 : List UInt8 := [180, 0, 49, 27, 42, 182, 1, 33, 79, 42, 180, 0, 52, 27, 42, 3, 16, 100, 182, 0, 255, 79, 42, 6]
abbrev dktX6_questionLine_1 : List UInt8 := dkwX6_questionLine_1 ++ dktX6_questionLine_2
def dkwX6_questionLine_0 : List UInt8 := [42, 180, 0, 43, 27, 42, 3, 16, 60, 182, 0, 255, 79, 42, 180, 0, 46, 27, 42, 182, 1, 15, 79, 42]
abbrev dktX6_questionLine_0 : List UInt8 := dkwX6_questionLine_0 ++ dktX6_questionLine_1
theorem dksX6_questionLine_0 : cX6_questionLine.data.toList.drop 0 = dktX6_questionLine_0 := by decide +kernel
theorem dksX6_questionLine_1 : cX6_questionLine.data.toList.drop 24 = dktX6_questionLine_1 := dk_seg dksX6_questionLine_0 24 rfl rfl
theorem dksX6_questionLine_2 : cX6_questionLine.data.toList.drop 48 = dktX6_questionLine_2 := dk_seg dksX6_questionLine_1 24 rfl rfl
theorem dX6_questionLine_0 : decode cX6_questionLine 0 = .ok (.aload_n 0, 1) := dk_42 (dk_at dksX6_questionLine_0 0 rfl rfl)
theorem dX6_questionLine_1 : decode cX6_questionLine 1 = .ok (.getfield 43, 3) := dk_180 0 43 (dk_at dksX6_questionLine_0 1 rfl rfl)
theorem dX6_questionLine_4 : decode cX6_questionLine 4 = .ok (.iload_n 1, 1) := dk_27 (dk_at dksX6_questionLine_0 4 rfl rfl)
theorem dX6_questionLine_5 : decode cX6_questionLine 5 = .ok (.aload_n 0, 1) := dk_42 (dk_at dksX6_questionLine_0 5 rfl rfl)
theorem dX6_questionLine_6 : decode cX6_questionLine 6 = .ok (.iconst 0, 1) := dk_3 (dk_at dksX6_questionLine_0 6 rfl rfl)
theorem dX6_questionLine_7 : decode cX6_questionLine 7 = .ok (.bipush 60, 2) := dk_16 60 (dk_at dksX6_questionLine_0 7 rfl rfl)
theorem dX6_questionLine_9 : decode cX6_questionLine 9 = .ok (.invokevirtual 255, 3) := dk_182 0 255 (dk_at dksX6_questionLine_0 9 rfl rfl)
theorem dX6_questionLine_12 : decode cX6_questionLine 12 = .ok (.iastore, 1) := dk_79 (dk_at dksX6_questionLine_0 12 rfl rfl)
theorem dX6_questionLine_13 : decode cX6_questionLine 13 = .ok (.aload_n 0, 1) := dk_42 (dk_at dksX6_questionLine_0 13 rfl rfl)
theorem dX6_questionLine_14 : decode cX6_questionLine 14 = .ok (.getfield 46, 3) := dk_180 0 46 (dk_at dksX6_questionLine_0 14 rfl rfl)
theorem dX6_questionLine_17 : decode cX6_questionLine 17 = .ok (.iload_n 1, 1) := dk_27 (dk_at dksX6_questionLine_0 17 rfl rfl)
theorem dX6_questionLine_18 : decode cX6_questionLine 18 = .ok (.aload_n 0, 1) := dk_42 (dk_at dksX6_questionLine_0 18 rfl rfl)
theorem dX6_questionLine_19 : decode cX6_questionLine 19 = .ok (.invokevirtual 271, 3) := dk_182 1 15 (dk_at dksX6_questionLine_0 19 rfl rfl)
theorem dX6_questionLine_22 : decode cX6_questionLine 22 = .ok (.iastore, 1) := dk_79 (dk_at dksX6_questionLine_0 22 rfl rfl)
theorem dX6_questionLine_23 : decode cX6_questionLine 23 = .ok (.aload_n 0, 1) := dk_42 (dk_at dksX6_questionLine_0 23 rfl rfl)
theorem dX6_questionLine_24 : decode cX6_questionLine 24 = .ok (.getfield 49, 3) := dk_180 0 49 (dk_at dksX6_questionLine_1 0 rfl rfl)
theorem dX6_questionLine_27 : decode cX6_questionLine 27 = .ok (.iload_n 1, 1) := dk_27 (dk_at dksX6_questionLine_1 3 rfl rfl)
theorem dX6_questionLine_28 : decode cX6_questionLine 28 = .ok (.aload_n 0, 1) := dk_42 (dk_at dksX6_questionLine_1 4 rfl rfl)
theorem dX6_questionLine_29 : decode cX6_questionLine 29 = .ok (.invokevirtual 289, 3) := dk_182 1 33 (dk_at dksX6_questionLine_1 5 rfl rfl)
theorem dX6_questionLine_32 : decode cX6_questionLine 32 = .ok (.iastore, 1) := dk_79 (dk_at dksX6_questionLine_1 8 rfl rfl)
theorem dX6_questionLine_33 : decode cX6_questionLine 33 = .ok (.aload_n 0, 1) := dk_42 (dk_at dksX6_questionLine_1 9 rfl rfl)
theorem dX6_questionLine_34 : decode cX6_questionLine 34 = .ok (.getfield 52, 3) := dk_180 0 52 (dk_at dksX6_questionLine_1 10 rfl rfl)
theorem dX6_questionLine_37 : decode cX6_questionLine 37 = .ok (.iload_n 1, 1) := dk_27 (dk_at dksX6_questionLine_1 13 rfl rfl)
theorem dX6_questionLine_38 : decode cX6_questionLine 38 = .ok (.aload_n 0, 1) := dk_42 (dk_at dksX6_questionLine_1 14 rfl rfl)
theorem dX6_questionLine_39 : decode cX6_questionLine 39 = .ok (.iconst 0, 1) := dk_3 (dk_at dksX6_questionLine_1 15 rfl rfl)
theorem dX6_questionLine_40 : decode cX6_questionLine 40 = .ok (.bipush 100, 2) := dk_16 100 (dk_at dksX6_questionLine_1 16 rfl rfl)
theorem dX6_questionLine_42 : decode cX6_questionLine 42 = .ok (.invokevirtual 255, 3) := dk_182 0 255 (dk_at dksX6_questionLine_1 18 rfl rfl)
theorem dX6_questionLine_45 : decode cX6_questionLine 45 = .ok (.iastore, 1) := dk_79 (dk_at dksX6_questionLine_1 21 rfl rfl)
theorem dX6_questionLine_46 : decode cX6_questionLine 46 = .ok (.aload_n 0, 1) := dk_42 (dk_at dksX6_questionLine_1 22 rfl rfl)
theorem dX6_questionLine_47 : decode cX6_questionLine 47 = .ok (.iconst 3, 1) := dk_6 (dk_at dksX6_questionLine_1 23 rfl rfl)
theorem dX6_questionLine_48 : decode cX6_questionLine 48 = .ok (.invokevirtual 259, 3) := dk_182 1 3 (dk_at dksX6_questionLine_2 0 rfl rfl)
theorem dX6_questionLine_51 : decode cX6_questionLine 51 = .ok (.return_, 1) := dk_177 (dk_at dksX6_questionLine_2 3 rfl rfl)
abbrev cX6_lawLine : ByteArray := prog_23_method_29_code
def yX6_lawLine : MethodName := ⟨RX6, "lawLine", "()V"⟩
def dkwX6_lawLine_5 : List UInt8 := [16, 7, 182, 0, 242, 79, 177]
abbrev dktX6_lawLine_5 : List UInt8 := dkwX6_lawLine_5 ++ []
def dkwX6_lawLine_4 : List UInt8 := [16, 6, 27, 96, 42, 16, 7, 182, 0, 242, 79, 42, 182, 1, 21, 42, 180, 0, 67, 16, 6, 27, 96, 42]
abbrev dktX6_lawLine_4 : List UInt8 := dkwX6_lawLine_4 ++ dktX6_lawLine_5
def dkwX6_lawLine_3 : List UInt8 := [153, 0, 4, 177, 42, 89, 180, 0, 249, 5, 27, 120, 128, 181, 0, 249, 42, 182, 0, 225, 42, 180, 0, 64]
abbrev dktX6_lawLine_3 : List UInt8 := dkwX6_lawLine_3 ++ dktX6_lawLine_4
def dkwX6_lawLine_2 : List UInt8 := [180, 0, 249, 4, 27, 96, 122, 4, 126, 4, 160, 0, 8, 42, 6, 182, 0, 228, 42, 180, 0, 219]
abbrev dktX6_lawLine_2 : List UInt8 := dkwX6_lawLine_2 ++ dktX6_lawLine_3
def dkwX6_lawLine_1 : List UInt8 := [159, 0, 8, 42, 4, 182, 0, 228, 42, 180, 0, 195, 16, 9, 100, 60, 42, 180, 0, 219, 154, 0, 22, 42]
abbrev dktX6_lawLine_1 : List UInt8 := dkwX6_lawLine_1 ++ dktX6_lawLine_2
def dkwX6_lawLine_0 : List UInt8 := [42, 180, 0, 185, 154, 0, 21, 42, 180, 0, 195, 16, 9, 159, 0, 17, 42, 180, 0, 195, 16, 10]
abbrev dktX6_lawLine_0 : List UInt8 := dkwX6_lawLine_0 ++ dktX6_lawLine_1
theorem dksX6_lawLine_0 : cX6_lawLine.data.toList.drop 0 = dktX6_lawLine_0 := by decide +kernel
theorem dksX6_lawLine_1 : cX6_lawLine.data.toList.drop 22 = dktX6_lawLine_1 := dk_seg dksX6_lawLine_0 22 rfl rfl
theorem dksX6_lawLine_2 : cX6_lawLine.data.toList.drop 46 = dktX6_lawLine_2 := dk_seg dksX6_lawLine_1 24 rfl rfl
theorem dksX6_lawLine_3 : cX6_lawLine.data.toList.drop 68 = dktX6_lawLine_3 := dk_seg dksX6_lawLine_2 22 rfl rfl
theorem dksX6_lawLine_4 : cX6_lawLine.data.toList.drop 92 = dktX6_lawLine_4 := dk_seg dksX6_lawLine_3 24 rfl rfl
theorem dksX6_lawLine_5 : cX6_lawLine.data.toList.drop 116 = dktX6_lawLine_5 := dk_seg dksX6_lawLine_4 24 rfl rfl
theorem dX6_lawLine_0 : decode cX6_lawLine 0 = .ok (.aload_n 0, 1) := dk_42 (dk_at dksX6_lawLine_0 0 rfl rfl)
theorem dX6_lawLine_1 : decode cX6_lawLine 1 = .ok (.getfield 185, 3) := dk_180 0 185 (dk_at dksX6_lawLine_0 1 rfl rfl)
theorem dX6_lawLine_4 : decode cX6_lawLine 4 = .ok (.ifCond .ne 21, 3) := dk_154 0 21 (dk_at dksX6_lawLine_0 4 rfl rfl)
theorem dX6_lawLine_7 : decode cX6_lawLine 7 = .ok (.aload_n 0, 1) := dk_42 (dk_at dksX6_lawLine_0 7 rfl rfl)
theorem dX6_lawLine_8 : decode cX6_lawLine 8 = .ok (.getfield 195, 3) := dk_180 0 195 (dk_at dksX6_lawLine_0 8 rfl rfl)
theorem dX6_lawLine_11 : decode cX6_lawLine 11 = .ok (.bipush 9, 2) := dk_16 9 (dk_at dksX6_lawLine_0 11 rfl rfl)
theorem dX6_lawLine_13 : decode cX6_lawLine 13 = .ok (.if_icmp .eq 17, 3) := dk_159 0 17 (dk_at dksX6_lawLine_0 13 rfl rfl)
theorem dX6_lawLine_16 : decode cX6_lawLine 16 = .ok (.aload_n 0, 1) := dk_42 (dk_at dksX6_lawLine_0 16 rfl rfl)
theorem dX6_lawLine_17 : decode cX6_lawLine 17 = .ok (.getfield 195, 3) := dk_180 0 195 (dk_at dksX6_lawLine_0 17 rfl rfl)
theorem dX6_lawLine_20 : decode cX6_lawLine 20 = .ok (.bipush 10, 2) := dk_16 10 (dk_at dksX6_lawLine_0 20 rfl rfl)
theorem dX6_lawLine_22 : decode cX6_lawLine 22 = .ok (.if_icmp .eq 8, 3) := dk_159 0 8 (dk_at dksX6_lawLine_1 0 rfl rfl)
theorem dX6_lawLine_25 : decode cX6_lawLine 25 = .ok (.aload_n 0, 1) := dk_42 (dk_at dksX6_lawLine_1 3 rfl rfl)
theorem dX6_lawLine_26 : decode cX6_lawLine 26 = .ok (.iconst 1, 1) := dk_4 (dk_at dksX6_lawLine_1 4 rfl rfl)
theorem dX6_lawLine_27 : decode cX6_lawLine 27 = .ok (.invokevirtual 228, 3) := dk_182 0 228 (dk_at dksX6_lawLine_1 5 rfl rfl)
theorem dX6_lawLine_30 : decode cX6_lawLine 30 = .ok (.aload_n 0, 1) := dk_42 (dk_at dksX6_lawLine_1 8 rfl rfl)
theorem dX6_lawLine_31 : decode cX6_lawLine 31 = .ok (.getfield 195, 3) := dk_180 0 195 (dk_at dksX6_lawLine_1 9 rfl rfl)
theorem dX6_lawLine_34 : decode cX6_lawLine 34 = .ok (.bipush 9, 2) := dk_16 9 (dk_at dksX6_lawLine_1 12 rfl rfl)
theorem dX6_lawLine_36 : decode cX6_lawLine 36 = .ok (.isub, 1) := dk_100 (dk_at dksX6_lawLine_1 14 rfl rfl)
theorem dX6_lawLine_37 : decode cX6_lawLine 37 = .ok (.istore_n 1, 1) := dk_60 (dk_at dksX6_lawLine_1 15 rfl rfl)
theorem dX6_lawLine_38 : decode cX6_lawLine 38 = .ok (.aload_n 0, 1) := dk_42 (dk_at dksX6_lawLine_1 16 rfl rfl)
theorem dX6_lawLine_39 : decode cX6_lawLine 39 = .ok (.getfield 219, 3) := dk_180 0 219 (dk_at dksX6_lawLine_1 17 rfl rfl)
theorem dX6_lawLine_42 : decode cX6_lawLine 42 = .ok (.ifCond .ne 22, 3) := dk_154 0 22 (dk_at dksX6_lawLine_1 20 rfl rfl)
theorem dX6_lawLine_45 : decode cX6_lawLine 45 = .ok (.aload_n 0, 1) := dk_42 (dk_at dksX6_lawLine_1 23 rfl rfl)
theorem dX6_lawLine_46 : decode cX6_lawLine 46 = .ok (.getfield 249, 3) := dk_180 0 249 (dk_at dksX6_lawLine_2 0 rfl rfl)
theorem dX6_lawLine_49 : decode cX6_lawLine 49 = .ok (.iconst 1, 1) := dk_4 (dk_at dksX6_lawLine_2 3 rfl rfl)
theorem dX6_lawLine_50 : decode cX6_lawLine 50 = .ok (.iload_n 1, 1) := dk_27 (dk_at dksX6_lawLine_2 4 rfl rfl)
theorem dX6_lawLine_51 : decode cX6_lawLine 51 = .ok (.iadd, 1) := dk_96 (dk_at dksX6_lawLine_2 5 rfl rfl)
theorem dX6_lawLine_52 : decode cX6_lawLine 52 = .ok (.ishr, 1) := dk_122 (dk_at dksX6_lawLine_2 6 rfl rfl)
theorem dX6_lawLine_53 : decode cX6_lawLine 53 = .ok (.iconst 1, 1) := dk_4 (dk_at dksX6_lawLine_2 7 rfl rfl)
theorem dX6_lawLine_54 : decode cX6_lawLine 54 = .ok (.iand, 1) := dk_126 (dk_at dksX6_lawLine_2 8 rfl rfl)
theorem dX6_lawLine_55 : decode cX6_lawLine 55 = .ok (.iconst 1, 1) := dk_4 (dk_at dksX6_lawLine_2 9 rfl rfl)
theorem dX6_lawLine_56 : decode cX6_lawLine 56 = .ok (.if_icmp .ne 8, 3) := dk_160 0 8 (dk_at dksX6_lawLine_2 10 rfl rfl)
theorem dX6_lawLine_59 : decode cX6_lawLine 59 = .ok (.aload_n 0, 1) := dk_42 (dk_at dksX6_lawLine_2 13 rfl rfl)
theorem dX6_lawLine_60 : decode cX6_lawLine 60 = .ok (.iconst 3, 1) := dk_6 (dk_at dksX6_lawLine_2 14 rfl rfl)
theorem dX6_lawLine_61 : decode cX6_lawLine 61 = .ok (.invokevirtual 228, 3) := dk_182 0 228 (dk_at dksX6_lawLine_2 15 rfl rfl)
theorem dX6_lawLine_64 : decode cX6_lawLine 64 = .ok (.aload_n 0, 1) := dk_42 (dk_at dksX6_lawLine_2 18 rfl rfl)
theorem dX6_lawLine_65 : decode cX6_lawLine 65 = .ok (.getfield 219, 3) := dk_180 0 219 (dk_at dksX6_lawLine_2 19 rfl rfl)
theorem dX6_lawLine_68 : decode cX6_lawLine 68 = .ok (.ifCond .eq 4, 3) := dk_153 0 4 (dk_at dksX6_lawLine_3 0 rfl rfl)
theorem dX6_lawLine_71 : decode cX6_lawLine 71 = .ok (.return_, 1) := dk_177 (dk_at dksX6_lawLine_3 3 rfl rfl)
theorem dX6_lawLine_72 : decode cX6_lawLine 72 = .ok (.aload_n 0, 1) := dk_42 (dk_at dksX6_lawLine_3 4 rfl rfl)
theorem dX6_lawLine_73 : decode cX6_lawLine 73 = .ok (.dup, 1) := dk_89 (dk_at dksX6_lawLine_3 5 rfl rfl)
theorem dX6_lawLine_74 : decode cX6_lawLine 74 = .ok (.getfield 249, 3) := dk_180 0 249 (dk_at dksX6_lawLine_3 6 rfl rfl)
theorem dX6_lawLine_77 : decode cX6_lawLine 77 = .ok (.iconst 2, 1) := dk_5 (dk_at dksX6_lawLine_3 9 rfl rfl)
theorem dX6_lawLine_78 : decode cX6_lawLine 78 = .ok (.iload_n 1, 1) := dk_27 (dk_at dksX6_lawLine_3 10 rfl rfl)
theorem dX6_lawLine_79 : decode cX6_lawLine 79 = .ok (.ishl, 1) := dk_120 (dk_at dksX6_lawLine_3 11 rfl rfl)
theorem dX6_lawLine_80 : decode cX6_lawLine 80 = .ok (.ior, 1) := dk_128 (dk_at dksX6_lawLine_3 12 rfl rfl)
theorem dX6_lawLine_81 : decode cX6_lawLine 81 = .ok (.putfield 249, 3) := dk_181 0 249 (dk_at dksX6_lawLine_3 13 rfl rfl)
theorem dX6_lawLine_84 : decode cX6_lawLine 84 = .ok (.aload_n 0, 1) := dk_42 (dk_at dksX6_lawLine_3 16 rfl rfl)
theorem dX6_lawLine_85 : decode cX6_lawLine 85 = .ok (.invokevirtual 225, 3) := dk_182 0 225 (dk_at dksX6_lawLine_3 17 rfl rfl)
theorem dX6_lawLine_88 : decode cX6_lawLine 88 = .ok (.aload_n 0, 1) := dk_42 (dk_at dksX6_lawLine_3 20 rfl rfl)
theorem dX6_lawLine_89 : decode cX6_lawLine 89 = .ok (.getfield 64, 3) := dk_180 0 64 (dk_at dksX6_lawLine_3 21 rfl rfl)
theorem dX6_lawLine_92 : decode cX6_lawLine 92 = .ok (.bipush 6, 2) := dk_16 6 (dk_at dksX6_lawLine_4 0 rfl rfl)
theorem dX6_lawLine_94 : decode cX6_lawLine 94 = .ok (.iload_n 1, 1) := dk_27 (dk_at dksX6_lawLine_4 2 rfl rfl)
theorem dX6_lawLine_95 : decode cX6_lawLine 95 = .ok (.iadd, 1) := dk_96 (dk_at dksX6_lawLine_4 3 rfl rfl)
theorem dX6_lawLine_96 : decode cX6_lawLine 96 = .ok (.aload_n 0, 1) := dk_42 (dk_at dksX6_lawLine_4 4 rfl rfl)
theorem dX6_lawLine_97 : decode cX6_lawLine 97 = .ok (.bipush 7, 2) := dk_16 7 (dk_at dksX6_lawLine_4 5 rfl rfl)
theorem dX6_lawLine_99 : decode cX6_lawLine 99 = .ok (.invokevirtual 242, 3) := dk_182 0 242 (dk_at dksX6_lawLine_4 7 rfl rfl)
theorem dX6_lawLine_102 : decode cX6_lawLine 102 = .ok (.iastore, 1) := dk_79 (dk_at dksX6_lawLine_4 10 rfl rfl)
theorem dX6_lawLine_103 : decode cX6_lawLine 103 = .ok (.aload_n 0, 1) := dk_42 (dk_at dksX6_lawLine_4 11 rfl rfl)
theorem dX6_lawLine_104 : decode cX6_lawLine 104 = .ok (.invokevirtual 277, 3) := dk_182 1 21 (dk_at dksX6_lawLine_4 12 rfl rfl)
theorem dX6_lawLine_107 : decode cX6_lawLine 107 = .ok (.aload_n 0, 1) := dk_42 (dk_at dksX6_lawLine_4 15 rfl rfl)
theorem dX6_lawLine_108 : decode cX6_lawLine 108 = .ok (.getfield 67, 3) := dk_180 0 67 (dk_at dksX6_lawLine_4 16 rfl rfl)
theorem dX6_lawLine_111 : decode cX6_lawLine 111 = .ok (.bipush 6, 2) := dk_16 6 (dk_at dksX6_lawLine_4 19 rfl rfl)
theorem dX6_lawLine_113 : decode cX6_lawLine 113 = .ok (.iload_n 1, 1) := dk_27 (dk_at dksX6_lawLine_4 21 rfl rfl)
theorem dX6_lawLine_114 : decode cX6_lawLine 114 = .ok (.iadd, 1) := dk_96 (dk_at dksX6_lawLine_4 22 rfl rfl)
theorem dX6_lawLine_115 : decode cX6_lawLine 115 = .ok (.aload_n 0, 1) := dk_42 (dk_at dksX6_lawLine_4 23 rfl rfl)
theorem dX6_lawLine_116 : decode cX6_lawLine 116 = .ok (.bipush 7, 2) := dk_16 7 (dk_at dksX6_lawLine_5 0 rfl rfl)
theorem dX6_lawLine_118 : decode cX6_lawLine 118 = .ok (.invokevirtual 242, 3) := dk_182 0 242 (dk_at dksX6_lawLine_5 2 rfl rfl)
theorem dX6_lawLine_121 : decode cX6_lawLine 121 = .ok (.iastore, 1) := dk_79 (dk_at dksX6_lawLine_5 5 rfl rfl)
theorem dX6_lawLine_122 : decode cX6_lawLine 122 = .ok (.return_, 1) := dk_177 (dk_at dksX6_lawLine_5 6 rfl rfl)
abbrev cX6_expression : ByteArray := prog_23_method_32_code
def yX6_expression : MethodName := ⟨RX6, "expression", "()V"⟩
def dkwX6_expression_1 : List UInt8 := [182, 1, 39, 42, 5, 17, 1, 6, 182, 1, 48, 167, 255, 227, 177]
abbrev dktX6_expression_1 : List UInt8 := dkwX6_expression_1 ++ []
def dkwX6_expression_0 : List UInt8 := [42, 182, 1, 39, 42, 16, 11, 182, 1, 42, 153, 0, 26, 42, 182, 1, 45, 42, 182, 0, 239, 42]
abbrev dktX6_expression_0 : List UInt8 := dkwX6_expression_0 ++ dktX6_expression_1
theorem dksX6_expression_0 : cX6_expression.data.toList.drop 0 = dktX6_expression_0 := by decide +kernel
theorem dksX6_expression_1 : cX6_expression.data.toList.drop 22 = dktX6_expression_1 := dk_seg dksX6_expression_0 22 rfl rfl
theorem dX6_expression_0 : decode cX6_expression 0 = .ok (.aload_n 0, 1) := dk_42 (dk_at dksX6_expression_0 0 rfl rfl)
theorem dX6_expression_1 : decode cX6_expression 1 = .ok (.invokevirtual 295, 3) := dk_182 1 39 (dk_at dksX6_expression_0 1 rfl rfl)
theorem dX6_expression_4 : decode cX6_expression 4 = .ok (.aload_n 0, 1) := dk_42 (dk_at dksX6_expression_0 4 rfl rfl)
theorem dX6_expression_5 : decode cX6_expression 5 = .ok (.bipush 11, 2) := dk_16 11 (dk_at dksX6_expression_0 5 rfl rfl)
theorem dX6_expression_7 : decode cX6_expression 7 = .ok (.invokevirtual 298, 3) := dk_182 1 42 (dk_at dksX6_expression_0 7 rfl rfl)
theorem dX6_expression_10 : decode cX6_expression 10 = .ok (.ifCond .eq 26, 3) := dk_153 0 26 (dk_at dksX6_expression_0 10 rfl rfl)
theorem dX6_expression_13 : decode cX6_expression 13 = .ok (.aload_n 0, 1) := dk_42 (dk_at dksX6_expression_0 13 rfl rfl)
theorem dX6_expression_14 : decode cX6_expression 14 = .ok (.invokevirtual 301, 3) := dk_182 1 45 (dk_at dksX6_expression_0 14 rfl rfl)
theorem dX6_expression_17 : decode cX6_expression 17 = .ok (.aload_n 0, 1) := dk_42 (dk_at dksX6_expression_0 17 rfl rfl)
theorem dX6_expression_18 : decode cX6_expression 18 = .ok (.invokevirtual 239, 3) := dk_182 0 239 (dk_at dksX6_expression_0 18 rfl rfl)
theorem dX6_expression_21 : decode cX6_expression 21 = .ok (.aload_n 0, 1) := dk_42 (dk_at dksX6_expression_0 21 rfl rfl)
theorem dX6_expression_22 : decode cX6_expression 22 = .ok (.invokevirtual 295, 3) := dk_182 1 39 (dk_at dksX6_expression_1 0 rfl rfl)
theorem dX6_expression_25 : decode cX6_expression 25 = .ok (.aload_n 0, 1) := dk_42 (dk_at dksX6_expression_1 3 rfl rfl)
theorem dX6_expression_26 : decode cX6_expression 26 = .ok (.iconst 2, 1) := dk_5 (dk_at dksX6_expression_1 4 rfl rfl)
theorem dX6_expression_27 : decode cX6_expression 27 = .ok (.sipush 262, 3) := dk_17 1 6 (dk_at dksX6_expression_1 5 rfl rfl)
theorem dX6_expression_30 : decode cX6_expression 30 = .ok (.invokevirtual 304, 3) := dk_182 1 48 (dk_at dksX6_expression_1 8 rfl rfl)
theorem dX6_expression_33 : decode cX6_expression 33 = .ok (.goto (-29), 3) := dk_167 255 227 (dk_at dksX6_expression_1 11 rfl rfl)
theorem dX6_expression_36 : decode cX6_expression 36 = .ok (.return_, 1) := dk_177 (dk_at dksX6_expression_1 14 rfl rfl)
abbrev cX6_conjunction : ByteArray := prog_23_method_33_code
def yX6_conjunction : MethodName := ⟨RX6, "conjunction", "()V"⟩
def dkwX6_conjunction_1 : List UInt8 := [182, 1, 52, 42, 5, 17, 1, 5, 182, 1, 48, 167, 255, 227, 177]
abbrev dktX6_conjunction_1 : List UInt8 := dkwX6_conjunction_1 ++ []
def dkwX6_conjunction_0 : List UInt8 := [42, 182, 1, 52, 42, 16, 12, 182, 1, 42, 153, 0, 26, 42, 182, 1, 45, 42, 182, 0, 239, 42]
abbrev dktX6_conjunction_0 : List UInt8 := dkwX6_conjunction_0 ++ dktX6_conjunction_1
theorem dksX6_conjunction_0 : cX6_conjunction.data.toList.drop 0 = dktX6_conjunction_0 := by decide +kernel
theorem dksX6_conjunction_1 : cX6_conjunction.data.toList.drop 22 = dktX6_conjunction_1 := dk_seg dksX6_conjunction_0 22 rfl rfl
theorem dX6_conjunction_0 : decode cX6_conjunction 0 = .ok (.aload_n 0, 1) := dk_42 (dk_at dksX6_conjunction_0 0 rfl rfl)
theorem dX6_conjunction_1 : decode cX6_conjunction 1 = .ok (.invokevirtual 308, 3) := dk_182 1 52 (dk_at dksX6_conjunction_0 1 rfl rfl)
theorem dX6_conjunction_4 : decode cX6_conjunction 4 = .ok (.aload_n 0, 1) := dk_42 (dk_at dksX6_conjunction_0 4 rfl rfl)
theorem dX6_conjunction_5 : decode cX6_conjunction 5 = .ok (.bipush 12, 2) := dk_16 12 (dk_at dksX6_conjunction_0 5 rfl rfl)
theorem dX6_conjunction_7 : decode cX6_conjunction 7 = .ok (.invokevirtual 298, 3) := dk_182 1 42 (dk_at dksX6_conjunction_0 7 rfl rfl)
theorem dX6_conjunction_10 : decode cX6_conjunction 10 = .ok (.ifCond .eq 26, 3) := dk_153 0 26 (dk_at dksX6_conjunction_0 10 rfl rfl)
theorem dX6_conjunction_13 : decode cX6_conjunction 13 = .ok (.aload_n 0, 1) := dk_42 (dk_at dksX6_conjunction_0 13 rfl rfl)
theorem dX6_conjunction_14 : decode cX6_conjunction 14 = .ok (.invokevirtual 301, 3) := dk_182 1 45 (dk_at dksX6_conjunction_0 14 rfl rfl)
theorem dX6_conjunction_17 : decode cX6_conjunction 17 = .ok (.aload_n 0, 1) := dk_42 (dk_at dksX6_conjunction_0 17 rfl rfl)
theorem dX6_conjunction_18 : decode cX6_conjunction 18 = .ok (.invokevirtual 239, 3) := dk_182 0 239 (dk_at dksX6_conjunction_0 18 rfl rfl)
theorem dX6_conjunction_21 : decode cX6_conjunction 21 = .ok (.aload_n 0, 1) := dk_42 (dk_at dksX6_conjunction_0 21 rfl rfl)
theorem dX6_conjunction_22 : decode cX6_conjunction 22 = .ok (.invokevirtual 308, 3) := dk_182 1 52 (dk_at dksX6_conjunction_1 0 rfl rfl)
theorem dX6_conjunction_25 : decode cX6_conjunction 25 = .ok (.aload_n 0, 1) := dk_42 (dk_at dksX6_conjunction_1 3 rfl rfl)
theorem dX6_conjunction_26 : decode cX6_conjunction 26 = .ok (.iconst 2, 1) := dk_5 (dk_at dksX6_conjunction_1 4 rfl rfl)
theorem dX6_conjunction_27 : decode cX6_conjunction 27 = .ok (.sipush 261, 3) := dk_17 1 5 (dk_at dksX6_conjunction_1 5 rfl rfl)
theorem dX6_conjunction_30 : decode cX6_conjunction 30 = .ok (.invokevirtual 304, 3) := dk_182 1 48 (dk_at dksX6_conjunction_1 8 rfl rfl)
theorem dX6_conjunction_33 : decode cX6_conjunction 33 = .ok (.goto (-29), 3) := dk_167 255 227 (dk_at dksX6_conjunction_1 11 rfl rfl)
theorem dX6_conjunction_36 : decode cX6_conjunction 36 = .ok (.return_, 1) := dk_177 (dk_at dksX6_conjunction_1 14 rfl rfl)
abbrev cX6_negation : ByteArray := prog_23_method_34_code
def yX6_negation : MethodName := ⟨RX6, "negation", "()V"⟩
def dkwX6_negation_4 : List UInt8 := [42, 182, 1, 45, 42, 182, 0, 239, 42, 182, 1, 55, 42, 5, 27, 182, 1, 48, 177]
abbrev dktX6_negation_4 : List UInt8 := dkwX6_negation_4 ++ []
def dkwX6_negation_3 : List UInt8 := [180, 0, 195, 16, 61, 159, 0, 14, 42, 180, 0, 195, 17, 1, 0, 162, 0, 4, 177, 42, 180, 0, 195, 60]
abbrev dktX6_negation_3 : List UInt8 := dkwX6_negation_3 ++ dktX6_negation_4
def dkwX6_negation_2 : List UInt8 := [160, 0, 40, 42, 180, 0, 195, 16, 60, 159, 0, 32, 42, 180, 0, 195, 16, 62, 159, 0, 23, 42]
abbrev dktX6_negation_2 : List UInt8 := dkwX6_negation_2 ++ dktX6_negation_3
def dkwX6_negation_1 : List UInt8 := [17, 1, 4, 182, 1, 48, 177, 42, 182, 1, 55, 42, 180, 0, 219, 154, 0, 48, 42, 180, 0, 185, 6]
abbrev dktX6_negation_1 : List UInt8 := dkwX6_negation_1 ++ dktX6_negation_2
def dkwX6_negation_0 : List UInt8 := [42, 16, 13, 182, 1, 42, 153, 0, 24, 42, 182, 1, 45, 42, 182, 0, 239, 42, 182, 1, 52, 42, 5]
abbrev dktX6_negation_0 : List UInt8 := dkwX6_negation_0 ++ dktX6_negation_1
theorem dksX6_negation_0 : cX6_negation.data.toList.drop 0 = dktX6_negation_0 := by decide +kernel
theorem dksX6_negation_1 : cX6_negation.data.toList.drop 23 = dktX6_negation_1 := dk_seg dksX6_negation_0 23 rfl rfl
theorem dksX6_negation_2 : cX6_negation.data.toList.drop 46 = dktX6_negation_2 := dk_seg dksX6_negation_1 23 rfl rfl
theorem dksX6_negation_3 : cX6_negation.data.toList.drop 68 = dktX6_negation_3 := dk_seg dksX6_negation_2 22 rfl rfl
theorem dksX6_negation_4 : cX6_negation.data.toList.drop 92 = dktX6_negation_4 := dk_seg dksX6_negation_3 24 rfl rfl
theorem dX6_negation_0 : decode cX6_negation 0 = .ok (.aload_n 0, 1) := dk_42 (dk_at dksX6_negation_0 0 rfl rfl)
theorem dX6_negation_1 : decode cX6_negation 1 = .ok (.bipush 13, 2) := dk_16 13 (dk_at dksX6_negation_0 1 rfl rfl)
theorem dX6_negation_3 : decode cX6_negation 3 = .ok (.invokevirtual 298, 3) := dk_182 1 42 (dk_at dksX6_negation_0 3 rfl rfl)
theorem dX6_negation_6 : decode cX6_negation 6 = .ok (.ifCond .eq 24, 3) := dk_153 0 24 (dk_at dksX6_negation_0 6 rfl rfl)
theorem dX6_negation_9 : decode cX6_negation 9 = .ok (.aload_n 0, 1) := dk_42 (dk_at dksX6_negation_0 9 rfl rfl)
theorem dX6_negation_10 : decode cX6_negation 10 = .ok (.invokevirtual 301, 3) := dk_182 1 45 (dk_at dksX6_negation_0 10 rfl rfl)
theorem dX6_negation_13 : decode cX6_negation 13 = .ok (.aload_n 0, 1) := dk_42 (dk_at dksX6_negation_0 13 rfl rfl)
theorem dX6_negation_14 : decode cX6_negation 14 = .ok (.invokevirtual 239, 3) := dk_182 0 239 (dk_at dksX6_negation_0 14 rfl rfl)
theorem dX6_negation_17 : decode cX6_negation 17 = .ok (.aload_n 0, 1) := dk_42 (dk_at dksX6_negation_0 17 rfl rfl)
theorem dX6_negation_18 : decode cX6_negation 18 = .ok (.invokevirtual 308, 3) := dk_182 1 52 (dk_at dksX6_negation_0 18 rfl rfl)
theorem dX6_negation_21 : decode cX6_negation 21 = .ok (.aload_n 0, 1) := dk_42 (dk_at dksX6_negation_0 21 rfl rfl)
theorem dX6_negation_22 : decode cX6_negation 22 = .ok (.iconst 2, 1) := dk_5 (dk_at dksX6_negation_0 22 rfl rfl)
theorem dX6_negation_23 : decode cX6_negation 23 = .ok (.sipush 260, 3) := dk_17 1 4 (dk_at dksX6_negation_1 0 rfl rfl)
theorem dX6_negation_26 : decode cX6_negation 26 = .ok (.invokevirtual 304, 3) := dk_182 1 48 (dk_at dksX6_negation_1 3 rfl rfl)
theorem dX6_negation_29 : decode cX6_negation 29 = .ok (.return_, 1) := dk_177 (dk_at dksX6_negation_1 6 rfl rfl)
theorem dX6_negation_30 : decode cX6_negation 30 = .ok (.aload_n 0, 1) := dk_42 (dk_at dksX6_negation_1 7 rfl rfl)
theorem dX6_negation_31 : decode cX6_negation 31 = .ok (.invokevirtual 311, 3) := dk_182 1 55 (dk_at dksX6_negation_1 8 rfl rfl)
theorem dX6_negation_34 : decode cX6_negation 34 = .ok (.aload_n 0, 1) := dk_42 (dk_at dksX6_negation_1 11 rfl rfl)
theorem dX6_negation_35 : decode cX6_negation 35 = .ok (.getfield 219, 3) := dk_180 0 219 (dk_at dksX6_negation_1 12 rfl rfl)
theorem dX6_negation_38 : decode cX6_negation 38 = .ok (.ifCond .ne 48, 3) := dk_154 0 48 (dk_at dksX6_negation_1 15 rfl rfl)
theorem dX6_negation_41 : decode cX6_negation 41 = .ok (.aload_n 0, 1) := dk_42 (dk_at dksX6_negation_1 18 rfl rfl)
theorem dX6_negation_42 : decode cX6_negation 42 = .ok (.getfield 185, 3) := dk_180 0 185 (dk_at dksX6_negation_1 19 rfl rfl)
theorem dX6_negation_45 : decode cX6_negation 45 = .ok (.iconst 3, 1) := dk_6 (dk_at dksX6_negation_1 22 rfl rfl)
theorem dX6_negation_46 : decode cX6_negation 46 = .ok (.if_icmp .ne 40, 3) := dk_160 0 40 (dk_at dksX6_negation_2 0 rfl rfl)
theorem dX6_negation_49 : decode cX6_negation 49 = .ok (.aload_n 0, 1) := dk_42 (dk_at dksX6_negation_2 3 rfl rfl)
theorem dX6_negation_50 : decode cX6_negation 50 = .ok (.getfield 195, 3) := dk_180 0 195 (dk_at dksX6_negation_2 4 rfl rfl)
theorem dX6_negation_53 : decode cX6_negation 53 = .ok (.bipush 60, 2) := dk_16 60 (dk_at dksX6_negation_2 7 rfl rfl)
theorem dX6_negation_55 : decode cX6_negation 55 = .ok (.if_icmp .eq 32, 3) := dk_159 0 32 (dk_at dksX6_negation_2 9 rfl rfl)
theorem dX6_negation_58 : decode cX6_negation 58 = .ok (.aload_n 0, 1) := dk_42 (dk_at dksX6_negation_2 12 rfl rfl)
theorem dX6_negation_59 : decode cX6_negation 59 = .ok (.getfield 195, 3) := dk_180 0 195 (dk_at dksX6_negation_2 13 rfl rfl)
theorem dX6_negation_62 : decode cX6_negation 62 = .ok (.bipush 62, 2) := dk_16 62 (dk_at dksX6_negation_2 16 rfl rfl)
theorem dX6_negation_64 : decode cX6_negation 64 = .ok (.if_icmp .eq 23, 3) := dk_159 0 23 (dk_at dksX6_negation_2 18 rfl rfl)
theorem dX6_negation_67 : decode cX6_negation 67 = .ok (.aload_n 0, 1) := dk_42 (dk_at dksX6_negation_2 21 rfl rfl)
theorem dX6_negation_68 : decode cX6_negation 68 = .ok (.getfield 195, 3) := dk_180 0 195 (dk_at dksX6_negation_3 0 rfl rfl)
theorem dX6_negation_71 : decode cX6_negation 71 = .ok (.bipush 61, 2) := dk_16 61 (dk_at dksX6_negation_3 3 rfl rfl)
theorem dX6_negation_73 : decode cX6_negation 73 = .ok (.if_icmp .eq 14, 3) := dk_159 0 14 (dk_at dksX6_negation_3 5 rfl rfl)
theorem dX6_negation_76 : decode cX6_negation 76 = .ok (.aload_n 0, 1) := dk_42 (dk_at dksX6_negation_3 8 rfl rfl)
theorem dX6_negation_77 : decode cX6_negation 77 = .ok (.getfield 195, 3) := dk_180 0 195 (dk_at dksX6_negation_3 9 rfl rfl)
theorem dX6_negation_80 : decode cX6_negation 80 = .ok (.sipush 256, 3) := dk_17 1 0 (dk_at dksX6_negation_3 12 rfl rfl)
theorem dX6_negation_83 : decode cX6_negation 83 = .ok (.if_icmp .ge 4, 3) := dk_162 0 4 (dk_at dksX6_negation_3 15 rfl rfl)
theorem dX6_negation_86 : decode cX6_negation 86 = .ok (.return_, 1) := dk_177 (dk_at dksX6_negation_3 18 rfl rfl)
theorem dX6_negation_87 : decode cX6_negation 87 = .ok (.aload_n 0, 1) := dk_42 (dk_at dksX6_negation_3 19 rfl rfl)
theorem dX6_negation_88 : decode cX6_negation 88 = .ok (.getfield 195, 3) := dk_180 0 195 (dk_at dksX6_negation_3 20 rfl rfl)
theorem dX6_negation_91 : decode cX6_negation 91 = .ok (.istore_n 1, 1) := dk_60 (dk_at dksX6_negation_3 23 rfl rfl)
theorem dX6_negation_92 : decode cX6_negation 92 = .ok (.aload_n 0, 1) := dk_42 (dk_at dksX6_negation_4 0 rfl rfl)
theorem dX6_negation_93 : decode cX6_negation 93 = .ok (.invokevirtual 301, 3) := dk_182 1 45 (dk_at dksX6_negation_4 1 rfl rfl)
theorem dX6_negation_96 : decode cX6_negation 96 = .ok (.aload_n 0, 1) := dk_42 (dk_at dksX6_negation_4 4 rfl rfl)
theorem dX6_negation_97 : decode cX6_negation 97 = .ok (.invokevirtual 239, 3) := dk_182 0 239 (dk_at dksX6_negation_4 5 rfl rfl)
theorem dX6_negation_100 : decode cX6_negation 100 = .ok (.aload_n 0, 1) := dk_42 (dk_at dksX6_negation_4 8 rfl rfl)
theorem dX6_negation_101 : decode cX6_negation 101 = .ok (.invokevirtual 311, 3) := dk_182 1 55 (dk_at dksX6_negation_4 9 rfl rfl)
theorem dX6_negation_104 : decode cX6_negation 104 = .ok (.aload_n 0, 1) := dk_42 (dk_at dksX6_negation_4 12 rfl rfl)
theorem dX6_negation_105 : decode cX6_negation 105 = .ok (.iconst 2, 1) := dk_5 (dk_at dksX6_negation_4 13 rfl rfl)
theorem dX6_negation_106 : decode cX6_negation 106 = .ok (.iload_n 1, 1) := dk_27 (dk_at dksX6_negation_4 14 rfl rfl)
theorem dX6_negation_107 : decode cX6_negation 107 = .ok (.invokevirtual 304, 3) := dk_182 1 48 (dk_at dksX6_negation_4 15 rfl rfl)
theorem dX6_negation_110 : decode cX6_negation 110 = .ok (.return_, 1) := dk_177 (dk_at dksX6_negation_4 18 rfl rfl)
abbrev cX6_isWord : ByteArray := prog_23_method_12_code
def yX6_isWord : MethodName := ⟨RX6, "isWord", "(I)Z"⟩
def dkwX6_isWord_1 : List UInt8 := [167, 0, 4, 3, 172]
abbrev dktX6_isWord_1 : List UInt8 := dkwX6_isWord_1 ++ []
def dkwX6_isWord_0 : List UInt8 := [42, 180, 0, 219, 154, 0, 22, 42, 180, 0, 185, 154, 0, 15, 42, 180, 0, 195, 27, 160, 0, 7, 4]
abbrev dktX6_isWord_0 : List UInt8 := dkwX6_isWord_0 ++ dktX6_isWord_1
theorem dksX6_isWord_0 : cX6_isWord.data.toList.drop 0 = dktX6_isWord_0 := by decide +kernel
theorem dksX6_isWord_1 : cX6_isWord.data.toList.drop 23 = dktX6_isWord_1 := dk_seg dksX6_isWord_0 23 rfl rfl
theorem dX6_isWord_0 : decode cX6_isWord 0 = .ok (.aload_n 0, 1) := dk_42 (dk_at dksX6_isWord_0 0 rfl rfl)
theorem dX6_isWord_1 : decode cX6_isWord 1 = .ok (.getfield 219, 3) := dk_180 0 219 (dk_at dksX6_isWord_0 1 rfl rfl)
theorem dX6_isWord_4 : decode cX6_isWord 4 = .ok (.ifCond .ne 22, 3) := dk_154 0 22 (dk_at dksX6_isWord_0 4 rfl rfl)
theorem dX6_isWord_7 : decode cX6_isWord 7 = .ok (.aload_n 0, 1) := dk_42 (dk_at dksX6_isWord_0 7 rfl rfl)
theorem dX6_isWord_8 : decode cX6_isWord 8 = .ok (.getfield 185, 3) := dk_180 0 185 (dk_at dksX6_isWord_0 8 rfl rfl)
theorem dX6_isWord_11 : decode cX6_isWord 11 = .ok (.ifCond .ne 15, 3) := dk_154 0 15 (dk_at dksX6_isWord_0 11 rfl rfl)
theorem dX6_isWord_14 : decode cX6_isWord 14 = .ok (.aload_n 0, 1) := dk_42 (dk_at dksX6_isWord_0 14 rfl rfl)
theorem dX6_isWord_15 : decode cX6_isWord 15 = .ok (.getfield 195, 3) := dk_180 0 195 (dk_at dksX6_isWord_0 15 rfl rfl)
theorem dX6_isWord_18 : decode cX6_isWord 18 = .ok (.iload_n 1, 1) := dk_27 (dk_at dksX6_isWord_0 18 rfl rfl)
theorem dX6_isWord_19 : decode cX6_isWord 19 = .ok (.if_icmp .ne 7, 3) := dk_160 0 7 (dk_at dksX6_isWord_0 19 rfl rfl)
theorem dX6_isWord_22 : decode cX6_isWord 22 = .ok (.iconst 1, 1) := dk_4 (dk_at dksX6_isWord_0 22 rfl rfl)
theorem dX6_isWord_23 : decode cX6_isWord 23 = .ok (.goto 4, 3) := dk_167 0 4 (dk_at dksX6_isWord_1 0 rfl rfl)
theorem dX6_isWord_26 : decode cX6_isWord 26 = .ok (.iconst 0, 1) := dk_3 (dk_at dksX6_isWord_1 3 rfl rfl)
theorem dX6_isWord_27 : decode cX6_isWord 27 = .ok (.ireturn, 1) := dk_172 (dk_at dksX6_isWord_1 4 rfl rfl)
abbrev cX6_knot : ByteArray := prog_23_method_31_code
def yX6_knot : MethodName := ⟨RX6, "knot", "()V"⟩
def dkwX6_knot_1 : List UInt8 := [167, 0, 13, 42, 89, 180, 1, 36, 4, 96, 181, 1, 36, 177]
abbrev dktX6_knot_1 : List UInt8 := dkwX6_knot_1 ++ []
def dkwX6_knot_0 : List UInt8 := [42, 180, 0, 219, 153, 0, 4, 177, 42, 180, 1, 36, 16, 64, 160, 0, 11, 42, 5, 182, 0, 228]
abbrev dktX6_knot_0 : List UInt8 := dkwX6_knot_0 ++ dktX6_knot_1
theorem dksX6_knot_0 : cX6_knot.data.toList.drop 0 = dktX6_knot_0 := by decide +kernel
theorem dksX6_knot_1 : cX6_knot.data.toList.drop 22 = dktX6_knot_1 := dk_seg dksX6_knot_0 22 rfl rfl
theorem dX6_knot_0 : decode cX6_knot 0 = .ok (.aload_n 0, 1) := dk_42 (dk_at dksX6_knot_0 0 rfl rfl)
theorem dX6_knot_1 : decode cX6_knot 1 = .ok (.getfield 219, 3) := dk_180 0 219 (dk_at dksX6_knot_0 1 rfl rfl)
theorem dX6_knot_4 : decode cX6_knot 4 = .ok (.ifCond .eq 4, 3) := dk_153 0 4 (dk_at dksX6_knot_0 4 rfl rfl)
theorem dX6_knot_7 : decode cX6_knot 7 = .ok (.return_, 1) := dk_177 (dk_at dksX6_knot_0 7 rfl rfl)
theorem dX6_knot_8 : decode cX6_knot 8 = .ok (.aload_n 0, 1) := dk_42 (dk_at dksX6_knot_0 8 rfl rfl)
theorem dX6_knot_9 : decode cX6_knot 9 = .ok (.getfield 292, 3) := dk_180 1 36 (dk_at dksX6_knot_0 9 rfl rfl)
theorem dX6_knot_12 : decode cX6_knot 12 = .ok (.bipush 64, 2) := dk_16 64 (dk_at dksX6_knot_0 12 rfl rfl)
theorem dX6_knot_14 : decode cX6_knot 14 = .ok (.if_icmp .ne 11, 3) := dk_160 0 11 (dk_at dksX6_knot_0 14 rfl rfl)
theorem dX6_knot_17 : decode cX6_knot 17 = .ok (.aload_n 0, 1) := dk_42 (dk_at dksX6_knot_0 17 rfl rfl)
theorem dX6_knot_18 : decode cX6_knot 18 = .ok (.iconst 2, 1) := dk_5 (dk_at dksX6_knot_0 18 rfl rfl)
theorem dX6_knot_19 : decode cX6_knot 19 = .ok (.invokevirtual 228, 3) := dk_182 0 228 (dk_at dksX6_knot_0 19 rfl rfl)
theorem dX6_knot_22 : decode cX6_knot 22 = .ok (.goto 13, 3) := dk_167 0 13 (dk_at dksX6_knot_1 0 rfl rfl)
theorem dX6_knot_25 : decode cX6_knot 25 = .ok (.aload_n 0, 1) := dk_42 (dk_at dksX6_knot_1 3 rfl rfl)
theorem dX6_knot_26 : decode cX6_knot 26 = .ok (.dup, 1) := dk_89 (dk_at dksX6_knot_1 4 rfl rfl)
theorem dX6_knot_27 : decode cX6_knot 27 = .ok (.getfield 292, 3) := dk_180 1 36 (dk_at dksX6_knot_1 5 rfl rfl)
theorem dX6_knot_30 : decode cX6_knot 30 = .ok (.iconst 1, 1) := dk_4 (dk_at dksX6_knot_1 8 rfl rfl)
theorem dX6_knot_31 : decode cX6_knot 31 = .ok (.iadd, 1) := dk_96 (dk_at dksX6_knot_1 9 rfl rfl)
theorem dX6_knot_32 : decode cX6_knot 32 = .ok (.putfield 292, 3) := dk_181 1 36 (dk_at dksX6_knot_1 10 rfl rfl)
theorem dX6_knot_35 : decode cX6_knot 35 = .ok (.return_, 1) := dk_177 (dk_at dksX6_knot_1 13 rfl rfl)
abbrev cX6_puts : ByteArray := prog_23_method_30_code
def yX6_puts : MethodName := ⟨RX6, "puts", "(II)V"⟩
def dkwX6_puts_1 : List UInt8 := [180, 0, 73, 16, 64, 42, 16, 7, 182, 0, 242, 96, 28, 79, 42, 16, 7, 182, 1, 3, 177]
abbrev dktX6_puts_1 : List UInt8 := dkwX6_puts_1 ++ []
def dkwX6_puts_0 : List UInt8 := [42, 180, 0, 219, 153, 0, 4, 177, 42, 180, 0, 70, 16, 64, 42, 16, 7, 182, 0, 242, 96, 27, 79, 42]
abbrev dktX6_puts_0 : List UInt8 := dkwX6_puts_0 ++ dktX6_puts_1
theorem dksX6_puts_0 : cX6_puts.data.toList.drop 0 = dktX6_puts_0 := by decide +kernel
theorem dksX6_puts_1 : cX6_puts.data.toList.drop 24 = dktX6_puts_1 := dk_seg dksX6_puts_0 24 rfl rfl
theorem dX6_puts_0 : decode cX6_puts 0 = .ok (.aload_n 0, 1) := dk_42 (dk_at dksX6_puts_0 0 rfl rfl)
theorem dX6_puts_1 : decode cX6_puts 1 = .ok (.getfield 219, 3) := dk_180 0 219 (dk_at dksX6_puts_0 1 rfl rfl)
theorem dX6_puts_4 : decode cX6_puts 4 = .ok (.ifCond .eq 4, 3) := dk_153 0 4 (dk_at dksX6_puts_0 4 rfl rfl)
theorem dX6_puts_7 : decode cX6_puts 7 = .ok (.return_, 1) := dk_177 (dk_at dksX6_puts_0 7 rfl rfl)
theorem dX6_puts_8 : decode cX6_puts 8 = .ok (.aload_n 0, 1) := dk_42 (dk_at dksX6_puts_0 8 rfl rfl)
theorem dX6_puts_9 : decode cX6_puts 9 = .ok (.getfield 70, 3) := dk_180 0 70 (dk_at dksX6_puts_0 9 rfl rfl)
theorem dX6_puts_12 : decode cX6_puts 12 = .ok (.bipush 64, 2) := dk_16 64 (dk_at dksX6_puts_0 12 rfl rfl)
theorem dX6_puts_14 : decode cX6_puts 14 = .ok (.aload_n 0, 1) := dk_42 (dk_at dksX6_puts_0 14 rfl rfl)
theorem dX6_puts_15 : decode cX6_puts 15 = .ok (.bipush 7, 2) := dk_16 7 (dk_at dksX6_puts_0 15 rfl rfl)
theorem dX6_puts_17 : decode cX6_puts 17 = .ok (.invokevirtual 242, 3) := dk_182 0 242 (dk_at dksX6_puts_0 17 rfl rfl)
theorem dX6_puts_20 : decode cX6_puts 20 = .ok (.iadd, 1) := dk_96 (dk_at dksX6_puts_0 20 rfl rfl)
theorem dX6_puts_21 : decode cX6_puts 21 = .ok (.iload_n 1, 1) := dk_27 (dk_at dksX6_puts_0 21 rfl rfl)
theorem dX6_puts_22 : decode cX6_puts 22 = .ok (.iastore, 1) := dk_79 (dk_at dksX6_puts_0 22 rfl rfl)
theorem dX6_puts_23 : decode cX6_puts 23 = .ok (.aload_n 0, 1) := dk_42 (dk_at dksX6_puts_0 23 rfl rfl)
theorem dX6_puts_24 : decode cX6_puts 24 = .ok (.getfield 73, 3) := dk_180 0 73 (dk_at dksX6_puts_1 0 rfl rfl)
theorem dX6_puts_27 : decode cX6_puts 27 = .ok (.bipush 64, 2) := dk_16 64 (dk_at dksX6_puts_1 3 rfl rfl)
theorem dX6_puts_29 : decode cX6_puts 29 = .ok (.aload_n 0, 1) := dk_42 (dk_at dksX6_puts_1 5 rfl rfl)
theorem dX6_puts_30 : decode cX6_puts 30 = .ok (.bipush 7, 2) := dk_16 7 (dk_at dksX6_puts_1 6 rfl rfl)
theorem dX6_puts_32 : decode cX6_puts 32 = .ok (.invokevirtual 242, 3) := dk_182 0 242 (dk_at dksX6_puts_1 8 rfl rfl)
theorem dX6_puts_35 : decode cX6_puts 35 = .ok (.iadd, 1) := dk_96 (dk_at dksX6_puts_1 11 rfl rfl)
theorem dX6_puts_36 : decode cX6_puts 36 = .ok (.iload_n 2, 1) := dk_28 (dk_at dksX6_puts_1 12 rfl rfl)
theorem dX6_puts_37 : decode cX6_puts 37 = .ok (.iastore, 1) := dk_79 (dk_at dksX6_puts_1 13 rfl rfl)
theorem dX6_puts_38 : decode cX6_puts 38 = .ok (.aload_n 0, 1) := dk_42 (dk_at dksX6_puts_1 14 rfl rfl)
theorem dX6_puts_39 : decode cX6_puts 39 = .ok (.bipush 7, 2) := dk_16 7 (dk_at dksX6_puts_1 15 rfl rfl)
theorem dX6_puts_41 : decode cX6_puts 41 = .ok (.invokevirtual 259, 3) := dk_182 1 3 (dk_at dksX6_puts_1 17 rfl rfl)
theorem dX6_puts_44 : decode cX6_puts 44 = .ok (.return_, 1) := dk_177 (dk_at dksX6_puts_1 20 rfl rfl)
abbrev cX6_sum : ByteArray := prog_23_method_35_code
def yX6_sum : MethodName := ⟨RX6, "sum", "()V"⟩
def dkwX6_sum_2 : List UInt8 := [167, 255, 215, 177]
abbrev dktX6_sum_2 : List UInt8 := dkwX6_sum_2 ++ []
def dkwX6_sum_1 : List UInt8 := [180, 0, 195, 60, 42, 182, 1, 45, 42, 182, 0, 239, 42, 182, 1, 58, 42, 5, 27, 182, 1, 48]
abbrev dktX6_sum_1 : List UInt8 := dkwX6_sum_1 ++ dktX6_sum_2
def dkwX6_sum_0 : List UInt8 := [42, 182, 1, 58, 42, 16, 43, 182, 1, 24, 154, 0, 12, 42, 16, 45, 182, 1, 24, 153, 0, 29, 42]
abbrev dktX6_sum_0 : List UInt8 := dkwX6_sum_0 ++ dktX6_sum_1
theorem dksX6_sum_0 : cX6_sum.data.toList.drop 0 = dktX6_sum_0 := by decide +kernel
theorem dksX6_sum_1 : cX6_sum.data.toList.drop 23 = dktX6_sum_1 := dk_seg dksX6_sum_0 23 rfl rfl
theorem dksX6_sum_2 : cX6_sum.data.toList.drop 45 = dktX6_sum_2 := dk_seg dksX6_sum_1 22 rfl rfl
theorem dX6_sum_0 : decode cX6_sum 0 = .ok (.aload_n 0, 1) := dk_42 (dk_at dksX6_sum_0 0 rfl rfl)
theorem dX6_sum_1 : decode cX6_sum 1 = .ok (.invokevirtual 314, 3) := dk_182 1 58 (dk_at dksX6_sum_0 1 rfl rfl)
theorem dX6_sum_4 : decode cX6_sum 4 = .ok (.aload_n 0, 1) := dk_42 (dk_at dksX6_sum_0 4 rfl rfl)
theorem dX6_sum_5 : decode cX6_sum 5 = .ok (.bipush 43, 2) := dk_16 43 (dk_at dksX6_sum_0 5 rfl rfl)
theorem dX6_sum_7 : decode cX6_sum 7 = .ok (.invokevirtual 280, 3) := dk_182 1 24 (dk_at dksX6_sum_0 7 rfl rfl)
theorem dX6_sum_10 : decode cX6_sum 10 = .ok (.ifCond .ne 12, 3) := dk_154 0 12 (dk_at dksX6_sum_0 10 rfl rfl)
theorem dX6_sum_13 : decode cX6_sum 13 = .ok (.aload_n 0, 1) := dk_42 (dk_at dksX6_sum_0 13 rfl rfl)
theorem dX6_sum_14 : decode cX6_sum 14 = .ok (.bipush 45, 2) := dk_16 45 (dk_at dksX6_sum_0 14 rfl rfl)
theorem dX6_sum_16 : decode cX6_sum 16 = .ok (.invokevirtual 280, 3) := dk_182 1 24 (dk_at dksX6_sum_0 16 rfl rfl)
theorem dX6_sum_19 : decode cX6_sum 19 = .ok (.ifCond .eq 29, 3) := dk_153 0 29 (dk_at dksX6_sum_0 19 rfl rfl)
theorem dX6_sum_22 : decode cX6_sum 22 = .ok (.aload_n 0, 1) := dk_42 (dk_at dksX6_sum_0 22 rfl rfl)
theorem dX6_sum_23 : decode cX6_sum 23 = .ok (.getfield 195, 3) := dk_180 0 195 (dk_at dksX6_sum_1 0 rfl rfl)
theorem dX6_sum_26 : decode cX6_sum 26 = .ok (.istore_n 1, 1) := dk_60 (dk_at dksX6_sum_1 3 rfl rfl)
theorem dX6_sum_27 : decode cX6_sum 27 = .ok (.aload_n 0, 1) := dk_42 (dk_at dksX6_sum_1 4 rfl rfl)
theorem dX6_sum_28 : decode cX6_sum 28 = .ok (.invokevirtual 301, 3) := dk_182 1 45 (dk_at dksX6_sum_1 5 rfl rfl)
theorem dX6_sum_31 : decode cX6_sum 31 = .ok (.aload_n 0, 1) := dk_42 (dk_at dksX6_sum_1 8 rfl rfl)
theorem dX6_sum_32 : decode cX6_sum 32 = .ok (.invokevirtual 239, 3) := dk_182 0 239 (dk_at dksX6_sum_1 9 rfl rfl)
theorem dX6_sum_35 : decode cX6_sum 35 = .ok (.aload_n 0, 1) := dk_42 (dk_at dksX6_sum_1 12 rfl rfl)
theorem dX6_sum_36 : decode cX6_sum 36 = .ok (.invokevirtual 314, 3) := dk_182 1 58 (dk_at dksX6_sum_1 13 rfl rfl)
theorem dX6_sum_39 : decode cX6_sum 39 = .ok (.aload_n 0, 1) := dk_42 (dk_at dksX6_sum_1 16 rfl rfl)
theorem dX6_sum_40 : decode cX6_sum 40 = .ok (.iconst 2, 1) := dk_5 (dk_at dksX6_sum_1 17 rfl rfl)
theorem dX6_sum_41 : decode cX6_sum 41 = .ok (.iload_n 1, 1) := dk_27 (dk_at dksX6_sum_1 18 rfl rfl)
theorem dX6_sum_42 : decode cX6_sum 42 = .ok (.invokevirtual 304, 3) := dk_182 1 48 (dk_at dksX6_sum_1 19 rfl rfl)
theorem dX6_sum_45 : decode cX6_sum 45 = .ok (.goto (-41), 3) := dk_167 255 215 (dk_at dksX6_sum_2 0 rfl rfl)
theorem dX6_sum_48 : decode cX6_sum 48 = .ok (.return_, 1) := dk_177 (dk_at dksX6_sum_2 3 rfl rfl)
abbrev cX6_product : ByteArray := prog_23_method_36_code
def yX6_product : MethodName := ⟨RX6, "product", "()V"⟩
def dkwX6_product_2 : List UInt8 := [167, 255, 215, 177]
abbrev dktX6_product_2 : List UInt8 := dkwX6_product_2 ++ []
def dkwX6_product_1 : List UInt8 := [180, 0, 195, 60, 42, 182, 1, 45, 42, 182, 0, 239, 42, 182, 1, 61, 42, 5, 27, 182, 1, 48]
abbrev dktX6_product_1 : List UInt8 := dkwX6_product_1 ++ dktX6_product_2
def dkwX6_product_0 : List UInt8 := [42, 182, 1, 61, 42, 16, 42, 182, 1, 24, 154, 0, 12, 42, 16, 47, 182, 1, 24, 153, 0, 29, 42]
abbrev dktX6_product_0 : List UInt8 := dkwX6_product_0 ++ dktX6_product_1
theorem dksX6_product_0 : cX6_product.data.toList.drop 0 = dktX6_product_0 := by decide +kernel
theorem dksX6_product_1 : cX6_product.data.toList.drop 23 = dktX6_product_1 := dk_seg dksX6_product_0 23 rfl rfl
theorem dksX6_product_2 : cX6_product.data.toList.drop 45 = dktX6_product_2 := dk_seg dksX6_product_1 22 rfl rfl
theorem dX6_product_0 : decode cX6_product 0 = .ok (.aload_n 0, 1) := dk_42 (dk_at dksX6_product_0 0 rfl rfl)
theorem dX6_product_1 : decode cX6_product 1 = .ok (.invokevirtual 317, 3) := dk_182 1 61 (dk_at dksX6_product_0 1 rfl rfl)
theorem dX6_product_4 : decode cX6_product 4 = .ok (.aload_n 0, 1) := dk_42 (dk_at dksX6_product_0 4 rfl rfl)
theorem dX6_product_5 : decode cX6_product 5 = .ok (.bipush 42, 2) := dk_16 42 (dk_at dksX6_product_0 5 rfl rfl)
theorem dX6_product_7 : decode cX6_product 7 = .ok (.invokevirtual 280, 3) := dk_182 1 24 (dk_at dksX6_product_0 7 rfl rfl)
theorem dX6_product_10 : decode cX6_product 10 = .ok (.ifCond .ne 12, 3) := dk_154 0 12 (dk_at dksX6_product_0 10 rfl rfl)
theorem dX6_product_13 : decode cX6_product 13 = .ok (.aload_n 0, 1) := dk_42 (dk_at dksX6_product_0 13 rfl rfl)
theorem dX6_product_14 : decode cX6_product 14 = .ok (.bipush 47, 2) := dk_16 47 (dk_at dksX6_product_0 14 rfl rfl)
theorem dX6_product_16 : decode cX6_product 16 = .ok (.invokevirtual 280, 3) := dk_182 1 24 (dk_at dksX6_product_0 16 rfl rfl)
theorem dX6_product_19 : decode cX6_product 19 = .ok (.ifCond .eq 29, 3) := dk_153 0 29 (dk_at dksX6_product_0 19 rfl rfl)
theorem dX6_product_22 : decode cX6_product 22 = .ok (.aload_n 0, 1) := dk_42 (dk_at dksX6_product_0 22 rfl rfl)
theorem dX6_product_23 : decode cX6_product 23 = .ok (.getfield 195, 3) := dk_180 0 195 (dk_at dksX6_product_1 0 rfl rfl)
theorem dX6_product_26 : decode cX6_product 26 = .ok (.istore_n 1, 1) := dk_60 (dk_at dksX6_product_1 3 rfl rfl)
theorem dX6_product_27 : decode cX6_product 27 = .ok (.aload_n 0, 1) := dk_42 (dk_at dksX6_product_1 4 rfl rfl)
theorem dX6_product_28 : decode cX6_product 28 = .ok (.invokevirtual 301, 3) := dk_182 1 45 (dk_at dksX6_product_1 5 rfl rfl)
theorem dX6_product_31 : decode cX6_product 31 = .ok (.aload_n 0, 1) := dk_42 (dk_at dksX6_product_1 8 rfl rfl)
theorem dX6_product_32 : decode cX6_product 32 = .ok (.invokevirtual 239, 3) := dk_182 0 239 (dk_at dksX6_product_1 9 rfl rfl)
theorem dX6_product_35 : decode cX6_product 35 = .ok (.aload_n 0, 1) := dk_42 (dk_at dksX6_product_1 12 rfl rfl)
theorem dX6_product_36 : decode cX6_product 36 = .ok (.invokevirtual 317, 3) := dk_182 1 61 (dk_at dksX6_product_1 13 rfl rfl)
theorem dX6_product_39 : decode cX6_product 39 = .ok (.aload_n 0, 1) := dk_42 (dk_at dksX6_product_1 16 rfl rfl)
theorem dX6_product_40 : decode cX6_product 40 = .ok (.iconst 2, 1) := dk_5 (dk_at dksX6_product_1 17 rfl rfl)
theorem dX6_product_41 : decode cX6_product 41 = .ok (.iload_n 1, 1) := dk_27 (dk_at dksX6_product_1 18 rfl rfl)
theorem dX6_product_42 : decode cX6_product 42 = .ok (.invokevirtual 304, 3) := dk_182 1 48 (dk_at dksX6_product_1 19 rfl rfl)
theorem dX6_product_45 : decode cX6_product 45 = .ok (.goto (-41), 3) := dk_167 255 215 (dk_at dksX6_product_2 0 rfl rfl)
theorem dX6_product_48 : decode cX6_product 48 = .ok (.return_, 1) := dk_177 (dk_at dksX6_product_2 3 rfl rfl)
abbrev cX6_primary : ByteArray := prog_23_method_37_code
def yX6_primary : MethodName := ⟨RX6, "primary", "()V"⟩
def dkwX6_primary_8 : List UInt8 := [167, 0, 10, 42, 180, 0, 195, 16, 14, 100, 182, 1, 48, 42, 182, 0, 239, 177]
abbrev dktX6_primary_8 : List UInt8 := dkwX6_primary_8 ++ []
def dkwX6_primary_7 : List UInt8 := [42, 182, 1, 45, 42, 27, 153, 0, 7, 3, 167, 0, 4, 4, 27, 153, 0, 10, 42, 180, 0, 195]
abbrev dktX6_primary_7 : List UInt8 := dkwX6_primary_7 ++ dktX6_primary_8
def dkwX6_primary_6 : List UInt8 := [154, 0, 24, 42, 180, 0, 185, 154, 0, 12, 42, 180, 0, 195, 16, 14, 162, 0, 8, 42, 4, 182, 0, 228]
abbrev dktX6_primary_6 : List UInt8 := dkwX6_primary_6 ++ dktX6_primary_7
def dkwX6_primary_5 : List UInt8 := [153, 0, 21, 42, 180, 0, 195, 17, 39, 15, 164, 0, 11, 42, 5, 182, 0, 228, 167, 0, 28, 27]
abbrev dktX6_primary_5 : List UInt8 := dkwX6_primary_5 ++ dktX6_primary_6
def dkwX6_primary_4 : List UInt8 := [181, 1, 64, 42, 182, 0, 225, 177, 42, 180, 0, 185, 5, 160, 0, 7, 4, 167, 0, 4, 3, 60, 27]
abbrev dktX6_primary_4 : List UInt8 := dkwX6_primary_4 ++ dktX6_primary_5
def dkwX6_primary_3 : List UInt8 := [154, 0, 8, 42, 4, 182, 0, 228, 42, 180, 0, 219, 153, 0, 4, 177, 42, 89, 180, 1, 64, 4, 100]
abbrev dktX6_primary_3 : List UInt8 := dkwX6_primary_3 ++ dktX6_primary_4
def dkwX6_primary_2 : List UInt8 := [181, 1, 64, 42, 182, 0, 225, 42, 182, 1, 21, 42, 180, 0, 219, 154, 0, 17, 42, 16, 41, 182, 1, 24]
abbrev dktX6_primary_2 : List UInt8 := dkwX6_primary_2 ++ dktX6_primary_3
def dkwX6_primary_1 : List UInt8 := [160, 0, 8, 42, 5, 182, 0, 228, 42, 180, 0, 219, 153, 0, 4, 177, 42, 89, 180, 1, 64, 4, 96]
abbrev dktX6_primary_1 : List UInt8 := dkwX6_primary_1 ++ dktX6_primary_2
def dkwX6_primary_0 : List UInt8 := [42, 180, 0, 219, 153, 0, 4, 177, 42, 16, 40, 182, 1, 24, 153, 0, 87, 42, 180, 1, 64, 16, 8]
abbrev dktX6_primary_0 : List UInt8 := dkwX6_primary_0 ++ dktX6_primary_1
theorem dksX6_primary_0 : cX6_primary.data.toList.drop 0 = dktX6_primary_0 := by decide +kernel
theorem dksX6_primary_1 : cX6_primary.data.toList.drop 23 = dktX6_primary_1 := dk_seg dksX6_primary_0 23 rfl rfl
theorem dksX6_primary_2 : cX6_primary.data.toList.drop 46 = dktX6_primary_2 := dk_seg dksX6_primary_1 23 rfl rfl
theorem dksX6_primary_3 : cX6_primary.data.toList.drop 70 = dktX6_primary_3 := dk_seg dksX6_primary_2 24 rfl rfl
theorem dksX6_primary_4 : cX6_primary.data.toList.drop 93 = dktX6_primary_4 := dk_seg dksX6_primary_3 23 rfl rfl
theorem dksX6_primary_5 : cX6_primary.data.toList.drop 116 = dktX6_primary_5 := dk_seg dksX6_primary_4 23 rfl rfl
theorem dksX6_primary_6 : cX6_primary.data.toList.drop 138 = dktX6_primary_6 := dk_seg dksX6_primary_5 22 rfl rfl
theorem dksX6_primary_7 : cX6_primary.data.toList.drop 162 = dktX6_primary_7 := dk_seg dksX6_primary_6 24 rfl rfl
theorem dksX6_primary_8 : cX6_primary.data.toList.drop 184 = dktX6_primary_8 := dk_seg dksX6_primary_7 22 rfl rfl
theorem dX6_primary_0 : decode cX6_primary 0 = .ok (.aload_n 0, 1) := dk_42 (dk_at dksX6_primary_0 0 rfl rfl)
theorem dX6_primary_1 : decode cX6_primary 1 = .ok (.getfield 219, 3) := dk_180 0 219 (dk_at dksX6_primary_0 1 rfl rfl)
theorem dX6_primary_4 : decode cX6_primary 4 = .ok (.ifCond .eq 4, 3) := dk_153 0 4 (dk_at dksX6_primary_0 4 rfl rfl)
theorem dX6_primary_7 : decode cX6_primary 7 = .ok (.return_, 1) := dk_177 (dk_at dksX6_primary_0 7 rfl rfl)
theorem dX6_primary_8 : decode cX6_primary 8 = .ok (.aload_n 0, 1) := dk_42 (dk_at dksX6_primary_0 8 rfl rfl)
theorem dX6_primary_9 : decode cX6_primary 9 = .ok (.bipush 40, 2) := dk_16 40 (dk_at dksX6_primary_0 9 rfl rfl)
theorem dX6_primary_11 : decode cX6_primary 11 = .ok (.invokevirtual 280, 3) := dk_182 1 24 (dk_at dksX6_primary_0 11 rfl rfl)
theorem dX6_primary_14 : decode cX6_primary 14 = .ok (.ifCond .eq 87, 3) := dk_153 0 87 (dk_at dksX6_primary_0 14 rfl rfl)
theorem dX6_primary_17 : decode cX6_primary 17 = .ok (.aload_n 0, 1) := dk_42 (dk_at dksX6_primary_0 17 rfl rfl)
theorem dX6_primary_18 : decode cX6_primary 18 = .ok (.getfield 320, 3) := dk_180 1 64 (dk_at dksX6_primary_0 18 rfl rfl)
theorem dX6_primary_21 : decode cX6_primary 21 = .ok (.bipush 8, 2) := dk_16 8 (dk_at dksX6_primary_0 21 rfl rfl)
theorem dX6_primary_23 : decode cX6_primary 23 = .ok (.if_icmp .ne 8, 3) := dk_160 0 8 (dk_at dksX6_primary_1 0 rfl rfl)
theorem dX6_primary_26 : decode cX6_primary 26 = .ok (.aload_n 0, 1) := dk_42 (dk_at dksX6_primary_1 3 rfl rfl)
theorem dX6_primary_27 : decode cX6_primary 27 = .ok (.iconst 2, 1) := dk_5 (dk_at dksX6_primary_1 4 rfl rfl)
theorem dX6_primary_28 : decode cX6_primary 28 = .ok (.invokevirtual 228, 3) := dk_182 0 228 (dk_at dksX6_primary_1 5 rfl rfl)
theorem dX6_primary_31 : decode cX6_primary 31 = .ok (.aload_n 0, 1) := dk_42 (dk_at dksX6_primary_1 8 rfl rfl)
theorem dX6_primary_32 : decode cX6_primary 32 = .ok (.getfield 219, 3) := dk_180 0 219 (dk_at dksX6_primary_1 9 rfl rfl)
theorem dX6_primary_35 : decode cX6_primary 35 = .ok (.ifCond .eq 4, 3) := dk_153 0 4 (dk_at dksX6_primary_1 12 rfl rfl)
theorem dX6_primary_38 : decode cX6_primary 38 = .ok (.return_, 1) := dk_177 (dk_at dksX6_primary_1 15 rfl rfl)
theorem dX6_primary_39 : decode cX6_primary 39 = .ok (.aload_n 0, 1) := dk_42 (dk_at dksX6_primary_1 16 rfl rfl)
theorem dX6_primary_40 : decode cX6_primary 40 = .ok (.dup, 1) := dk_89 (dk_at dksX6_primary_1 17 rfl rfl)
theorem dX6_primary_41 : decode cX6_primary 41 = .ok (.getfield 320, 3) := dk_180 1 64 (dk_at dksX6_primary_1 18 rfl rfl)
theorem dX6_primary_44 : decode cX6_primary 44 = .ok (.iconst 1, 1) := dk_4 (dk_at dksX6_primary_1 21 rfl rfl)
theorem dX6_primary_45 : decode cX6_primary 45 = .ok (.iadd, 1) := dk_96 (dk_at dksX6_primary_1 22 rfl rfl)
theorem dX6_primary_46 : decode cX6_primary 46 = .ok (.putfield 320, 3) := dk_181 1 64 (dk_at dksX6_primary_2 0 rfl rfl)
theorem dX6_primary_49 : decode cX6_primary 49 = .ok (.aload_n 0, 1) := dk_42 (dk_at dksX6_primary_2 3 rfl rfl)
theorem dX6_primary_50 : decode cX6_primary 50 = .ok (.invokevirtual 225, 3) := dk_182 0 225 (dk_at dksX6_primary_2 4 rfl rfl)
theorem dX6_primary_53 : decode cX6_primary 53 = .ok (.aload_n 0, 1) := dk_42 (dk_at dksX6_primary_2 7 rfl rfl)
theorem dX6_primary_54 : decode cX6_primary 54 = .ok (.invokevirtual 277, 3) := dk_182 1 21 (dk_at dksX6_primary_2 8 rfl rfl)
theorem dX6_primary_57 : decode cX6_primary 57 = .ok (.aload_n 0, 1) := dk_42 (dk_at dksX6_primary_2 11 rfl rfl)
theorem dX6_primary_58 : decode cX6_primary 58 = .ok (.getfield 219, 3) := dk_180 0 219 (dk_at dksX6_primary_2 12 rfl rfl)
theorem dX6_primary_61 : decode cX6_primary 61 = .ok (.ifCond .ne 17, 3) := dk_154 0 17 (dk_at dksX6_primary_2 15 rfl rfl)
theorem dX6_primary_64 : decode cX6_primary 64 = .ok (.aload_n 0, 1) := dk_42 (dk_at dksX6_primary_2 18 rfl rfl)
theorem dX6_primary_65 : decode cX6_primary 65 = .ok (.bipush 41, 2) := dk_16 41 (dk_at dksX6_primary_2 19 rfl rfl)
theorem dX6_primary_67 : decode cX6_primary 67 = .ok (.invokevirtual 280, 3) := dk_182 1 24 (dk_at dksX6_primary_2 21 rfl rfl)
theorem dX6_primary_70 : decode cX6_primary 70 = .ok (.ifCond .ne 8, 3) := dk_154 0 8 (dk_at dksX6_primary_3 0 rfl rfl)
theorem dX6_primary_73 : decode cX6_primary 73 = .ok (.aload_n 0, 1) := dk_42 (dk_at dksX6_primary_3 3 rfl rfl)
theorem dX6_primary_74 : decode cX6_primary 74 = .ok (.iconst 1, 1) := dk_4 (dk_at dksX6_primary_3 4 rfl rfl)
theorem dX6_primary_75 : decode cX6_primary 75 = .ok (.invokevirtual 228, 3) := dk_182 0 228 (dk_at dksX6_primary_3 5 rfl rfl)
theorem dX6_primary_78 : decode cX6_primary 78 = .ok (.aload_n 0, 1) := dk_42 (dk_at dksX6_primary_3 8 rfl rfl)
theorem dX6_primary_79 : decode cX6_primary 79 = .ok (.getfield 219, 3) := dk_180 0 219 (dk_at dksX6_primary_3 9 rfl rfl)
theorem dX6_primary_82 : decode cX6_primary 82 = .ok (.ifCond .eq 4, 3) := dk_153 0 4 (dk_at dksX6_primary_3 12 rfl rfl)
theorem dX6_primary_85 : decode cX6_primary 85 = .ok (.return_, 1) := dk_177 (dk_at dksX6_primary_3 15 rfl rfl)
theorem dX6_primary_86 : decode cX6_primary 86 = .ok (.aload_n 0, 1) := dk_42 (dk_at dksX6_primary_3 16 rfl rfl)
theorem dX6_primary_87 : decode cX6_primary 87 = .ok (.dup, 1) := dk_89 (dk_at dksX6_primary_3 17 rfl rfl)
theorem dX6_primary_88 : decode cX6_primary 88 = .ok (.getfield 320, 3) := dk_180 1 64 (dk_at dksX6_primary_3 18 rfl rfl)
theorem dX6_primary_91 : decode cX6_primary 91 = .ok (.iconst 1, 1) := dk_4 (dk_at dksX6_primary_3 21 rfl rfl)
theorem dX6_primary_92 : decode cX6_primary 92 = .ok (.isub, 1) := dk_100 (dk_at dksX6_primary_3 22 rfl rfl)
theorem dX6_primary_93 : decode cX6_primary 93 = .ok (.putfield 320, 3) := dk_181 1 64 (dk_at dksX6_primary_4 0 rfl rfl)
theorem dX6_primary_96 : decode cX6_primary 96 = .ok (.aload_n 0, 1) := dk_42 (dk_at dksX6_primary_4 3 rfl rfl)
theorem dX6_primary_97 : decode cX6_primary 97 = .ok (.invokevirtual 225, 3) := dk_182 0 225 (dk_at dksX6_primary_4 4 rfl rfl)
theorem dX6_primary_100 : decode cX6_primary 100 = .ok (.return_, 1) := dk_177 (dk_at dksX6_primary_4 7 rfl rfl)
theorem dX6_primary_101 : decode cX6_primary 101 = .ok (.aload_n 0, 1) := dk_42 (dk_at dksX6_primary_4 8 rfl rfl)
theorem dX6_primary_102 : decode cX6_primary 102 = .ok (.getfield 185, 3) := dk_180 0 185 (dk_at dksX6_primary_4 9 rfl rfl)
theorem dX6_primary_105 : decode cX6_primary 105 = .ok (.iconst 2, 1) := dk_5 (dk_at dksX6_primary_4 12 rfl rfl)
theorem dX6_primary_106 : decode cX6_primary 106 = .ok (.if_icmp .ne 7, 3) := dk_160 0 7 (dk_at dksX6_primary_4 13 rfl rfl)
theorem dX6_primary_109 : decode cX6_primary 109 = .ok (.iconst 1, 1) := dk_4 (dk_at dksX6_primary_4 16 rfl rfl)
theorem dX6_primary_110 : decode cX6_primary 110 = .ok (.goto 4, 3) := dk_167 0 4 (dk_at dksX6_primary_4 17 rfl rfl)
theorem dX6_primary_113 : decode cX6_primary 113 = .ok (.iconst 0, 1) := dk_3 (dk_at dksX6_primary_4 20 rfl rfl)
theorem dX6_primary_114 : decode cX6_primary 114 = .ok (.istore_n 1, 1) := dk_60 (dk_at dksX6_primary_4 21 rfl rfl)
theorem dX6_primary_115 : decode cX6_primary 115 = .ok (.iload_n 1, 1) := dk_27 (dk_at dksX6_primary_4 22 rfl rfl)
theorem dX6_primary_116 : decode cX6_primary 116 = .ok (.ifCond .eq 21, 3) := dk_153 0 21 (dk_at dksX6_primary_5 0 rfl rfl)
theorem dX6_primary_119 : decode cX6_primary 119 = .ok (.aload_n 0, 1) := dk_42 (dk_at dksX6_primary_5 3 rfl rfl)
theorem dX6_primary_120 : decode cX6_primary 120 = .ok (.getfield 195, 3) := dk_180 0 195 (dk_at dksX6_primary_5 4 rfl rfl)
theorem dX6_primary_123 : decode cX6_primary 123 = .ok (.sipush 9999, 3) := dk_17 39 15 (dk_at dksX6_primary_5 7 rfl rfl)
theorem dX6_primary_126 : decode cX6_primary 126 = .ok (.if_icmp .le 11, 3) := dk_164 0 11 (dk_at dksX6_primary_5 10 rfl rfl)
theorem dX6_primary_129 : decode cX6_primary 129 = .ok (.aload_n 0, 1) := dk_42 (dk_at dksX6_primary_5 13 rfl rfl)
theorem dX6_primary_130 : decode cX6_primary 130 = .ok (.iconst 2, 1) := dk_5 (dk_at dksX6_primary_5 14 rfl rfl)
theorem dX6_primary_131 : decode cX6_primary 131 = .ok (.invokevirtual 228, 3) := dk_182 0 228 (dk_at dksX6_primary_5 15 rfl rfl)
theorem dX6_primary_134 : decode cX6_primary 134 = .ok (.goto 28, 3) := dk_167 0 28 (dk_at dksX6_primary_5 18 rfl rfl)
theorem dX6_primary_137 : decode cX6_primary 137 = .ok (.iload_n 1, 1) := dk_27 (dk_at dksX6_primary_5 21 rfl rfl)
theorem dX6_primary_138 : decode cX6_primary 138 = .ok (.ifCond .ne 24, 3) := dk_154 0 24 (dk_at dksX6_primary_6 0 rfl rfl)
theorem dX6_primary_141 : decode cX6_primary 141 = .ok (.aload_n 0, 1) := dk_42 (dk_at dksX6_primary_6 3 rfl rfl)
theorem dX6_primary_142 : decode cX6_primary 142 = .ok (.getfield 185, 3) := dk_180 0 185 (dk_at dksX6_primary_6 4 rfl rfl)
theorem dX6_primary_145 : decode cX6_primary 145 = .ok (.ifCond .ne 12, 3) := dk_154 0 12 (dk_at dksX6_primary_6 7 rfl rfl)
theorem dX6_primary_148 : decode cX6_primary 148 = .ok (.aload_n 0, 1) := dk_42 (dk_at dksX6_primary_6 10 rfl rfl)
theorem dX6_primary_149 : decode cX6_primary 149 = .ok (.getfield 195, 3) := dk_180 0 195 (dk_at dksX6_primary_6 11 rfl rfl)
theorem dX6_primary_152 : decode cX6_primary 152 = .ok (.bipush 14, 2) := dk_16 14 (dk_at dksX6_primary_6 14 rfl rfl)
theorem dX6_primary_154 : decode cX6_primary 154 = .ok (.if_icmp .ge 8, 3) := dk_162 0 8 (dk_at dksX6_primary_6 16 rfl rfl)
theorem dX6_primary_157 : decode cX6_primary 157 = .ok (.aload_n 0, 1) := dk_42 (dk_at dksX6_primary_6 19 rfl rfl)
theorem dX6_primary_158 : decode cX6_primary 158 = .ok (.iconst 1, 1) := dk_4 (dk_at dksX6_primary_6 20 rfl rfl)
theorem dX6_primary_159 : decode cX6_primary 159 = .ok (.invokevirtual 228, 3) := dk_182 0 228 (dk_at dksX6_primary_6 21 rfl rfl)
theorem dX6_primary_162 : decode cX6_primary 162 = .ok (.aload_n 0, 1) := dk_42 (dk_at dksX6_primary_7 0 rfl rfl)
theorem dX6_primary_163 : decode cX6_primary 163 = .ok (.invokevirtual 301, 3) := dk_182 1 45 (dk_at dksX6_primary_7 1 rfl rfl)
theorem dX6_primary_166 : decode cX6_primary 166 = .ok (.aload_n 0, 1) := dk_42 (dk_at dksX6_primary_7 4 rfl rfl)
theorem dX6_primary_167 : decode cX6_primary 167 = .ok (.iload_n 1, 1) := dk_27 (dk_at dksX6_primary_7 5 rfl rfl)
theorem dX6_primary_168 : decode cX6_primary 168 = .ok (.ifCond .eq 7, 3) := dk_153 0 7 (dk_at dksX6_primary_7 6 rfl rfl)
theorem dX6_primary_171 : decode cX6_primary 171 = .ok (.iconst 0, 1) := dk_3 (dk_at dksX6_primary_7 9 rfl rfl)
theorem dX6_primary_172 : decode cX6_primary 172 = .ok (.goto 4, 3) := dk_167 0 4 (dk_at dksX6_primary_7 10 rfl rfl)
theorem dX6_primary_175 : decode cX6_primary 175 = .ok (.iconst 1, 1) := dk_4 (dk_at dksX6_primary_7 13 rfl rfl)
theorem dX6_primary_176 : decode cX6_primary 176 = .ok (.iload_n 1, 1) := dk_27 (dk_at dksX6_primary_7 14 rfl rfl)
theorem dX6_primary_177 : decode cX6_primary 177 = .ok (.ifCond .eq 10, 3) := dk_153 0 10 (dk_at dksX6_primary_7 15 rfl rfl)
theorem dX6_primary_180 : decode cX6_primary 180 = .ok (.aload_n 0, 1) := dk_42 (dk_at dksX6_primary_7 18 rfl rfl)
theorem dX6_primary_181 : decode cX6_primary 181 = .ok (.getfield 195, 3) := dk_180 0 195 (dk_at dksX6_primary_7 19 rfl rfl)
theorem dX6_primary_184 : decode cX6_primary 184 = .ok (.goto 10, 3) := dk_167 0 10 (dk_at dksX6_primary_8 0 rfl rfl)
theorem dX6_primary_187 : decode cX6_primary 187 = .ok (.aload_n 0, 1) := dk_42 (dk_at dksX6_primary_8 3 rfl rfl)
theorem dX6_primary_188 : decode cX6_primary 188 = .ok (.getfield 195, 3) := dk_180 0 195 (dk_at dksX6_primary_8 4 rfl rfl)
theorem dX6_primary_191 : decode cX6_primary 191 = .ok (.bipush 14, 2) := dk_16 14 (dk_at dksX6_primary_8 7 rfl rfl)
theorem dX6_primary_193 : decode cX6_primary 193 = .ok (.isub, 1) := dk_100 (dk_at dksX6_primary_8 9 rfl rfl)
theorem dX6_primary_194 : decode cX6_primary 194 = .ok (.invokevirtual 304, 3) := dk_182 1 48 (dk_at dksX6_primary_8 10 rfl rfl)
theorem dX6_primary_197 : decode cX6_primary 197 = .ok (.aload_n 0, 1) := dk_42 (dk_at dksX6_primary_8 13 rfl rfl)
theorem dX6_primary_198 : decode cX6_primary 198 = .ok (.invokevirtual 239, 3) := dk_182 0 239 (dk_at dksX6_primary_8 14 rfl rfl)
theorem dX6_primary_201 : decode cX6_primary 201 = .ok (.return_, 1) := dk_177 (dk_at dksX6_primary_8 17 rfl rfl)
abbrev cX6_isSign : ByteArray := prog_23_method_13_code
def yX6_isSign : MethodName := ⟨RX6, "isSign", "(I)Z"⟩
def dkwX6_isSign_1 : List UInt8 := [167, 0, 4, 3, 172]
abbrev dktX6_isSign_1 : List UInt8 := dkwX6_isSign_1 ++ []
def dkwX6_isSign_0 : List UInt8 := [42, 180, 0, 219, 154, 0, 23, 42, 180, 0, 185, 6, 160, 0, 15, 42, 180, 0, 195, 27, 160, 0, 7, 4]
abbrev dktX6_isSign_0 : List UInt8 := dkwX6_isSign_0 ++ dktX6_isSign_1
theorem dksX6_isSign_0 : cX6_isSign.data.toList.drop 0 = dktX6_isSign_0 := by decide +kernel
theorem dksX6_isSign_1 : cX6_isSign.data.toList.drop 24 = dktX6_isSign_1 := dk_seg dksX6_isSign_0 24 rfl rfl
theorem dX6_isSign_0 : decode cX6_isSign 0 = .ok (.aload_n 0, 1) := dk_42 (dk_at dksX6_isSign_0 0 rfl rfl)
theorem dX6_isSign_1 : decode cX6_isSign 1 = .ok (.getfield 219, 3) := dk_180 0 219 (dk_at dksX6_isSign_0 1 rfl rfl)
theorem dX6_isSign_4 : decode cX6_isSign 4 = .ok (.ifCond .ne 23, 3) := dk_154 0 23 (dk_at dksX6_isSign_0 4 rfl rfl)
theorem dX6_isSign_7 : decode cX6_isSign 7 = .ok (.aload_n 0, 1) := dk_42 (dk_at dksX6_isSign_0 7 rfl rfl)
theorem dX6_isSign_8 : decode cX6_isSign 8 = .ok (.getfield 185, 3) := dk_180 0 185 (dk_at dksX6_isSign_0 8 rfl rfl)
theorem dX6_isSign_11 : decode cX6_isSign 11 = .ok (.iconst 3, 1) := dk_6 (dk_at dksX6_isSign_0 11 rfl rfl)
theorem dX6_isSign_12 : decode cX6_isSign 12 = .ok (.if_icmp .ne 15, 3) := dk_160 0 15 (dk_at dksX6_isSign_0 12 rfl rfl)
theorem dX6_isSign_15 : decode cX6_isSign 15 = .ok (.aload_n 0, 1) := dk_42 (dk_at dksX6_isSign_0 15 rfl rfl)
theorem dX6_isSign_16 : decode cX6_isSign 16 = .ok (.getfield 195, 3) := dk_180 0 195 (dk_at dksX6_isSign_0 16 rfl rfl)
theorem dX6_isSign_19 : decode cX6_isSign 19 = .ok (.iload_n 1, 1) := dk_27 (dk_at dksX6_isSign_0 19 rfl rfl)
theorem dX6_isSign_20 : decode cX6_isSign 20 = .ok (.if_icmp .ne 7, 3) := dk_160 0 7 (dk_at dksX6_isSign_0 20 rfl rfl)
theorem dX6_isSign_23 : decode cX6_isSign 23 = .ok (.iconst 1, 1) := dk_4 (dk_at dksX6_isSign_0 23 rfl rfl)
theorem dX6_isSign_24 : decode cX6_isSign 24 = .ok (.goto 4, 3) := dk_167 0 4 (dk_at dksX6_isSign_1 0 rfl rfl)
theorem dX6_isSign_27 : decode cX6_isSign 27 = .ok (.iconst 0, 1) := dk_3 (dk_at dksX6_isSign_1 3 rfl rfl)
theorem dX6_isSign_28 : decode cX6_isSign 28 = .ok (.ireturn, 1) := dk_172 (dk_at dksX6_isSign_1 4 rfl rfl)
abbrev cX6_half : ByteArray := prog_23_method_38_code
def yX6_half : MethodName := ⟨RX6, "half", "([I)V"⟩
def dkwX6_half_1 : List UInt8 := [167, 255, 240, 177]
abbrev dktX6_half_1 : List UInt8 := dkwX6_half_1 ++ []
def dkwX6_half_0 : List UInt8 := [42, 190, 5, 108, 60, 3, 61, 28, 27, 162, 0, 17, 42, 28, 42, 27, 28, 96, 46, 79, 132, 2, 1]
abbrev dktX6_half_0 : List UInt8 := dkwX6_half_0 ++ dktX6_half_1
theorem dksX6_half_0 : cX6_half.data.toList.drop 0 = dktX6_half_0 := by decide +kernel
theorem dksX6_half_1 : cX6_half.data.toList.drop 23 = dktX6_half_1 := dk_seg dksX6_half_0 23 rfl rfl
theorem dX6_half_0 : decode cX6_half 0 = .ok (.aload_n 0, 1) := dk_42 (dk_at dksX6_half_0 0 rfl rfl)
theorem dX6_half_1 : decode cX6_half 1 = .ok (.arraylength, 1) := dk_190 (dk_at dksX6_half_0 1 rfl rfl)
theorem dX6_half_2 : decode cX6_half 2 = .ok (.iconst 2, 1) := dk_5 (dk_at dksX6_half_0 2 rfl rfl)
theorem dX6_half_3 : decode cX6_half 3 = .ok (.idiv, 1) := dk_108 (dk_at dksX6_half_0 3 rfl rfl)
theorem dX6_half_4 : decode cX6_half 4 = .ok (.istore_n 1, 1) := dk_60 (dk_at dksX6_half_0 4 rfl rfl)
theorem dX6_half_5 : decode cX6_half 5 = .ok (.iconst 0, 1) := dk_3 (dk_at dksX6_half_0 5 rfl rfl)
theorem dX6_half_6 : decode cX6_half 6 = .ok (.istore_n 2, 1) := dk_61 (dk_at dksX6_half_0 6 rfl rfl)
theorem dX6_half_7 : decode cX6_half 7 = .ok (.iload_n 2, 1) := dk_28 (dk_at dksX6_half_0 7 rfl rfl)
theorem dX6_half_8 : decode cX6_half 8 = .ok (.iload_n 1, 1) := dk_27 (dk_at dksX6_half_0 8 rfl rfl)
theorem dX6_half_9 : decode cX6_half 9 = .ok (.if_icmp .ge 17, 3) := dk_162 0 17 (dk_at dksX6_half_0 9 rfl rfl)
theorem dX6_half_12 : decode cX6_half 12 = .ok (.aload_n 0, 1) := dk_42 (dk_at dksX6_half_0 12 rfl rfl)
theorem dX6_half_13 : decode cX6_half 13 = .ok (.iload_n 2, 1) := dk_28 (dk_at dksX6_half_0 13 rfl rfl)
theorem dX6_half_14 : decode cX6_half 14 = .ok (.aload_n 0, 1) := dk_42 (dk_at dksX6_half_0 14 rfl rfl)
theorem dX6_half_15 : decode cX6_half 15 = .ok (.iload_n 1, 1) := dk_27 (dk_at dksX6_half_0 15 rfl rfl)
theorem dX6_half_16 : decode cX6_half 16 = .ok (.iload_n 2, 1) := dk_28 (dk_at dksX6_half_0 16 rfl rfl)
theorem dX6_half_17 : decode cX6_half 17 = .ok (.iadd, 1) := dk_96 (dk_at dksX6_half_0 17 rfl rfl)
theorem dX6_half_18 : decode cX6_half 18 = .ok (.iaload, 1) := dk_46 (dk_at dksX6_half_0 18 rfl rfl)
theorem dX6_half_19 : decode cX6_half 19 = .ok (.iastore, 1) := dk_79 (dk_at dksX6_half_0 19 rfl rfl)
theorem dX6_half_20 : decode cX6_half 20 = .ok (.iinc 2 1, 3) := dk_132 2 1 (dk_at dksX6_half_0 20 rfl rfl)
theorem dX6_half_23 : decode cX6_half 23 = .ok (.goto (-16), 3) := dk_167 255 240 (dk_at dksX6_half_1 0 rfl rfl)
theorem dX6_half_26 : decode cX6_half 26 = .ok (.return_, 1) := dk_177 (dk_at dksX6_half_1 3 rfl rfl)
abbrev cX6_plain : ByteArray := prog_23_method_45_code
def yX6_plain : MethodName := ⟨RX6, "plain", "()V"⟩
def dkwX6_plain_0 : List UInt8 := [42, 2, 181, 1, 90, 42, 2, 181, 1, 93, 42, 3, 181, 1, 96, 177]
abbrev dktX6_plain_0 : List UInt8 := dkwX6_plain_0 ++ []
theorem dksX6_plain_0 : cX6_plain.data.toList.drop 0 = dktX6_plain_0 := by decide +kernel
theorem dX6_plain_0 : decode cX6_plain 0 = .ok (.aload_n 0, 1) := dk_42 (dk_at dksX6_plain_0 0 rfl rfl)
theorem dX6_plain_1 : decode cX6_plain 1 = .ok (.iconst (-1), 1) := dk_2 (dk_at dksX6_plain_0 1 rfl rfl)
theorem dX6_plain_2 : decode cX6_plain 2 = .ok (.putfield 346, 3) := dk_181 1 90 (dk_at dksX6_plain_0 2 rfl rfl)
theorem dX6_plain_5 : decode cX6_plain 5 = .ok (.aload_n 0, 1) := dk_42 (dk_at dksX6_plain_0 5 rfl rfl)
theorem dX6_plain_6 : decode cX6_plain 6 = .ok (.iconst (-1), 1) := dk_2 (dk_at dksX6_plain_0 6 rfl rfl)
theorem dX6_plain_7 : decode cX6_plain 7 = .ok (.putfield 349, 3) := dk_181 1 93 (dk_at dksX6_plain_0 7 rfl rfl)
theorem dX6_plain_10 : decode cX6_plain 10 = .ok (.aload_n 0, 1) := dk_42 (dk_at dksX6_plain_0 10 rfl rfl)
theorem dX6_plain_11 : decode cX6_plain 11 = .ok (.iconst 0, 1) := dk_3 (dk_at dksX6_plain_0 11 rfl rfl)
theorem dX6_plain_12 : decode cX6_plain 12 = .ok (.putfield 352, 3) := dk_181 1 96 (dk_at dksX6_plain_0 12 rfl rfl)
theorem dX6_plain_15 : decode cX6_plain 15 = .ok (.return_, 1) := dk_177 (dk_at dksX6_plain_0 15 rfl rfl)
abbrev cX6_begins : ByteArray := prog_23_method_53_code
def yX6_begins : MethodName := ⟨RX6, "begins", "(I)V"⟩
def dkwX6_begins_3 : List UInt8 := [16, 254, 79, 132, 2, 1, 167, 255, 234, 177]
abbrev dktX6_begins_3 : List UInt8 := dkwX6_begins_3 ++ []
def dkwX6_begins_2 : List UInt8 := [132, 2, 1, 167, 255, 221, 3, 61, 28, 16, 16, 162, 0, 22, 42, 180, 0, 112, 16, 16, 27, 104, 28, 96]
abbrev dktX6_begins_2 : List UInt8 := dkwX6_begins_2 ++ dktX6_begins_3
def dkwX6_begins_1 : List UInt8 := [28, 96, 62, 42, 180, 0, 90, 29, 3, 79, 42, 180, 0, 102, 29, 3, 79, 42, 180, 0, 105, 29, 2, 79]
abbrev dktX6_begins_1 : List UInt8 := dkwX6_begins_1 ++ dktX6_begins_2
def dkwX6_begins_0 : List UInt8 := [42, 180, 0, 87, 27, 3, 79, 42, 180, 0, 115, 27, 3, 79, 3, 61, 28, 7, 162, 0, 36, 7, 27, 104]
abbrev dktX6_begins_0 : List UInt8 := dkwX6_begins_0 ++ dktX6_begins_1
theorem dksX6_begins_0 : cX6_begins.data.toList.drop 0 = dktX6_begins_0 := by decide +kernel
theorem dksX6_begins_1 : cX6_begins.data.toList.drop 24 = dktX6_begins_1 := dk_seg dksX6_begins_0 24 rfl rfl
theorem dksX6_begins_2 : cX6_begins.data.toList.drop 48 = dktX6_begins_2 := dk_seg dksX6_begins_1 24 rfl rfl
theorem dksX6_begins_3 : cX6_begins.data.toList.drop 72 = dktX6_begins_3 := dk_seg dksX6_begins_2 24 rfl rfl
theorem dX6_begins_0 : decode cX6_begins 0 = .ok (.aload_n 0, 1) := dk_42 (dk_at dksX6_begins_0 0 rfl rfl)
theorem dX6_begins_1 : decode cX6_begins 1 = .ok (.getfield 87, 3) := dk_180 0 87 (dk_at dksX6_begins_0 1 rfl rfl)
theorem dX6_begins_4 : decode cX6_begins 4 = .ok (.iload_n 1, 1) := dk_27 (dk_at dksX6_begins_0 4 rfl rfl)
theorem dX6_begins_5 : decode cX6_begins 5 = .ok (.iconst 0, 1) := dk_3 (dk_at dksX6_begins_0 5 rfl rfl)
theorem dX6_begins_6 : decode cX6_begins 6 = .ok (.iastore, 1) := dk_79 (dk_at dksX6_begins_0 6 rfl rfl)
theorem dX6_begins_7 : decode cX6_begins 7 = .ok (.aload_n 0, 1) := dk_42 (dk_at dksX6_begins_0 7 rfl rfl)
theorem dX6_begins_8 : decode cX6_begins 8 = .ok (.getfield 115, 3) := dk_180 0 115 (dk_at dksX6_begins_0 8 rfl rfl)
theorem dX6_begins_11 : decode cX6_begins 11 = .ok (.iload_n 1, 1) := dk_27 (dk_at dksX6_begins_0 11 rfl rfl)
theorem dX6_begins_12 : decode cX6_begins 12 = .ok (.iconst 0, 1) := dk_3 (dk_at dksX6_begins_0 12 rfl rfl)
theorem dX6_begins_13 : decode cX6_begins 13 = .ok (.iastore, 1) := dk_79 (dk_at dksX6_begins_0 13 rfl rfl)
theorem dX6_begins_14 : decode cX6_begins 14 = .ok (.iconst 0, 1) := dk_3 (dk_at dksX6_begins_0 14 rfl rfl)
theorem dX6_begins_15 : decode cX6_begins 15 = .ok (.istore_n 2, 1) := dk_61 (dk_at dksX6_begins_0 15 rfl rfl)
theorem dX6_begins_16 : decode cX6_begins 16 = .ok (.iload_n 2, 1) := dk_28 (dk_at dksX6_begins_0 16 rfl rfl)
theorem dX6_begins_17 : decode cX6_begins 17 = .ok (.iconst 4, 1) := dk_7 (dk_at dksX6_begins_0 17 rfl rfl)
theorem dX6_begins_18 : decode cX6_begins 18 = .ok (.if_icmp .ge 36, 3) := dk_162 0 36 (dk_at dksX6_begins_0 18 rfl rfl)
theorem dX6_begins_21 : decode cX6_begins 21 = .ok (.iconst 4, 1) := dk_7 (dk_at dksX6_begins_0 21 rfl rfl)
theorem dX6_begins_22 : decode cX6_begins 22 = .ok (.iload_n 1, 1) := dk_27 (dk_at dksX6_begins_0 22 rfl rfl)
theorem dX6_begins_23 : decode cX6_begins 23 = .ok (.imul, 1) := dk_104 (dk_at dksX6_begins_0 23 rfl rfl)
theorem dX6_begins_24 : decode cX6_begins 24 = .ok (.iload_n 2, 1) := dk_28 (dk_at dksX6_begins_1 0 rfl rfl)
theorem dX6_begins_25 : decode cX6_begins 25 = .ok (.iadd, 1) := dk_96 (dk_at dksX6_begins_1 1 rfl rfl)
theorem dX6_begins_26 : decode cX6_begins 26 = .ok (.istore_n 3, 1) := dk_62 (dk_at dksX6_begins_1 2 rfl rfl)
theorem dX6_begins_27 : decode cX6_begins 27 = .ok (.aload_n 0, 1) := dk_42 (dk_at dksX6_begins_1 3 rfl rfl)
theorem dX6_begins_28 : decode cX6_begins 28 = .ok (.getfield 90, 3) := dk_180 0 90 (dk_at dksX6_begins_1 4 rfl rfl)
theorem dX6_begins_31 : decode cX6_begins 31 = .ok (.iload_n 3, 1) := dk_29 (dk_at dksX6_begins_1 7 rfl rfl)
theorem dX6_begins_32 : decode cX6_begins 32 = .ok (.iconst 0, 1) := dk_3 (dk_at dksX6_begins_1 8 rfl rfl)
theorem dX6_begins_33 : decode cX6_begins 33 = .ok (.iastore, 1) := dk_79 (dk_at dksX6_begins_1 9 rfl rfl)
theorem dX6_begins_34 : decode cX6_begins 34 = .ok (.aload_n 0, 1) := dk_42 (dk_at dksX6_begins_1 10 rfl rfl)
theorem dX6_begins_35 : decode cX6_begins 35 = .ok (.getfield 102, 3) := dk_180 0 102 (dk_at dksX6_begins_1 11 rfl rfl)
theorem dX6_begins_38 : decode cX6_begins 38 = .ok (.iload_n 3, 1) := dk_29 (dk_at dksX6_begins_1 14 rfl rfl)
theorem dX6_begins_39 : decode cX6_begins 39 = .ok (.iconst 0, 1) := dk_3 (dk_at dksX6_begins_1 15 rfl rfl)
theorem dX6_begins_40 : decode cX6_begins 40 = .ok (.iastore, 1) := dk_79 (dk_at dksX6_begins_1 16 rfl rfl)
theorem dX6_begins_41 : decode cX6_begins 41 = .ok (.aload_n 0, 1) := dk_42 (dk_at dksX6_begins_1 17 rfl rfl)
theorem dX6_begins_42 : decode cX6_begins 42 = .ok (.getfield 105, 3) := dk_180 0 105 (dk_at dksX6_begins_1 18 rfl rfl)
theorem dX6_begins_45 : decode cX6_begins 45 = .ok (.iload_n 3, 1) := dk_29 (dk_at dksX6_begins_1 21 rfl rfl)
theorem dX6_begins_46 : decode cX6_begins 46 = .ok (.iconst (-1), 1) := dk_2 (dk_at dksX6_begins_1 22 rfl rfl)
theorem dX6_begins_47 : decode cX6_begins 47 = .ok (.iastore, 1) := dk_79 (dk_at dksX6_begins_1 23 rfl rfl)
theorem dX6_begins_48 : decode cX6_begins 48 = .ok (.iinc 2 1, 3) := dk_132 2 1 (dk_at dksX6_begins_2 0 rfl rfl)
theorem dX6_begins_51 : decode cX6_begins 51 = .ok (.goto (-35), 3) := dk_167 255 221 (dk_at dksX6_begins_2 3 rfl rfl)
theorem dX6_begins_54 : decode cX6_begins 54 = .ok (.iconst 0, 1) := dk_3 (dk_at dksX6_begins_2 6 rfl rfl)
theorem dX6_begins_55 : decode cX6_begins 55 = .ok (.istore_n 2, 1) := dk_61 (dk_at dksX6_begins_2 7 rfl rfl)
theorem dX6_begins_56 : decode cX6_begins 56 = .ok (.iload_n 2, 1) := dk_28 (dk_at dksX6_begins_2 8 rfl rfl)
theorem dX6_begins_57 : decode cX6_begins 57 = .ok (.bipush 16, 2) := dk_16 16 (dk_at dksX6_begins_2 9 rfl rfl)
theorem dX6_begins_59 : decode cX6_begins 59 = .ok (.if_icmp .ge 22, 3) := dk_162 0 22 (dk_at dksX6_begins_2 11 rfl rfl)
theorem dX6_begins_62 : decode cX6_begins 62 = .ok (.aload_n 0, 1) := dk_42 (dk_at dksX6_begins_2 14 rfl rfl)
theorem dX6_begins_63 : decode cX6_begins 63 = .ok (.getfield 112, 3) := dk_180 0 112 (dk_at dksX6_begins_2 15 rfl rfl)
theorem dX6_begins_66 : decode cX6_begins 66 = .ok (.bipush 16, 2) := dk_16 16 (dk_at dksX6_begins_2 18 rfl rfl)
theorem dX6_begins_68 : decode cX6_begins 68 = .ok (.iload_n 1, 1) := dk_27 (dk_at dksX6_begins_2 20 rfl rfl)
theorem dX6_begins_69 : decode cX6_begins 69 = .ok (.imul, 1) := dk_104 (dk_at dksX6_begins_2 21 rfl rfl)
theorem dX6_begins_70 : decode cX6_begins 70 = .ok (.iload_n 2, 1) := dk_28 (dk_at dksX6_begins_2 22 rfl rfl)
theorem dX6_begins_71 : decode cX6_begins 71 = .ok (.iadd, 1) := dk_96 (dk_at dksX6_begins_2 23 rfl rfl)
theorem dX6_begins_72 : decode cX6_begins 72 = .ok (.bipush (-2), 2) := dk_16 254 (dk_at dksX6_begins_3 0 rfl rfl)
theorem dX6_begins_74 : decode cX6_begins 74 = .ok (.iastore, 1) := dk_79 (dk_at dksX6_begins_3 2 rfl rfl)
theorem dX6_begins_75 : decode cX6_begins 75 = .ok (.iinc 2 1, 3) := dk_132 2 1 (dk_at dksX6_begins_3 3 rfl rfl)
theorem dX6_begins_78 : decode cX6_begins 78 = .ok (.goto (-22), 3) := dk_167 255 234 (dk_at dksX6_begins_3 6 rfl rfl)
theorem dX6_begins_81 : decode cX6_begins 81 = .ok (.return_, 1) := dk_177 (dk_at dksX6_begins_3 9 rfl rfl)
abbrev cX6_fault : ByteArray := prog_23_method_40_code
def yX6_fault : MethodName := ⟨RX6, "fault", "(I)I"⟩
def dkwX6_fault_1 : List UInt8 := [180, 0, 76, 167, 0, 4, 2, 172]
abbrev dktX6_fault_1 : List UInt8 := dkwX6_fault_1 ++ []
def dkwX6_fault_0 : List UInt8 := [42, 3, 181, 0, 166, 27, 154, 0, 10, 42, 180, 1, 70, 167, 0, 16, 27, 4, 160, 0, 10, 42]
abbrev dktX6_fault_0 : List UInt8 := dkwX6_fault_0 ++ dktX6_fault_1
theorem dksX6_fault_0 : cX6_fault.data.toList.drop 0 = dktX6_fault_0 := by decide +kernel
theorem dksX6_fault_1 : cX6_fault.data.toList.drop 22 = dktX6_fault_1 := dk_seg dksX6_fault_0 22 rfl rfl
theorem dX6_fault_0 : decode cX6_fault 0 = .ok (.aload_n 0, 1) := dk_42 (dk_at dksX6_fault_0 0 rfl rfl)
theorem dX6_fault_1 : decode cX6_fault 1 = .ok (.iconst 0, 1) := dk_3 (dk_at dksX6_fault_0 1 rfl rfl)
theorem dX6_fault_2 : decode cX6_fault 2 = .ok (.putfield 166, 3) := dk_181 0 166 (dk_at dksX6_fault_0 2 rfl rfl)
theorem dX6_fault_5 : decode cX6_fault 5 = .ok (.iload_n 1, 1) := dk_27 (dk_at dksX6_fault_0 5 rfl rfl)
theorem dX6_fault_6 : decode cX6_fault 6 = .ok (.ifCond .ne 10, 3) := dk_154 0 10 (dk_at dksX6_fault_0 6 rfl rfl)
theorem dX6_fault_9 : decode cX6_fault 9 = .ok (.aload_n 0, 1) := dk_42 (dk_at dksX6_fault_0 9 rfl rfl)
theorem dX6_fault_10 : decode cX6_fault 10 = .ok (.getfield 326, 3) := dk_180 1 70 (dk_at dksX6_fault_0 10 rfl rfl)
theorem dX6_fault_13 : decode cX6_fault 13 = .ok (.goto 16, 3) := dk_167 0 16 (dk_at dksX6_fault_0 13 rfl rfl)
theorem dX6_fault_16 : decode cX6_fault 16 = .ok (.iload_n 1, 1) := dk_27 (dk_at dksX6_fault_0 16 rfl rfl)
theorem dX6_fault_17 : decode cX6_fault 17 = .ok (.iconst 1, 1) := dk_4 (dk_at dksX6_fault_0 17 rfl rfl)
theorem dX6_fault_18 : decode cX6_fault 18 = .ok (.if_icmp .ne 10, 3) := dk_160 0 10 (dk_at dksX6_fault_0 18 rfl rfl)
theorem dX6_fault_21 : decode cX6_fault 21 = .ok (.aload_n 0, 1) := dk_42 (dk_at dksX6_fault_0 21 rfl rfl)
theorem dX6_fault_22 : decode cX6_fault 22 = .ok (.getfield 76, 3) := dk_180 0 76 (dk_at dksX6_fault_1 0 rfl rfl)
theorem dX6_fault_25 : decode cX6_fault 25 = .ok (.goto 4, 3) := dk_167 0 4 (dk_at dksX6_fault_1 3 rfl rfl)
theorem dX6_fault_28 : decode cX6_fault 28 = .ok (.iconst (-1), 1) := dk_2 (dk_at dksX6_fault_1 6 rfl rfl)
theorem dX6_fault_29 : decode cX6_fault 29 = .ok (.ireturn, 1) := dk_172 (dk_at dksX6_fault_1 7 rfl rfl)
abbrev cX6_named : ByteArray := prog_23_method_41_code
def yX6_named : MethodName := ⟨RX6, "named", "(II)I"⟩
def dkwX6_named_3 : List UInt8 := [167, 0, 4, 2, 172]
abbrev dktX6_named_3 : List UInt8 := dkwX6_named_3 ++ []
def dkwX6_named_2 : List UInt8 := [167, 0, 27, 27, 5, 160, 0, 21, 42, 180, 0, 61, 3, 42, 180, 0, 13, 8, 46, 28, 184, 0, 231]
abbrev dktX6_named_2 : List UInt8 := dkwX6_named_2 ++ dktX6_named_3
def dkwX6_named_1 : List UInt8 := [167, 0, 50, 27, 4, 160, 0, 21, 42, 180, 0, 25, 3, 42, 180, 0, 13, 4, 46, 28, 184, 0, 231]
abbrev dktX6_named_1 : List UInt8 := dkwX6_named_1 ++ dktX6_named_2
def dkwX6_named_0 : List UInt8 := [42, 3, 181, 0, 166, 27, 154, 0, 21, 42, 180, 0, 16, 3, 42, 180, 0, 13, 3, 46, 28, 184, 0, 231]
abbrev dktX6_named_0 : List UInt8 := dkwX6_named_0 ++ dktX6_named_1
theorem dksX6_named_0 : cX6_named.data.toList.drop 0 = dktX6_named_0 := by decide +kernel
theorem dksX6_named_1 : cX6_named.data.toList.drop 24 = dktX6_named_1 := dk_seg dksX6_named_0 24 rfl rfl
theorem dksX6_named_2 : cX6_named.data.toList.drop 47 = dktX6_named_2 := dk_seg dksX6_named_1 23 rfl rfl
theorem dksX6_named_3 : cX6_named.data.toList.drop 70 = dktX6_named_3 := dk_seg dksX6_named_2 23 rfl rfl
theorem dX6_named_0 : decode cX6_named 0 = .ok (.aload_n 0, 1) := dk_42 (dk_at dksX6_named_0 0 rfl rfl)
theorem dX6_named_1 : decode cX6_named 1 = .ok (.iconst 0, 1) := dk_3 (dk_at dksX6_named_0 1 rfl rfl)
theorem dX6_named_2 : decode cX6_named 2 = .ok (.putfield 166, 3) := dk_181 0 166 (dk_at dksX6_named_0 2 rfl rfl)
theorem dX6_named_5 : decode cX6_named 5 = .ok (.iload_n 1, 1) := dk_27 (dk_at dksX6_named_0 5 rfl rfl)
theorem dX6_named_6 : decode cX6_named 6 = .ok (.ifCond .ne 21, 3) := dk_154 0 21 (dk_at dksX6_named_0 6 rfl rfl)
theorem dX6_named_9 : decode cX6_named 9 = .ok (.aload_n 0, 1) := dk_42 (dk_at dksX6_named_0 9 rfl rfl)
theorem dX6_named_10 : decode cX6_named 10 = .ok (.getfield 16, 3) := dk_180 0 16 (dk_at dksX6_named_0 10 rfl rfl)
theorem dX6_named_13 : decode cX6_named 13 = .ok (.iconst 0, 1) := dk_3 (dk_at dksX6_named_0 13 rfl rfl)
theorem dX6_named_14 : decode cX6_named 14 = .ok (.aload_n 0, 1) := dk_42 (dk_at dksX6_named_0 14 rfl rfl)
theorem dX6_named_15 : decode cX6_named 15 = .ok (.getfield 13, 3) := dk_180 0 13 (dk_at dksX6_named_0 15 rfl rfl)
theorem dX6_named_18 : decode cX6_named 18 = .ok (.iconst 0, 1) := dk_3 (dk_at dksX6_named_0 18 rfl rfl)
theorem dX6_named_19 : decode cX6_named 19 = .ok (.iaload, 1) := dk_46 (dk_at dksX6_named_0 19 rfl rfl)
theorem dX6_named_20 : decode cX6_named 20 = .ok (.iload_n 2, 1) := dk_28 (dk_at dksX6_named_0 20 rfl rfl)
theorem dX6_named_21 : decode cX6_named 21 = .ok (.invokestatic 231, 3) := dk_184 0 231 (dk_at dksX6_named_0 21 rfl rfl)
theorem dX6_named_24 : decode cX6_named 24 = .ok (.goto 50, 3) := dk_167 0 50 (dk_at dksX6_named_1 0 rfl rfl)
theorem dX6_named_27 : decode cX6_named 27 = .ok (.iload_n 1, 1) := dk_27 (dk_at dksX6_named_1 3 rfl rfl)
theorem dX6_named_28 : decode cX6_named 28 = .ok (.iconst 1, 1) := dk_4 (dk_at dksX6_named_1 4 rfl rfl)
theorem dX6_named_29 : decode cX6_named 29 = .ok (.if_icmp .ne 21, 3) := dk_160 0 21 (dk_at dksX6_named_1 5 rfl rfl)
theorem dX6_named_32 : decode cX6_named 32 = .ok (.aload_n 0, 1) := dk_42 (dk_at dksX6_named_1 8 rfl rfl)
theorem dX6_named_33 : decode cX6_named 33 = .ok (.getfield 25, 3) := dk_180 0 25 (dk_at dksX6_named_1 9 rfl rfl)
theorem dX6_named_36 : decode cX6_named 36 = .ok (.iconst 0, 1) := dk_3 (dk_at dksX6_named_1 12 rfl rfl)
theorem dX6_named_37 : decode cX6_named 37 = .ok (.aload_n 0, 1) := dk_42 (dk_at dksX6_named_1 13 rfl rfl)
theorem dX6_named_38 : decode cX6_named 38 = .ok (.getfield 13, 3) := dk_180 0 13 (dk_at dksX6_named_1 14 rfl rfl)
theorem dX6_named_41 : decode cX6_named 41 = .ok (.iconst 1, 1) := dk_4 (dk_at dksX6_named_1 17 rfl rfl)
theorem dX6_named_42 : decode cX6_named 42 = .ok (.iaload, 1) := dk_46 (dk_at dksX6_named_1 18 rfl rfl)
theorem dX6_named_43 : decode cX6_named 43 = .ok (.iload_n 2, 1) := dk_28 (dk_at dksX6_named_1 19 rfl rfl)
theorem dX6_named_44 : decode cX6_named 44 = .ok (.invokestatic 231, 3) := dk_184 0 231 (dk_at dksX6_named_1 20 rfl rfl)
theorem dX6_named_47 : decode cX6_named 47 = .ok (.goto 27, 3) := dk_167 0 27 (dk_at dksX6_named_2 0 rfl rfl)
theorem dX6_named_50 : decode cX6_named 50 = .ok (.iload_n 1, 1) := dk_27 (dk_at dksX6_named_2 3 rfl rfl)
theorem dX6_named_51 : decode cX6_named 51 = .ok (.iconst 2, 1) := dk_5 (dk_at dksX6_named_2 4 rfl rfl)
theorem dX6_named_52 : decode cX6_named 52 = .ok (.if_icmp .ne 21, 3) := dk_160 0 21 (dk_at dksX6_named_2 5 rfl rfl)
theorem dX6_named_55 : decode cX6_named 55 = .ok (.aload_n 0, 1) := dk_42 (dk_at dksX6_named_2 8 rfl rfl)
theorem dX6_named_56 : decode cX6_named 56 = .ok (.getfield 61, 3) := dk_180 0 61 (dk_at dksX6_named_2 9 rfl rfl)
theorem dX6_named_59 : decode cX6_named 59 = .ok (.iconst 0, 1) := dk_3 (dk_at dksX6_named_2 12 rfl rfl)
theorem dX6_named_60 : decode cX6_named 60 = .ok (.aload_n 0, 1) := dk_42 (dk_at dksX6_named_2 13 rfl rfl)
theorem dX6_named_61 : decode cX6_named 61 = .ok (.getfield 13, 3) := dk_180 0 13 (dk_at dksX6_named_2 14 rfl rfl)
theorem dX6_named_64 : decode cX6_named 64 = .ok (.iconst 5, 1) := dk_8 (dk_at dksX6_named_2 17 rfl rfl)
theorem dX6_named_65 : decode cX6_named 65 = .ok (.iaload, 1) := dk_46 (dk_at dksX6_named_2 18 rfl rfl)
theorem dX6_named_66 : decode cX6_named 66 = .ok (.iload_n 2, 1) := dk_28 (dk_at dksX6_named_2 19 rfl rfl)
theorem dX6_named_67 : decode cX6_named 67 = .ok (.invokestatic 231, 3) := dk_184 0 231 (dk_at dksX6_named_2 20 rfl rfl)
theorem dX6_named_70 : decode cX6_named 70 = .ok (.goto 4, 3) := dk_167 0 4 (dk_at dksX6_named_3 0 rfl rfl)
theorem dX6_named_73 : decode cX6_named 73 = .ok (.iconst (-1), 1) := dk_2 (dk_at dksX6_named_3 3 rfl rfl)
theorem dX6_named_74 : decode cX6_named 74 = .ok (.ireturn, 1) := dk_172 (dk_at dksX6_named_3 4 rfl rfl)
abbrev cX6_look : ByteArray := prog_23_method_73_code
def yX6_look : MethodName := ⟨RX6, "look", "(II)I"⟩
def dkwX6_look_4 : List UInt8 := [180, 0, 105, 27, 46, 172, 42, 180, 0, 22, 27, 46, 172, 42, 3, 27, 182, 1, 126, 172]
abbrev dktX6_look_4 : List UInt8 := dkwX6_look_4 ++ []
def dkwX6_look_3 : List UInt8 := [42, 180, 0, 19, 27, 46, 172, 42, 180, 0, 90, 27, 46, 172, 42, 180, 0, 102, 27, 46, 172, 42]
abbrev dktX6_look_3 : List UInt8 := dkwX6_look_3 ++ dktX6_look_4
def dkwX6_look_2 : List UInt8 := [170, 0, 0, 0, 0, 0, 0, 71, 0, 0, 0, 0, 0, 0, 0, 4, 0, 0, 0, 36, 0, 0, 0, 43, 0, 0, 0, 50, 0, 0, 0, 57, 0, 0, 0, 64]
abbrev dktX6_look_2 : List UInt8 := dkwX6_look_2 ++ dktX6_look_3
def dkwX6_look_1 : List UInt8 := [167, 0, 4, 3, 181, 0, 166, 42, 180, 0, 166, 153, 0, 5, 3, 172, 28]
abbrev dktX6_look_1 : List UInt8 := dkwX6_look_1 ++ dktX6_look_2
def dkwX6_look_0 : List UInt8 := [42, 42, 27, 182, 1, 196, 154, 0, 7, 4, 167, 0, 17, 28, 155, 0, 8, 28, 8, 164, 0, 7, 5]
abbrev dktX6_look_0 : List UInt8 := dkwX6_look_0 ++ dktX6_look_1
theorem dksX6_look_0 : cX6_look.data.toList.drop 0 = dktX6_look_0 := by decide +kernel
theorem dksX6_look_1 : cX6_look.data.toList.drop 23 = dktX6_look_1 := dk_seg dksX6_look_0 23 rfl rfl
theorem dksX6_look_2 : cX6_look.data.toList.drop 40 = dktX6_look_2 := dk_seg dksX6_look_1 17 rfl rfl
theorem dksX6_look_3 : cX6_look.data.toList.drop 76 = dktX6_look_3 := dk_seg dksX6_look_2 36 rfl rfl
theorem dksX6_look_4 : cX6_look.data.toList.drop 98 = dktX6_look_4 := dk_seg dksX6_look_3 22 rfl rfl
theorem dX6_look_0 : decode cX6_look 0 = .ok (.aload_n 0, 1) := dk_42 (dk_at dksX6_look_0 0 rfl rfl)
theorem dX6_look_1 : decode cX6_look 1 = .ok (.aload_n 0, 1) := dk_42 (dk_at dksX6_look_0 1 rfl rfl)
theorem dX6_look_2 : decode cX6_look 2 = .ok (.iload_n 1, 1) := dk_27 (dk_at dksX6_look_0 2 rfl rfl)
theorem dX6_look_3 : decode cX6_look 3 = .ok (.invokevirtual 452, 3) := dk_182 1 196 (dk_at dksX6_look_0 3 rfl rfl)
theorem dX6_look_6 : decode cX6_look 6 = .ok (.ifCond .ne 7, 3) := dk_154 0 7 (dk_at dksX6_look_0 6 rfl rfl)
theorem dX6_look_9 : decode cX6_look 9 = .ok (.iconst 1, 1) := dk_4 (dk_at dksX6_look_0 9 rfl rfl)
theorem dX6_look_10 : decode cX6_look 10 = .ok (.goto 17, 3) := dk_167 0 17 (dk_at dksX6_look_0 10 rfl rfl)
theorem dX6_look_13 : decode cX6_look 13 = .ok (.iload_n 2, 1) := dk_28 (dk_at dksX6_look_0 13 rfl rfl)
theorem dX6_look_14 : decode cX6_look 14 = .ok (.ifCond .lt 8, 3) := dk_155 0 8 (dk_at dksX6_look_0 14 rfl rfl)
theorem dX6_look_17 : decode cX6_look 17 = .ok (.iload_n 2, 1) := dk_28 (dk_at dksX6_look_0 17 rfl rfl)
theorem dX6_look_18 : decode cX6_look 18 = .ok (.iconst 5, 1) := dk_8 (dk_at dksX6_look_0 18 rfl rfl)
theorem dX6_look_19 : decode cX6_look 19 = .ok (.if_icmp .le 7, 3) := dk_164 0 7 (dk_at dksX6_look_0 19 rfl rfl)
theorem dX6_look_22 : decode cX6_look 22 = .ok (.iconst 2, 1) := dk_5 (dk_at dksX6_look_0 22 rfl rfl)
theorem dX6_look_23 : decode cX6_look 23 = .ok (.goto 4, 3) := dk_167 0 4 (dk_at dksX6_look_1 0 rfl rfl)
theorem dX6_look_26 : decode cX6_look 26 = .ok (.iconst 0, 1) := dk_3 (dk_at dksX6_look_1 3 rfl rfl)
theorem dX6_look_27 : decode cX6_look 27 = .ok (.putfield 166, 3) := dk_181 0 166 (dk_at dksX6_look_1 4 rfl rfl)
theorem dX6_look_30 : decode cX6_look 30 = .ok (.aload_n 0, 1) := dk_42 (dk_at dksX6_look_1 7 rfl rfl)
theorem dX6_look_31 : decode cX6_look 31 = .ok (.getfield 166, 3) := dk_180 0 166 (dk_at dksX6_look_1 8 rfl rfl)
theorem dX6_look_34 : decode cX6_look 34 = .ok (.ifCond .eq 5, 3) := dk_153 0 5 (dk_at dksX6_look_1 11 rfl rfl)
theorem dX6_look_37 : decode cX6_look 37 = .ok (.iconst 0, 1) := dk_3 (dk_at dksX6_look_1 14 rfl rfl)
theorem dX6_look_38 : decode cX6_look 38 = .ok (.ireturn, 1) := dk_172 (dk_at dksX6_look_1 15 rfl rfl)
theorem dX6_look_39 : decode cX6_look 39 = .ok (.iload_n 2, 1) := dk_28 (dk_at dksX6_look_1 16 rfl rfl)
theorem dX6_look_40 : decode cX6_look 40 = .ok (.tableswitch 71 0 4 #[36, 43, 50, 57, 64], 36) := by decide +kernel
theorem dX6_look_76 : decode cX6_look 76 = .ok (.aload_n 0, 1) := dk_42 (dk_at dksX6_look_3 0 rfl rfl)
theorem dX6_look_77 : decode cX6_look 77 = .ok (.getfield 19, 3) := dk_180 0 19 (dk_at dksX6_look_3 1 rfl rfl)
theorem dX6_look_80 : decode cX6_look 80 = .ok (.iload_n 1, 1) := dk_27 (dk_at dksX6_look_3 4 rfl rfl)
theorem dX6_look_81 : decode cX6_look 81 = .ok (.iaload, 1) := dk_46 (dk_at dksX6_look_3 5 rfl rfl)
theorem dX6_look_82 : decode cX6_look 82 = .ok (.ireturn, 1) := dk_172 (dk_at dksX6_look_3 6 rfl rfl)
theorem dX6_look_83 : decode cX6_look 83 = .ok (.aload_n 0, 1) := dk_42 (dk_at dksX6_look_3 7 rfl rfl)
theorem dX6_look_84 : decode cX6_look 84 = .ok (.getfield 90, 3) := dk_180 0 90 (dk_at dksX6_look_3 8 rfl rfl)
theorem dX6_look_87 : decode cX6_look 87 = .ok (.iload_n 1, 1) := dk_27 (dk_at dksX6_look_3 11 rfl rfl)
theorem dX6_look_88 : decode cX6_look 88 = .ok (.iaload, 1) := dk_46 (dk_at dksX6_look_3 12 rfl rfl)
theorem dX6_look_89 : decode cX6_look 89 = .ok (.ireturn, 1) := dk_172 (dk_at dksX6_look_3 13 rfl rfl)
theorem dX6_look_90 : decode cX6_look 90 = .ok (.aload_n 0, 1) := dk_42 (dk_at dksX6_look_3 14 rfl rfl)
theorem dX6_look_91 : decode cX6_look 91 = .ok (.getfield 102, 3) := dk_180 0 102 (dk_at dksX6_look_3 15 rfl rfl)
theorem dX6_look_94 : decode cX6_look 94 = .ok (.iload_n 1, 1) := dk_27 (dk_at dksX6_look_3 18 rfl rfl)
theorem dX6_look_95 : decode cX6_look 95 = .ok (.iaload, 1) := dk_46 (dk_at dksX6_look_3 19 rfl rfl)
theorem dX6_look_96 : decode cX6_look 96 = .ok (.ireturn, 1) := dk_172 (dk_at dksX6_look_3 20 rfl rfl)
theorem dX6_look_97 : decode cX6_look 97 = .ok (.aload_n 0, 1) := dk_42 (dk_at dksX6_look_3 21 rfl rfl)
theorem dX6_look_98 : decode cX6_look 98 = .ok (.getfield 105, 3) := dk_180 0 105 (dk_at dksX6_look_4 0 rfl rfl)
theorem dX6_look_101 : decode cX6_look 101 = .ok (.iload_n 1, 1) := dk_27 (dk_at dksX6_look_4 3 rfl rfl)
theorem dX6_look_102 : decode cX6_look 102 = .ok (.iaload, 1) := dk_46 (dk_at dksX6_look_4 4 rfl rfl)
theorem dX6_look_103 : decode cX6_look 103 = .ok (.ireturn, 1) := dk_172 (dk_at dksX6_look_4 5 rfl rfl)
theorem dX6_look_104 : decode cX6_look 104 = .ok (.aload_n 0, 1) := dk_42 (dk_at dksX6_look_4 6 rfl rfl)
theorem dX6_look_105 : decode cX6_look 105 = .ok (.getfield 22, 3) := dk_180 0 22 (dk_at dksX6_look_4 7 rfl rfl)
theorem dX6_look_108 : decode cX6_look 108 = .ok (.iload_n 1, 1) := dk_27 (dk_at dksX6_look_4 10 rfl rfl)
theorem dX6_look_109 : decode cX6_look 109 = .ok (.iaload, 1) := dk_46 (dk_at dksX6_look_4 11 rfl rfl)
theorem dX6_look_110 : decode cX6_look 110 = .ok (.ireturn, 1) := dk_172 (dk_at dksX6_look_4 12 rfl rfl)
theorem dX6_look_111 : decode cX6_look 111 = .ok (.aload_n 0, 1) := dk_42 (dk_at dksX6_look_4 13 rfl rfl)
theorem dX6_look_112 : decode cX6_look 112 = .ok (.iconst 0, 1) := dk_3 (dk_at dksX6_look_4 14 rfl rfl)
theorem dX6_look_113 : decode cX6_look 113 = .ok (.iload_n 1, 1) := dk_27 (dk_at dksX6_look_4 15 rfl rfl)
theorem dX6_look_114 : decode cX6_look 114 = .ok (.invokevirtual 382, 3) := dk_182 1 126 (dk_at dksX6_look_4 16 rfl rfl)
theorem dX6_look_117 : decode cX6_look 117 = .ok (.ireturn, 1) := dk_172 (dk_at dksX6_look_4 19 rfl rfl)
abbrev cX6_isDesk : ByteArray := prog_23_method_42_code
def yX6_isDesk : MethodName := ⟨RX6, "isDesk", "(I)Z"⟩
def dkwX6_isDesk_0 : List UInt8 := [27, 155, 0, 17, 27, 42, 180, 0, 13, 3, 46, 162, 0, 7, 4, 167, 0, 4, 3, 172]
abbrev dktX6_isDesk_0 : List UInt8 := dkwX6_isDesk_0 ++ []
theorem dksX6_isDesk_0 : cX6_isDesk.data.toList.drop 0 = dktX6_isDesk_0 := by decide +kernel
theorem dX6_isDesk_0 : decode cX6_isDesk 0 = .ok (.iload_n 1, 1) := dk_27 (dk_at dksX6_isDesk_0 0 rfl rfl)
theorem dX6_isDesk_1 : decode cX6_isDesk 1 = .ok (.ifCond .lt 17, 3) := dk_155 0 17 (dk_at dksX6_isDesk_0 1 rfl rfl)
theorem dX6_isDesk_4 : decode cX6_isDesk 4 = .ok (.iload_n 1, 1) := dk_27 (dk_at dksX6_isDesk_0 4 rfl rfl)
theorem dX6_isDesk_5 : decode cX6_isDesk 5 = .ok (.aload_n 0, 1) := dk_42 (dk_at dksX6_isDesk_0 5 rfl rfl)
theorem dX6_isDesk_6 : decode cX6_isDesk 6 = .ok (.getfield 13, 3) := dk_180 0 13 (dk_at dksX6_isDesk_0 6 rfl rfl)
theorem dX6_isDesk_9 : decode cX6_isDesk 9 = .ok (.iconst 0, 1) := dk_3 (dk_at dksX6_isDesk_0 9 rfl rfl)
theorem dX6_isDesk_10 : decode cX6_isDesk 10 = .ok (.iaload, 1) := dk_46 (dk_at dksX6_isDesk_0 10 rfl rfl)
theorem dX6_isDesk_11 : decode cX6_isDesk 11 = .ok (.if_icmp .ge 7, 3) := dk_162 0 7 (dk_at dksX6_isDesk_0 11 rfl rfl)
theorem dX6_isDesk_14 : decode cX6_isDesk 14 = .ok (.iconst 1, 1) := dk_4 (dk_at dksX6_isDesk_0 14 rfl rfl)
theorem dX6_isDesk_15 : decode cX6_isDesk 15 = .ok (.goto 4, 3) := dk_167 0 4 (dk_at dksX6_isDesk_0 15 rfl rfl)
theorem dX6_isDesk_18 : decode cX6_isDesk 18 = .ok (.iconst 0, 1) := dk_3 (dk_at dksX6_isDesk_0 18 rfl rfl)
theorem dX6_isDesk_19 : decode cX6_isDesk 19 = .ok (.ireturn, 1) := dk_172 (dk_at dksX6_isDesk_0 19 rfl rfl)
abbrev cX6_setOf : ByteArray := prog_23_method_60_code
def yX6_setOf : MethodName := ⟨RX6, "setOf", "(II)I"⟩
def dkwX6_setOf_1 : List UInt8 := [180, 0, 93, 27, 28, 21, 4, 184, 1, 119, 46, 120, 128, 62, 132, 4, 1, 167, 255, 221, 29, 172]
abbrev dktX6_setOf_1 : List UInt8 := dkwX6_setOf_1 ++ []
def dkwX6_setOf_0 : List UInt8 := [3, 62, 3, 54, 4, 21, 4, 42, 180, 0, 90, 7, 27, 104, 28, 96, 46, 162, 0, 26, 29, 4, 42]
abbrev dktX6_setOf_0 : List UInt8 := dkwX6_setOf_0 ++ dktX6_setOf_1
theorem dksX6_setOf_0 : cX6_setOf.data.toList.drop 0 = dktX6_setOf_0 := by decide +kernel
theorem dksX6_setOf_1 : cX6_setOf.data.toList.drop 23 = dktX6_setOf_1 := dk_seg dksX6_setOf_0 23 rfl rfl
theorem dX6_setOf_0 : decode cX6_setOf 0 = .ok (.iconst 0, 1) := dk_3 (dk_at dksX6_setOf_0 0 rfl rfl)
theorem dX6_setOf_1 : decode cX6_setOf 1 = .ok (.istore_n 3, 1) := dk_62 (dk_at dksX6_setOf_0 1 rfl rfl)
theorem dX6_setOf_2 : decode cX6_setOf 2 = .ok (.iconst 0, 1) := dk_3 (dk_at dksX6_setOf_0 2 rfl rfl)
theorem dX6_setOf_3 : decode cX6_setOf 3 = .ok (.istore 4, 2) := dk_54 4 (dk_at dksX6_setOf_0 3 rfl rfl)
theorem dX6_setOf_5 : decode cX6_setOf 5 = .ok (.iload 4, 2) := dk_21 4 (dk_at dksX6_setOf_0 5 rfl rfl)
theorem dX6_setOf_7 : decode cX6_setOf 7 = .ok (.aload_n 0, 1) := dk_42 (dk_at dksX6_setOf_0 7 rfl rfl)
theorem dX6_setOf_8 : decode cX6_setOf 8 = .ok (.getfield 90, 3) := dk_180 0 90 (dk_at dksX6_setOf_0 8 rfl rfl)
theorem dX6_setOf_11 : decode cX6_setOf 11 = .ok (.iconst 4, 1) := dk_7 (dk_at dksX6_setOf_0 11 rfl rfl)
theorem dX6_setOf_12 : decode cX6_setOf 12 = .ok (.iload_n 1, 1) := dk_27 (dk_at dksX6_setOf_0 12 rfl rfl)
theorem dX6_setOf_13 : decode cX6_setOf 13 = .ok (.imul, 1) := dk_104 (dk_at dksX6_setOf_0 13 rfl rfl)
theorem dX6_setOf_14 : decode cX6_setOf 14 = .ok (.iload_n 2, 1) := dk_28 (dk_at dksX6_setOf_0 14 rfl rfl)
theorem dX6_setOf_15 : decode cX6_setOf 15 = .ok (.iadd, 1) := dk_96 (dk_at dksX6_setOf_0 15 rfl rfl)
theorem dX6_setOf_16 : decode cX6_setOf 16 = .ok (.iaload, 1) := dk_46 (dk_at dksX6_setOf_0 16 rfl rfl)
theorem dX6_setOf_17 : decode cX6_setOf 17 = .ok (.if_icmp .ge 26, 3) := dk_162 0 26 (dk_at dksX6_setOf_0 17 rfl rfl)
theorem dX6_setOf_20 : decode cX6_setOf 20 = .ok (.iload_n 3, 1) := dk_29 (dk_at dksX6_setOf_0 20 rfl rfl)
theorem dX6_setOf_21 : decode cX6_setOf 21 = .ok (.iconst 1, 1) := dk_4 (dk_at dksX6_setOf_0 21 rfl rfl)
theorem dX6_setOf_22 : decode cX6_setOf 22 = .ok (.aload_n 0, 1) := dk_42 (dk_at dksX6_setOf_0 22 rfl rfl)
theorem dX6_setOf_23 : decode cX6_setOf 23 = .ok (.getfield 93, 3) := dk_180 0 93 (dk_at dksX6_setOf_1 0 rfl rfl)
theorem dX6_setOf_26 : decode cX6_setOf 26 = .ok (.iload_n 1, 1) := dk_27 (dk_at dksX6_setOf_1 3 rfl rfl)
theorem dX6_setOf_27 : decode cX6_setOf 27 = .ok (.iload_n 2, 1) := dk_28 (dk_at dksX6_setOf_1 4 rfl rfl)
theorem dX6_setOf_28 : decode cX6_setOf 28 = .ok (.iload 4, 2) := dk_21 4 (dk_at dksX6_setOf_1 5 rfl rfl)
theorem dX6_setOf_30 : decode cX6_setOf 30 = .ok (.invokestatic 375, 3) := dk_184 1 119 (dk_at dksX6_setOf_1 7 rfl rfl)
theorem dX6_setOf_33 : decode cX6_setOf 33 = .ok (.iaload, 1) := dk_46 (dk_at dksX6_setOf_1 10 rfl rfl)
theorem dX6_setOf_34 : decode cX6_setOf 34 = .ok (.ishl, 1) := dk_120 (dk_at dksX6_setOf_1 11 rfl rfl)
theorem dX6_setOf_35 : decode cX6_setOf 35 = .ok (.ior, 1) := dk_128 (dk_at dksX6_setOf_1 12 rfl rfl)
theorem dX6_setOf_36 : decode cX6_setOf 36 = .ok (.istore_n 3, 1) := dk_62 (dk_at dksX6_setOf_1 13 rfl rfl)
theorem dX6_setOf_37 : decode cX6_setOf 37 = .ok (.iinc 4 1, 3) := dk_132 4 1 (dk_at dksX6_setOf_1 14 rfl rfl)
theorem dX6_setOf_40 : decode cX6_setOf 40 = .ok (.goto (-35), 3) := dk_167 255 221 (dk_at dksX6_setOf_1 17 rfl rfl)
theorem dX6_setOf_43 : decode cX6_setOf 43 = .ok (.iload_n 3, 1) := dk_29 (dk_at dksX6_setOf_1 20 rfl rfl)
theorem dX6_setOf_44 : decode cX6_setOf 44 = .ok (.ireturn, 1) := dk_172 (dk_at dksX6_setOf_1 21 rfl rfl)
abbrev cX6_slot : ByteArray := prog_23_method_55_code
def yX6_slot : MethodName := ⟨RX6, "slot", "(III)I"⟩
def dkwX6_slot_0 : List UInt8 := [16, 28, 26, 104, 16, 7, 27, 104, 96, 28, 96, 172]
abbrev dktX6_slot_0 : List UInt8 := dkwX6_slot_0 ++ []
theorem dksX6_slot_0 : cX6_slot.data.toList.drop 0 = dktX6_slot_0 := by decide +kernel
theorem dX6_slot_0 : decode cX6_slot 0 = .ok (.bipush 28, 2) := dk_16 28 (dk_at dksX6_slot_0 0 rfl rfl)
theorem dX6_slot_2 : decode cX6_slot 2 = .ok (.iload_n 0, 1) := dk_26 (dk_at dksX6_slot_0 2 rfl rfl)
theorem dX6_slot_3 : decode cX6_slot 3 = .ok (.imul, 1) := dk_104 (dk_at dksX6_slot_0 3 rfl rfl)
theorem dX6_slot_4 : decode cX6_slot 4 = .ok (.bipush 7, 2) := dk_16 7 (dk_at dksX6_slot_0 4 rfl rfl)
theorem dX6_slot_6 : decode cX6_slot 6 = .ok (.iload_n 1, 1) := dk_27 (dk_at dksX6_slot_0 6 rfl rfl)
theorem dX6_slot_7 : decode cX6_slot 7 = .ok (.imul, 1) := dk_104 (dk_at dksX6_slot_0 7 rfl rfl)
theorem dX6_slot_8 : decode cX6_slot 8 = .ok (.iadd, 1) := dk_96 (dk_at dksX6_slot_0 8 rfl rfl)
theorem dX6_slot_9 : decode cX6_slot 9 = .ok (.iload_n 2, 1) := dk_28 (dk_at dksX6_slot_0 9 rfl rfl)
theorem dX6_slot_10 : decode cX6_slot 10 = .ok (.iadd, 1) := dk_96 (dk_at dksX6_slot_0 10 rfl rfl)
theorem dX6_slot_11 : decode cX6_slot 11 = .ok (.ireturn, 1) := dk_172 (dk_at dksX6_slot_0 11 rfl rfl)
abbrev cX6_line_2 : ByteArray := prog_23_method_74_code
def yX6_line_2 : MethodName := ⟨RX6, "line", "(III)I"⟩
def dkwX6_line_2_3 : List UInt8 := [180, 0, 96, 21, 4, 46, 167, 0, 10, 42, 180, 0, 99, 21, 4, 46, 172]
abbrev dktX6_line_2_3 : List UInt8 := dkwX6_line_2_3 ++ []
def dkwX6_line_2_2 : List UInt8 := [54, 4, 29, 154, 0, 13, 42, 180, 0, 93, 21, 4, 46, 167, 0, 25, 29, 4, 160, 0, 13, 42]
abbrev dktX6_line_2_2 : List UInt8 := dkwX6_line_2_2 ++ dktX6_line_2_3
def dkwX6_line_2_1 : List UInt8 := [164, 0, 5, 2, 172, 28, 42, 180, 0, 90, 27, 46, 161, 0, 6, 16, 254, 172, 3, 27, 28, 184, 1, 119]
abbrev dktX6_line_2_1 : List UInt8 := dkwX6_line_2_1 ++ dktX6_line_2_2
def dkwX6_line_2_0 : List UInt8 := [42, 3, 181, 0, 166, 42, 27, 182, 1, 196, 153, 0, 16, 28, 155, 0, 12, 29, 155, 0, 8, 29, 5]
abbrev dktX6_line_2_0 : List UInt8 := dkwX6_line_2_0 ++ dktX6_line_2_1
theorem dksX6_line_2_0 : cX6_line_2.data.toList.drop 0 = dktX6_line_2_0 := by decide +kernel
theorem dksX6_line_2_1 : cX6_line_2.data.toList.drop 23 = dktX6_line_2_1 := dk_seg dksX6_line_2_0 23 rfl rfl
theorem dksX6_line_2_2 : cX6_line_2.data.toList.drop 47 = dktX6_line_2_2 := dk_seg dksX6_line_2_1 24 rfl rfl
theorem dksX6_line_2_3 : cX6_line_2.data.toList.drop 69 = dktX6_line_2_3 := dk_seg dksX6_line_2_2 22 rfl rfl
theorem dX6_line_2_0 : decode cX6_line_2 0 = .ok (.aload_n 0, 1) := dk_42 (dk_at dksX6_line_2_0 0 rfl rfl)
theorem dX6_line_2_1 : decode cX6_line_2 1 = .ok (.iconst 0, 1) := dk_3 (dk_at dksX6_line_2_0 1 rfl rfl)
theorem dX6_line_2_2 : decode cX6_line_2 2 = .ok (.putfield 166, 3) := dk_181 0 166 (dk_at dksX6_line_2_0 2 rfl rfl)
theorem dX6_line_2_5 : decode cX6_line_2 5 = .ok (.aload_n 0, 1) := dk_42 (dk_at dksX6_line_2_0 5 rfl rfl)
theorem dX6_line_2_6 : decode cX6_line_2 6 = .ok (.iload_n 1, 1) := dk_27 (dk_at dksX6_line_2_0 6 rfl rfl)
theorem dX6_line_2_7 : decode cX6_line_2 7 = .ok (.invokevirtual 452, 3) := dk_182 1 196 (dk_at dksX6_line_2_0 7 rfl rfl)
theorem dX6_line_2_10 : decode cX6_line_2 10 = .ok (.ifCond .eq 16, 3) := dk_153 0 16 (dk_at dksX6_line_2_0 10 rfl rfl)
theorem dX6_line_2_13 : decode cX6_line_2 13 = .ok (.iload_n 2, 1) := dk_28 (dk_at dksX6_line_2_0 13 rfl rfl)
theorem dX6_line_2_14 : decode cX6_line_2 14 = .ok (.ifCond .lt 12, 3) := dk_155 0 12 (dk_at dksX6_line_2_0 14 rfl rfl)
theorem dX6_line_2_17 : decode cX6_line_2 17 = .ok (.iload_n 3, 1) := dk_29 (dk_at dksX6_line_2_0 17 rfl rfl)
theorem dX6_line_2_18 : decode cX6_line_2 18 = .ok (.ifCond .lt 8, 3) := dk_155 0 8 (dk_at dksX6_line_2_0 18 rfl rfl)
theorem dX6_line_2_21 : decode cX6_line_2 21 = .ok (.iload_n 3, 1) := dk_29 (dk_at dksX6_line_2_0 21 rfl rfl)
theorem dX6_line_2_22 : decode cX6_line_2 22 = .ok (.iconst 2, 1) := dk_5 (dk_at dksX6_line_2_0 22 rfl rfl)
theorem dX6_line_2_23 : decode cX6_line_2 23 = .ok (.if_icmp .le 5, 3) := dk_164 0 5 (dk_at dksX6_line_2_1 0 rfl rfl)
theorem dX6_line_2_26 : decode cX6_line_2 26 = .ok (.iconst (-1), 1) := dk_2 (dk_at dksX6_line_2_1 3 rfl rfl)
theorem dX6_line_2_27 : decode cX6_line_2 27 = .ok (.ireturn, 1) := dk_172 (dk_at dksX6_line_2_1 4 rfl rfl)
theorem dX6_line_2_28 : decode cX6_line_2 28 = .ok (.iload_n 2, 1) := dk_28 (dk_at dksX6_line_2_1 5 rfl rfl)
theorem dX6_line_2_29 : decode cX6_line_2 29 = .ok (.aload_n 0, 1) := dk_42 (dk_at dksX6_line_2_1 6 rfl rfl)
theorem dX6_line_2_30 : decode cX6_line_2 30 = .ok (.getfield 90, 3) := dk_180 0 90 (dk_at dksX6_line_2_1 7 rfl rfl)
theorem dX6_line_2_33 : decode cX6_line_2 33 = .ok (.iload_n 1, 1) := dk_27 (dk_at dksX6_line_2_1 10 rfl rfl)
theorem dX6_line_2_34 : decode cX6_line_2 34 = .ok (.iaload, 1) := dk_46 (dk_at dksX6_line_2_1 11 rfl rfl)
theorem dX6_line_2_35 : decode cX6_line_2 35 = .ok (.if_icmp .lt 6, 3) := dk_161 0 6 (dk_at dksX6_line_2_1 12 rfl rfl)
theorem dX6_line_2_38 : decode cX6_line_2 38 = .ok (.bipush (-2), 2) := dk_16 254 (dk_at dksX6_line_2_1 15 rfl rfl)
theorem dX6_line_2_40 : decode cX6_line_2 40 = .ok (.ireturn, 1) := dk_172 (dk_at dksX6_line_2_1 17 rfl rfl)
theorem dX6_line_2_41 : decode cX6_line_2 41 = .ok (.iconst 0, 1) := dk_3 (dk_at dksX6_line_2_1 18 rfl rfl)
theorem dX6_line_2_42 : decode cX6_line_2 42 = .ok (.iload_n 1, 1) := dk_27 (dk_at dksX6_line_2_1 19 rfl rfl)
theorem dX6_line_2_43 : decode cX6_line_2 43 = .ok (.iload_n 2, 1) := dk_28 (dk_at dksX6_line_2_1 20 rfl rfl)
theorem dX6_line_2_44 : decode cX6_line_2 44 = .ok (.invokestatic 375, 3) := dk_184 1 119 (dk_at dksX6_line_2_1 21 rfl rfl)
theorem dX6_line_2_47 : decode cX6_line_2 47 = .ok (.istore 4, 2) := dk_54 4 (dk_at dksX6_line_2_2 0 rfl rfl)
theorem dX6_line_2_49 : decode cX6_line_2 49 = .ok (.iload_n 3, 1) := dk_29 (dk_at dksX6_line_2_2 2 rfl rfl)
theorem dX6_line_2_50 : decode cX6_line_2 50 = .ok (.ifCond .ne 13, 3) := dk_154 0 13 (dk_at dksX6_line_2_2 3 rfl rfl)
theorem dX6_line_2_53 : decode cX6_line_2 53 = .ok (.aload_n 0, 1) := dk_42 (dk_at dksX6_line_2_2 6 rfl rfl)
theorem dX6_line_2_54 : decode cX6_line_2 54 = .ok (.getfield 93, 3) := dk_180 0 93 (dk_at dksX6_line_2_2 7 rfl rfl)
theorem dX6_line_2_57 : decode cX6_line_2 57 = .ok (.iload 4, 2) := dk_21 4 (dk_at dksX6_line_2_2 10 rfl rfl)
theorem dX6_line_2_59 : decode cX6_line_2 59 = .ok (.iaload, 1) := dk_46 (dk_at dksX6_line_2_2 12 rfl rfl)
theorem dX6_line_2_60 : decode cX6_line_2 60 = .ok (.goto 25, 3) := dk_167 0 25 (dk_at dksX6_line_2_2 13 rfl rfl)
theorem dX6_line_2_63 : decode cX6_line_2 63 = .ok (.iload_n 3, 1) := dk_29 (dk_at dksX6_line_2_2 16 rfl rfl)
theorem dX6_line_2_64 : decode cX6_line_2 64 = .ok (.iconst 1, 1) := dk_4 (dk_at dksX6_line_2_2 17 rfl rfl)
theorem dX6_line_2_65 : decode cX6_line_2 65 = .ok (.if_icmp .ne 13, 3) := dk_160 0 13 (dk_at dksX6_line_2_2 18 rfl rfl)
theorem dX6_line_2_68 : decode cX6_line_2 68 = .ok (.aload_n 0, 1) := dk_42 (dk_at dksX6_line_2_2 21 rfl rfl)
theorem dX6_line_2_69 : decode cX6_line_2 69 = .ok (.getfield 96, 3) := dk_180 0 96 (dk_at dksX6_line_2_3 0 rfl rfl)
theorem dX6_line_2_72 : decode cX6_line_2 72 = .ok (.iload 4, 2) := dk_21 4 (dk_at dksX6_line_2_3 3 rfl rfl)
theorem dX6_line_2_74 : decode cX6_line_2 74 = .ok (.iaload, 1) := dk_46 (dk_at dksX6_line_2_3 5 rfl rfl)
theorem dX6_line_2_75 : decode cX6_line_2 75 = .ok (.goto 10, 3) := dk_167 0 10 (dk_at dksX6_line_2_3 6 rfl rfl)
theorem dX6_line_2_78 : decode cX6_line_2 78 = .ok (.aload_n 0, 1) := dk_42 (dk_at dksX6_line_2_3 9 rfl rfl)
theorem dX6_line_2_79 : decode cX6_line_2 79 = .ok (.getfield 99, 3) := dk_180 0 99 (dk_at dksX6_line_2_3 10 rfl rfl)
theorem dX6_line_2_82 : decode cX6_line_2 82 = .ok (.iload 4, 2) := dk_21 4 (dk_at dksX6_line_2_3 13 rfl rfl)
theorem dX6_line_2_84 : decode cX6_line_2 84 = .ok (.iaload, 1) := dk_46 (dk_at dksX6_line_2_3 15 rfl rfl)
theorem dX6_line_2_85 : decode cX6_line_2 85 = .ok (.ireturn, 1) := dk_172 (dk_at dksX6_line_2_3 16 rfl rfl)
abbrev cX6_days : ByteArray := prog_23_method_75_code
def yX6_days : MethodName := ⟨RX6, "days", "(I)I"⟩
def dkwX6_days_2 : List UInt8 := [132, 2, 1, 167, 255, 243, 42, 180, 0, 87, 3, 46, 172]
abbrev dktX6_days_2 : List UInt8 := dkwX6_days_2 ++ []
def dkwX6_days_1 : List UInt8 := [16, 61, 164, 0, 5, 2, 172, 42, 182, 1, 84, 3, 61, 28, 27, 162, 0, 14, 42, 3, 182, 1, 199]
abbrev dktX6_days_1 : List UInt8 := dkwX6_days_1 ++ dktX6_days_2
def dkwX6_days_0 : List UInt8 := [42, 3, 181, 0, 166, 27, 155, 0, 22, 27, 16, 61, 163, 0, 16, 42, 180, 0, 87, 3, 46, 27, 96]
abbrev dktX6_days_0 : List UInt8 := dkwX6_days_0 ++ dktX6_days_1
theorem dksX6_days_0 : cX6_days.data.toList.drop 0 = dktX6_days_0 := by decide +kernel
theorem dksX6_days_1 : cX6_days.data.toList.drop 23 = dktX6_days_1 := dk_seg dksX6_days_0 23 rfl rfl
theorem dksX6_days_2 : cX6_days.data.toList.drop 46 = dktX6_days_2 := dk_seg dksX6_days_1 23 rfl rfl
theorem dX6_days_0 : decode cX6_days 0 = .ok (.aload_n 0, 1) := dk_42 (dk_at dksX6_days_0 0 rfl rfl)
theorem dX6_days_1 : decode cX6_days 1 = .ok (.iconst 0, 1) := dk_3 (dk_at dksX6_days_0 1 rfl rfl)
theorem dX6_days_2 : decode cX6_days 2 = .ok (.putfield 166, 3) := dk_181 0 166 (dk_at dksX6_days_0 2 rfl rfl)
theorem dX6_days_5 : decode cX6_days 5 = .ok (.iload_n 1, 1) := dk_27 (dk_at dksX6_days_0 5 rfl rfl)
theorem dX6_days_6 : decode cX6_days 6 = .ok (.ifCond .lt 22, 3) := dk_155 0 22 (dk_at dksX6_days_0 6 rfl rfl)
theorem dX6_days_9 : decode cX6_days 9 = .ok (.iload_n 1, 1) := dk_27 (dk_at dksX6_days_0 9 rfl rfl)
theorem dX6_days_10 : decode cX6_days 10 = .ok (.bipush 61, 2) := dk_16 61 (dk_at dksX6_days_0 10 rfl rfl)
theorem dX6_days_12 : decode cX6_days 12 = .ok (.if_icmp .gt 16, 3) := dk_163 0 16 (dk_at dksX6_days_0 12 rfl rfl)
theorem dX6_days_15 : decode cX6_days 15 = .ok (.aload_n 0, 1) := dk_42 (dk_at dksX6_days_0 15 rfl rfl)
theorem dX6_days_16 : decode cX6_days 16 = .ok (.getfield 87, 3) := dk_180 0 87 (dk_at dksX6_days_0 16 rfl rfl)
theorem dX6_days_19 : decode cX6_days 19 = .ok (.iconst 0, 1) := dk_3 (dk_at dksX6_days_0 19 rfl rfl)
theorem dX6_days_20 : decode cX6_days 20 = .ok (.iaload, 1) := dk_46 (dk_at dksX6_days_0 20 rfl rfl)
theorem dX6_days_21 : decode cX6_days 21 = .ok (.iload_n 1, 1) := dk_27 (dk_at dksX6_days_0 21 rfl rfl)
theorem dX6_days_22 : decode cX6_days 22 = .ok (.iadd, 1) := dk_96 (dk_at dksX6_days_0 22 rfl rfl)
theorem dX6_days_23 : decode cX6_days 23 = .ok (.bipush 61, 2) := dk_16 61 (dk_at dksX6_days_1 0 rfl rfl)
theorem dX6_days_25 : decode cX6_days 25 = .ok (.if_icmp .le 5, 3) := dk_164 0 5 (dk_at dksX6_days_1 2 rfl rfl)
theorem dX6_days_28 : decode cX6_days 28 = .ok (.iconst (-1), 1) := dk_2 (dk_at dksX6_days_1 5 rfl rfl)
theorem dX6_days_29 : decode cX6_days 29 = .ok (.ireturn, 1) := dk_172 (dk_at dksX6_days_1 6 rfl rfl)
theorem dX6_days_30 : decode cX6_days 30 = .ok (.aload_n 0, 1) := dk_42 (dk_at dksX6_days_1 7 rfl rfl)
theorem dX6_days_31 : decode cX6_days 31 = .ok (.invokevirtual 340, 3) := dk_182 1 84 (dk_at dksX6_days_1 8 rfl rfl)
theorem dX6_days_34 : decode cX6_days 34 = .ok (.iconst 0, 1) := dk_3 (dk_at dksX6_days_1 11 rfl rfl)
theorem dX6_days_35 : decode cX6_days 35 = .ok (.istore_n 2, 1) := dk_61 (dk_at dksX6_days_1 12 rfl rfl)
theorem dX6_days_36 : decode cX6_days 36 = .ok (.iload_n 2, 1) := dk_28 (dk_at dksX6_days_1 13 rfl rfl)
theorem dX6_days_37 : decode cX6_days 37 = .ok (.iload_n 1, 1) := dk_27 (dk_at dksX6_days_1 14 rfl rfl)
theorem dX6_days_38 : decode cX6_days 38 = .ok (.if_icmp .ge 14, 3) := dk_162 0 14 (dk_at dksX6_days_1 15 rfl rfl)
theorem dX6_days_41 : decode cX6_days 41 = .ok (.aload_n 0, 1) := dk_42 (dk_at dksX6_days_1 18 rfl rfl)
theorem dX6_days_42 : decode cX6_days 42 = .ok (.iconst 0, 1) := dk_3 (dk_at dksX6_days_1 19 rfl rfl)
theorem dX6_days_43 : decode cX6_days 43 = .ok (.invokevirtual 455, 3) := dk_182 1 199 (dk_at dksX6_days_1 20 rfl rfl)
theorem dX6_days_46 : decode cX6_days 46 = .ok (.iinc 2 1, 3) := dk_132 2 1 (dk_at dksX6_days_2 0 rfl rfl)
theorem dX6_days_49 : decode cX6_days 49 = .ok (.goto (-13), 3) := dk_167 255 243 (dk_at dksX6_days_2 3 rfl rfl)
theorem dX6_days_52 : decode cX6_days 52 = .ok (.aload_n 0, 1) := dk_42 (dk_at dksX6_days_2 6 rfl rfl)
theorem dX6_days_53 : decode cX6_days 53 = .ok (.getfield 87, 3) := dk_180 0 87 (dk_at dksX6_days_2 7 rfl rfl)
theorem dX6_days_56 : decode cX6_days 56 = .ok (.iconst 0, 1) := dk_3 (dk_at dksX6_days_2 10 rfl rfl)
theorem dX6_days_57 : decode cX6_days 57 = .ok (.iaload, 1) := dk_46 (dk_at dksX6_days_2 11 rfl rfl)
theorem dX6_days_58 : decode cX6_days 58 = .ok (.ireturn, 1) := dk_172 (dk_at dksX6_days_2 12 rfl rfl)
abbrev cX6_passes : ByteArray := prog_23_method_70_code
def yX6_passes : MethodName := ⟨RX6, "passes", "(I)V"⟩
def dkwX6_passes_15 : List UInt8 := [132, 3, 1, 167, 255, 190, 42, 180, 0, 87, 27, 92, 46, 4, 96, 79, 177]
abbrev dktX6_passes_15 : List UInt8 := dkwX6_passes_15 ++ []
def dkwX6_passes_14 : List UInt8 := [180, 0, 102, 21, 4, 46, 42, 180, 0, 13, 16, 6, 46, 161, 0, 11, 42, 180, 0, 105, 21, 4, 28, 79]
abbrev dktX6_passes_14 : List UInt8 := dkwX6_passes_14 ++ dktX6_passes_15
def dkwX6_passes_13 : List UInt8 := [54, 4, 42, 180, 0, 105, 21, 4, 46, 2, 160, 0, 38, 42, 180, 0, 102, 21, 4, 46, 158, 0, 28, 42]
abbrev dktX6_passes_13 : List UInt8 := dkwX6_passes_13 ++ dktX6_passes_14
def dkwX6_passes_12 : List UInt8 := [132, 3, 1, 167, 255, 227, 3, 62, 29, 42, 180, 0, 13, 3, 46, 162, 0, 62, 7, 27, 104, 29, 96]
abbrev dktX6_passes_12 : List UInt8 := dkwX6_passes_12 ++ dktX6_passes_13
def dkwX6_passes_11 : List UInt8 := [180, 0, 13, 6, 46, 162, 0, 25, 42, 180, 0, 43, 29, 46, 28, 160, 0, 9, 42, 27, 29, 182, 1, 190]
abbrev dktX6_passes_11 : List UInt8 := dkwX6_passes_11 ++ dktX6_passes_12
def dkwX6_passes_10 : List UInt8 := [167, 255, 219, 42, 180, 0, 90, 7, 27, 104, 29, 96, 3, 79, 132, 3, 1, 167, 255, 177, 3, 62, 29, 42]
abbrev dktX6_passes_10 : List UInt8 := dkwX6_passes_10 ++ dktX6_passes_11
def dkwX6_passes_9 : List UInt8 := [42, 27, 29, 42, 180, 0, 93, 27, 29, 21, 4, 184, 1, 119, 46, 6, 182, 1, 159, 132, 4, 1]
abbrev dktX6_passes_9 : List UInt8 := dkwX6_passes_9 ++ dktX6_passes_10
def dkwX6_passes_8 : List UInt8 := [154, 0, 6, 167, 0, 57, 3, 54, 4, 21, 4, 42, 180, 0, 90, 7, 27, 104, 29, 96, 46, 162, 0, 28]
abbrev dktX6_passes_8 : List UInt8 := dkwX6_passes_8 ++ dktX6_passes_9
def dkwX6_passes_7 : List UInt8 := [27, 182, 1, 183, 3, 62, 29, 42, 180, 0, 13, 3, 46, 162, 0, 75, 42, 29, 28, 182, 1, 186]
abbrev dktX6_passes_7 : List UInt8 := dkwX6_passes_7 ++ dktX6_passes_8
def dkwX6_passes_6 : List UInt8 := [29, 46, 42, 180, 0, 37, 29, 46, 42, 180, 0, 40, 29, 46, 182, 1, 177, 132, 3, 1, 167, 255, 202, 42]
abbrev dktX6_passes_6 : List UInt8 := dkwX6_passes_6 ++ dktX6_passes_7
def dkwX6_passes_5 : List UInt8 := [42, 180, 0, 31, 29, 46, 28, 160, 0, 34, 42, 29, 182, 1, 180, 153, 0, 26, 42, 27, 42, 180, 0, 34]
abbrev dktX6_passes_5 : List UInt8 := dkwX6_passes_5 ++ dktX6_passes_6
def dkwX6_passes_4 : List UInt8 := [182, 1, 163, 167, 255, 192, 132, 3, 1, 167, 255, 162, 3, 62, 29, 42, 180, 0, 13, 5, 46, 162, 0, 50]
abbrev dktX6_passes_4 : List UInt8 := dkwX6_passes_4 ++ dktX6_passes_5
def dkwX6_passes_3 : List UInt8 := [29, 42, 180, 0, 93, 27, 29, 21, 4, 184, 1, 119, 46, 3, 182, 1, 159, 42, 27, 29, 21, 4]
abbrev dktX6_passes_3 : List UInt8 := dkwX6_passes_3 ++ dktX6_passes_4
def dkwX6_passes_2 : List UInt8 := [42, 180, 0, 96, 27, 29, 21, 4, 184, 1, 119, 46, 28, 161, 0, 9, 132, 4, 1, 167, 255, 222, 42, 27]
abbrev dktX6_passes_2 : List UInt8 := dkwX6_passes_2 ++ dktX6_passes_3
def dkwX6_passes_1 : List UInt8 := [27, 104, 29, 96, 3, 84, 3, 54, 4, 21, 4, 42, 180, 0, 90, 7, 27, 104, 29, 96, 46, 162, 0, 55]
abbrev dktX6_passes_1 : List UInt8 := dkwX6_passes_1 ++ dktX6_passes_2
def dkwX6_passes_0 : List UInt8 := [42, 180, 0, 87, 27, 46, 61, 3, 62, 29, 42, 180, 0, 13, 3, 46, 162, 0, 90, 42, 180, 0, 108, 7]
abbrev dktX6_passes_0 : List UInt8 := dkwX6_passes_0 ++ dktX6_passes_1
theorem dksX6_passes_0 : cX6_passes.data.toList.drop 0 = dktX6_passes_0 := by decide +kernel
theorem dksX6_passes_1 : cX6_passes.data.toList.drop 24 = dktX6_passes_1 := dk_seg dksX6_passes_0 24 rfl rfl
theorem dksX6_passes_2 : cX6_passes.data.toList.drop 48 = dktX6_passes_2 := dk_seg dksX6_passes_1 24 rfl rfl
theorem dksX6_passes_3 : cX6_passes.data.toList.drop 72 = dktX6_passes_3 := dk_seg dksX6_passes_2 24 rfl rfl
theorem dksX6_passes_4 : cX6_passes.data.toList.drop 94 = dktX6_passes_4 := dk_seg dksX6_passes_3 22 rfl rfl
theorem dksX6_passes_5 : cX6_passes.data.toList.drop 118 = dktX6_passes_5 := dk_seg dksX6_passes_4 24 rfl rfl
theorem dksX6_passes_6 : cX6_passes.data.toList.drop 142 = dktX6_passes_6 := dk_seg dksX6_passes_5 24 rfl rfl
theorem dksX6_passes_7 : cX6_passes.data.toList.drop 166 = dktX6_passes_7 := dk_seg dksX6_passes_6 24 rfl rfl
theorem dksX6_passes_8 : cX6_passes.data.toList.drop 188 = dktX6_passes_8 := dk_seg dksX6_passes_7 22 rfl rfl
theorem dksX6_passes_9 : cX6_passes.data.toList.drop 212 = dktX6_passes_9 := dk_seg dksX6_passes_8 24 rfl rfl
theorem dksX6_passes_10 : cX6_passes.data.toList.drop 234 = dktX6_passes_10 := dk_seg dksX6_passes_9 22 rfl rfl
theorem dksX6_passes_11 : cX6_passes.data.toList.drop 258 = dktX6_passes_11 := dk_seg dksX6_passes_10 24 rfl rfl
theorem dksX6_passes_12 : cX6_passes.data.toList.drop 282 = dktX6_passes_12 := dk_seg dksX6_passes_11 24 rfl rfl
theorem dksX6_passes_13 : cX6_passes.data.toList.drop 305 = dktX6_passes_13 := dk_seg dksX6_passes_12 23 rfl rfl
theorem dksX6_passes_14 : cX6_passes.data.toList.drop 329 = dktX6_passes_14 := dk_seg dksX6_passes_13 24 rfl rfl
theorem dksX6_passes_15 : cX6_passes.data.toList.drop 353 = dktX6_passes_15 := dk_seg dksX6_passes_14 24 rfl rfl
theorem dX6_passes_0 : decode cX6_passes 0 = .ok (.aload_n 0, 1) := dk_42 (dk_at dksX6_passes_0 0 rfl rfl)
theorem dX6_passes_1 : decode cX6_passes 1 = .ok (.getfield 87, 3) := dk_180 0 87 (dk_at dksX6_passes_0 1 rfl rfl)
theorem dX6_passes_4 : decode cX6_passes 4 = .ok (.iload_n 1, 1) := dk_27 (dk_at dksX6_passes_0 4 rfl rfl)
theorem dX6_passes_5 : decode cX6_passes 5 = .ok (.iaload, 1) := dk_46 (dk_at dksX6_passes_0 5 rfl rfl)
theorem dX6_passes_6 : decode cX6_passes 6 = .ok (.istore_n 2, 1) := dk_61 (dk_at dksX6_passes_0 6 rfl rfl)
theorem dX6_passes_7 : decode cX6_passes 7 = .ok (.iconst 0, 1) := dk_3 (dk_at dksX6_passes_0 7 rfl rfl)
theorem dX6_passes_8 : decode cX6_passes 8 = .ok (.istore_n 3, 1) := dk_62 (dk_at dksX6_passes_0 8 rfl rfl)
theorem dX6_passes_9 : decode cX6_passes 9 = .ok (.iload_n 3, 1) := dk_29 (dk_at dksX6_passes_0 9 rfl rfl)
theorem dX6_passes_10 : decode cX6_passes 10 = .ok (.aload_n 0, 1) := dk_42 (dk_at dksX6_passes_0 10 rfl rfl)
theorem dX6_passes_11 : decode cX6_passes 11 = .ok (.getfield 13, 3) := dk_180 0 13 (dk_at dksX6_passes_0 11 rfl rfl)
theorem dX6_passes_14 : decode cX6_passes 14 = .ok (.iconst 0, 1) := dk_3 (dk_at dksX6_passes_0 14 rfl rfl)
theorem dX6_passes_15 : decode cX6_passes 15 = .ok (.iaload, 1) := dk_46 (dk_at dksX6_passes_0 15 rfl rfl)
theorem dX6_passes_16 : decode cX6_passes 16 = .ok (.if_icmp .ge 90, 3) := dk_162 0 90 (dk_at dksX6_passes_0 16 rfl rfl)
theorem dX6_passes_19 : decode cX6_passes 19 = .ok (.aload_n 0, 1) := dk_42 (dk_at dksX6_passes_0 19 rfl rfl)
theorem dX6_passes_20 : decode cX6_passes 20 = .ok (.getfield 108, 3) := dk_180 0 108 (dk_at dksX6_passes_0 20 rfl rfl)
theorem dX6_passes_23 : decode cX6_passes 23 = .ok (.iconst 4, 1) := dk_7 (dk_at dksX6_passes_0 23 rfl rfl)
theorem dX6_passes_24 : decode cX6_passes 24 = .ok (.iload_n 1, 1) := dk_27 (dk_at dksX6_passes_1 0 rfl rfl)
theorem dX6_passes_25 : decode cX6_passes 25 = .ok (.imul, 1) := dk_104 (dk_at dksX6_passes_1 1 rfl rfl)
theorem dX6_passes_26 : decode cX6_passes 26 = .ok (.iload_n 3, 1) := dk_29 (dk_at dksX6_passes_1 2 rfl rfl)
theorem dX6_passes_27 : decode cX6_passes 27 = .ok (.iadd, 1) := dk_96 (dk_at dksX6_passes_1 3 rfl rfl)
theorem dX6_passes_28 : decode cX6_passes 28 = .ok (.iconst 0, 1) := dk_3 (dk_at dksX6_passes_1 4 rfl rfl)
theorem dX6_passes_29 : decode cX6_passes 29 = .ok (.bastore, 1) := dk_84 (dk_at dksX6_passes_1 5 rfl rfl)
theorem dX6_passes_30 : decode cX6_passes 30 = .ok (.iconst 0, 1) := dk_3 (dk_at dksX6_passes_1 6 rfl rfl)
theorem dX6_passes_31 : decode cX6_passes 31 = .ok (.istore 4, 2) := dk_54 4 (dk_at dksX6_passes_1 7 rfl rfl)
theorem dX6_passes_33 : decode cX6_passes 33 = .ok (.iload 4, 2) := dk_21 4 (dk_at dksX6_passes_1 9 rfl rfl)
theorem dX6_passes_35 : decode cX6_passes 35 = .ok (.aload_n 0, 1) := dk_42 (dk_at dksX6_passes_1 11 rfl rfl)
theorem dX6_passes_36 : decode cX6_passes 36 = .ok (.getfield 90, 3) := dk_180 0 90 (dk_at dksX6_passes_1 12 rfl rfl)
theorem dX6_passes_39 : decode cX6_passes 39 = .ok (.iconst 4, 1) := dk_7 (dk_at dksX6_passes_1 15 rfl rfl)
theorem dX6_passes_40 : decode cX6_passes 40 = .ok (.iload_n 1, 1) := dk_27 (dk_at dksX6_passes_1 16 rfl rfl)
theorem dX6_passes_41 : decode cX6_passes 41 = .ok (.imul, 1) := dk_104 (dk_at dksX6_passes_1 17 rfl rfl)
theorem dX6_passes_42 : decode cX6_passes 42 = .ok (.iload_n 3, 1) := dk_29 (dk_at dksX6_passes_1 18 rfl rfl)
theorem dX6_passes_43 : decode cX6_passes 43 = .ok (.iadd, 1) := dk_96 (dk_at dksX6_passes_1 19 rfl rfl)
theorem dX6_passes_44 : decode cX6_passes 44 = .ok (.iaload, 1) := dk_46 (dk_at dksX6_passes_1 20 rfl rfl)
theorem dX6_passes_45 : decode cX6_passes 45 = .ok (.if_icmp .ge 55, 3) := dk_162 0 55 (dk_at dksX6_passes_1 21 rfl rfl)
theorem dX6_passes_48 : decode cX6_passes 48 = .ok (.aload_n 0, 1) := dk_42 (dk_at dksX6_passes_2 0 rfl rfl)
theorem dX6_passes_49 : decode cX6_passes 49 = .ok (.getfield 96, 3) := dk_180 0 96 (dk_at dksX6_passes_2 1 rfl rfl)
theorem dX6_passes_52 : decode cX6_passes 52 = .ok (.iload_n 1, 1) := dk_27 (dk_at dksX6_passes_2 4 rfl rfl)
theorem dX6_passes_53 : decode cX6_passes 53 = .ok (.iload_n 3, 1) := dk_29 (dk_at dksX6_passes_2 5 rfl rfl)
theorem dX6_passes_54 : decode cX6_passes 54 = .ok (.iload 4, 2) := dk_21 4 (dk_at dksX6_passes_2 6 rfl rfl)
theorem dX6_passes_56 : decode cX6_passes 56 = .ok (.invokestatic 375, 3) := dk_184 1 119 (dk_at dksX6_passes_2 8 rfl rfl)
theorem dX6_passes_59 : decode cX6_passes 59 = .ok (.iaload, 1) := dk_46 (dk_at dksX6_passes_2 11 rfl rfl)
theorem dX6_passes_60 : decode cX6_passes 60 = .ok (.iload_n 2, 1) := dk_28 (dk_at dksX6_passes_2 12 rfl rfl)
theorem dX6_passes_61 : decode cX6_passes 61 = .ok (.if_icmp .lt 9, 3) := dk_161 0 9 (dk_at dksX6_passes_2 13 rfl rfl)
theorem dX6_passes_64 : decode cX6_passes 64 = .ok (.iinc 4 1, 3) := dk_132 4 1 (dk_at dksX6_passes_2 16 rfl rfl)
theorem dX6_passes_67 : decode cX6_passes 67 = .ok (.goto (-34), 3) := dk_167 255 222 (dk_at dksX6_passes_2 19 rfl rfl)
theorem dX6_passes_70 : decode cX6_passes 70 = .ok (.aload_n 0, 1) := dk_42 (dk_at dksX6_passes_2 22 rfl rfl)
theorem dX6_passes_71 : decode cX6_passes 71 = .ok (.iload_n 1, 1) := dk_27 (dk_at dksX6_passes_2 23 rfl rfl)
theorem dX6_passes_72 : decode cX6_passes 72 = .ok (.iload_n 3, 1) := dk_29 (dk_at dksX6_passes_3 0 rfl rfl)
theorem dX6_passes_73 : decode cX6_passes 73 = .ok (.aload_n 0, 1) := dk_42 (dk_at dksX6_passes_3 1 rfl rfl)
theorem dX6_passes_74 : decode cX6_passes 74 = .ok (.getfield 93, 3) := dk_180 0 93 (dk_at dksX6_passes_3 2 rfl rfl)
theorem dX6_passes_77 : decode cX6_passes 77 = .ok (.iload_n 1, 1) := dk_27 (dk_at dksX6_passes_3 5 rfl rfl)
theorem dX6_passes_78 : decode cX6_passes 78 = .ok (.iload_n 3, 1) := dk_29 (dk_at dksX6_passes_3 6 rfl rfl)
theorem dX6_passes_79 : decode cX6_passes 79 = .ok (.iload 4, 2) := dk_21 4 (dk_at dksX6_passes_3 7 rfl rfl)
theorem dX6_passes_81 : decode cX6_passes 81 = .ok (.invokestatic 375, 3) := dk_184 1 119 (dk_at dksX6_passes_3 9 rfl rfl)
theorem dX6_passes_84 : decode cX6_passes 84 = .ok (.iaload, 1) := dk_46 (dk_at dksX6_passes_3 12 rfl rfl)
theorem dX6_passes_85 : decode cX6_passes 85 = .ok (.iconst 0, 1) := dk_3 (dk_at dksX6_passes_3 13 rfl rfl)
theorem dX6_passes_86 : decode cX6_passes 86 = .ok (.invokevirtual 415, 3) := dk_182 1 159 (dk_at dksX6_passes_3 14 rfl rfl)
theorem dX6_passes_89 : decode cX6_passes 89 = .ok (.aload_n 0, 1) := dk_42 (dk_at dksX6_passes_3 17 rfl rfl)
theorem dX6_passes_90 : decode cX6_passes 90 = .ok (.iload_n 1, 1) := dk_27 (dk_at dksX6_passes_3 18 rfl rfl)
theorem dX6_passes_91 : decode cX6_passes 91 = .ok (.iload_n 3, 1) := dk_29 (dk_at dksX6_passes_3 19 rfl rfl)
theorem dX6_passes_92 : decode cX6_passes 92 = .ok (.iload 4, 2) := dk_21 4 (dk_at dksX6_passes_3 20 rfl rfl)
theorem dX6_passes_94 : decode cX6_passes 94 = .ok (.invokevirtual 419, 3) := dk_182 1 163 (dk_at dksX6_passes_4 0 rfl rfl)
theorem dX6_passes_97 : decode cX6_passes 97 = .ok (.goto (-64), 3) := dk_167 255 192 (dk_at dksX6_passes_4 3 rfl rfl)
theorem dX6_passes_100 : decode cX6_passes 100 = .ok (.iinc 3 1, 3) := dk_132 3 1 (dk_at dksX6_passes_4 6 rfl rfl)
theorem dX6_passes_103 : decode cX6_passes 103 = .ok (.goto (-94), 3) := dk_167 255 162 (dk_at dksX6_passes_4 9 rfl rfl)
theorem dX6_passes_106 : decode cX6_passes 106 = .ok (.iconst 0, 1) := dk_3 (dk_at dksX6_passes_4 12 rfl rfl)
theorem dX6_passes_107 : decode cX6_passes 107 = .ok (.istore_n 3, 1) := dk_62 (dk_at dksX6_passes_4 13 rfl rfl)
theorem dX6_passes_108 : decode cX6_passes 108 = .ok (.iload_n 3, 1) := dk_29 (dk_at dksX6_passes_4 14 rfl rfl)
theorem dX6_passes_109 : decode cX6_passes 109 = .ok (.aload_n 0, 1) := dk_42 (dk_at dksX6_passes_4 15 rfl rfl)
theorem dX6_passes_110 : decode cX6_passes 110 = .ok (.getfield 13, 3) := dk_180 0 13 (dk_at dksX6_passes_4 16 rfl rfl)
theorem dX6_passes_113 : decode cX6_passes 113 = .ok (.iconst 2, 1) := dk_5 (dk_at dksX6_passes_4 19 rfl rfl)
theorem dX6_passes_114 : decode cX6_passes 114 = .ok (.iaload, 1) := dk_46 (dk_at dksX6_passes_4 20 rfl rfl)
theorem dX6_passes_115 : decode cX6_passes 115 = .ok (.if_icmp .ge 50, 3) := dk_162 0 50 (dk_at dksX6_passes_4 21 rfl rfl)
theorem dX6_passes_118 : decode cX6_passes 118 = .ok (.aload_n 0, 1) := dk_42 (dk_at dksX6_passes_5 0 rfl rfl)
theorem dX6_passes_119 : decode cX6_passes 119 = .ok (.getfield 31, 3) := dk_180 0 31 (dk_at dksX6_passes_5 1 rfl rfl)
theorem dX6_passes_122 : decode cX6_passes 122 = .ok (.iload_n 3, 1) := dk_29 (dk_at dksX6_passes_5 4 rfl rfl)
theorem dX6_passes_123 : decode cX6_passes 123 = .ok (.iaload, 1) := dk_46 (dk_at dksX6_passes_5 5 rfl rfl)
theorem dX6_passes_124 : decode cX6_passes 124 = .ok (.iload_n 2, 1) := dk_28 (dk_at dksX6_passes_5 6 rfl rfl)
theorem dX6_passes_125 : decode cX6_passes 125 = .ok (.if_icmp .ne 34, 3) := dk_160 0 34 (dk_at dksX6_passes_5 7 rfl rfl)
theorem dX6_passes_128 : decode cX6_passes 128 = .ok (.aload_n 0, 1) := dk_42 (dk_at dksX6_passes_5 10 rfl rfl)
theorem dX6_passes_129 : decode cX6_passes 129 = .ok (.iload_n 3, 1) := dk_29 (dk_at dksX6_passes_5 11 rfl rfl)
theorem dX6_passes_130 : decode cX6_passes 130 = .ok (.invokevirtual 436, 3) := dk_182 1 180 (dk_at dksX6_passes_5 12 rfl rfl)
theorem dX6_passes_133 : decode cX6_passes 133 = .ok (.ifCond .eq 26, 3) := dk_153 0 26 (dk_at dksX6_passes_5 15 rfl rfl)
theorem dX6_passes_136 : decode cX6_passes 136 = .ok (.aload_n 0, 1) := dk_42 (dk_at dksX6_passes_5 18 rfl rfl)
theorem dX6_passes_137 : decode cX6_passes 137 = .ok (.iload_n 1, 1) := dk_27 (dk_at dksX6_passes_5 19 rfl rfl)
theorem dX6_passes_138 : decode cX6_passes 138 = .ok (.aload_n 0, 1) := dk_42 (dk_at dksX6_passes_5 20 rfl rfl)
theorem dX6_passes_139 : decode cX6_passes 139 = .ok (.getfield 34, 3) := dk_180 0 34 (dk_at dksX6_passes_5 21 rfl rfl)
theorem dX6_passes_142 : decode cX6_passes 142 = .ok (.iload_n 3, 1) := dk_29 (dk_at dksX6_passes_6 0 rfl rfl)
theorem dX6_passes_143 : decode cX6_passes 143 = .ok (.iaload, 1) := dk_46 (dk_at dksX6_passes_6 1 rfl rfl)
theorem dX6_passes_144 : decode cX6_passes 144 = .ok (.aload_n 0, 1) := dk_42 (dk_at dksX6_passes_6 2 rfl rfl)
theorem dX6_passes_145 : decode cX6_passes 145 = .ok (.getfield 37, 3) := dk_180 0 37 (dk_at dksX6_passes_6 3 rfl rfl)
theorem dX6_passes_148 : decode cX6_passes 148 = .ok (.iload_n 3, 1) := dk_29 (dk_at dksX6_passes_6 6 rfl rfl)
theorem dX6_passes_149 : decode cX6_passes 149 = .ok (.iaload, 1) := dk_46 (dk_at dksX6_passes_6 7 rfl rfl)
theorem dX6_passes_150 : decode cX6_passes 150 = .ok (.aload_n 0, 1) := dk_42 (dk_at dksX6_passes_6 8 rfl rfl)
theorem dX6_passes_151 : decode cX6_passes 151 = .ok (.getfield 40, 3) := dk_180 0 40 (dk_at dksX6_passes_6 9 rfl rfl)
theorem dX6_passes_154 : decode cX6_passes 154 = .ok (.iload_n 3, 1) := dk_29 (dk_at dksX6_passes_6 12 rfl rfl)
theorem dX6_passes_155 : decode cX6_passes 155 = .ok (.iaload, 1) := dk_46 (dk_at dksX6_passes_6 13 rfl rfl)
theorem dX6_passes_156 : decode cX6_passes 156 = .ok (.invokevirtual 433, 3) := dk_182 1 177 (dk_at dksX6_passes_6 14 rfl rfl)
theorem dX6_passes_159 : decode cX6_passes 159 = .ok (.iinc 3 1, 3) := dk_132 3 1 (dk_at dksX6_passes_6 17 rfl rfl)
theorem dX6_passes_162 : decode cX6_passes 162 = .ok (.goto (-54), 3) := dk_167 255 202 (dk_at dksX6_passes_6 20 rfl rfl)
theorem dX6_passes_165 : decode cX6_passes 165 = .ok (.aload_n 0, 1) := dk_42 (dk_at dksX6_passes_6 23 rfl rfl)
theorem dX6_passes_166 : decode cX6_passes 166 = .ok (.iload_n 1, 1) := dk_27 (dk_at dksX6_passes_7 0 rfl rfl)
theorem dX6_passes_167 : decode cX6_passes 167 = .ok (.invokevirtual 439, 3) := dk_182 1 183 (dk_at dksX6_passes_7 1 rfl rfl)
theorem dX6_passes_170 : decode cX6_passes 170 = .ok (.iconst 0, 1) := dk_3 (dk_at dksX6_passes_7 4 rfl rfl)
theorem dX6_passes_171 : decode cX6_passes 171 = .ok (.istore_n 3, 1) := dk_62 (dk_at dksX6_passes_7 5 rfl rfl)
theorem dX6_passes_172 : decode cX6_passes 172 = .ok (.iload_n 3, 1) := dk_29 (dk_at dksX6_passes_7 6 rfl rfl)
theorem dX6_passes_173 : decode cX6_passes 173 = .ok (.aload_n 0, 1) := dk_42 (dk_at dksX6_passes_7 7 rfl rfl)
theorem dX6_passes_174 : decode cX6_passes 174 = .ok (.getfield 13, 3) := dk_180 0 13 (dk_at dksX6_passes_7 8 rfl rfl)
theorem dX6_passes_177 : decode cX6_passes 177 = .ok (.iconst 0, 1) := dk_3 (dk_at dksX6_passes_7 11 rfl rfl)
theorem dX6_passes_178 : decode cX6_passes 178 = .ok (.iaload, 1) := dk_46 (dk_at dksX6_passes_7 12 rfl rfl)
theorem dX6_passes_179 : decode cX6_passes 179 = .ok (.if_icmp .ge 75, 3) := dk_162 0 75 (dk_at dksX6_passes_7 13 rfl rfl)
theorem dX6_passes_182 : decode cX6_passes 182 = .ok (.aload_n 0, 1) := dk_42 (dk_at dksX6_passes_7 16 rfl rfl)
theorem dX6_passes_183 : decode cX6_passes 183 = .ok (.iload_n 3, 1) := dk_29 (dk_at dksX6_passes_7 17 rfl rfl)
theorem dX6_passes_184 : decode cX6_passes 184 = .ok (.iload_n 2, 1) := dk_28 (dk_at dksX6_passes_7 18 rfl rfl)
theorem dX6_passes_185 : decode cX6_passes 185 = .ok (.invokevirtual 442, 3) := dk_182 1 186 (dk_at dksX6_passes_7 19 rfl rfl)
theorem dX6_passes_188 : decode cX6_passes 188 = .ok (.ifCond .ne 6, 3) := dk_154 0 6 (dk_at dksX6_passes_8 0 rfl rfl)
theorem dX6_passes_191 : decode cX6_passes 191 = .ok (.goto 57, 3) := dk_167 0 57 (dk_at dksX6_passes_8 3 rfl rfl)
theorem dX6_passes_194 : decode cX6_passes 194 = .ok (.iconst 0, 1) := dk_3 (dk_at dksX6_passes_8 6 rfl rfl)
theorem dX6_passes_195 : decode cX6_passes 195 = .ok (.istore 4, 2) := dk_54 4 (dk_at dksX6_passes_8 7 rfl rfl)
theorem dX6_passes_197 : decode cX6_passes 197 = .ok (.iload 4, 2) := dk_21 4 (dk_at dksX6_passes_8 9 rfl rfl)
theorem dX6_passes_199 : decode cX6_passes 199 = .ok (.aload_n 0, 1) := dk_42 (dk_at dksX6_passes_8 11 rfl rfl)
theorem dX6_passes_200 : decode cX6_passes 200 = .ok (.getfield 90, 3) := dk_180 0 90 (dk_at dksX6_passes_8 12 rfl rfl)
theorem dX6_passes_203 : decode cX6_passes 203 = .ok (.iconst 4, 1) := dk_7 (dk_at dksX6_passes_8 15 rfl rfl)
theorem dX6_passes_204 : decode cX6_passes 204 = .ok (.iload_n 1, 1) := dk_27 (dk_at dksX6_passes_8 16 rfl rfl)
theorem dX6_passes_205 : decode cX6_passes 205 = .ok (.imul, 1) := dk_104 (dk_at dksX6_passes_8 17 rfl rfl)
theorem dX6_passes_206 : decode cX6_passes 206 = .ok (.iload_n 3, 1) := dk_29 (dk_at dksX6_passes_8 18 rfl rfl)
theorem dX6_passes_207 : decode cX6_passes 207 = .ok (.iadd, 1) := dk_96 (dk_at dksX6_passes_8 19 rfl rfl)
theorem dX6_passes_208 : decode cX6_passes 208 = .ok (.iaload, 1) := dk_46 (dk_at dksX6_passes_8 20 rfl rfl)
theorem dX6_passes_209 : decode cX6_passes 209 = .ok (.if_icmp .ge 28, 3) := dk_162 0 28 (dk_at dksX6_passes_8 21 rfl rfl)
theorem dX6_passes_212 : decode cX6_passes 212 = .ok (.aload_n 0, 1) := dk_42 (dk_at dksX6_passes_9 0 rfl rfl)
theorem dX6_passes_213 : decode cX6_passes 213 = .ok (.iload_n 1, 1) := dk_27 (dk_at dksX6_passes_9 1 rfl rfl)
theorem dX6_passes_214 : decode cX6_passes 214 = .ok (.iload_n 3, 1) := dk_29 (dk_at dksX6_passes_9 2 rfl rfl)
theorem dX6_passes_215 : decode cX6_passes 215 = .ok (.aload_n 0, 1) := dk_42 (dk_at dksX6_passes_9 3 rfl rfl)
theorem dX6_passes_216 : decode cX6_passes 216 = .ok (.getfield 93, 3) := dk_180 0 93 (dk_at dksX6_passes_9 4 rfl rfl)
theorem dX6_passes_219 : decode cX6_passes 219 = .ok (.iload_n 1, 1) := dk_27 (dk_at dksX6_passes_9 7 rfl rfl)
theorem dX6_passes_220 : decode cX6_passes 220 = .ok (.iload_n 3, 1) := dk_29 (dk_at dksX6_passes_9 8 rfl rfl)
theorem dX6_passes_221 : decode cX6_passes 221 = .ok (.iload 4, 2) := dk_21 4 (dk_at dksX6_passes_9 9 rfl rfl)
theorem dX6_passes_223 : decode cX6_passes 223 = .ok (.invokestatic 375, 3) := dk_184 1 119 (dk_at dksX6_passes_9 11 rfl rfl)
theorem dX6_passes_226 : decode cX6_passes 226 = .ok (.iaload, 1) := dk_46 (dk_at dksX6_passes_9 14 rfl rfl)
theorem dX6_passes_227 : decode cX6_passes 227 = .ok (.iconst 3, 1) := dk_6 (dk_at dksX6_passes_9 15 rfl rfl)
theorem dX6_passes_228 : decode cX6_passes 228 = .ok (.invokevirtual 415, 3) := dk_182 1 159 (dk_at dksX6_passes_9 16 rfl rfl)
theorem dX6_passes_231 : decode cX6_passes 231 = .ok (.iinc 4 1, 3) := dk_132 4 1 (dk_at dksX6_passes_9 19 rfl rfl)
theorem dX6_passes_234 : decode cX6_passes 234 = .ok (.goto (-37), 3) := dk_167 255 219 (dk_at dksX6_passes_10 0 rfl rfl)
theorem dX6_passes_237 : decode cX6_passes 237 = .ok (.aload_n 0, 1) := dk_42 (dk_at dksX6_passes_10 3 rfl rfl)
theorem dX6_passes_238 : decode cX6_passes 238 = .ok (.getfield 90, 3) := dk_180 0 90 (dk_at dksX6_passes_10 4 rfl rfl)
theorem dX6_passes_241 : decode cX6_passes 241 = .ok (.iconst 4, 1) := dk_7 (dk_at dksX6_passes_10 7 rfl rfl)
theorem dX6_passes_242 : decode cX6_passes 242 = .ok (.iload_n 1, 1) := dk_27 (dk_at dksX6_passes_10 8 rfl rfl)
theorem dX6_passes_243 : decode cX6_passes 243 = .ok (.imul, 1) := dk_104 (dk_at dksX6_passes_10 9 rfl rfl)
theorem dX6_passes_244 : decode cX6_passes 244 = .ok (.iload_n 3, 1) := dk_29 (dk_at dksX6_passes_10 10 rfl rfl)
theorem dX6_passes_245 : decode cX6_passes 245 = .ok (.iadd, 1) := dk_96 (dk_at dksX6_passes_10 11 rfl rfl)
theorem dX6_passes_246 : decode cX6_passes 246 = .ok (.iconst 0, 1) := dk_3 (dk_at dksX6_passes_10 12 rfl rfl)
theorem dX6_passes_247 : decode cX6_passes 247 = .ok (.iastore, 1) := dk_79 (dk_at dksX6_passes_10 13 rfl rfl)
theorem dX6_passes_248 : decode cX6_passes 248 = .ok (.iinc 3 1, 3) := dk_132 3 1 (dk_at dksX6_passes_10 14 rfl rfl)
theorem dX6_passes_251 : decode cX6_passes 251 = .ok (.goto (-79), 3) := dk_167 255 177 (dk_at dksX6_passes_10 17 rfl rfl)
theorem dX6_passes_254 : decode cX6_passes 254 = .ok (.iconst 0, 1) := dk_3 (dk_at dksX6_passes_10 20 rfl rfl)
theorem dX6_passes_255 : decode cX6_passes 255 = .ok (.istore_n 3, 1) := dk_62 (dk_at dksX6_passes_10 21 rfl rfl)
theorem dX6_passes_256 : decode cX6_passes 256 = .ok (.iload_n 3, 1) := dk_29 (dk_at dksX6_passes_10 22 rfl rfl)
theorem dX6_passes_257 : decode cX6_passes 257 = .ok (.aload_n 0, 1) := dk_42 (dk_at dksX6_passes_10 23 rfl rfl)
theorem dX6_passes_258 : decode cX6_passes 258 = .ok (.getfield 13, 3) := dk_180 0 13 (dk_at dksX6_passes_11 0 rfl rfl)
theorem dX6_passes_261 : decode cX6_passes 261 = .ok (.iconst 3, 1) := dk_6 (dk_at dksX6_passes_11 3 rfl rfl)
theorem dX6_passes_262 : decode cX6_passes 262 = .ok (.iaload, 1) := dk_46 (dk_at dksX6_passes_11 4 rfl rfl)
theorem dX6_passes_263 : decode cX6_passes 263 = .ok (.if_icmp .ge 25, 3) := dk_162 0 25 (dk_at dksX6_passes_11 5 rfl rfl)
theorem dX6_passes_266 : decode cX6_passes 266 = .ok (.aload_n 0, 1) := dk_42 (dk_at dksX6_passes_11 8 rfl rfl)
theorem dX6_passes_267 : decode cX6_passes 267 = .ok (.getfield 43, 3) := dk_180 0 43 (dk_at dksX6_passes_11 9 rfl rfl)
theorem dX6_passes_270 : decode cX6_passes 270 = .ok (.iload_n 3, 1) := dk_29 (dk_at dksX6_passes_11 12 rfl rfl)
theorem dX6_passes_271 : decode cX6_passes 271 = .ok (.iaload, 1) := dk_46 (dk_at dksX6_passes_11 13 rfl rfl)
theorem dX6_passes_272 : decode cX6_passes 272 = .ok (.iload_n 2, 1) := dk_28 (dk_at dksX6_passes_11 14 rfl rfl)
theorem dX6_passes_273 : decode cX6_passes 273 = .ok (.if_icmp .ne 9, 3) := dk_160 0 9 (dk_at dksX6_passes_11 15 rfl rfl)
theorem dX6_passes_276 : decode cX6_passes 276 = .ok (.aload_n 0, 1) := dk_42 (dk_at dksX6_passes_11 18 rfl rfl)
theorem dX6_passes_277 : decode cX6_passes 277 = .ok (.iload_n 1, 1) := dk_27 (dk_at dksX6_passes_11 19 rfl rfl)
theorem dX6_passes_278 : decode cX6_passes 278 = .ok (.iload_n 3, 1) := dk_29 (dk_at dksX6_passes_11 20 rfl rfl)
theorem dX6_passes_279 : decode cX6_passes 279 = .ok (.invokevirtual 446, 3) := dk_182 1 190 (dk_at dksX6_passes_11 21 rfl rfl)
theorem dX6_passes_282 : decode cX6_passes 282 = .ok (.iinc 3 1, 3) := dk_132 3 1 (dk_at dksX6_passes_12 0 rfl rfl)
theorem dX6_passes_285 : decode cX6_passes 285 = .ok (.goto (-29), 3) := dk_167 255 227 (dk_at dksX6_passes_12 3 rfl rfl)
theorem dX6_passes_288 : decode cX6_passes 288 = .ok (.iconst 0, 1) := dk_3 (dk_at dksX6_passes_12 6 rfl rfl)
theorem dX6_passes_289 : decode cX6_passes 289 = .ok (.istore_n 3, 1) := dk_62 (dk_at dksX6_passes_12 7 rfl rfl)
theorem dX6_passes_290 : decode cX6_passes 290 = .ok (.iload_n 3, 1) := dk_29 (dk_at dksX6_passes_12 8 rfl rfl)
theorem dX6_passes_291 : decode cX6_passes 291 = .ok (.aload_n 0, 1) := dk_42 (dk_at dksX6_passes_12 9 rfl rfl)
theorem dX6_passes_292 : decode cX6_passes 292 = .ok (.getfield 13, 3) := dk_180 0 13 (dk_at dksX6_passes_12 10 rfl rfl)
theorem dX6_passes_295 : decode cX6_passes 295 = .ok (.iconst 0, 1) := dk_3 (dk_at dksX6_passes_12 13 rfl rfl)
theorem dX6_passes_296 : decode cX6_passes 296 = .ok (.iaload, 1) := dk_46 (dk_at dksX6_passes_12 14 rfl rfl)
theorem dX6_passes_297 : decode cX6_passes 297 = .ok (.if_icmp .ge 62, 3) := dk_162 0 62 (dk_at dksX6_passes_12 15 rfl rfl)
theorem dX6_passes_300 : decode cX6_passes 300 = .ok (.iconst 4, 1) := dk_7 (dk_at dksX6_passes_12 18 rfl rfl)
theorem dX6_passes_301 : decode cX6_passes 301 = .ok (.iload_n 1, 1) := dk_27 (dk_at dksX6_passes_12 19 rfl rfl)
theorem dX6_passes_302 : decode cX6_passes 302 = .ok (.imul, 1) := dk_104 (dk_at dksX6_passes_12 20 rfl rfl)
theorem dX6_passes_303 : decode cX6_passes 303 = .ok (.iload_n 3, 1) := dk_29 (dk_at dksX6_passes_12 21 rfl rfl)
theorem dX6_passes_304 : decode cX6_passes 304 = .ok (.iadd, 1) := dk_96 (dk_at dksX6_passes_12 22 rfl rfl)
theorem dX6_passes_305 : decode cX6_passes 305 = .ok (.istore 4, 2) := dk_54 4 (dk_at dksX6_passes_13 0 rfl rfl)
theorem dX6_passes_307 : decode cX6_passes 307 = .ok (.aload_n 0, 1) := dk_42 (dk_at dksX6_passes_13 2 rfl rfl)
theorem dX6_passes_308 : decode cX6_passes 308 = .ok (.getfield 105, 3) := dk_180 0 105 (dk_at dksX6_passes_13 3 rfl rfl)
theorem dX6_passes_311 : decode cX6_passes 311 = .ok (.iload 4, 2) := dk_21 4 (dk_at dksX6_passes_13 6 rfl rfl)
theorem dX6_passes_313 : decode cX6_passes 313 = .ok (.iaload, 1) := dk_46 (dk_at dksX6_passes_13 8 rfl rfl)
theorem dX6_passes_314 : decode cX6_passes 314 = .ok (.iconst (-1), 1) := dk_2 (dk_at dksX6_passes_13 9 rfl rfl)
theorem dX6_passes_315 : decode cX6_passes 315 = .ok (.if_icmp .ne 38, 3) := dk_160 0 38 (dk_at dksX6_passes_13 10 rfl rfl)
theorem dX6_passes_318 : decode cX6_passes 318 = .ok (.aload_n 0, 1) := dk_42 (dk_at dksX6_passes_13 13 rfl rfl)
theorem dX6_passes_319 : decode cX6_passes 319 = .ok (.getfield 102, 3) := dk_180 0 102 (dk_at dksX6_passes_13 14 rfl rfl)
theorem dX6_passes_322 : decode cX6_passes 322 = .ok (.iload 4, 2) := dk_21 4 (dk_at dksX6_passes_13 17 rfl rfl)
theorem dX6_passes_324 : decode cX6_passes 324 = .ok (.iaload, 1) := dk_46 (dk_at dksX6_passes_13 19 rfl rfl)
theorem dX6_passes_325 : decode cX6_passes 325 = .ok (.ifCond .le 28, 3) := dk_158 0 28 (dk_at dksX6_passes_13 20 rfl rfl)
theorem dX6_passes_328 : decode cX6_passes 328 = .ok (.aload_n 0, 1) := dk_42 (dk_at dksX6_passes_13 23 rfl rfl)
theorem dX6_passes_329 : decode cX6_passes 329 = .ok (.getfield 102, 3) := dk_180 0 102 (dk_at dksX6_passes_14 0 rfl rfl)
theorem dX6_passes_332 : decode cX6_passes 332 = .ok (.iload 4, 2) := dk_21 4 (dk_at dksX6_passes_14 3 rfl rfl)
theorem dX6_passes_334 : decode cX6_passes 334 = .ok (.iaload, 1) := dk_46 (dk_at dksX6_passes_14 5 rfl rfl)
theorem dX6_passes_335 : decode cX6_passes 335 = .ok (.aload_n 0, 1) := dk_42 (dk_at dksX6_passes_14 6 rfl rfl)
theorem dX6_passes_336 : decode cX6_passes 336 = .ok (.getfield 13, 3) := dk_180 0 13 (dk_at dksX6_passes_14 7 rfl rfl)
theorem dX6_passes_339 : decode cX6_passes 339 = .ok (.bipush 6, 2) := dk_16 6 (dk_at dksX6_passes_14 10 rfl rfl)
theorem dX6_passes_341 : decode cX6_passes 341 = .ok (.iaload, 1) := dk_46 (dk_at dksX6_passes_14 12 rfl rfl)
theorem dX6_passes_342 : decode cX6_passes 342 = .ok (.if_icmp .lt 11, 3) := dk_161 0 11 (dk_at dksX6_passes_14 13 rfl rfl)
theorem dX6_passes_345 : decode cX6_passes 345 = .ok (.aload_n 0, 1) := dk_42 (dk_at dksX6_passes_14 16 rfl rfl)
theorem dX6_passes_346 : decode cX6_passes 346 = .ok (.getfield 105, 3) := dk_180 0 105 (dk_at dksX6_passes_14 17 rfl rfl)
theorem dX6_passes_349 : decode cX6_passes 349 = .ok (.iload 4, 2) := dk_21 4 (dk_at dksX6_passes_14 20 rfl rfl)
theorem dX6_passes_351 : decode cX6_passes 351 = .ok (.iload_n 2, 1) := dk_28 (dk_at dksX6_passes_14 22 rfl rfl)
theorem dX6_passes_352 : decode cX6_passes 352 = .ok (.iastore, 1) := dk_79 (dk_at dksX6_passes_14 23 rfl rfl)
theorem dX6_passes_353 : decode cX6_passes 353 = .ok (.iinc 3 1, 3) := dk_132 3 1 (dk_at dksX6_passes_15 0 rfl rfl)
theorem dX6_passes_356 : decode cX6_passes 356 = .ok (.goto (-66), 3) := dk_167 255 190 (dk_at dksX6_passes_15 3 rfl rfl)
theorem dX6_passes_359 : decode cX6_passes 359 = .ok (.aload_n 0, 1) := dk_42 (dk_at dksX6_passes_15 6 rfl rfl)
theorem dX6_passes_360 : decode cX6_passes 360 = .ok (.getfield 87, 3) := dk_180 0 87 (dk_at dksX6_passes_15 7 rfl rfl)
theorem dX6_passes_363 : decode cX6_passes 363 = .ok (.iload_n 1, 1) := dk_27 (dk_at dksX6_passes_15 10 rfl rfl)
theorem dX6_passes_364 : decode cX6_passes 364 = .ok (.dup2, 1) := dk_92 (dk_at dksX6_passes_15 11 rfl rfl)
theorem dX6_passes_365 : decode cX6_passes 365 = .ok (.iaload, 1) := dk_46 (dk_at dksX6_passes_15 12 rfl rfl)
theorem dX6_passes_366 : decode cX6_passes 366 = .ok (.iconst 1, 1) := dk_4 (dk_at dksX6_passes_15 13 rfl rfl)
theorem dX6_passes_367 : decode cX6_passes 367 = .ok (.iadd, 1) := dk_96 (dk_at dksX6_passes_15 14 rfl rfl)
theorem dX6_passes_368 : decode cX6_passes 368 = .ok (.iastore, 1) := dk_79 (dk_at dksX6_passes_15 15 rfl rfl)
theorem dX6_passes_369 : decode cX6_passes 369 = .ok (.return_, 1) := dk_177 (dk_at dksX6_passes_15 16 rfl rfl)
abbrev cX6_notes : ByteArray := prog_23_method_57_code
def yX6_notes : MethodName := ⟨RX6, "notes", "(IIII)V"⟩
def dkwX6_notes_3 : List UInt8 := [46, 4, 96, 79, 177]
abbrev dktX6_notes_3 : List UInt8 := dkwX6_notes_3 ++ []
def dkwX6_notes_2 : List UInt8 := [79, 42, 180, 0, 124, 21, 5, 29, 79, 42, 180, 0, 127, 21, 5, 21, 4, 79, 42, 180, 0, 115, 27, 92]
abbrev dktX6_notes_2 : List UInt8 := dkwX6_notes_2 ++ dktX6_notes_3
def dkwX6_notes_1 : List UInt8 := [160, 0, 4, 177, 42, 180, 0, 118, 21, 5, 42, 180, 0, 87, 27, 46, 79, 42, 180, 0, 121, 21, 5, 28]
abbrev dktX6_notes_1 : List UInt8 := dkwX6_notes_1 ++ dktX6_notes_2
def dkwX6_notes_0 : List UInt8 := [17, 2, 128, 27, 104, 42, 180, 0, 115, 27, 46, 96, 54, 5, 42, 180, 0, 115, 27, 46, 17, 2, 128]
abbrev dktX6_notes_0 : List UInt8 := dkwX6_notes_0 ++ dktX6_notes_1
theorem dksX6_notes_0 : cX6_notes.data.toList.drop 0 = dktX6_notes_0 := by decide +kernel
theorem dksX6_notes_1 : cX6_notes.data.toList.drop 23 = dktX6_notes_1 := dk_seg dksX6_notes_0 23 rfl rfl
theorem dksX6_notes_2 : cX6_notes.data.toList.drop 47 = dktX6_notes_2 := dk_seg dksX6_notes_1 24 rfl rfl
theorem dksX6_notes_3 : cX6_notes.data.toList.drop 71 = dktX6_notes_3 := dk_seg dksX6_notes_2 24 rfl rfl
theorem dX6_notes_0 : decode cX6_notes 0 = .ok (.sipush 640, 3) := dk_17 2 128 (dk_at dksX6_notes_0 0 rfl rfl)
theorem dX6_notes_3 : decode cX6_notes 3 = .ok (.iload_n 1, 1) := dk_27 (dk_at dksX6_notes_0 3 rfl rfl)
theorem dX6_notes_4 : decode cX6_notes 4 = .ok (.imul, 1) := dk_104 (dk_at dksX6_notes_0 4 rfl rfl)
theorem dX6_notes_5 : decode cX6_notes 5 = .ok (.aload_n 0, 1) := dk_42 (dk_at dksX6_notes_0 5 rfl rfl)
theorem dX6_notes_6 : decode cX6_notes 6 = .ok (.getfield 115, 3) := dk_180 0 115 (dk_at dksX6_notes_0 6 rfl rfl)
theorem dX6_notes_9 : decode cX6_notes 9 = .ok (.iload_n 1, 1) := dk_27 (dk_at dksX6_notes_0 9 rfl rfl)
theorem dX6_notes_10 : decode cX6_notes 10 = .ok (.iaload, 1) := dk_46 (dk_at dksX6_notes_0 10 rfl rfl)
theorem dX6_notes_11 : decode cX6_notes 11 = .ok (.iadd, 1) := dk_96 (dk_at dksX6_notes_0 11 rfl rfl)
theorem dX6_notes_12 : decode cX6_notes 12 = .ok (.istore 5, 2) := dk_54 5 (dk_at dksX6_notes_0 12 rfl rfl)
theorem dX6_notes_14 : decode cX6_notes 14 = .ok (.aload_n 0, 1) := dk_42 (dk_at dksX6_notes_0 14 rfl rfl)
theorem dX6_notes_15 : decode cX6_notes 15 = .ok (.getfield 115, 3) := dk_180 0 115 (dk_at dksX6_notes_0 15 rfl rfl)
theorem dX6_notes_18 : decode cX6_notes 18 = .ok (.iload_n 1, 1) := dk_27 (dk_at dksX6_notes_0 18 rfl rfl)
theorem dX6_notes_19 : decode cX6_notes 19 = .ok (.iaload, 1) := dk_46 (dk_at dksX6_notes_0 19 rfl rfl)
theorem dX6_notes_20 : decode cX6_notes 20 = .ok (.sipush 640, 3) := dk_17 2 128 (dk_at dksX6_notes_0 20 rfl rfl)
theorem dX6_notes_23 : decode cX6_notes 23 = .ok (.if_icmp .ne 4, 3) := dk_160 0 4 (dk_at dksX6_notes_1 0 rfl rfl)
theorem dX6_notes_26 : decode cX6_notes 26 = .ok (.return_, 1) := dk_177 (dk_at dksX6_notes_1 3 rfl rfl)
theorem dX6_notes_27 : decode cX6_notes 27 = .ok (.aload_n 0, 1) := dk_42 (dk_at dksX6_notes_1 4 rfl rfl)
theorem dX6_notes_28 : decode cX6_notes 28 = .ok (.getfield 118, 3) := dk_180 0 118 (dk_at dksX6_notes_1 5 rfl rfl)
theorem dX6_notes_31 : decode cX6_notes 31 = .ok (.iload 5, 2) := dk_21 5 (dk_at dksX6_notes_1 8 rfl rfl)
theorem dX6_notes_33 : decode cX6_notes 33 = .ok (.aload_n 0, 1) := dk_42 (dk_at dksX6_notes_1 10 rfl rfl)
theorem dX6_notes_34 : decode cX6_notes 34 = .ok (.getfield 87, 3) := dk_180 0 87 (dk_at dksX6_notes_1 11 rfl rfl)
theorem dX6_notes_37 : decode cX6_notes 37 = .ok (.iload_n 1, 1) := dk_27 (dk_at dksX6_notes_1 14 rfl rfl)
theorem dX6_notes_38 : decode cX6_notes 38 = .ok (.iaload, 1) := dk_46 (dk_at dksX6_notes_1 15 rfl rfl)
theorem dX6_notes_39 : decode cX6_notes 39 = .ok (.iastore, 1) := dk_79 (dk_at dksX6_notes_1 16 rfl rfl)
theorem dX6_notes_40 : decode cX6_notes 40 = .ok (.aload_n 0, 1) := dk_42 (dk_at dksX6_notes_1 17 rfl rfl)
theorem dX6_notes_41 : decode cX6_notes 41 = .ok (.getfield 121, 3) := dk_180 0 121 (dk_at dksX6_notes_1 18 rfl rfl)
theorem dX6_notes_44 : decode cX6_notes 44 = .ok (.iload 5, 2) := dk_21 5 (dk_at dksX6_notes_1 21 rfl rfl)
theorem dX6_notes_46 : decode cX6_notes 46 = .ok (.iload_n 2, 1) := dk_28 (dk_at dksX6_notes_1 23 rfl rfl)
theorem dX6_notes_47 : decode cX6_notes 47 = .ok (.iastore, 1) := dk_79 (dk_at dksX6_notes_2 0 rfl rfl)
theorem dX6_notes_48 : decode cX6_notes 48 = .ok (.aload_n 0, 1) := dk_42 (dk_at dksX6_notes_2 1 rfl rfl)
theorem dX6_notes_49 : decode cX6_notes 49 = .ok (.getfield 124, 3) := dk_180 0 124 (dk_at dksX6_notes_2 2 rfl rfl)
theorem dX6_notes_52 : decode cX6_notes 52 = .ok (.iload 5, 2) := dk_21 5 (dk_at dksX6_notes_2 5 rfl rfl)
theorem dX6_notes_54 : decode cX6_notes 54 = .ok (.iload_n 3, 1) := dk_29 (dk_at dksX6_notes_2 7 rfl rfl)
theorem dX6_notes_55 : decode cX6_notes 55 = .ok (.iastore, 1) := dk_79 (dk_at dksX6_notes_2 8 rfl rfl)
theorem dX6_notes_56 : decode cX6_notes 56 = .ok (.aload_n 0, 1) := dk_42 (dk_at dksX6_notes_2 9 rfl rfl)
theorem dX6_notes_57 : decode cX6_notes 57 = .ok (.getfield 127, 3) := dk_180 0 127 (dk_at dksX6_notes_2 10 rfl rfl)
theorem dX6_notes_60 : decode cX6_notes 60 = .ok (.iload 5, 2) := dk_21 5 (dk_at dksX6_notes_2 13 rfl rfl)
theorem dX6_notes_62 : decode cX6_notes 62 = .ok (.iload 4, 2) := dk_21 4 (dk_at dksX6_notes_2 15 rfl rfl)
theorem dX6_notes_64 : decode cX6_notes 64 = .ok (.iastore, 1) := dk_79 (dk_at dksX6_notes_2 17 rfl rfl)
theorem dX6_notes_65 : decode cX6_notes 65 = .ok (.aload_n 0, 1) := dk_42 (dk_at dksX6_notes_2 18 rfl rfl)
theorem dX6_notes_66 : decode cX6_notes 66 = .ok (.getfield 115, 3) := dk_180 0 115 (dk_at dksX6_notes_2 19 rfl rfl)
theorem dX6_notes_69 : decode cX6_notes 69 = .ok (.iload_n 1, 1) := dk_27 (dk_at dksX6_notes_2 22 rfl rfl)
theorem dX6_notes_70 : decode cX6_notes 70 = .ok (.dup2, 1) := dk_92 (dk_at dksX6_notes_2 23 rfl rfl)
theorem dX6_notes_71 : decode cX6_notes 71 = .ok (.iaload, 1) := dk_46 (dk_at dksX6_notes_3 0 rfl rfl)
theorem dX6_notes_72 : decode cX6_notes 72 = .ok (.iconst 1, 1) := dk_4 (dk_at dksX6_notes_3 1 rfl rfl)
theorem dX6_notes_73 : decode cX6_notes 73 = .ok (.iadd, 1) := dk_96 (dk_at dksX6_notes_3 2 rfl rfl)
theorem dX6_notes_74 : decode cX6_notes 74 = .ok (.iastore, 1) := dk_79 (dk_at dksX6_notes_3 3 rfl rfl)
theorem dX6_notes_75 : decode cX6_notes 75 = .ok (.return_, 1) := dk_177 (dk_at dksX6_notes_3 4 rfl rfl)
abbrev cX6_drops : ByteArray := prog_23_method_58_code
def yX6_drops : MethodName := ⟨RX6, "drops", "(III)V"⟩
def dkwX6_drops_5 : List UInt8 := [177]
abbrev dktX6_drops_5 : List UInt8 := dkwX6_drops_5 ++ []
def dkwX6_drops_4 : List UInt8 := [184, 1, 119, 42, 180, 0, 99, 27, 28, 21, 4, 4, 96, 184, 1, 119, 46, 79, 132, 4, 1, 167, 255, 160]
abbrev dktX6_drops_4 : List UInt8 := dkwX6_drops_4 ++ dktX6_drops_5
def dkwX6_drops_3 : List UInt8 := [180, 0, 96, 27, 28, 21, 4, 4, 96, 184, 1, 119, 46, 79, 42, 180, 0, 99, 27, 28, 21, 4]
abbrev dktX6_drops_3 : List UInt8 := dkwX6_drops_3 ++ dktX6_drops_4
def dkwX6_drops_2 : List UInt8 := [28, 21, 4, 4, 96, 184, 1, 119, 46, 79, 42, 180, 0, 96, 27, 28, 21, 4, 184, 1, 119, 42]
abbrev dktX6_drops_2 : List UInt8 := dkwX6_drops_2 ++ dktX6_drops_3
def dkwX6_drops_1 : List UInt8 := [27, 104, 28, 96, 46, 162, 0, 87, 42, 180, 0, 93, 27, 28, 21, 4, 184, 1, 119, 42, 180, 0, 93, 27]
abbrev dktX6_drops_1 : List UInt8 := dkwX6_drops_1 ++ dktX6_drops_2
def dkwX6_drops_0 : List UInt8 := [42, 180, 0, 90, 7, 27, 104, 28, 96, 92, 46, 4, 100, 79, 29, 54, 4, 21, 4, 42, 180, 0, 90, 7]
abbrev dktX6_drops_0 : List UInt8 := dkwX6_drops_0 ++ dktX6_drops_1
theorem dksX6_drops_0 : cX6_drops.data.toList.drop 0 = dktX6_drops_0 := by decide +kernel
theorem dksX6_drops_1 : cX6_drops.data.toList.drop 24 = dktX6_drops_1 := dk_seg dksX6_drops_0 24 rfl rfl
theorem dksX6_drops_2 : cX6_drops.data.toList.drop 48 = dktX6_drops_2 := dk_seg dksX6_drops_1 24 rfl rfl
theorem dksX6_drops_3 : cX6_drops.data.toList.drop 70 = dktX6_drops_3 := dk_seg dksX6_drops_2 22 rfl rfl
theorem dksX6_drops_4 : cX6_drops.data.toList.drop 92 = dktX6_drops_4 := dk_seg dksX6_drops_3 22 rfl rfl
theorem dksX6_drops_5 : cX6_drops.data.toList.drop 116 = dktX6_drops_5 := dk_seg dksX6_drops_4 24 rfl rfl
theorem dX6_drops_0 : decode cX6_drops 0 = .ok (.aload_n 0, 1) := dk_42 (dk_at dksX6_drops_0 0 rfl rfl)
theorem dX6_drops_1 : decode cX6_drops 1 = .ok (.getfield 90, 3) := dk_180 0 90 (dk_at dksX6_drops_0 1 rfl rfl)
theorem dX6_drops_4 : decode cX6_drops 4 = .ok (.iconst 4, 1) := dk_7 (dk_at dksX6_drops_0 4 rfl rfl)
theorem dX6_drops_5 : decode cX6_drops 5 = .ok (.iload_n 1, 1) := dk_27 (dk_at dksX6_drops_0 5 rfl rfl)
theorem dX6_drops_6 : decode cX6_drops 6 = .ok (.imul, 1) := dk_104 (dk_at dksX6_drops_0 6 rfl rfl)
theorem dX6_drops_7 : decode cX6_drops 7 = .ok (.iload_n 2, 1) := dk_28 (dk_at dksX6_drops_0 7 rfl rfl)
theorem dX6_drops_8 : decode cX6_drops 8 = .ok (.iadd, 1) := dk_96 (dk_at dksX6_drops_0 8 rfl rfl)
theorem dX6_drops_9 : decode cX6_drops 9 = .ok (.dup2, 1) := dk_92 (dk_at dksX6_drops_0 9 rfl rfl)
theorem dX6_drops_10 : decode cX6_drops 10 = .ok (.iaload, 1) := dk_46 (dk_at dksX6_drops_0 10 rfl rfl)
theorem dX6_drops_11 : decode cX6_drops 11 = .ok (.iconst 1, 1) := dk_4 (dk_at dksX6_drops_0 11 rfl rfl)
theorem dX6_drops_12 : decode cX6_drops 12 = .ok (.isub, 1) := dk_100 (dk_at dksX6_drops_0 12 rfl rfl)
theorem dX6_drops_13 : decode cX6_drops 13 = .ok (.iastore, 1) := dk_79 (dk_at dksX6_drops_0 13 rfl rfl)
theorem dX6_drops_14 : decode cX6_drops 14 = .ok (.iload_n 3, 1) := dk_29 (dk_at dksX6_drops_0 14 rfl rfl)
theorem dX6_drops_15 : decode cX6_drops 15 = .ok (.istore 4, 2) := dk_54 4 (dk_at dksX6_drops_0 15 rfl rfl)
theorem dX6_drops_17 : decode cX6_drops 17 = .ok (.iload 4, 2) := dk_21 4 (dk_at dksX6_drops_0 17 rfl rfl)
theorem dX6_drops_19 : decode cX6_drops 19 = .ok (.aload_n 0, 1) := dk_42 (dk_at dksX6_drops_0 19 rfl rfl)
theorem dX6_drops_20 : decode cX6_drops 20 = .ok (.getfield 90, 3) := dk_180 0 90 (dk_at dksX6_drops_0 20 rfl rfl)
theorem dX6_drops_23 : decode cX6_drops 23 = .ok (.iconst 4, 1) := dk_7 (dk_at dksX6_drops_0 23 rfl rfl)
theorem dX6_drops_24 : decode cX6_drops 24 = .ok (.iload_n 1, 1) := dk_27 (dk_at dksX6_drops_1 0 rfl rfl)
theorem dX6_drops_25 : decode cX6_drops 25 = .ok (.imul, 1) := dk_104 (dk_at dksX6_drops_1 1 rfl rfl)
theorem dX6_drops_26 : decode cX6_drops 26 = .ok (.iload_n 2, 1) := dk_28 (dk_at dksX6_drops_1 2 rfl rfl)
theorem dX6_drops_27 : decode cX6_drops 27 = .ok (.iadd, 1) := dk_96 (dk_at dksX6_drops_1 3 rfl rfl)
theorem dX6_drops_28 : decode cX6_drops 28 = .ok (.iaload, 1) := dk_46 (dk_at dksX6_drops_1 4 rfl rfl)
theorem dX6_drops_29 : decode cX6_drops 29 = .ok (.if_icmp .ge 87, 3) := dk_162 0 87 (dk_at dksX6_drops_1 5 rfl rfl)
theorem dX6_drops_32 : decode cX6_drops 32 = .ok (.aload_n 0, 1) := dk_42 (dk_at dksX6_drops_1 8 rfl rfl)
theorem dX6_drops_33 : decode cX6_drops 33 = .ok (.getfield 93, 3) := dk_180 0 93 (dk_at dksX6_drops_1 9 rfl rfl)
theorem dX6_drops_36 : decode cX6_drops 36 = .ok (.iload_n 1, 1) := dk_27 (dk_at dksX6_drops_1 12 rfl rfl)
theorem dX6_drops_37 : decode cX6_drops 37 = .ok (.iload_n 2, 1) := dk_28 (dk_at dksX6_drops_1 13 rfl rfl)
theorem dX6_drops_38 : decode cX6_drops 38 = .ok (.iload 4, 2) := dk_21 4 (dk_at dksX6_drops_1 14 rfl rfl)
theorem dX6_drops_40 : decode cX6_drops 40 = .ok (.invokestatic 375, 3) := dk_184 1 119 (dk_at dksX6_drops_1 16 rfl rfl)
theorem dX6_drops_43 : decode cX6_drops 43 = .ok (.aload_n 0, 1) := dk_42 (dk_at dksX6_drops_1 19 rfl rfl)
theorem dX6_drops_44 : decode cX6_drops 44 = .ok (.getfield 93, 3) := dk_180 0 93 (dk_at dksX6_drops_1 20 rfl rfl)
theorem dX6_drops_47 : decode cX6_drops 47 = .ok (.iload_n 1, 1) := dk_27 (dk_at dksX6_drops_1 23 rfl rfl)
theorem dX6_drops_48 : decode cX6_drops 48 = .ok (.iload_n 2, 1) := dk_28 (dk_at dksX6_drops_2 0 rfl rfl)
theorem dX6_drops_49 : decode cX6_drops 49 = .ok (.iload 4, 2) := dk_21 4 (dk_at dksX6_drops_2 1 rfl rfl)
theorem dX6_drops_51 : decode cX6_drops 51 = .ok (.iconst 1, 1) := dk_4 (dk_at dksX6_drops_2 3 rfl rfl)
theorem dX6_drops_52 : decode cX6_drops 52 = .ok (.iadd, 1) := dk_96 (dk_at dksX6_drops_2 4 rfl rfl)
theorem dX6_drops_53 : decode cX6_drops 53 = .ok (.invokestatic 375, 3) := dk_184 1 119 (dk_at dksX6_drops_2 5 rfl rfl)
theorem dX6_drops_56 : decode cX6_drops 56 = .ok (.iaload, 1) := dk_46 (dk_at dksX6_drops_2 8 rfl rfl)
theorem dX6_drops_57 : decode cX6_drops 57 = .ok (.iastore, 1) := dk_79 (dk_at dksX6_drops_2 9 rfl rfl)
theorem dX6_drops_58 : decode cX6_drops 58 = .ok (.aload_n 0, 1) := dk_42 (dk_at dksX6_drops_2 10 rfl rfl)
theorem dX6_drops_59 : decode cX6_drops 59 = .ok (.getfield 96, 3) := dk_180 0 96 (dk_at dksX6_drops_2 11 rfl rfl)
theorem dX6_drops_62 : decode cX6_drops 62 = .ok (.iload_n 1, 1) := dk_27 (dk_at dksX6_drops_2 14 rfl rfl)
theorem dX6_drops_63 : decode cX6_drops 63 = .ok (.iload_n 2, 1) := dk_28 (dk_at dksX6_drops_2 15 rfl rfl)
theorem dX6_drops_64 : decode cX6_drops 64 = .ok (.iload 4, 2) := dk_21 4 (dk_at dksX6_drops_2 16 rfl rfl)
theorem dX6_drops_66 : decode cX6_drops 66 = .ok (.invokestatic 375, 3) := dk_184 1 119 (dk_at dksX6_drops_2 18 rfl rfl)
theorem dX6_drops_69 : decode cX6_drops 69 = .ok (.aload_n 0, 1) := dk_42 (dk_at dksX6_drops_2 21 rfl rfl)
theorem dX6_drops_70 : decode cX6_drops 70 = .ok (.getfield 96, 3) := dk_180 0 96 (dk_at dksX6_drops_3 0 rfl rfl)
theorem dX6_drops_73 : decode cX6_drops 73 = .ok (.iload_n 1, 1) := dk_27 (dk_at dksX6_drops_3 3 rfl rfl)
theorem dX6_drops_74 : decode cX6_drops 74 = .ok (.iload_n 2, 1) := dk_28 (dk_at dksX6_drops_3 4 rfl rfl)
theorem dX6_drops_75 : decode cX6_drops 75 = .ok (.iload 4, 2) := dk_21 4 (dk_at dksX6_drops_3 5 rfl rfl)
theorem dX6_drops_77 : decode cX6_drops 77 = .ok (.iconst 1, 1) := dk_4 (dk_at dksX6_drops_3 7 rfl rfl)
theorem dX6_drops_78 : decode cX6_drops 78 = .ok (.iadd, 1) := dk_96 (dk_at dksX6_drops_3 8 rfl rfl)
theorem dX6_drops_79 : decode cX6_drops 79 = .ok (.invokestatic 375, 3) := dk_184 1 119 (dk_at dksX6_drops_3 9 rfl rfl)
theorem dX6_drops_82 : decode cX6_drops 82 = .ok (.iaload, 1) := dk_46 (dk_at dksX6_drops_3 12 rfl rfl)
theorem dX6_drops_83 : decode cX6_drops 83 = .ok (.iastore, 1) := dk_79 (dk_at dksX6_drops_3 13 rfl rfl)
theorem dX6_drops_84 : decode cX6_drops 84 = .ok (.aload_n 0, 1) := dk_42 (dk_at dksX6_drops_3 14 rfl rfl)
theorem dX6_drops_85 : decode cX6_drops 85 = .ok (.getfield 99, 3) := dk_180 0 99 (dk_at dksX6_drops_3 15 rfl rfl)
theorem dX6_drops_88 : decode cX6_drops 88 = .ok (.iload_n 1, 1) := dk_27 (dk_at dksX6_drops_3 18 rfl rfl)
theorem dX6_drops_89 : decode cX6_drops 89 = .ok (.iload_n 2, 1) := dk_28 (dk_at dksX6_drops_3 19 rfl rfl)
theorem dX6_drops_90 : decode cX6_drops 90 = .ok (.iload 4, 2) := dk_21 4 (dk_at dksX6_drops_3 20 rfl rfl)
theorem dX6_drops_92 : decode cX6_drops 92 = .ok (.invokestatic 375, 3) := dk_184 1 119 (dk_at dksX6_drops_4 0 rfl rfl)
theorem dX6_drops_95 : decode cX6_drops 95 = .ok (.aload_n 0, 1) := dk_42 (dk_at dksX6_drops_4 3 rfl rfl)
theorem dX6_drops_96 : decode cX6_drops 96 = .ok (.getfield 99, 3) := dk_180 0 99 (dk_at dksX6_drops_4 4 rfl rfl)
theorem dX6_drops_99 : decode cX6_drops 99 = .ok (.iload_n 1, 1) := dk_27 (dk_at dksX6_drops_4 7 rfl rfl)
theorem dX6_drops_100 : decode cX6_drops 100 = .ok (.iload_n 2, 1) := dk_28 (dk_at dksX6_drops_4 8 rfl rfl)
theorem dX6_drops_101 : decode cX6_drops 101 = .ok (.iload 4, 2) := dk_21 4 (dk_at dksX6_drops_4 9 rfl rfl)
theorem dX6_drops_103 : decode cX6_drops 103 = .ok (.iconst 1, 1) := dk_4 (dk_at dksX6_drops_4 11 rfl rfl)
theorem dX6_drops_104 : decode cX6_drops 104 = .ok (.iadd, 1) := dk_96 (dk_at dksX6_drops_4 12 rfl rfl)
theorem dX6_drops_105 : decode cX6_drops 105 = .ok (.invokestatic 375, 3) := dk_184 1 119 (dk_at dksX6_drops_4 13 rfl rfl)
theorem dX6_drops_108 : decode cX6_drops 108 = .ok (.iaload, 1) := dk_46 (dk_at dksX6_drops_4 16 rfl rfl)
theorem dX6_drops_109 : decode cX6_drops 109 = .ok (.iastore, 1) := dk_79 (dk_at dksX6_drops_4 17 rfl rfl)
theorem dX6_drops_110 : decode cX6_drops 110 = .ok (.iinc 4 1, 3) := dk_132 4 1 (dk_at dksX6_drops_4 18 rfl rfl)
theorem dX6_drops_113 : decode cX6_drops 113 = .ok (.goto (-96), 3) := dk_167 255 160 (dk_at dksX6_drops_4 21 rfl rfl)
theorem dX6_drops_116 : decode cX6_drops 116 = .ok (.return_, 1) := dk_177 (dk_at dksX6_drops_5 0 rfl rfl)
abbrev cX6_isComing : ByteArray := prog_23_method_48_code
def yX6_isComing : MethodName := ⟨RX6, "isComing", "(I)Z"⟩
def dkwX6_isComing_0 : List UInt8 := [42, 180, 1, 90, 8, 160, 0, 11, 42, 180, 1, 93, 27, 159, 0, 7, 4, 167, 0, 4, 3, 172]
abbrev dktX6_isComing_0 : List UInt8 := dkwX6_isComing_0 ++ []
theorem dksX6_isComing_0 : cX6_isComing.data.toList.drop 0 = dktX6_isComing_0 := by decide +kernel
theorem dX6_isComing_0 : decode cX6_isComing 0 = .ok (.aload_n 0, 1) := dk_42 (dk_at dksX6_isComing_0 0 rfl rfl)
theorem dX6_isComing_1 : decode cX6_isComing 1 = .ok (.getfield 346, 3) := dk_180 1 90 (dk_at dksX6_isComing_0 1 rfl rfl)
theorem dX6_isComing_4 : decode cX6_isComing 4 = .ok (.iconst 5, 1) := dk_8 (dk_at dksX6_isComing_0 4 rfl rfl)
theorem dX6_isComing_5 : decode cX6_isComing 5 = .ok (.if_icmp .ne 11, 3) := dk_160 0 11 (dk_at dksX6_isComing_0 5 rfl rfl)
theorem dX6_isComing_8 : decode cX6_isComing 8 = .ok (.aload_n 0, 1) := dk_42 (dk_at dksX6_isComing_0 8 rfl rfl)
theorem dX6_isComing_9 : decode cX6_isComing 9 = .ok (.getfield 349, 3) := dk_180 1 93 (dk_at dksX6_isComing_0 9 rfl rfl)
theorem dX6_isComing_12 : decode cX6_isComing 12 = .ok (.iload_n 1, 1) := dk_27 (dk_at dksX6_isComing_0 12 rfl rfl)
theorem dX6_isComing_13 : decode cX6_isComing 13 = .ok (.if_icmp .eq 7, 3) := dk_159 0 7 (dk_at dksX6_isComing_0 13 rfl rfl)
theorem dX6_isComing_16 : decode cX6_isComing 16 = .ok (.iconst 1, 1) := dk_4 (dk_at dksX6_isComing_0 16 rfl rfl)
theorem dX6_isComing_17 : decode cX6_isComing 17 = .ok (.goto 4, 3) := dk_167 0 4 (dk_at dksX6_isComing_0 17 rfl rfl)
theorem dX6_isComing_20 : decode cX6_isComing 20 = .ok (.iconst 0, 1) := dk_3 (dk_at dksX6_isComing_0 20 rfl rfl)
theorem dX6_isComing_21 : decode cX6_isComing 21 = .ok (.ireturn, 1) := dk_172 (dk_at dksX6_isComing_0 21 rfl rfl)
abbrev cX6_arrives : ByteArray := prog_23_method_65_code
def yX6_arrives : MethodName := ⟨RX6, "arrives", "(IIII)V"⟩
def dkwX6_arrives_8 : List UInt8 := [21, 5, 4, 84, 177]
abbrev dktX6_arrives_8 : List UInt8 := dkwX6_arrives_8 ++ []
def dkwX6_arrives_7 : List UInt8 := [21, 5, 46, 29, 21, 4, 182, 1, 148, 42, 180, 0, 90, 21, 5, 92, 46, 4, 96, 79, 42, 180, 0, 108]
abbrev dktX6_arrives_7 : List UInt8 := dkwX6_arrives_7 ++ dktX6_arrives_8
def dkwX6_arrives_6 : List UInt8 := [184, 1, 119, 46, 4, 182, 1, 159, 42, 27, 28, 21, 7, 182, 1, 163, 42, 27, 28, 42, 180, 0, 90]
abbrev dktX6_arrives_6 : List UInt8 := dkwX6_arrives_6 ++ dktX6_arrives_7
def dkwX6_arrives_5 : List UInt8 := [2, 160, 0, 12, 42, 27, 28, 29, 5, 182, 1, 159, 177, 42, 27, 28, 42, 180, 0, 93, 27, 28, 21, 7]
abbrev dktX6_arrives_5 : List UInt8 := dkwX6_arrives_5 ++ dktX6_arrives_6
def dkwX6_arrives_4 : List UInt8 := [180, 1, 90, 6, 160, 0, 7, 3, 167, 0, 12, 42, 27, 28, 29, 21, 4, 182, 1, 155, 54, 7, 21, 7]
abbrev dktX6_arrives_4 : List UInt8 := dkwX6_arrives_4 ++ dktX6_arrives_5
def dkwX6_arrives_3 : List UInt8 := [21, 5, 92, 46, 4, 96, 79, 177, 42, 180, 0, 108, 21, 5, 51, 153, 0, 7, 2, 167, 0, 24, 42]
abbrev dktX6_arrives_3 : List UInt8 := dkwX6_arrives_3 ++ dktX6_arrives_4
def dkwX6_arrives_2 : List UInt8 := [162, 0, 31, 42, 27, 28, 42, 180, 0, 90, 21, 5, 46, 29, 21, 4, 182, 1, 148, 42, 180, 0, 90]
abbrev dktX6_arrives_2 : List UInt8 := dkwX6_arrives_2 ++ dktX6_arrives_3
def dkwX6_arrives_1 : List UInt8 := [28, 21, 6, 29, 21, 4, 182, 1, 148, 177, 42, 180, 0, 90, 21, 5, 46, 42, 28, 182, 1, 152]
abbrev dktX6_arrives_1 : List UInt8 := dkwX6_arrives_1 ++ dktX6_arrives_2
def dkwX6_arrives_0 : List UInt8 := [7, 27, 104, 28, 96, 54, 5, 42, 27, 28, 29, 182, 1, 145, 54, 6, 21, 6, 2, 159, 0, 15, 42, 27]
abbrev dktX6_arrives_0 : List UInt8 := dkwX6_arrives_0 ++ dktX6_arrives_1
theorem dksX6_arrives_0 : cX6_arrives.data.toList.drop 0 = dktX6_arrives_0 := by decide +kernel
theorem dksX6_arrives_1 : cX6_arrives.data.toList.drop 24 = dktX6_arrives_1 := dk_seg dksX6_arrives_0 24 rfl rfl
theorem dksX6_arrives_2 : cX6_arrives.data.toList.drop 46 = dktX6_arrives_2 := dk_seg dksX6_arrives_1 22 rfl rfl
theorem dksX6_arrives_3 : cX6_arrives.data.toList.drop 69 = dktX6_arrives_3 := dk_seg dksX6_arrives_2 23 rfl rfl
theorem dksX6_arrives_4 : cX6_arrives.data.toList.drop 92 = dktX6_arrives_4 := dk_seg dksX6_arrives_3 23 rfl rfl
theorem dksX6_arrives_5 : cX6_arrives.data.toList.drop 116 = dktX6_arrives_5 := dk_seg dksX6_arrives_4 24 rfl rfl
theorem dksX6_arrives_6 : cX6_arrives.data.toList.drop 140 = dktX6_arrives_6 := dk_seg dksX6_arrives_5 24 rfl rfl
theorem dksX6_arrives_7 : cX6_arrives.data.toList.drop 163 = dktX6_arrives_7 := dk_seg dksX6_arrives_6 23 rfl rfl
theorem dksX6_arrives_8 : cX6_arrives.data.toList.drop 187 = dktX6_arrives_8 := dk_seg dksX6_arrives_7 24 rfl rfl
theorem dX6_arrives_0 : decode cX6_arrives 0 = .ok (.iconst 4, 1) := dk_7 (dk_at dksX6_arrives_0 0 rfl rfl)
theorem dX6_arrives_1 : decode cX6_arrives 1 = .ok (.iload_n 1, 1) := dk_27 (dk_at dksX6_arrives_0 1 rfl rfl)
theorem dX6_arrives_2 : decode cX6_arrives 2 = .ok (.imul, 1) := dk_104 (dk_at dksX6_arrives_0 2 rfl rfl)
theorem dX6_arrives_3 : decode cX6_arrives 3 = .ok (.iload_n 2, 1) := dk_28 (dk_at dksX6_arrives_0 3 rfl rfl)
theorem dX6_arrives_4 : decode cX6_arrives 4 = .ok (.iadd, 1) := dk_96 (dk_at dksX6_arrives_0 4 rfl rfl)
theorem dX6_arrives_5 : decode cX6_arrives 5 = .ok (.istore 5, 2) := dk_54 5 (dk_at dksX6_arrives_0 5 rfl rfl)
theorem dX6_arrives_7 : decode cX6_arrives 7 = .ok (.aload_n 0, 1) := dk_42 (dk_at dksX6_arrives_0 7 rfl rfl)
theorem dX6_arrives_8 : decode cX6_arrives 8 = .ok (.iload_n 1, 1) := dk_27 (dk_at dksX6_arrives_0 8 rfl rfl)
theorem dX6_arrives_9 : decode cX6_arrives 9 = .ok (.iload_n 2, 1) := dk_28 (dk_at dksX6_arrives_0 9 rfl rfl)
theorem dX6_arrives_10 : decode cX6_arrives 10 = .ok (.iload_n 3, 1) := dk_29 (dk_at dksX6_arrives_0 10 rfl rfl)
theorem dX6_arrives_11 : decode cX6_arrives 11 = .ok (.invokevirtual 401, 3) := dk_182 1 145 (dk_at dksX6_arrives_0 11 rfl rfl)
theorem dX6_arrives_14 : decode cX6_arrives 14 = .ok (.istore 6, 2) := dk_54 6 (dk_at dksX6_arrives_0 14 rfl rfl)
theorem dX6_arrives_16 : decode cX6_arrives 16 = .ok (.iload 6, 2) := dk_21 6 (dk_at dksX6_arrives_0 16 rfl rfl)
theorem dX6_arrives_18 : decode cX6_arrives 18 = .ok (.iconst (-1), 1) := dk_2 (dk_at dksX6_arrives_0 18 rfl rfl)
theorem dX6_arrives_19 : decode cX6_arrives 19 = .ok (.if_icmp .eq 15, 3) := dk_159 0 15 (dk_at dksX6_arrives_0 19 rfl rfl)
theorem dX6_arrives_22 : decode cX6_arrives 22 = .ok (.aload_n 0, 1) := dk_42 (dk_at dksX6_arrives_0 22 rfl rfl)
theorem dX6_arrives_23 : decode cX6_arrives 23 = .ok (.iload_n 1, 1) := dk_27 (dk_at dksX6_arrives_0 23 rfl rfl)
theorem dX6_arrives_24 : decode cX6_arrives 24 = .ok (.iload_n 2, 1) := dk_28 (dk_at dksX6_arrives_1 0 rfl rfl)
theorem dX6_arrives_25 : decode cX6_arrives 25 = .ok (.iload 6, 2) := dk_21 6 (dk_at dksX6_arrives_1 1 rfl rfl)
theorem dX6_arrives_27 : decode cX6_arrives 27 = .ok (.iload_n 3, 1) := dk_29 (dk_at dksX6_arrives_1 3 rfl rfl)
theorem dX6_arrives_28 : decode cX6_arrives 28 = .ok (.iload 4, 2) := dk_21 4 (dk_at dksX6_arrives_1 4 rfl rfl)
theorem dX6_arrives_30 : decode cX6_arrives 30 = .ok (.invokevirtual 404, 3) := dk_182 1 148 (dk_at dksX6_arrives_1 6 rfl rfl)
theorem dX6_arrives_33 : decode cX6_arrives 33 = .ok (.return_, 1) := dk_177 (dk_at dksX6_arrives_1 9 rfl rfl)
theorem dX6_arrives_34 : decode cX6_arrives 34 = .ok (.aload_n 0, 1) := dk_42 (dk_at dksX6_arrives_1 10 rfl rfl)
theorem dX6_arrives_35 : decode cX6_arrives 35 = .ok (.getfield 90, 3) := dk_180 0 90 (dk_at dksX6_arrives_1 11 rfl rfl)
theorem dX6_arrives_38 : decode cX6_arrives 38 = .ok (.iload 5, 2) := dk_21 5 (dk_at dksX6_arrives_1 14 rfl rfl)
theorem dX6_arrives_40 : decode cX6_arrives 40 = .ok (.iaload, 1) := dk_46 (dk_at dksX6_arrives_1 16 rfl rfl)
theorem dX6_arrives_41 : decode cX6_arrives 41 = .ok (.aload_n 0, 1) := dk_42 (dk_at dksX6_arrives_1 17 rfl rfl)
theorem dX6_arrives_42 : decode cX6_arrives 42 = .ok (.iload_n 2, 1) := dk_28 (dk_at dksX6_arrives_1 18 rfl rfl)
theorem dX6_arrives_43 : decode cX6_arrives 43 = .ok (.invokevirtual 408, 3) := dk_182 1 152 (dk_at dksX6_arrives_1 19 rfl rfl)
theorem dX6_arrives_46 : decode cX6_arrives 46 = .ok (.if_icmp .ge 31, 3) := dk_162 0 31 (dk_at dksX6_arrives_2 0 rfl rfl)
theorem dX6_arrives_49 : decode cX6_arrives 49 = .ok (.aload_n 0, 1) := dk_42 (dk_at dksX6_arrives_2 3 rfl rfl)
theorem dX6_arrives_50 : decode cX6_arrives 50 = .ok (.iload_n 1, 1) := dk_27 (dk_at dksX6_arrives_2 4 rfl rfl)
theorem dX6_arrives_51 : decode cX6_arrives 51 = .ok (.iload_n 2, 1) := dk_28 (dk_at dksX6_arrives_2 5 rfl rfl)
theorem dX6_arrives_52 : decode cX6_arrives 52 = .ok (.aload_n 0, 1) := dk_42 (dk_at dksX6_arrives_2 6 rfl rfl)
theorem dX6_arrives_53 : decode cX6_arrives 53 = .ok (.getfield 90, 3) := dk_180 0 90 (dk_at dksX6_arrives_2 7 rfl rfl)
theorem dX6_arrives_56 : decode cX6_arrives 56 = .ok (.iload 5, 2) := dk_21 5 (dk_at dksX6_arrives_2 10 rfl rfl)
theorem dX6_arrives_58 : decode cX6_arrives 58 = .ok (.iaload, 1) := dk_46 (dk_at dksX6_arrives_2 12 rfl rfl)
theorem dX6_arrives_59 : decode cX6_arrives 59 = .ok (.iload_n 3, 1) := dk_29 (dk_at dksX6_arrives_2 13 rfl rfl)
theorem dX6_arrives_60 : decode cX6_arrives 60 = .ok (.iload 4, 2) := dk_21 4 (dk_at dksX6_arrives_2 14 rfl rfl)
theorem dX6_arrives_62 : decode cX6_arrives 62 = .ok (.invokevirtual 404, 3) := dk_182 1 148 (dk_at dksX6_arrives_2 16 rfl rfl)
theorem dX6_arrives_65 : decode cX6_arrives 65 = .ok (.aload_n 0, 1) := dk_42 (dk_at dksX6_arrives_2 19 rfl rfl)
theorem dX6_arrives_66 : decode cX6_arrives 66 = .ok (.getfield 90, 3) := dk_180 0 90 (dk_at dksX6_arrives_2 20 rfl rfl)
theorem dX6_arrives_69 : decode cX6_arrives 69 = .ok (.iload 5, 2) := dk_21 5 (dk_at dksX6_arrives_3 0 rfl rfl)
theorem dX6_arrives_71 : decode cX6_arrives 71 = .ok (.dup2, 1) := dk_92 (dk_at dksX6_arrives_3 2 rfl rfl)
theorem dX6_arrives_72 : decode cX6_arrives 72 = .ok (.iaload, 1) := dk_46 (dk_at dksX6_arrives_3 3 rfl rfl)
theorem dX6_arrives_73 : decode cX6_arrives 73 = .ok (.iconst 1, 1) := dk_4 (dk_at dksX6_arrives_3 4 rfl rfl)
theorem dX6_arrives_74 : decode cX6_arrives 74 = .ok (.iadd, 1) := dk_96 (dk_at dksX6_arrives_3 5 rfl rfl)
theorem dX6_arrives_75 : decode cX6_arrives 75 = .ok (.iastore, 1) := dk_79 (dk_at dksX6_arrives_3 6 rfl rfl)
theorem dX6_arrives_76 : decode cX6_arrives 76 = .ok (.return_, 1) := dk_177 (dk_at dksX6_arrives_3 7 rfl rfl)
theorem dX6_arrives_77 : decode cX6_arrives 77 = .ok (.aload_n 0, 1) := dk_42 (dk_at dksX6_arrives_3 8 rfl rfl)
theorem dX6_arrives_78 : decode cX6_arrives 78 = .ok (.getfield 108, 3) := dk_180 0 108 (dk_at dksX6_arrives_3 9 rfl rfl)
theorem dX6_arrives_81 : decode cX6_arrives 81 = .ok (.iload 5, 2) := dk_21 5 (dk_at dksX6_arrives_3 12 rfl rfl)
theorem dX6_arrives_83 : decode cX6_arrives 83 = .ok (.baload, 1) := dk_51 (dk_at dksX6_arrives_3 14 rfl rfl)
theorem dX6_arrives_84 : decode cX6_arrives 84 = .ok (.ifCond .eq 7, 3) := dk_153 0 7 (dk_at dksX6_arrives_3 15 rfl rfl)
theorem dX6_arrives_87 : decode cX6_arrives 87 = .ok (.iconst (-1), 1) := dk_2 (dk_at dksX6_arrives_3 18 rfl rfl)
theorem dX6_arrives_88 : decode cX6_arrives 88 = .ok (.goto 24, 3) := dk_167 0 24 (dk_at dksX6_arrives_3 19 rfl rfl)
theorem dX6_arrives_91 : decode cX6_arrives 91 = .ok (.aload_n 0, 1) := dk_42 (dk_at dksX6_arrives_3 22 rfl rfl)
theorem dX6_arrives_92 : decode cX6_arrives 92 = .ok (.getfield 346, 3) := dk_180 1 90 (dk_at dksX6_arrives_4 0 rfl rfl)
theorem dX6_arrives_95 : decode cX6_arrives 95 = .ok (.iconst 3, 1) := dk_6 (dk_at dksX6_arrives_4 3 rfl rfl)
theorem dX6_arrives_96 : decode cX6_arrives 96 = .ok (.if_icmp .ne 7, 3) := dk_160 0 7 (dk_at dksX6_arrives_4 4 rfl rfl)
theorem dX6_arrives_99 : decode cX6_arrives 99 = .ok (.iconst 0, 1) := dk_3 (dk_at dksX6_arrives_4 7 rfl rfl)
theorem dX6_arrives_100 : decode cX6_arrives 100 = .ok (.goto 12, 3) := dk_167 0 12 (dk_at dksX6_arrives_4 8 rfl rfl)
theorem dX6_arrives_103 : decode cX6_arrives 103 = .ok (.aload_n 0, 1) := dk_42 (dk_at dksX6_arrives_4 11 rfl rfl)
theorem dX6_arrives_104 : decode cX6_arrives 104 = .ok (.iload_n 1, 1) := dk_27 (dk_at dksX6_arrives_4 12 rfl rfl)
theorem dX6_arrives_105 : decode cX6_arrives 105 = .ok (.iload_n 2, 1) := dk_28 (dk_at dksX6_arrives_4 13 rfl rfl)
theorem dX6_arrives_106 : decode cX6_arrives 106 = .ok (.iload_n 3, 1) := dk_29 (dk_at dksX6_arrives_4 14 rfl rfl)
theorem dX6_arrives_107 : decode cX6_arrives 107 = .ok (.iload 4, 2) := dk_21 4 (dk_at dksX6_arrives_4 15 rfl rfl)
theorem dX6_arrives_109 : decode cX6_arrives 109 = .ok (.invokevirtual 411, 3) := dk_182 1 155 (dk_at dksX6_arrives_4 17 rfl rfl)
theorem dX6_arrives_112 : decode cX6_arrives 112 = .ok (.istore 7, 2) := dk_54 7 (dk_at dksX6_arrives_4 20 rfl rfl)
theorem dX6_arrives_114 : decode cX6_arrives 114 = .ok (.iload 7, 2) := dk_21 7 (dk_at dksX6_arrives_4 22 rfl rfl)
theorem dX6_arrives_116 : decode cX6_arrives 116 = .ok (.iconst (-1), 1) := dk_2 (dk_at dksX6_arrives_5 0 rfl rfl)
theorem dX6_arrives_117 : decode cX6_arrives 117 = .ok (.if_icmp .ne 12, 3) := dk_160 0 12 (dk_at dksX6_arrives_5 1 rfl rfl)
theorem dX6_arrives_120 : decode cX6_arrives 120 = .ok (.aload_n 0, 1) := dk_42 (dk_at dksX6_arrives_5 4 rfl rfl)
theorem dX6_arrives_121 : decode cX6_arrives 121 = .ok (.iload_n 1, 1) := dk_27 (dk_at dksX6_arrives_5 5 rfl rfl)
theorem dX6_arrives_122 : decode cX6_arrives 122 = .ok (.iload_n 2, 1) := dk_28 (dk_at dksX6_arrives_5 6 rfl rfl)
theorem dX6_arrives_123 : decode cX6_arrives 123 = .ok (.iload_n 3, 1) := dk_29 (dk_at dksX6_arrives_5 7 rfl rfl)
theorem dX6_arrives_124 : decode cX6_arrives 124 = .ok (.iconst 2, 1) := dk_5 (dk_at dksX6_arrives_5 8 rfl rfl)
theorem dX6_arrives_125 : decode cX6_arrives 125 = .ok (.invokevirtual 415, 3) := dk_182 1 159 (dk_at dksX6_arrives_5 9 rfl rfl)
theorem dX6_arrives_128 : decode cX6_arrives 128 = .ok (.return_, 1) := dk_177 (dk_at dksX6_arrives_5 12 rfl rfl)
theorem dX6_arrives_129 : decode cX6_arrives 129 = .ok (.aload_n 0, 1) := dk_42 (dk_at dksX6_arrives_5 13 rfl rfl)
theorem dX6_arrives_130 : decode cX6_arrives 130 = .ok (.iload_n 1, 1) := dk_27 (dk_at dksX6_arrives_5 14 rfl rfl)
theorem dX6_arrives_131 : decode cX6_arrives 131 = .ok (.iload_n 2, 1) := dk_28 (dk_at dksX6_arrives_5 15 rfl rfl)
theorem dX6_arrives_132 : decode cX6_arrives 132 = .ok (.aload_n 0, 1) := dk_42 (dk_at dksX6_arrives_5 16 rfl rfl)
theorem dX6_arrives_133 : decode cX6_arrives 133 = .ok (.getfield 93, 3) := dk_180 0 93 (dk_at dksX6_arrives_5 17 rfl rfl)
theorem dX6_arrives_136 : decode cX6_arrives 136 = .ok (.iload_n 1, 1) := dk_27 (dk_at dksX6_arrives_5 20 rfl rfl)
theorem dX6_arrives_137 : decode cX6_arrives 137 = .ok (.iload_n 2, 1) := dk_28 (dk_at dksX6_arrives_5 21 rfl rfl)
theorem dX6_arrives_138 : decode cX6_arrives 138 = .ok (.iload 7, 2) := dk_21 7 (dk_at dksX6_arrives_5 22 rfl rfl)
theorem dX6_arrives_140 : decode cX6_arrives 140 = .ok (.invokestatic 375, 3) := dk_184 1 119 (dk_at dksX6_arrives_6 0 rfl rfl)
theorem dX6_arrives_143 : decode cX6_arrives 143 = .ok (.iaload, 1) := dk_46 (dk_at dksX6_arrives_6 3 rfl rfl)
theorem dX6_arrives_144 : decode cX6_arrives 144 = .ok (.iconst 1, 1) := dk_4 (dk_at dksX6_arrives_6 4 rfl rfl)
theorem dX6_arrives_145 : decode cX6_arrives 145 = .ok (.invokevirtual 415, 3) := dk_182 1 159 (dk_at dksX6_arrives_6 5 rfl rfl)
theorem dX6_arrives_148 : decode cX6_arrives 148 = .ok (.aload_n 0, 1) := dk_42 (dk_at dksX6_arrives_6 8 rfl rfl)
theorem dX6_arrives_149 : decode cX6_arrives 149 = .ok (.iload_n 1, 1) := dk_27 (dk_at dksX6_arrives_6 9 rfl rfl)
theorem dX6_arrives_150 : decode cX6_arrives 150 = .ok (.iload_n 2, 1) := dk_28 (dk_at dksX6_arrives_6 10 rfl rfl)
theorem dX6_arrives_151 : decode cX6_arrives 151 = .ok (.iload 7, 2) := dk_21 7 (dk_at dksX6_arrives_6 11 rfl rfl)
theorem dX6_arrives_153 : decode cX6_arrives 153 = .ok (.invokevirtual 419, 3) := dk_182 1 163 (dk_at dksX6_arrives_6 13 rfl rfl)
theorem dX6_arrives_156 : decode cX6_arrives 156 = .ok (.aload_n 0, 1) := dk_42 (dk_at dksX6_arrives_6 16 rfl rfl)
theorem dX6_arrives_157 : decode cX6_arrives 157 = .ok (.iload_n 1, 1) := dk_27 (dk_at dksX6_arrives_6 17 rfl rfl)
theorem dX6_arrives_158 : decode cX6_arrives 158 = .ok (.iload_n 2, 1) := dk_28 (dk_at dksX6_arrives_6 18 rfl rfl)
theorem dX6_arrives_159 : decode cX6_arrives 159 = .ok (.aload_n 0, 1) := dk_42 (dk_at dksX6_arrives_6 19 rfl rfl)
theorem dX6_arrives_160 : decode cX6_arrives 160 = .ok (.getfield 90, 3) := dk_180 0 90 (dk_at dksX6_arrives_6 20 rfl rfl)
theorem dX6_arrives_163 : decode cX6_arrives 163 = .ok (.iload 5, 2) := dk_21 5 (dk_at dksX6_arrives_7 0 rfl rfl)
theorem dX6_arrives_165 : decode cX6_arrives 165 = .ok (.iaload, 1) := dk_46 (dk_at dksX6_arrives_7 2 rfl rfl)
theorem dX6_arrives_166 : decode cX6_arrives 166 = .ok (.iload_n 3, 1) := dk_29 (dk_at dksX6_arrives_7 3 rfl rfl)
theorem dX6_arrives_167 : decode cX6_arrives 167 = .ok (.iload 4, 2) := dk_21 4 (dk_at dksX6_arrives_7 4 rfl rfl)
theorem dX6_arrives_169 : decode cX6_arrives 169 = .ok (.invokevirtual 404, 3) := dk_182 1 148 (dk_at dksX6_arrives_7 6 rfl rfl)
theorem dX6_arrives_172 : decode cX6_arrives 172 = .ok (.aload_n 0, 1) := dk_42 (dk_at dksX6_arrives_7 9 rfl rfl)
theorem dX6_arrives_173 : decode cX6_arrives 173 = .ok (.getfield 90, 3) := dk_180 0 90 (dk_at dksX6_arrives_7 10 rfl rfl)
theorem dX6_arrives_176 : decode cX6_arrives 176 = .ok (.iload 5, 2) := dk_21 5 (dk_at dksX6_arrives_7 13 rfl rfl)
theorem dX6_arrives_178 : decode cX6_arrives 178 = .ok (.dup2, 1) := dk_92 (dk_at dksX6_arrives_7 15 rfl rfl)
theorem dX6_arrives_179 : decode cX6_arrives 179 = .ok (.iaload, 1) := dk_46 (dk_at dksX6_arrives_7 16 rfl rfl)
theorem dX6_arrives_180 : decode cX6_arrives 180 = .ok (.iconst 1, 1) := dk_4 (dk_at dksX6_arrives_7 17 rfl rfl)
theorem dX6_arrives_181 : decode cX6_arrives 181 = .ok (.iadd, 1) := dk_96 (dk_at dksX6_arrives_7 18 rfl rfl)
theorem dX6_arrives_182 : decode cX6_arrives 182 = .ok (.iastore, 1) := dk_79 (dk_at dksX6_arrives_7 19 rfl rfl)
theorem dX6_arrives_183 : decode cX6_arrives 183 = .ok (.aload_n 0, 1) := dk_42 (dk_at dksX6_arrives_7 20 rfl rfl)
theorem dX6_arrives_184 : decode cX6_arrives 184 = .ok (.getfield 108, 3) := dk_180 0 108 (dk_at dksX6_arrives_7 21 rfl rfl)
theorem dX6_arrives_187 : decode cX6_arrives 187 = .ok (.iload 5, 2) := dk_21 5 (dk_at dksX6_arrives_8 0 rfl rfl)
theorem dX6_arrives_189 : decode cX6_arrives 189 = .ok (.iconst 1, 1) := dk_4 (dk_at dksX6_arrives_8 2 rfl rfl)
theorem dX6_arrives_190 : decode cX6_arrives 190 = .ok (.bastore, 1) := dk_84 (dk_at dksX6_arrives_8 3 rfl rfl)
theorem dX6_arrives_191 : decode cX6_arrives 191 = .ok (.return_, 1) := dk_177 (dk_at dksX6_arrives_8 4 rfl rfl)
abbrev cX6_lineOf : ByteArray := prog_23_method_56_code
def yX6_lineOf : MethodName := ⟨RX6, "lineOf", "(III)I"⟩
def dkwX6_lineOf_1 : List UInt8 := [21, 4, 184, 1, 119, 46, 29, 160, 0, 6, 21, 4, 172, 132, 4, 1, 167, 255, 219, 2, 172]
abbrev dktX6_lineOf_1 : List UInt8 := dkwX6_lineOf_1 ++ []
def dkwX6_lineOf_0 : List UInt8 := [3, 54, 4, 21, 4, 42, 180, 0, 90, 7, 27, 104, 28, 96, 46, 162, 0, 28, 42, 180, 0, 93, 27, 28]
abbrev dktX6_lineOf_0 : List UInt8 := dkwX6_lineOf_0 ++ dktX6_lineOf_1
theorem dksX6_lineOf_0 : cX6_lineOf.data.toList.drop 0 = dktX6_lineOf_0 := by decide +kernel
theorem dksX6_lineOf_1 : cX6_lineOf.data.toList.drop 24 = dktX6_lineOf_1 := dk_seg dksX6_lineOf_0 24 rfl rfl
theorem dX6_lineOf_0 : decode cX6_lineOf 0 = .ok (.iconst 0, 1) := dk_3 (dk_at dksX6_lineOf_0 0 rfl rfl)
theorem dX6_lineOf_1 : decode cX6_lineOf 1 = .ok (.istore 4, 2) := dk_54 4 (dk_at dksX6_lineOf_0 1 rfl rfl)
theorem dX6_lineOf_3 : decode cX6_lineOf 3 = .ok (.iload 4, 2) := dk_21 4 (dk_at dksX6_lineOf_0 3 rfl rfl)
theorem dX6_lineOf_5 : decode cX6_lineOf 5 = .ok (.aload_n 0, 1) := dk_42 (dk_at dksX6_lineOf_0 5 rfl rfl)
theorem dX6_lineOf_6 : decode cX6_lineOf 6 = .ok (.getfield 90, 3) := dk_180 0 90 (dk_at dksX6_lineOf_0 6 rfl rfl)
theorem dX6_lineOf_9 : decode cX6_lineOf 9 = .ok (.iconst 4, 1) := dk_7 (dk_at dksX6_lineOf_0 9 rfl rfl)
theorem dX6_lineOf_10 : decode cX6_lineOf 10 = .ok (.iload_n 1, 1) := dk_27 (dk_at dksX6_lineOf_0 10 rfl rfl)
theorem dX6_lineOf_11 : decode cX6_lineOf 11 = .ok (.imul, 1) := dk_104 (dk_at dksX6_lineOf_0 11 rfl rfl)
theorem dX6_lineOf_12 : decode cX6_lineOf 12 = .ok (.iload_n 2, 1) := dk_28 (dk_at dksX6_lineOf_0 12 rfl rfl)
theorem dX6_lineOf_13 : decode cX6_lineOf 13 = .ok (.iadd, 1) := dk_96 (dk_at dksX6_lineOf_0 13 rfl rfl)
theorem dX6_lineOf_14 : decode cX6_lineOf 14 = .ok (.iaload, 1) := dk_46 (dk_at dksX6_lineOf_0 14 rfl rfl)
theorem dX6_lineOf_15 : decode cX6_lineOf 15 = .ok (.if_icmp .ge 28, 3) := dk_162 0 28 (dk_at dksX6_lineOf_0 15 rfl rfl)
theorem dX6_lineOf_18 : decode cX6_lineOf 18 = .ok (.aload_n 0, 1) := dk_42 (dk_at dksX6_lineOf_0 18 rfl rfl)
theorem dX6_lineOf_19 : decode cX6_lineOf 19 = .ok (.getfield 93, 3) := dk_180 0 93 (dk_at dksX6_lineOf_0 19 rfl rfl)
theorem dX6_lineOf_22 : decode cX6_lineOf 22 = .ok (.iload_n 1, 1) := dk_27 (dk_at dksX6_lineOf_0 22 rfl rfl)
theorem dX6_lineOf_23 : decode cX6_lineOf 23 = .ok (.iload_n 2, 1) := dk_28 (dk_at dksX6_lineOf_0 23 rfl rfl)
theorem dX6_lineOf_24 : decode cX6_lineOf 24 = .ok (.iload 4, 2) := dk_21 4 (dk_at dksX6_lineOf_1 0 rfl rfl)
theorem dX6_lineOf_26 : decode cX6_lineOf 26 = .ok (.invokestatic 375, 3) := dk_184 1 119 (dk_at dksX6_lineOf_1 2 rfl rfl)
theorem dX6_lineOf_29 : decode cX6_lineOf 29 = .ok (.iaload, 1) := dk_46 (dk_at dksX6_lineOf_1 5 rfl rfl)
theorem dX6_lineOf_30 : decode cX6_lineOf 30 = .ok (.iload_n 3, 1) := dk_29 (dk_at dksX6_lineOf_1 6 rfl rfl)
theorem dX6_lineOf_31 : decode cX6_lineOf 31 = .ok (.if_icmp .ne 6, 3) := dk_160 0 6 (dk_at dksX6_lineOf_1 7 rfl rfl)
theorem dX6_lineOf_34 : decode cX6_lineOf 34 = .ok (.iload 4, 2) := dk_21 4 (dk_at dksX6_lineOf_1 10 rfl rfl)
theorem dX6_lineOf_36 : decode cX6_lineOf 36 = .ok (.ireturn, 1) := dk_172 (dk_at dksX6_lineOf_1 12 rfl rfl)
theorem dX6_lineOf_37 : decode cX6_lineOf 37 = .ok (.iinc 4 1, 3) := dk_132 4 1 (dk_at dksX6_lineOf_1 13 rfl rfl)
theorem dX6_lineOf_40 : decode cX6_lineOf 40 = .ok (.goto (-37), 3) := dk_167 255 219 (dk_at dksX6_lineOf_1 16 rfl rfl)
theorem dX6_lineOf_43 : decode cX6_lineOf 43 = .ok (.iconst (-1), 1) := dk_2 (dk_at dksX6_lineOf_1 19 rfl rfl)
theorem dX6_lineOf_44 : decode cX6_lineOf 44 = .ok (.ireturn, 1) := dk_172 (dk_at dksX6_lineOf_1 20 rfl rfl)
abbrev cX6_sets : ByteArray := prog_23_method_59_code
def yX6_sets : MethodName := ⟨RX6, "sets", "(IIIII)V"⟩
def dkwX6_sets_1 : List UInt8 := [21, 5, 79, 42, 180, 0, 99, 27, 28, 29, 184, 1, 119, 42, 180, 0, 87, 27, 46, 79, 177]
abbrev dktX6_sets_1 : List UInt8 := dkwX6_sets_1 ++ []
def dkwX6_sets_0 : List UInt8 := [42, 180, 0, 93, 27, 28, 29, 184, 1, 119, 21, 4, 79, 42, 180, 0, 96, 27, 28, 29, 184, 1, 119]
abbrev dktX6_sets_0 : List UInt8 := dkwX6_sets_0 ++ dktX6_sets_1
theorem dksX6_sets_0 : cX6_sets.data.toList.drop 0 = dktX6_sets_0 := by decide +kernel
theorem dksX6_sets_1 : cX6_sets.data.toList.drop 23 = dktX6_sets_1 := dk_seg dksX6_sets_0 23 rfl rfl
theorem dX6_sets_0 : decode cX6_sets 0 = .ok (.aload_n 0, 1) := dk_42 (dk_at dksX6_sets_0 0 rfl rfl)
theorem dX6_sets_1 : decode cX6_sets 1 = .ok (.getfield 93, 3) := dk_180 0 93 (dk_at dksX6_sets_0 1 rfl rfl)
theorem dX6_sets_4 : decode cX6_sets 4 = .ok (.iload_n 1, 1) := dk_27 (dk_at dksX6_sets_0 4 rfl rfl)
theorem dX6_sets_5 : decode cX6_sets 5 = .ok (.iload_n 2, 1) := dk_28 (dk_at dksX6_sets_0 5 rfl rfl)
theorem dX6_sets_6 : decode cX6_sets 6 = .ok (.iload_n 3, 1) := dk_29 (dk_at dksX6_sets_0 6 rfl rfl)
theorem dX6_sets_7 : decode cX6_sets 7 = .ok (.invokestatic 375, 3) := dk_184 1 119 (dk_at dksX6_sets_0 7 rfl rfl)
theorem dX6_sets_10 : decode cX6_sets 10 = .ok (.iload 4, 2) := dk_21 4 (dk_at dksX6_sets_0 10 rfl rfl)
theorem dX6_sets_12 : decode cX6_sets 12 = .ok (.iastore, 1) := dk_79 (dk_at dksX6_sets_0 12 rfl rfl)
theorem dX6_sets_13 : decode cX6_sets 13 = .ok (.aload_n 0, 1) := dk_42 (dk_at dksX6_sets_0 13 rfl rfl)
theorem dX6_sets_14 : decode cX6_sets 14 = .ok (.getfield 96, 3) := dk_180 0 96 (dk_at dksX6_sets_0 14 rfl rfl)
theorem dX6_sets_17 : decode cX6_sets 17 = .ok (.iload_n 1, 1) := dk_27 (dk_at dksX6_sets_0 17 rfl rfl)
theorem dX6_sets_18 : decode cX6_sets 18 = .ok (.iload_n 2, 1) := dk_28 (dk_at dksX6_sets_0 18 rfl rfl)
theorem dX6_sets_19 : decode cX6_sets 19 = .ok (.iload_n 3, 1) := dk_29 (dk_at dksX6_sets_0 19 rfl rfl)
theorem dX6_sets_20 : decode cX6_sets 20 = .ok (.invokestatic 375, 3) := dk_184 1 119 (dk_at dksX6_sets_0 20 rfl rfl)
theorem dX6_sets_23 : decode cX6_sets 23 = .ok (.iload 5, 2) := dk_21 5 (dk_at dksX6_sets_1 0 rfl rfl)
theorem dX6_sets_25 : decode cX6_sets 25 = .ok (.iastore, 1) := dk_79 (dk_at dksX6_sets_1 2 rfl rfl)
theorem dX6_sets_26 : decode cX6_sets 26 = .ok (.aload_n 0, 1) := dk_42 (dk_at dksX6_sets_1 3 rfl rfl)
theorem dX6_sets_27 : decode cX6_sets 27 = .ok (.getfield 99, 3) := dk_180 0 99 (dk_at dksX6_sets_1 4 rfl rfl)
theorem dX6_sets_30 : decode cX6_sets 30 = .ok (.iload_n 1, 1) := dk_27 (dk_at dksX6_sets_1 7 rfl rfl)
theorem dX6_sets_31 : decode cX6_sets 31 = .ok (.iload_n 2, 1) := dk_28 (dk_at dksX6_sets_1 8 rfl rfl)
theorem dX6_sets_32 : decode cX6_sets 32 = .ok (.iload_n 3, 1) := dk_29 (dk_at dksX6_sets_1 9 rfl rfl)
theorem dX6_sets_33 : decode cX6_sets 33 = .ok (.invokestatic 375, 3) := dk_184 1 119 (dk_at dksX6_sets_1 10 rfl rfl)
theorem dX6_sets_36 : decode cX6_sets 36 = .ok (.aload_n 0, 1) := dk_42 (dk_at dksX6_sets_1 13 rfl rfl)
theorem dX6_sets_37 : decode cX6_sets 37 = .ok (.getfield 87, 3) := dk_180 0 87 (dk_at dksX6_sets_1 14 rfl rfl)
theorem dX6_sets_40 : decode cX6_sets 40 = .ok (.iload_n 1, 1) := dk_27 (dk_at dksX6_sets_1 17 rfl rfl)
theorem dX6_sets_41 : decode cX6_sets 41 = .ok (.iaload, 1) := dk_46 (dk_at dksX6_sets_1 18 rfl rfl)
theorem dX6_sets_42 : decode cX6_sets 42 = .ok (.iastore, 1) := dk_79 (dk_at dksX6_sets_1 19 rfl rfl)
theorem dX6_sets_43 : decode cX6_sets 43 = .ok (.return_, 1) := dk_177 (dk_at dksX6_sets_1 20 rfl rfl)
abbrev cX6_roomOf : ByteArray := prog_23_method_46_code
def yX6_roomOf : MethodName := ⟨RX6, "roomOf", "(I)I"⟩
def dkwX6_roomOf_1 : List UInt8 := [46, 172]
abbrev dktX6_roomOf_1 : List UInt8 := dkwX6_roomOf_1 ++ []
def dkwX6_roomOf_0 : List UInt8 := [42, 180, 1, 90, 5, 160, 0, 14, 42, 180, 0, 19, 27, 46, 4, 96, 167, 0, 9, 42, 180, 0, 19, 27]
abbrev dktX6_roomOf_0 : List UInt8 := dkwX6_roomOf_0 ++ dktX6_roomOf_1
theorem dksX6_roomOf_0 : cX6_roomOf.data.toList.drop 0 = dktX6_roomOf_0 := by decide +kernel
theorem dksX6_roomOf_1 : cX6_roomOf.data.toList.drop 24 = dktX6_roomOf_1 := dk_seg dksX6_roomOf_0 24 rfl rfl
theorem dX6_roomOf_0 : decode cX6_roomOf 0 = .ok (.aload_n 0, 1) := dk_42 (dk_at dksX6_roomOf_0 0 rfl rfl)
theorem dX6_roomOf_1 : decode cX6_roomOf 1 = .ok (.getfield 346, 3) := dk_180 1 90 (dk_at dksX6_roomOf_0 1 rfl rfl)
theorem dX6_roomOf_4 : decode cX6_roomOf 4 = .ok (.iconst 2, 1) := dk_5 (dk_at dksX6_roomOf_0 4 rfl rfl)
theorem dX6_roomOf_5 : decode cX6_roomOf 5 = .ok (.if_icmp .ne 14, 3) := dk_160 0 14 (dk_at dksX6_roomOf_0 5 rfl rfl)
theorem dX6_roomOf_8 : decode cX6_roomOf 8 = .ok (.aload_n 0, 1) := dk_42 (dk_at dksX6_roomOf_0 8 rfl rfl)
theorem dX6_roomOf_9 : decode cX6_roomOf 9 = .ok (.getfield 19, 3) := dk_180 0 19 (dk_at dksX6_roomOf_0 9 rfl rfl)
theorem dX6_roomOf_12 : decode cX6_roomOf 12 = .ok (.iload_n 1, 1) := dk_27 (dk_at dksX6_roomOf_0 12 rfl rfl)
theorem dX6_roomOf_13 : decode cX6_roomOf 13 = .ok (.iaload, 1) := dk_46 (dk_at dksX6_roomOf_0 13 rfl rfl)
theorem dX6_roomOf_14 : decode cX6_roomOf 14 = .ok (.iconst 1, 1) := dk_4 (dk_at dksX6_roomOf_0 14 rfl rfl)
theorem dX6_roomOf_15 : decode cX6_roomOf 15 = .ok (.iadd, 1) := dk_96 (dk_at dksX6_roomOf_0 15 rfl rfl)
theorem dX6_roomOf_16 : decode cX6_roomOf 16 = .ok (.goto 9, 3) := dk_167 0 9 (dk_at dksX6_roomOf_0 16 rfl rfl)
theorem dX6_roomOf_19 : decode cX6_roomOf 19 = .ok (.aload_n 0, 1) := dk_42 (dk_at dksX6_roomOf_0 19 rfl rfl)
theorem dX6_roomOf_20 : decode cX6_roomOf 20 = .ok (.getfield 19, 3) := dk_180 0 19 (dk_at dksX6_roomOf_0 20 rfl rfl)
theorem dX6_roomOf_23 : decode cX6_roomOf 23 = .ok (.iload_n 1, 1) := dk_27 (dk_at dksX6_roomOf_0 23 rfl rfl)
theorem dX6_roomOf_24 : decode cX6_roomOf 24 = .ok (.iaload, 1) := dk_46 (dk_at dksX6_roomOf_1 0 rfl rfl)
theorem dX6_roomOf_25 : decode cX6_roomOf 25 = .ok (.ireturn, 1) := dk_172 (dk_at dksX6_roomOf_1 1 rfl rfl)
abbrev cX6_leastOf : ByteArray := prog_23_method_66_code
def yX6_leastOf : MethodName := ⟨RX6, "leastOf", "(IIII)I"⟩
def dkwX6_leastOf_4 : List UInt8 := [29, 21, 4, 2, 182, 1, 167, 22, 6, 148, 156, 0, 7, 2, 167, 0, 5, 21, 5, 172]
abbrev dktX6_leastOf_4 : List UInt8 := dkwX6_leastOf_4 ++ []
def dkwX6_leastOf_3 : List UInt8 := [148, 155, 0, 6, 167, 0, 11, 21, 8, 54, 5, 22, 10, 55, 6, 132, 8, 1, 167, 255, 176, 42, 27, 28]
abbrev dktX6_leastOf_3 : List UInt8 := dkwX6_leastOf_3 ++ dktX6_leastOf_4
def dkwX6_leastOf_2 : List UInt8 := [21, 9, 46, 42, 180, 0, 99, 21, 9, 46, 182, 1, 167, 55, 10, 21, 8, 158, 0, 14, 22, 10, 22, 6]
abbrev dktX6_leastOf_2 : List UInt8 := dkwX6_leastOf_2 ++ dktX6_leastOf_3
def dkwX6_leastOf_1 : List UInt8 := [27, 28, 21, 8, 184, 1, 119, 54, 9, 42, 27, 28, 42, 180, 0, 93, 21, 9, 46, 42, 180, 0, 96]
abbrev dktX6_leastOf_1 : List UInt8 := dkwX6_leastOf_1 ++ dktX6_leastOf_2
def dkwX6_leastOf_0 : List UInt8 := [3, 54, 5, 9, 55, 6, 3, 54, 8, 21, 8, 42, 180, 0, 90, 7, 27, 104, 28, 96, 46, 162, 0, 71]
abbrev dktX6_leastOf_0 : List UInt8 := dkwX6_leastOf_0 ++ dktX6_leastOf_1
theorem dksX6_leastOf_0 : cX6_leastOf.data.toList.drop 0 = dktX6_leastOf_0 := by decide +kernel
theorem dksX6_leastOf_1 : cX6_leastOf.data.toList.drop 24 = dktX6_leastOf_1 := dk_seg dksX6_leastOf_0 24 rfl rfl
theorem dksX6_leastOf_2 : cX6_leastOf.data.toList.drop 47 = dktX6_leastOf_2 := dk_seg dksX6_leastOf_1 23 rfl rfl
theorem dksX6_leastOf_3 : cX6_leastOf.data.toList.drop 71 = dktX6_leastOf_3 := dk_seg dksX6_leastOf_2 24 rfl rfl
theorem dksX6_leastOf_4 : cX6_leastOf.data.toList.drop 95 = dktX6_leastOf_4 := dk_seg dksX6_leastOf_3 24 rfl rfl
theorem dX6_leastOf_0 : decode cX6_leastOf 0 = .ok (.iconst 0, 1) := dk_3 (dk_at dksX6_leastOf_0 0 rfl rfl)
theorem dX6_leastOf_1 : decode cX6_leastOf 1 = .ok (.istore 5, 2) := dk_54 5 (dk_at dksX6_leastOf_0 1 rfl rfl)
theorem dX6_leastOf_3 : decode cX6_leastOf 3 = .ok (.lconst 0, 1) := dk_9 (dk_at dksX6_leastOf_0 3 rfl rfl)
theorem dX6_leastOf_4 : decode cX6_leastOf 4 = .ok (.lstore 6, 2) := dk_55 6 (dk_at dksX6_leastOf_0 4 rfl rfl)
theorem dX6_leastOf_6 : decode cX6_leastOf 6 = .ok (.iconst 0, 1) := dk_3 (dk_at dksX6_leastOf_0 6 rfl rfl)
theorem dX6_leastOf_7 : decode cX6_leastOf 7 = .ok (.istore 8, 2) := dk_54 8 (dk_at dksX6_leastOf_0 7 rfl rfl)
theorem dX6_leastOf_9 : decode cX6_leastOf 9 = .ok (.iload 8, 2) := dk_21 8 (dk_at dksX6_leastOf_0 9 rfl rfl)
theorem dX6_leastOf_11 : decode cX6_leastOf 11 = .ok (.aload_n 0, 1) := dk_42 (dk_at dksX6_leastOf_0 11 rfl rfl)
theorem dX6_leastOf_12 : decode cX6_leastOf 12 = .ok (.getfield 90, 3) := dk_180 0 90 (dk_at dksX6_leastOf_0 12 rfl rfl)
theorem dX6_leastOf_15 : decode cX6_leastOf 15 = .ok (.iconst 4, 1) := dk_7 (dk_at dksX6_leastOf_0 15 rfl rfl)
theorem dX6_leastOf_16 : decode cX6_leastOf 16 = .ok (.iload_n 1, 1) := dk_27 (dk_at dksX6_leastOf_0 16 rfl rfl)
theorem dX6_leastOf_17 : decode cX6_leastOf 17 = .ok (.imul, 1) := dk_104 (dk_at dksX6_leastOf_0 17 rfl rfl)
theorem dX6_leastOf_18 : decode cX6_leastOf 18 = .ok (.iload_n 2, 1) := dk_28 (dk_at dksX6_leastOf_0 18 rfl rfl)
theorem dX6_leastOf_19 : decode cX6_leastOf 19 = .ok (.iadd, 1) := dk_96 (dk_at dksX6_leastOf_0 19 rfl rfl)
theorem dX6_leastOf_20 : decode cX6_leastOf 20 = .ok (.iaload, 1) := dk_46 (dk_at dksX6_leastOf_0 20 rfl rfl)
theorem dX6_leastOf_21 : decode cX6_leastOf 21 = .ok (.if_icmp .ge 71, 3) := dk_162 0 71 (dk_at dksX6_leastOf_0 21 rfl rfl)
theorem dX6_leastOf_24 : decode cX6_leastOf 24 = .ok (.iload_n 1, 1) := dk_27 (dk_at dksX6_leastOf_1 0 rfl rfl)
theorem dX6_leastOf_25 : decode cX6_leastOf 25 = .ok (.iload_n 2, 1) := dk_28 (dk_at dksX6_leastOf_1 1 rfl rfl)
theorem dX6_leastOf_26 : decode cX6_leastOf 26 = .ok (.iload 8, 2) := dk_21 8 (dk_at dksX6_leastOf_1 2 rfl rfl)
theorem dX6_leastOf_28 : decode cX6_leastOf 28 = .ok (.invokestatic 375, 3) := dk_184 1 119 (dk_at dksX6_leastOf_1 4 rfl rfl)
theorem dX6_leastOf_31 : decode cX6_leastOf 31 = .ok (.istore 9, 2) := dk_54 9 (dk_at dksX6_leastOf_1 7 rfl rfl)
theorem dX6_leastOf_33 : decode cX6_leastOf 33 = .ok (.aload_n 0, 1) := dk_42 (dk_at dksX6_leastOf_1 9 rfl rfl)
theorem dX6_leastOf_34 : decode cX6_leastOf 34 = .ok (.iload_n 1, 1) := dk_27 (dk_at dksX6_leastOf_1 10 rfl rfl)
theorem dX6_leastOf_35 : decode cX6_leastOf 35 = .ok (.iload_n 2, 1) := dk_28 (dk_at dksX6_leastOf_1 11 rfl rfl)
theorem dX6_leastOf_36 : decode cX6_leastOf 36 = .ok (.aload_n 0, 1) := dk_42 (dk_at dksX6_leastOf_1 12 rfl rfl)
theorem dX6_leastOf_37 : decode cX6_leastOf 37 = .ok (.getfield 93, 3) := dk_180 0 93 (dk_at dksX6_leastOf_1 13 rfl rfl)
theorem dX6_leastOf_40 : decode cX6_leastOf 40 = .ok (.iload 9, 2) := dk_21 9 (dk_at dksX6_leastOf_1 16 rfl rfl)
theorem dX6_leastOf_42 : decode cX6_leastOf 42 = .ok (.iaload, 1) := dk_46 (dk_at dksX6_leastOf_1 18 rfl rfl)
theorem dX6_leastOf_43 : decode cX6_leastOf 43 = .ok (.aload_n 0, 1) := dk_42 (dk_at dksX6_leastOf_1 19 rfl rfl)
theorem dX6_leastOf_44 : decode cX6_leastOf 44 = .ok (.getfield 96, 3) := dk_180 0 96 (dk_at dksX6_leastOf_1 20 rfl rfl)
theorem dX6_leastOf_47 : decode cX6_leastOf 47 = .ok (.iload 9, 2) := dk_21 9 (dk_at dksX6_leastOf_2 0 rfl rfl)
theorem dX6_leastOf_49 : decode cX6_leastOf 49 = .ok (.iaload, 1) := dk_46 (dk_at dksX6_leastOf_2 2 rfl rfl)
theorem dX6_leastOf_50 : decode cX6_leastOf 50 = .ok (.aload_n 0, 1) := dk_42 (dk_at dksX6_leastOf_2 3 rfl rfl)
theorem dX6_leastOf_51 : decode cX6_leastOf 51 = .ok (.getfield 99, 3) := dk_180 0 99 (dk_at dksX6_leastOf_2 4 rfl rfl)
theorem dX6_leastOf_54 : decode cX6_leastOf 54 = .ok (.iload 9, 2) := dk_21 9 (dk_at dksX6_leastOf_2 7 rfl rfl)
theorem dX6_leastOf_56 : decode cX6_leastOf 56 = .ok (.iaload, 1) := dk_46 (dk_at dksX6_leastOf_2 9 rfl rfl)
theorem dX6_leastOf_57 : decode cX6_leastOf 57 = .ok (.invokevirtual 423, 3) := dk_182 1 167 (dk_at dksX6_leastOf_2 10 rfl rfl)
theorem dX6_leastOf_60 : decode cX6_leastOf 60 = .ok (.lstore 10, 2) := dk_55 10 (dk_at dksX6_leastOf_2 13 rfl rfl)
theorem dX6_leastOf_62 : decode cX6_leastOf 62 = .ok (.iload 8, 2) := dk_21 8 (dk_at dksX6_leastOf_2 15 rfl rfl)
theorem dX6_leastOf_64 : decode cX6_leastOf 64 = .ok (.ifCond .le 14, 3) := dk_158 0 14 (dk_at dksX6_leastOf_2 17 rfl rfl)
theorem dX6_leastOf_67 : decode cX6_leastOf 67 = .ok (.lload 10, 2) := dk_22 10 (dk_at dksX6_leastOf_2 20 rfl rfl)
theorem dX6_leastOf_69 : decode cX6_leastOf 69 = .ok (.lload 6, 2) := dk_22 6 (dk_at dksX6_leastOf_2 22 rfl rfl)
theorem dX6_leastOf_71 : decode cX6_leastOf 71 = .ok (.lcmp, 1) := dk_148 (dk_at dksX6_leastOf_3 0 rfl rfl)
theorem dX6_leastOf_72 : decode cX6_leastOf 72 = .ok (.ifCond .lt 6, 3) := dk_155 0 6 (dk_at dksX6_leastOf_3 1 rfl rfl)
theorem dX6_leastOf_75 : decode cX6_leastOf 75 = .ok (.goto 11, 3) := dk_167 0 11 (dk_at dksX6_leastOf_3 4 rfl rfl)
theorem dX6_leastOf_78 : decode cX6_leastOf 78 = .ok (.iload 8, 2) := dk_21 8 (dk_at dksX6_leastOf_3 7 rfl rfl)
theorem dX6_leastOf_80 : decode cX6_leastOf 80 = .ok (.istore 5, 2) := dk_54 5 (dk_at dksX6_leastOf_3 9 rfl rfl)
theorem dX6_leastOf_82 : decode cX6_leastOf 82 = .ok (.lload 10, 2) := dk_22 10 (dk_at dksX6_leastOf_3 11 rfl rfl)
theorem dX6_leastOf_84 : decode cX6_leastOf 84 = .ok (.lstore 6, 2) := dk_55 6 (dk_at dksX6_leastOf_3 13 rfl rfl)
theorem dX6_leastOf_86 : decode cX6_leastOf 86 = .ok (.iinc 8 1, 3) := dk_132 8 1 (dk_at dksX6_leastOf_3 15 rfl rfl)
theorem dX6_leastOf_89 : decode cX6_leastOf 89 = .ok (.goto (-80), 3) := dk_167 255 176 (dk_at dksX6_leastOf_3 18 rfl rfl)
theorem dX6_leastOf_92 : decode cX6_leastOf 92 = .ok (.aload_n 0, 1) := dk_42 (dk_at dksX6_leastOf_3 21 rfl rfl)
theorem dX6_leastOf_93 : decode cX6_leastOf 93 = .ok (.iload_n 1, 1) := dk_27 (dk_at dksX6_leastOf_3 22 rfl rfl)
theorem dX6_leastOf_94 : decode cX6_leastOf 94 = .ok (.iload_n 2, 1) := dk_28 (dk_at dksX6_leastOf_3 23 rfl rfl)
theorem dX6_leastOf_95 : decode cX6_leastOf 95 = .ok (.iload_n 3, 1) := dk_29 (dk_at dksX6_leastOf_4 0 rfl rfl)
theorem dX6_leastOf_96 : decode cX6_leastOf 96 = .ok (.iload 4, 2) := dk_21 4 (dk_at dksX6_leastOf_4 1 rfl rfl)
theorem dX6_leastOf_98 : decode cX6_leastOf 98 = .ok (.iconst (-1), 1) := dk_2 (dk_at dksX6_leastOf_4 3 rfl rfl)
theorem dX6_leastOf_99 : decode cX6_leastOf 99 = .ok (.invokevirtual 423, 3) := dk_182 1 167 (dk_at dksX6_leastOf_4 4 rfl rfl)
theorem dX6_leastOf_102 : decode cX6_leastOf 102 = .ok (.lload 6, 2) := dk_22 6 (dk_at dksX6_leastOf_4 7 rfl rfl)
theorem dX6_leastOf_104 : decode cX6_leastOf 104 = .ok (.lcmp, 1) := dk_148 (dk_at dksX6_leastOf_4 9 rfl rfl)
theorem dX6_leastOf_105 : decode cX6_leastOf 105 = .ok (.ifCond .ge 7, 3) := dk_156 0 7 (dk_at dksX6_leastOf_4 10 rfl rfl)
theorem dX6_leastOf_108 : decode cX6_leastOf 108 = .ok (.iconst (-1), 1) := dk_2 (dk_at dksX6_leastOf_4 13 rfl rfl)
theorem dX6_leastOf_109 : decode cX6_leastOf 109 = .ok (.goto 5, 3) := dk_167 0 5 (dk_at dksX6_leastOf_4 14 rfl rfl)
theorem dX6_leastOf_112 : decode cX6_leastOf 112 = .ok (.iload 5, 2) := dk_21 5 (dk_at dksX6_leastOf_4 17 rfl rfl)
theorem dX6_leastOf_114 : decode cX6_leastOf 114 = .ok (.ireturn, 1) := dk_172 (dk_at dksX6_leastOf_4 19 rfl rfl)
abbrev cX6_keepOf : ByteArray := prog_23_method_64_code
def yX6_keepOf : MethodName := ⟨RX6, "keepOf", "(IIIII)J"⟩
def dkwX6_keepOf_1 : List UInt8 := [182, 1, 141, 173]
abbrev dktX6_keepOf_1 : List UInt8 := dkwX6_keepOf_1 ++ []
def dkwX6_keepOf_0 : List UInt8 := [42, 42, 180, 1, 96, 27, 28, 29, 21, 4, 21, 5, 21, 4, 42, 180, 0, 87, 27, 46, 100, 133]
abbrev dktX6_keepOf_0 : List UInt8 := dkwX6_keepOf_0 ++ dktX6_keepOf_1
theorem dksX6_keepOf_0 : cX6_keepOf.data.toList.drop 0 = dktX6_keepOf_0 := by decide +kernel
theorem dksX6_keepOf_1 : cX6_keepOf.data.toList.drop 22 = dktX6_keepOf_1 := dk_seg dksX6_keepOf_0 22 rfl rfl
theorem dX6_keepOf_0 : decode cX6_keepOf 0 = .ok (.aload_n 0, 1) := dk_42 (dk_at dksX6_keepOf_0 0 rfl rfl)
theorem dX6_keepOf_1 : decode cX6_keepOf 1 = .ok (.aload_n 0, 1) := dk_42 (dk_at dksX6_keepOf_0 1 rfl rfl)
theorem dX6_keepOf_2 : decode cX6_keepOf 2 = .ok (.getfield 352, 3) := dk_180 1 96 (dk_at dksX6_keepOf_0 2 rfl rfl)
theorem dX6_keepOf_5 : decode cX6_keepOf 5 = .ok (.iload_n 1, 1) := dk_27 (dk_at dksX6_keepOf_0 5 rfl rfl)
theorem dX6_keepOf_6 : decode cX6_keepOf 6 = .ok (.iload_n 2, 1) := dk_28 (dk_at dksX6_keepOf_0 6 rfl rfl)
theorem dX6_keepOf_7 : decode cX6_keepOf 7 = .ok (.iload_n 3, 1) := dk_29 (dk_at dksX6_keepOf_0 7 rfl rfl)
theorem dX6_keepOf_8 : decode cX6_keepOf 8 = .ok (.iload 4, 2) := dk_21 4 (dk_at dksX6_keepOf_0 8 rfl rfl)
theorem dX6_keepOf_10 : decode cX6_keepOf 10 = .ok (.iload 5, 2) := dk_21 5 (dk_at dksX6_keepOf_0 10 rfl rfl)
theorem dX6_keepOf_12 : decode cX6_keepOf 12 = .ok (.iload 4, 2) := dk_21 4 (dk_at dksX6_keepOf_0 12 rfl rfl)
theorem dX6_keepOf_14 : decode cX6_keepOf 14 = .ok (.aload_n 0, 1) := dk_42 (dk_at dksX6_keepOf_0 14 rfl rfl)
theorem dX6_keepOf_15 : decode cX6_keepOf 15 = .ok (.getfield 87, 3) := dk_180 0 87 (dk_at dksX6_keepOf_0 15 rfl rfl)
theorem dX6_keepOf_18 : decode cX6_keepOf 18 = .ok (.iload_n 1, 1) := dk_27 (dk_at dksX6_keepOf_0 18 rfl rfl)
theorem dX6_keepOf_19 : decode cX6_keepOf 19 = .ok (.iaload, 1) := dk_46 (dk_at dksX6_keepOf_0 19 rfl rfl)
theorem dX6_keepOf_20 : decode cX6_keepOf 20 = .ok (.isub, 1) := dk_100 (dk_at dksX6_keepOf_0 20 rfl rfl)
theorem dX6_keepOf_21 : decode cX6_keepOf 21 = .ok (.i2l, 1) := dk_133 (dk_at dksX6_keepOf_0 21 rfl rfl)
theorem dX6_keepOf_22 : decode cX6_keepOf 22 = .ok (.invokevirtual 397, 3) := dk_182 1 141 (dk_at dksX6_keepOf_1 0 rfl rfl)
theorem dX6_keepOf_25 : decode cX6_keepOf 25 = .ok (.lreturn, 1) := dk_173 (dk_at dksX6_keepOf_1 3 rfl rfl)
abbrev cX6_lawOf : ByteArray := prog_23_method_63_code
def yX6_lawOf : MethodName := ⟨RX6, "lawOf", "(IIIIIIJ)J"⟩
def dkwX6_lawOf_5 : List UInt8 := [80, 42, 27, 182, 1, 138, 153, 0, 12, 42, 180, 0, 84, 3, 47, 167, 0, 4, 9, 173]
abbrev dktX6_lawOf_5 : List UInt8 := dkwX6_lawOf_5 ++ []
def dkwX6_lawOf_4 : List UInt8 := [182, 1, 135, 133, 80, 42, 180, 0, 80, 8, 21, 6, 2, 160, 0, 7, 4, 167, 0, 4, 3, 184, 1, 102]
abbrev dktX6_lawOf_4 : List UInt8 := dkwX6_lawOf_4 ++ dktX6_lawOf_5
def dkwX6_lawOf_3 : List UInt8 := [180, 0, 80, 6, 42, 28, 29, 21, 4, 182, 1, 132, 133, 80, 42, 180, 0, 80, 7, 42, 28, 29, 21, 4]
abbrev dktX6_lawOf_3 : List UInt8 := dkwX6_lawOf_3 ++ dktX6_lawOf_4
def dkwX6_lawOf_2 : List UInt8 := [180, 0, 87, 28, 46, 100, 133, 80, 42, 180, 0, 80, 5, 42, 180, 0, 28, 21, 4, 46, 133, 80, 42]
abbrev dktX6_lawOf_2 : List UInt8 := dkwX6_lawOf_2 ++ dktX6_lawOf_3
def dkwX6_lawOf_1 : List UInt8 := [167, 0, 13, 42, 180, 0, 87, 28, 46, 21, 6, 100, 133, 80, 42, 180, 0, 80, 4, 21, 5, 42]
abbrev dktX6_lawOf_1 : List UInt8 := dkwX6_lawOf_1 ++ dktX6_lawOf_2
def dkwX6_lawOf_0 : List UInt8 := [42, 27, 182, 1, 129, 154, 0, 6, 22, 7, 173, 42, 180, 0, 80, 3, 21, 6, 2, 160, 0, 7, 9]
abbrev dktX6_lawOf_0 : List UInt8 := dkwX6_lawOf_0 ++ dktX6_lawOf_1
theorem dksX6_lawOf_0 : cX6_lawOf.data.toList.drop 0 = dktX6_lawOf_0 := by decide +kernel
theorem dksX6_lawOf_1 : cX6_lawOf.data.toList.drop 23 = dktX6_lawOf_1 := dk_seg dksX6_lawOf_0 23 rfl rfl
theorem dksX6_lawOf_2 : cX6_lawOf.data.toList.drop 45 = dktX6_lawOf_2 := dk_seg dksX6_lawOf_1 22 rfl rfl
theorem dksX6_lawOf_3 : cX6_lawOf.data.toList.drop 68 = dktX6_lawOf_3 := dk_seg dksX6_lawOf_2 23 rfl rfl
theorem dksX6_lawOf_4 : cX6_lawOf.data.toList.drop 92 = dktX6_lawOf_4 := dk_seg dksX6_lawOf_3 24 rfl rfl
theorem dksX6_lawOf_5 : cX6_lawOf.data.toList.drop 116 = dktX6_lawOf_5 := dk_seg dksX6_lawOf_4 24 rfl rfl
theorem dX6_lawOf_0 : decode cX6_lawOf 0 = .ok (.aload_n 0, 1) := dk_42 (dk_at dksX6_lawOf_0 0 rfl rfl)
theorem dX6_lawOf_1 : decode cX6_lawOf 1 = .ok (.iload_n 1, 1) := dk_27 (dk_at dksX6_lawOf_0 1 rfl rfl)
theorem dX6_lawOf_2 : decode cX6_lawOf 2 = .ok (.invokevirtual 385, 3) := dk_182 1 129 (dk_at dksX6_lawOf_0 2 rfl rfl)
theorem dX6_lawOf_5 : decode cX6_lawOf 5 = .ok (.ifCond .ne 6, 3) := dk_154 0 6 (dk_at dksX6_lawOf_0 5 rfl rfl)
theorem dX6_lawOf_8 : decode cX6_lawOf 8 = .ok (.lload 7, 2) := dk_22 7 (dk_at dksX6_lawOf_0 8 rfl rfl)
theorem dX6_lawOf_10 : decode cX6_lawOf 10 = .ok (.lreturn, 1) := dk_173 (dk_at dksX6_lawOf_0 10 rfl rfl)
theorem dX6_lawOf_11 : decode cX6_lawOf 11 = .ok (.aload_n 0, 1) := dk_42 (dk_at dksX6_lawOf_0 11 rfl rfl)
theorem dX6_lawOf_12 : decode cX6_lawOf 12 = .ok (.getfield 80, 3) := dk_180 0 80 (dk_at dksX6_lawOf_0 12 rfl rfl)
theorem dX6_lawOf_15 : decode cX6_lawOf 15 = .ok (.iconst 0, 1) := dk_3 (dk_at dksX6_lawOf_0 15 rfl rfl)
theorem dX6_lawOf_16 : decode cX6_lawOf 16 = .ok (.iload 6, 2) := dk_21 6 (dk_at dksX6_lawOf_0 16 rfl rfl)
theorem dX6_lawOf_18 : decode cX6_lawOf 18 = .ok (.iconst (-1), 1) := dk_2 (dk_at dksX6_lawOf_0 18 rfl rfl)
theorem dX6_lawOf_19 : decode cX6_lawOf 19 = .ok (.if_icmp .ne 7, 3) := dk_160 0 7 (dk_at dksX6_lawOf_0 19 rfl rfl)
theorem dX6_lawOf_22 : decode cX6_lawOf 22 = .ok (.lconst 0, 1) := dk_9 (dk_at dksX6_lawOf_0 22 rfl rfl)
theorem dX6_lawOf_23 : decode cX6_lawOf 23 = .ok (.goto 13, 3) := dk_167 0 13 (dk_at dksX6_lawOf_1 0 rfl rfl)
theorem dX6_lawOf_26 : decode cX6_lawOf 26 = .ok (.aload_n 0, 1) := dk_42 (dk_at dksX6_lawOf_1 3 rfl rfl)
theorem dX6_lawOf_27 : decode cX6_lawOf 27 = .ok (.getfield 87, 3) := dk_180 0 87 (dk_at dksX6_lawOf_1 4 rfl rfl)
theorem dX6_lawOf_30 : decode cX6_lawOf 30 = .ok (.iload_n 2, 1) := dk_28 (dk_at dksX6_lawOf_1 7 rfl rfl)
theorem dX6_lawOf_31 : decode cX6_lawOf 31 = .ok (.iaload, 1) := dk_46 (dk_at dksX6_lawOf_1 8 rfl rfl)
theorem dX6_lawOf_32 : decode cX6_lawOf 32 = .ok (.iload 6, 2) := dk_21 6 (dk_at dksX6_lawOf_1 9 rfl rfl)
theorem dX6_lawOf_34 : decode cX6_lawOf 34 = .ok (.isub, 1) := dk_100 (dk_at dksX6_lawOf_1 11 rfl rfl)
theorem dX6_lawOf_35 : decode cX6_lawOf 35 = .ok (.i2l, 1) := dk_133 (dk_at dksX6_lawOf_1 12 rfl rfl)
theorem dX6_lawOf_36 : decode cX6_lawOf 36 = .ok (.lastore, 1) := dk_80 (dk_at dksX6_lawOf_1 13 rfl rfl)
theorem dX6_lawOf_37 : decode cX6_lawOf 37 = .ok (.aload_n 0, 1) := dk_42 (dk_at dksX6_lawOf_1 14 rfl rfl)
theorem dX6_lawOf_38 : decode cX6_lawOf 38 = .ok (.getfield 80, 3) := dk_180 0 80 (dk_at dksX6_lawOf_1 15 rfl rfl)
theorem dX6_lawOf_41 : decode cX6_lawOf 41 = .ok (.iconst 1, 1) := dk_4 (dk_at dksX6_lawOf_1 18 rfl rfl)
theorem dX6_lawOf_42 : decode cX6_lawOf 42 = .ok (.iload 5, 2) := dk_21 5 (dk_at dksX6_lawOf_1 19 rfl rfl)
theorem dX6_lawOf_44 : decode cX6_lawOf 44 = .ok (.aload_n 0, 1) := dk_42 (dk_at dksX6_lawOf_1 21 rfl rfl)
theorem dX6_lawOf_45 : decode cX6_lawOf 45 = .ok (.getfield 87, 3) := dk_180 0 87 (dk_at dksX6_lawOf_2 0 rfl rfl)
theorem dX6_lawOf_48 : decode cX6_lawOf 48 = .ok (.iload_n 2, 1) := dk_28 (dk_at dksX6_lawOf_2 3 rfl rfl)
theorem dX6_lawOf_49 : decode cX6_lawOf 49 = .ok (.iaload, 1) := dk_46 (dk_at dksX6_lawOf_2 4 rfl rfl)
theorem dX6_lawOf_50 : decode cX6_lawOf 50 = .ok (.isub, 1) := dk_100 (dk_at dksX6_lawOf_2 5 rfl rfl)
theorem dX6_lawOf_51 : decode cX6_lawOf 51 = .ok (.i2l, 1) := dk_133 (dk_at dksX6_lawOf_2 6 rfl rfl)
theorem dX6_lawOf_52 : decode cX6_lawOf 52 = .ok (.lastore, 1) := dk_80 (dk_at dksX6_lawOf_2 7 rfl rfl)
theorem dX6_lawOf_53 : decode cX6_lawOf 53 = .ok (.aload_n 0, 1) := dk_42 (dk_at dksX6_lawOf_2 8 rfl rfl)
theorem dX6_lawOf_54 : decode cX6_lawOf 54 = .ok (.getfield 80, 3) := dk_180 0 80 (dk_at dksX6_lawOf_2 9 rfl rfl)
theorem dX6_lawOf_57 : decode cX6_lawOf 57 = .ok (.iconst 2, 1) := dk_5 (dk_at dksX6_lawOf_2 12 rfl rfl)
theorem dX6_lawOf_58 : decode cX6_lawOf 58 = .ok (.aload_n 0, 1) := dk_42 (dk_at dksX6_lawOf_2 13 rfl rfl)
theorem dX6_lawOf_59 : decode cX6_lawOf 59 = .ok (.getfield 28, 3) := dk_180 0 28 (dk_at dksX6_lawOf_2 14 rfl rfl)
theorem dX6_lawOf_62 : decode cX6_lawOf 62 = .ok (.iload 4, 2) := dk_21 4 (dk_at dksX6_lawOf_2 17 rfl rfl)
theorem dX6_lawOf_64 : decode cX6_lawOf 64 = .ok (.iaload, 1) := dk_46 (dk_at dksX6_lawOf_2 19 rfl rfl)
theorem dX6_lawOf_65 : decode cX6_lawOf 65 = .ok (.i2l, 1) := dk_133 (dk_at dksX6_lawOf_2 20 rfl rfl)
theorem dX6_lawOf_66 : decode cX6_lawOf 66 = .ok (.lastore, 1) := dk_80 (dk_at dksX6_lawOf_2 21 rfl rfl)
theorem dX6_lawOf_67 : decode cX6_lawOf 67 = .ok (.aload_n 0, 1) := dk_42 (dk_at dksX6_lawOf_2 22 rfl rfl)
theorem dX6_lawOf_68 : decode cX6_lawOf 68 = .ok (.getfield 80, 3) := dk_180 0 80 (dk_at dksX6_lawOf_3 0 rfl rfl)
theorem dX6_lawOf_71 : decode cX6_lawOf 71 = .ok (.iconst 3, 1) := dk_6 (dk_at dksX6_lawOf_3 3 rfl rfl)
theorem dX6_lawOf_72 : decode cX6_lawOf 72 = .ok (.aload_n 0, 1) := dk_42 (dk_at dksX6_lawOf_3 4 rfl rfl)
theorem dX6_lawOf_73 : decode cX6_lawOf 73 = .ok (.iload_n 2, 1) := dk_28 (dk_at dksX6_lawOf_3 5 rfl rfl)
theorem dX6_lawOf_74 : decode cX6_lawOf 74 = .ok (.iload_n 3, 1) := dk_29 (dk_at dksX6_lawOf_3 6 rfl rfl)
theorem dX6_lawOf_75 : decode cX6_lawOf 75 = .ok (.iload 4, 2) := dk_21 4 (dk_at dksX6_lawOf_3 7 rfl rfl)
theorem dX6_lawOf_77 : decode cX6_lawOf 77 = .ok (.invokevirtual 388, 3) := dk_182 1 132 (dk_at dksX6_lawOf_3 9 rfl rfl)
theorem dX6_lawOf_80 : decode cX6_lawOf 80 = .ok (.i2l, 1) := dk_133 (dk_at dksX6_lawOf_3 12 rfl rfl)
theorem dX6_lawOf_81 : decode cX6_lawOf 81 = .ok (.lastore, 1) := dk_80 (dk_at dksX6_lawOf_3 13 rfl rfl)
theorem dX6_lawOf_82 : decode cX6_lawOf 82 = .ok (.aload_n 0, 1) := dk_42 (dk_at dksX6_lawOf_3 14 rfl rfl)
theorem dX6_lawOf_83 : decode cX6_lawOf 83 = .ok (.getfield 80, 3) := dk_180 0 80 (dk_at dksX6_lawOf_3 15 rfl rfl)
theorem dX6_lawOf_86 : decode cX6_lawOf 86 = .ok (.iconst 4, 1) := dk_7 (dk_at dksX6_lawOf_3 18 rfl rfl)
theorem dX6_lawOf_87 : decode cX6_lawOf 87 = .ok (.aload_n 0, 1) := dk_42 (dk_at dksX6_lawOf_3 19 rfl rfl)
theorem dX6_lawOf_88 : decode cX6_lawOf 88 = .ok (.iload_n 2, 1) := dk_28 (dk_at dksX6_lawOf_3 20 rfl rfl)
theorem dX6_lawOf_89 : decode cX6_lawOf 89 = .ok (.iload_n 3, 1) := dk_29 (dk_at dksX6_lawOf_3 21 rfl rfl)
theorem dX6_lawOf_90 : decode cX6_lawOf 90 = .ok (.iload 4, 2) := dk_21 4 (dk_at dksX6_lawOf_3 22 rfl rfl)
theorem dX6_lawOf_92 : decode cX6_lawOf 92 = .ok (.invokevirtual 391, 3) := dk_182 1 135 (dk_at dksX6_lawOf_4 0 rfl rfl)
theorem dX6_lawOf_95 : decode cX6_lawOf 95 = .ok (.i2l, 1) := dk_133 (dk_at dksX6_lawOf_4 3 rfl rfl)
theorem dX6_lawOf_96 : decode cX6_lawOf 96 = .ok (.lastore, 1) := dk_80 (dk_at dksX6_lawOf_4 4 rfl rfl)
theorem dX6_lawOf_97 : decode cX6_lawOf 97 = .ok (.aload_n 0, 1) := dk_42 (dk_at dksX6_lawOf_4 5 rfl rfl)
theorem dX6_lawOf_98 : decode cX6_lawOf 98 = .ok (.getfield 80, 3) := dk_180 0 80 (dk_at dksX6_lawOf_4 6 rfl rfl)
theorem dX6_lawOf_101 : decode cX6_lawOf 101 = .ok (.iconst 5, 1) := dk_8 (dk_at dksX6_lawOf_4 9 rfl rfl)
theorem dX6_lawOf_102 : decode cX6_lawOf 102 = .ok (.iload 6, 2) := dk_21 6 (dk_at dksX6_lawOf_4 10 rfl rfl)
theorem dX6_lawOf_104 : decode cX6_lawOf 104 = .ok (.iconst (-1), 1) := dk_2 (dk_at dksX6_lawOf_4 12 rfl rfl)
theorem dX6_lawOf_105 : decode cX6_lawOf 105 = .ok (.if_icmp .ne 7, 3) := dk_160 0 7 (dk_at dksX6_lawOf_4 13 rfl rfl)
theorem dX6_lawOf_108 : decode cX6_lawOf 108 = .ok (.iconst 1, 1) := dk_4 (dk_at dksX6_lawOf_4 16 rfl rfl)
theorem dX6_lawOf_109 : decode cX6_lawOf 109 = .ok (.goto 4, 3) := dk_167 0 4 (dk_at dksX6_lawOf_4 17 rfl rfl)
theorem dX6_lawOf_112 : decode cX6_lawOf 112 = .ok (.iconst 0, 1) := dk_3 (dk_at dksX6_lawOf_4 20 rfl rfl)
theorem dX6_lawOf_113 : decode cX6_lawOf 113 = .ok (.invokestatic 358, 3) := dk_184 1 102 (dk_at dksX6_lawOf_4 21 rfl rfl)
theorem dX6_lawOf_116 : decode cX6_lawOf 116 = .ok (.lastore, 1) := dk_80 (dk_at dksX6_lawOf_5 0 rfl rfl)
theorem dX6_lawOf_117 : decode cX6_lawOf 117 = .ok (.aload_n 0, 1) := dk_42 (dk_at dksX6_lawOf_5 1 rfl rfl)
theorem dX6_lawOf_118 : decode cX6_lawOf 118 = .ok (.iload_n 1, 1) := dk_27 (dk_at dksX6_lawOf_5 2 rfl rfl)
theorem dX6_lawOf_119 : decode cX6_lawOf 119 = .ok (.invokevirtual 394, 3) := dk_182 1 138 (dk_at dksX6_lawOf_5 3 rfl rfl)
theorem dX6_lawOf_122 : decode cX6_lawOf 122 = .ok (.ifCond .eq 12, 3) := dk_153 0 12 (dk_at dksX6_lawOf_5 6 rfl rfl)
theorem dX6_lawOf_125 : decode cX6_lawOf 125 = .ok (.aload_n 0, 1) := dk_42 (dk_at dksX6_lawOf_5 9 rfl rfl)
theorem dX6_lawOf_126 : decode cX6_lawOf 126 = .ok (.getfield 84, 3) := dk_180 0 84 (dk_at dksX6_lawOf_5 10 rfl rfl)
theorem dX6_lawOf_129 : decode cX6_lawOf 129 = .ok (.iconst 0, 1) := dk_3 (dk_at dksX6_lawOf_5 13 rfl rfl)
theorem dX6_lawOf_130 : decode cX6_lawOf 130 = .ok (.laload, 1) := dk_47 (dk_at dksX6_lawOf_5 14 rfl rfl)
theorem dX6_lawOf_131 : decode cX6_lawOf 131 = .ok (.goto 4, 3) := dk_167 0 4 (dk_at dksX6_lawOf_5 15 rfl rfl)
theorem dX6_lawOf_134 : decode cX6_lawOf 134 = .ok (.lconst 0, 1) := dk_9 (dk_at dksX6_lawOf_5 18 rfl rfl)
theorem dX6_lawOf_135 : decode cX6_lawOf 135 = .ok (.lreturn, 1) := dk_173 (dk_at dksX6_lawOf_5 19 rfl rfl)
abbrev cX6_isTold : ByteArray := prog_23_method_52_code
def yX6_isTold : MethodName := ⟨RX6, "isTold", "(I)Z"⟩
def dkwX6_isTold_0 : List UInt8 := [42, 180, 0, 67, 27, 46, 42, 180, 0, 64, 27, 46, 164, 0, 7, 4, 167, 0, 4, 3, 172]
abbrev dktX6_isTold_0 : List UInt8 := dkwX6_isTold_0 ++ []
theorem dksX6_isTold_0 : cX6_isTold.data.toList.drop 0 = dktX6_isTold_0 := by decide +kernel
theorem dX6_isTold_0 : decode cX6_isTold 0 = .ok (.aload_n 0, 1) := dk_42 (dk_at dksX6_isTold_0 0 rfl rfl)
theorem dX6_isTold_1 : decode cX6_isTold 1 = .ok (.getfield 67, 3) := dk_180 0 67 (dk_at dksX6_isTold_0 1 rfl rfl)
theorem dX6_isTold_4 : decode cX6_isTold 4 = .ok (.iload_n 1, 1) := dk_27 (dk_at dksX6_isTold_0 4 rfl rfl)
theorem dX6_isTold_5 : decode cX6_isTold 5 = .ok (.iaload, 1) := dk_46 (dk_at dksX6_isTold_0 5 rfl rfl)
theorem dX6_isTold_6 : decode cX6_isTold 6 = .ok (.aload_n 0, 1) := dk_42 (dk_at dksX6_isTold_0 6 rfl rfl)
theorem dX6_isTold_7 : decode cX6_isTold 7 = .ok (.getfield 64, 3) := dk_180 0 64 (dk_at dksX6_isTold_0 7 rfl rfl)
theorem dX6_isTold_10 : decode cX6_isTold 10 = .ok (.iload_n 1, 1) := dk_27 (dk_at dksX6_isTold_0 10 rfl rfl)
theorem dX6_isTold_11 : decode cX6_isTold 11 = .ok (.iaload, 1) := dk_46 (dk_at dksX6_isTold_0 11 rfl rfl)
theorem dX6_isTold_12 : decode cX6_isTold 12 = .ok (.if_icmp .le 7, 3) := dk_164 0 7 (dk_at dksX6_isTold_0 12 rfl rfl)
theorem dX6_isTold_15 : decode cX6_isTold 15 = .ok (.iconst 1, 1) := dk_4 (dk_at dksX6_isTold_0 15 rfl rfl)
theorem dX6_isTold_16 : decode cX6_isTold 16 = .ok (.goto 4, 3) := dk_167 0 4 (dk_at dksX6_isTold_0 16 rfl rfl)
theorem dX6_isTold_19 : decode cX6_isTold 19 = .ok (.iconst 0, 1) := dk_3 (dk_at dksX6_isTold_0 19 rfl rfl)
theorem dX6_isTold_20 : decode cX6_isTold 20 = .ok (.ireturn, 1) := dk_172 (dk_at dksX6_isTold_0 20 rfl rfl)
abbrev cX6_othersOf : ByteArray := prog_23_method_61_code
def yX6_othersOf : MethodName := ⟨RX6, "othersOf", "(III)I"⟩
def dkwX6_othersOf_2 : List UInt8 := [21, 5, 182, 1, 126, 29, 122, 4, 126, 96, 54, 4, 132, 5, 1, 167, 255, 200, 21, 4, 172]
abbrev dktX6_othersOf_2 : List UInt8 := dkwX6_othersOf_2 ++ []
def dkwX6_othersOf_1 : List UInt8 := [167, 0, 36, 21, 4, 42, 180, 1, 123, 153, 0, 13, 42, 180, 0, 130, 21, 5, 46, 167, 0, 10, 42, 27]
abbrev dktX6_othersOf_1 : List UInt8 := dkwX6_othersOf_1 ++ dktX6_othersOf_2
def dkwX6_othersOf_0 : List UInt8 := [3, 54, 4, 3, 54, 5, 21, 5, 42, 180, 0, 13, 3, 46, 162, 0, 51, 21, 5, 28, 160, 0, 6]
abbrev dktX6_othersOf_0 : List UInt8 := dkwX6_othersOf_0 ++ dktX6_othersOf_1
theorem dksX6_othersOf_0 : cX6_othersOf.data.toList.drop 0 = dktX6_othersOf_0 := by decide +kernel
theorem dksX6_othersOf_1 : cX6_othersOf.data.toList.drop 23 = dktX6_othersOf_1 := dk_seg dksX6_othersOf_0 23 rfl rfl
theorem dksX6_othersOf_2 : cX6_othersOf.data.toList.drop 47 = dktX6_othersOf_2 := dk_seg dksX6_othersOf_1 24 rfl rfl
theorem dX6_othersOf_0 : decode cX6_othersOf 0 = .ok (.iconst 0, 1) := dk_3 (dk_at dksX6_othersOf_0 0 rfl rfl)
theorem dX6_othersOf_1 : decode cX6_othersOf 1 = .ok (.istore 4, 2) := dk_54 4 (dk_at dksX6_othersOf_0 1 rfl rfl)
theorem dX6_othersOf_3 : decode cX6_othersOf 3 = .ok (.iconst 0, 1) := dk_3 (dk_at dksX6_othersOf_0 3 rfl rfl)
theorem dX6_othersOf_4 : decode cX6_othersOf 4 = .ok (.istore 5, 2) := dk_54 5 (dk_at dksX6_othersOf_0 4 rfl rfl)
theorem dX6_othersOf_6 : decode cX6_othersOf 6 = .ok (.iload 5, 2) := dk_21 5 (dk_at dksX6_othersOf_0 6 rfl rfl)
theorem dX6_othersOf_8 : decode cX6_othersOf 8 = .ok (.aload_n 0, 1) := dk_42 (dk_at dksX6_othersOf_0 8 rfl rfl)
theorem dX6_othersOf_9 : decode cX6_othersOf 9 = .ok (.getfield 13, 3) := dk_180 0 13 (dk_at dksX6_othersOf_0 9 rfl rfl)
theorem dX6_othersOf_12 : decode cX6_othersOf 12 = .ok (.iconst 0, 1) := dk_3 (dk_at dksX6_othersOf_0 12 rfl rfl)
theorem dX6_othersOf_13 : decode cX6_othersOf 13 = .ok (.iaload, 1) := dk_46 (dk_at dksX6_othersOf_0 13 rfl rfl)
theorem dX6_othersOf_14 : decode cX6_othersOf 14 = .ok (.if_icmp .ge 51, 3) := dk_162 0 51 (dk_at dksX6_othersOf_0 14 rfl rfl)
theorem dX6_othersOf_17 : decode cX6_othersOf 17 = .ok (.iload 5, 2) := dk_21 5 (dk_at dksX6_othersOf_0 17 rfl rfl)
theorem dX6_othersOf_19 : decode cX6_othersOf 19 = .ok (.iload_n 2, 1) := dk_28 (dk_at dksX6_othersOf_0 19 rfl rfl)
theorem dX6_othersOf_20 : decode cX6_othersOf 20 = .ok (.if_icmp .ne 6, 3) := dk_160 0 6 (dk_at dksX6_othersOf_0 20 rfl rfl)
theorem dX6_othersOf_23 : decode cX6_othersOf 23 = .ok (.goto 36, 3) := dk_167 0 36 (dk_at dksX6_othersOf_1 0 rfl rfl)
theorem dX6_othersOf_26 : decode cX6_othersOf 26 = .ok (.iload 4, 2) := dk_21 4 (dk_at dksX6_othersOf_1 3 rfl rfl)
theorem dX6_othersOf_28 : decode cX6_othersOf 28 = .ok (.aload_n 0, 1) := dk_42 (dk_at dksX6_othersOf_1 5 rfl rfl)
theorem dX6_othersOf_29 : decode cX6_othersOf 29 = .ok (.getfield 379, 3) := dk_180 1 123 (dk_at dksX6_othersOf_1 6 rfl rfl)
theorem dX6_othersOf_32 : decode cX6_othersOf 32 = .ok (.ifCond .eq 13, 3) := dk_153 0 13 (dk_at dksX6_othersOf_1 9 rfl rfl)
theorem dX6_othersOf_35 : decode cX6_othersOf 35 = .ok (.aload_n 0, 1) := dk_42 (dk_at dksX6_othersOf_1 12 rfl rfl)
theorem dX6_othersOf_36 : decode cX6_othersOf 36 = .ok (.getfield 130, 3) := dk_180 0 130 (dk_at dksX6_othersOf_1 13 rfl rfl)
theorem dX6_othersOf_39 : decode cX6_othersOf 39 = .ok (.iload 5, 2) := dk_21 5 (dk_at dksX6_othersOf_1 16 rfl rfl)
theorem dX6_othersOf_41 : decode cX6_othersOf 41 = .ok (.iaload, 1) := dk_46 (dk_at dksX6_othersOf_1 18 rfl rfl)
theorem dX6_othersOf_42 : decode cX6_othersOf 42 = .ok (.goto 10, 3) := dk_167 0 10 (dk_at dksX6_othersOf_1 19 rfl rfl)
theorem dX6_othersOf_45 : decode cX6_othersOf 45 = .ok (.aload_n 0, 1) := dk_42 (dk_at dksX6_othersOf_1 22 rfl rfl)
theorem dX6_othersOf_46 : decode cX6_othersOf 46 = .ok (.iload_n 1, 1) := dk_27 (dk_at dksX6_othersOf_1 23 rfl rfl)
theorem dX6_othersOf_47 : decode cX6_othersOf 47 = .ok (.iload 5, 2) := dk_21 5 (dk_at dksX6_othersOf_2 0 rfl rfl)
theorem dX6_othersOf_49 : decode cX6_othersOf 49 = .ok (.invokevirtual 382, 3) := dk_182 1 126 (dk_at dksX6_othersOf_2 2 rfl rfl)
theorem dX6_othersOf_52 : decode cX6_othersOf 52 = .ok (.iload_n 3, 1) := dk_29 (dk_at dksX6_othersOf_2 5 rfl rfl)
theorem dX6_othersOf_53 : decode cX6_othersOf 53 = .ok (.ishr, 1) := dk_122 (dk_at dksX6_othersOf_2 6 rfl rfl)
theorem dX6_othersOf_54 : decode cX6_othersOf 54 = .ok (.iconst 1, 1) := dk_4 (dk_at dksX6_othersOf_2 7 rfl rfl)
theorem dX6_othersOf_55 : decode cX6_othersOf 55 = .ok (.iand, 1) := dk_126 (dk_at dksX6_othersOf_2 8 rfl rfl)
theorem dX6_othersOf_56 : decode cX6_othersOf 56 = .ok (.iadd, 1) := dk_96 (dk_at dksX6_othersOf_2 9 rfl rfl)
theorem dX6_othersOf_57 : decode cX6_othersOf 57 = .ok (.istore 4, 2) := dk_54 4 (dk_at dksX6_othersOf_2 10 rfl rfl)
theorem dX6_othersOf_59 : decode cX6_othersOf 59 = .ok (.iinc 5 1, 3) := dk_132 5 1 (dk_at dksX6_othersOf_2 12 rfl rfl)
theorem dX6_othersOf_62 : decode cX6_othersOf 62 = .ok (.goto (-56), 3) := dk_167 255 200 (dk_at dksX6_othersOf_2 15 rfl rfl)
theorem dX6_othersOf_65 : decode cX6_othersOf 65 = .ok (.iload 4, 2) := dk_21 4 (dk_at dksX6_othersOf_2 18 rfl rfl)
theorem dX6_othersOf_67 : decode cX6_othersOf 67 = .ok (.ireturn, 1) := dk_172 (dk_at dksX6_othersOf_2 20 rfl rfl)
abbrev cX6_askedOf : ByteArray := prog_23_method_62_code
def yX6_askedOf : MethodName := ⟨RX6, "askedOf", "(III)I"⟩
def dkwX6_askedOf_3 : List UInt8 := [21, 4, 172]
abbrev dktX6_askedOf_3 : List UInt8 := dkwX6_askedOf_3 ++ []
def dkwX6_askedOf_2 : List UInt8 := [46, 42, 180, 0, 87, 27, 46, 161, 0, 7, 4, 167, 0, 4, 3, 96, 54, 4, 132, 5, 1, 167, 255, 194]
abbrev dktX6_askedOf_2 : List UInt8 := dkwX6_askedOf_2 ++ dktX6_askedOf_3
def dkwX6_askedOf_1 : List UInt8 := [21, 5, 46, 28, 160, 0, 34, 42, 180, 0, 49, 21, 5, 46, 29, 160, 0, 23, 42, 180, 0, 43, 21, 5]
abbrev dktX6_askedOf_1 : List UInt8 := dkwX6_askedOf_1 ++ dktX6_askedOf_2
def dkwX6_askedOf_0 : List UInt8 := [3, 54, 4, 3, 54, 5, 21, 5, 42, 180, 0, 13, 6, 46, 162, 0, 57, 21, 4, 42, 180, 0, 46]
abbrev dktX6_askedOf_0 : List UInt8 := dkwX6_askedOf_0 ++ dktX6_askedOf_1
theorem dksX6_askedOf_0 : cX6_askedOf.data.toList.drop 0 = dktX6_askedOf_0 := by decide +kernel
theorem dksX6_askedOf_1 : cX6_askedOf.data.toList.drop 23 = dktX6_askedOf_1 := dk_seg dksX6_askedOf_0 23 rfl rfl
theorem dksX6_askedOf_2 : cX6_askedOf.data.toList.drop 47 = dktX6_askedOf_2 := dk_seg dksX6_askedOf_1 24 rfl rfl
theorem dksX6_askedOf_3 : cX6_askedOf.data.toList.drop 71 = dktX6_askedOf_3 := dk_seg dksX6_askedOf_2 24 rfl rfl
theorem dX6_askedOf_0 : decode cX6_askedOf 0 = .ok (.iconst 0, 1) := dk_3 (dk_at dksX6_askedOf_0 0 rfl rfl)
theorem dX6_askedOf_1 : decode cX6_askedOf 1 = .ok (.istore 4, 2) := dk_54 4 (dk_at dksX6_askedOf_0 1 rfl rfl)
theorem dX6_askedOf_3 : decode cX6_askedOf 3 = .ok (.iconst 0, 1) := dk_3 (dk_at dksX6_askedOf_0 3 rfl rfl)
theorem dX6_askedOf_4 : decode cX6_askedOf 4 = .ok (.istore 5, 2) := dk_54 5 (dk_at dksX6_askedOf_0 4 rfl rfl)
theorem dX6_askedOf_6 : decode cX6_askedOf 6 = .ok (.iload 5, 2) := dk_21 5 (dk_at dksX6_askedOf_0 6 rfl rfl)
theorem dX6_askedOf_8 : decode cX6_askedOf 8 = .ok (.aload_n 0, 1) := dk_42 (dk_at dksX6_askedOf_0 8 rfl rfl)
theorem dX6_askedOf_9 : decode cX6_askedOf 9 = .ok (.getfield 13, 3) := dk_180 0 13 (dk_at dksX6_askedOf_0 9 rfl rfl)
theorem dX6_askedOf_12 : decode cX6_askedOf 12 = .ok (.iconst 3, 1) := dk_6 (dk_at dksX6_askedOf_0 12 rfl rfl)
theorem dX6_askedOf_13 : decode cX6_askedOf 13 = .ok (.iaload, 1) := dk_46 (dk_at dksX6_askedOf_0 13 rfl rfl)
theorem dX6_askedOf_14 : decode cX6_askedOf 14 = .ok (.if_icmp .ge 57, 3) := dk_162 0 57 (dk_at dksX6_askedOf_0 14 rfl rfl)
theorem dX6_askedOf_17 : decode cX6_askedOf 17 = .ok (.iload 4, 2) := dk_21 4 (dk_at dksX6_askedOf_0 17 rfl rfl)
theorem dX6_askedOf_19 : decode cX6_askedOf 19 = .ok (.aload_n 0, 1) := dk_42 (dk_at dksX6_askedOf_0 19 rfl rfl)
theorem dX6_askedOf_20 : decode cX6_askedOf 20 = .ok (.getfield 46, 3) := dk_180 0 46 (dk_at dksX6_askedOf_0 20 rfl rfl)
theorem dX6_askedOf_23 : decode cX6_askedOf 23 = .ok (.iload 5, 2) := dk_21 5 (dk_at dksX6_askedOf_1 0 rfl rfl)
theorem dX6_askedOf_25 : decode cX6_askedOf 25 = .ok (.iaload, 1) := dk_46 (dk_at dksX6_askedOf_1 2 rfl rfl)
theorem dX6_askedOf_26 : decode cX6_askedOf 26 = .ok (.iload_n 2, 1) := dk_28 (dk_at dksX6_askedOf_1 3 rfl rfl)
theorem dX6_askedOf_27 : decode cX6_askedOf 27 = .ok (.if_icmp .ne 34, 3) := dk_160 0 34 (dk_at dksX6_askedOf_1 4 rfl rfl)
theorem dX6_askedOf_30 : decode cX6_askedOf 30 = .ok (.aload_n 0, 1) := dk_42 (dk_at dksX6_askedOf_1 7 rfl rfl)
theorem dX6_askedOf_31 : decode cX6_askedOf 31 = .ok (.getfield 49, 3) := dk_180 0 49 (dk_at dksX6_askedOf_1 8 rfl rfl)
theorem dX6_askedOf_34 : decode cX6_askedOf 34 = .ok (.iload 5, 2) := dk_21 5 (dk_at dksX6_askedOf_1 11 rfl rfl)
theorem dX6_askedOf_36 : decode cX6_askedOf 36 = .ok (.iaload, 1) := dk_46 (dk_at dksX6_askedOf_1 13 rfl rfl)
theorem dX6_askedOf_37 : decode cX6_askedOf 37 = .ok (.iload_n 3, 1) := dk_29 (dk_at dksX6_askedOf_1 14 rfl rfl)
theorem dX6_askedOf_38 : decode cX6_askedOf 38 = .ok (.if_icmp .ne 23, 3) := dk_160 0 23 (dk_at dksX6_askedOf_1 15 rfl rfl)
theorem dX6_askedOf_41 : decode cX6_askedOf 41 = .ok (.aload_n 0, 1) := dk_42 (dk_at dksX6_askedOf_1 18 rfl rfl)
theorem dX6_askedOf_42 : decode cX6_askedOf 42 = .ok (.getfield 43, 3) := dk_180 0 43 (dk_at dksX6_askedOf_1 19 rfl rfl)
theorem dX6_askedOf_45 : decode cX6_askedOf 45 = .ok (.iload 5, 2) := dk_21 5 (dk_at dksX6_askedOf_1 22 rfl rfl)
theorem dX6_askedOf_47 : decode cX6_askedOf 47 = .ok (.iaload, 1) := dk_46 (dk_at dksX6_askedOf_2 0 rfl rfl)
theorem dX6_askedOf_48 : decode cX6_askedOf 48 = .ok (.aload_n 0, 1) := dk_42 (dk_at dksX6_askedOf_2 1 rfl rfl)
theorem dX6_askedOf_49 : decode cX6_askedOf 49 = .ok (.getfield 87, 3) := dk_180 0 87 (dk_at dksX6_askedOf_2 2 rfl rfl)
theorem dX6_askedOf_52 : decode cX6_askedOf 52 = .ok (.iload_n 1, 1) := dk_27 (dk_at dksX6_askedOf_2 5 rfl rfl)
theorem dX6_askedOf_53 : decode cX6_askedOf 53 = .ok (.iaload, 1) := dk_46 (dk_at dksX6_askedOf_2 6 rfl rfl)
theorem dX6_askedOf_54 : decode cX6_askedOf 54 = .ok (.if_icmp .lt 7, 3) := dk_161 0 7 (dk_at dksX6_askedOf_2 7 rfl rfl)
theorem dX6_askedOf_57 : decode cX6_askedOf 57 = .ok (.iconst 1, 1) := dk_4 (dk_at dksX6_askedOf_2 10 rfl rfl)
theorem dX6_askedOf_58 : decode cX6_askedOf 58 = .ok (.goto 4, 3) := dk_167 0 4 (dk_at dksX6_askedOf_2 11 rfl rfl)
theorem dX6_askedOf_61 : decode cX6_askedOf 61 = .ok (.iconst 0, 1) := dk_3 (dk_at dksX6_askedOf_2 14 rfl rfl)
theorem dX6_askedOf_62 : decode cX6_askedOf 62 = .ok (.iadd, 1) := dk_96 (dk_at dksX6_askedOf_2 15 rfl rfl)
theorem dX6_askedOf_63 : decode cX6_askedOf 63 = .ok (.istore 4, 2) := dk_54 4 (dk_at dksX6_askedOf_2 16 rfl rfl)
theorem dX6_askedOf_65 : decode cX6_askedOf 65 = .ok (.iinc 5 1, 3) := dk_132 5 1 (dk_at dksX6_askedOf_2 18 rfl rfl)
theorem dX6_askedOf_68 : decode cX6_askedOf 68 = .ok (.goto (-62), 3) := dk_167 255 194 (dk_at dksX6_askedOf_2 21 rfl rfl)
theorem dX6_askedOf_71 : decode cX6_askedOf 71 = .ok (.iload 4, 2) := dk_21 4 (dk_at dksX6_askedOf_3 0 rfl rfl)
theorem dX6_askedOf_73 : decode cX6_askedOf 73 = .ok (.ireturn, 1) := dk_172 (dk_at dksX6_askedOf_3 2 rfl rfl)
abbrev cX6_is : ByteArray := prog_23_method_49_code
def yX6_is : MethodName := ⟨RX6, "is", "(Z)J"⟩
def dkwX6_is_0 : List UInt8 := [26, 153, 0, 7, 10, 167, 0, 4, 9, 173]
abbrev dktX6_is_0 : List UInt8 := dkwX6_is_0 ++ []
theorem dksX6_is_0 : cX6_is.data.toList.drop 0 = dktX6_is_0 := by decide +kernel
theorem dX6_is_0 : decode cX6_is 0 = .ok (.iload_n 0, 1) := dk_26 (dk_at dksX6_is_0 0 rfl rfl)
theorem dX6_is_1 : decode cX6_is 1 = .ok (.ifCond .eq 7, 3) := dk_153 0 7 (dk_at dksX6_is_0 1 rfl rfl)
theorem dX6_is_4 : decode cX6_is 4 = .ok (.lconst 1, 1) := dk_10 (dk_at dksX6_is_0 4 rfl rfl)
theorem dX6_is_5 : decode cX6_is 5 = .ok (.goto 4, 3) := dk_167 0 4 (dk_at dksX6_is_0 5 rfl rfl)
theorem dX6_is_8 : decode cX6_is 8 = .ok (.lconst 0, 1) := dk_9 (dk_at dksX6_is_0 8 rfl rfl)
theorem dX6_is_9 : decode cX6_is 9 = .ok (.lreturn, 1) := dk_173 (dk_at dksX6_is_0 9 rfl rfl)
abbrev cX6_goes0 : ByteArray := prog_23_method_51_code
def yX6_goes0 : MethodName := ⟨RX6, "goes0", "(I)Z"⟩
def dkwX6_goes0_4 : List UInt8 := [181, 1, 99, 132, 2, 1, 167, 255, 169, 4, 172]
abbrev dktX6_goes0_4 : List UInt8 := dkwX6_goes0_4 ++ []
def dkwX6_goes0_3 : List UInt8 := [167, 0, 14, 42, 180, 0, 80, 42, 180, 0, 73, 28, 46, 47, 80, 42, 89, 180, 1, 99, 4, 96]
abbrev dktX6_goes0_3 : List UInt8 := dkwX6_goes0_3 ++ dktX6_goes0_4
def dkwX6_goes0_2 : List UInt8 := [42, 180, 0, 84, 42, 180, 1, 99, 42, 180, 0, 70, 28, 46, 154, 0, 13, 42, 180, 0, 73, 28, 46, 133]
abbrev dktX6_goes0_2 : List UInt8 := dkwX6_goes0_2 ++ dktX6_goes0_3
def dkwX6_goes0_1 : List UInt8 := [180, 0, 70, 28, 46, 5, 160, 0, 18, 42, 42, 180, 0, 73, 28, 46, 182, 1, 116, 154, 0, 54, 3, 172]
abbrev dktX6_goes0_1 : List UInt8 := dkwX6_goes0_1 ++ dktX6_goes0_2
def dkwX6_goes0_0 : List UInt8 := [42, 3, 181, 1, 99, 42, 180, 0, 64, 27, 46, 61, 28, 42, 180, 0, 67, 27, 46, 162, 0, 83, 42]
abbrev dktX6_goes0_0 : List UInt8 := dkwX6_goes0_0 ++ dktX6_goes0_1
theorem dksX6_goes0_0 : cX6_goes0.data.toList.drop 0 = dktX6_goes0_0 := by decide +kernel
theorem dksX6_goes0_1 : cX6_goes0.data.toList.drop 23 = dktX6_goes0_1 := dk_seg dksX6_goes0_0 23 rfl rfl
theorem dksX6_goes0_2 : cX6_goes0.data.toList.drop 47 = dktX6_goes0_2 := dk_seg dksX6_goes0_1 24 rfl rfl
theorem dksX6_goes0_3 : cX6_goes0.data.toList.drop 71 = dktX6_goes0_3 := dk_seg dksX6_goes0_2 24 rfl rfl
theorem dksX6_goes0_4 : cX6_goes0.data.toList.drop 93 = dktX6_goes0_4 := dk_seg dksX6_goes0_3 22 rfl rfl
theorem dX6_goes0_0 : decode cX6_goes0 0 = .ok (.aload_n 0, 1) := dk_42 (dk_at dksX6_goes0_0 0 rfl rfl)
theorem dX6_goes0_1 : decode cX6_goes0 1 = .ok (.iconst 0, 1) := dk_3 (dk_at dksX6_goes0_0 1 rfl rfl)
theorem dX6_goes0_2 : decode cX6_goes0 2 = .ok (.putfield 355, 3) := dk_181 1 99 (dk_at dksX6_goes0_0 2 rfl rfl)
theorem dX6_goes0_5 : decode cX6_goes0 5 = .ok (.aload_n 0, 1) := dk_42 (dk_at dksX6_goes0_0 5 rfl rfl)
theorem dX6_goes0_6 : decode cX6_goes0 6 = .ok (.getfield 64, 3) := dk_180 0 64 (dk_at dksX6_goes0_0 6 rfl rfl)
theorem dX6_goes0_9 : decode cX6_goes0 9 = .ok (.iload_n 1, 1) := dk_27 (dk_at dksX6_goes0_0 9 rfl rfl)
theorem dX6_goes0_10 : decode cX6_goes0 10 = .ok (.iaload, 1) := dk_46 (dk_at dksX6_goes0_0 10 rfl rfl)
theorem dX6_goes0_11 : decode cX6_goes0 11 = .ok (.istore_n 2, 1) := dk_61 (dk_at dksX6_goes0_0 11 rfl rfl)
theorem dX6_goes0_12 : decode cX6_goes0 12 = .ok (.iload_n 2, 1) := dk_28 (dk_at dksX6_goes0_0 12 rfl rfl)
theorem dX6_goes0_13 : decode cX6_goes0 13 = .ok (.aload_n 0, 1) := dk_42 (dk_at dksX6_goes0_0 13 rfl rfl)
theorem dX6_goes0_14 : decode cX6_goes0 14 = .ok (.getfield 67, 3) := dk_180 0 67 (dk_at dksX6_goes0_0 14 rfl rfl)
theorem dX6_goes0_17 : decode cX6_goes0 17 = .ok (.iload_n 1, 1) := dk_27 (dk_at dksX6_goes0_0 17 rfl rfl)
theorem dX6_goes0_18 : decode cX6_goes0 18 = .ok (.iaload, 1) := dk_46 (dk_at dksX6_goes0_0 18 rfl rfl)
theorem dX6_goes0_19 : decode cX6_goes0 19 = .ok (.if_icmp .ge 83, 3) := dk_162 0 83 (dk_at dksX6_goes0_0 19 rfl rfl)
theorem dX6_goes0_22 : decode cX6_goes0 22 = .ok (.aload_n 0, 1) := dk_42 (dk_at dksX6_goes0_0 22 rfl rfl)
theorem dX6_goes0_23 : decode cX6_goes0 23 = .ok (.getfield 70, 3) := dk_180 0 70 (dk_at dksX6_goes0_1 0 rfl rfl)
theorem dX6_goes0_26 : decode cX6_goes0 26 = .ok (.iload_n 2, 1) := dk_28 (dk_at dksX6_goes0_1 3 rfl rfl)
theorem dX6_goes0_27 : decode cX6_goes0 27 = .ok (.iaload, 1) := dk_46 (dk_at dksX6_goes0_1 4 rfl rfl)
theorem dX6_goes0_28 : decode cX6_goes0 28 = .ok (.iconst 2, 1) := dk_5 (dk_at dksX6_goes0_1 5 rfl rfl)
theorem dX6_goes0_29 : decode cX6_goes0 29 = .ok (.if_icmp .ne 18, 3) := dk_160 0 18 (dk_at dksX6_goes0_1 6 rfl rfl)
theorem dX6_goes0_32 : decode cX6_goes0 32 = .ok (.aload_n 0, 1) := dk_42 (dk_at dksX6_goes0_1 9 rfl rfl)
theorem dX6_goes0_33 : decode cX6_goes0 33 = .ok (.aload_n 0, 1) := dk_42 (dk_at dksX6_goes0_1 10 rfl rfl)
theorem dX6_goes0_34 : decode cX6_goes0 34 = .ok (.getfield 73, 3) := dk_180 0 73 (dk_at dksX6_goes0_1 11 rfl rfl)
theorem dX6_goes0_37 : decode cX6_goes0 37 = .ok (.iload_n 2, 1) := dk_28 (dk_at dksX6_goes0_1 14 rfl rfl)
theorem dX6_goes0_38 : decode cX6_goes0 38 = .ok (.iaload, 1) := dk_46 (dk_at dksX6_goes0_1 15 rfl rfl)
theorem dX6_goes0_39 : decode cX6_goes0 39 = .ok (.invokevirtual 372, 3) := dk_182 1 116 (dk_at dksX6_goes0_1 16 rfl rfl)
theorem dX6_goes0_42 : decode cX6_goes0 42 = .ok (.ifCond .ne 54, 3) := dk_154 0 54 (dk_at dksX6_goes0_1 19 rfl rfl)
theorem dX6_goes0_45 : decode cX6_goes0 45 = .ok (.iconst 0, 1) := dk_3 (dk_at dksX6_goes0_1 22 rfl rfl)
theorem dX6_goes0_46 : decode cX6_goes0 46 = .ok (.ireturn, 1) := dk_172 (dk_at dksX6_goes0_1 23 rfl rfl)
theorem dX6_goes0_47 : decode cX6_goes0 47 = .ok (.aload_n 0, 1) := dk_42 (dk_at dksX6_goes0_2 0 rfl rfl)
theorem dX6_goes0_48 : decode cX6_goes0 48 = .ok (.getfield 84, 3) := dk_180 0 84 (dk_at dksX6_goes0_2 1 rfl rfl)
theorem dX6_goes0_51 : decode cX6_goes0 51 = .ok (.aload_n 0, 1) := dk_42 (dk_at dksX6_goes0_2 4 rfl rfl)
theorem dX6_goes0_52 : decode cX6_goes0 52 = .ok (.getfield 355, 3) := dk_180 1 99 (dk_at dksX6_goes0_2 5 rfl rfl)
theorem dX6_goes0_55 : decode cX6_goes0 55 = .ok (.aload_n 0, 1) := dk_42 (dk_at dksX6_goes0_2 8 rfl rfl)
theorem dX6_goes0_56 : decode cX6_goes0 56 = .ok (.getfield 70, 3) := dk_180 0 70 (dk_at dksX6_goes0_2 9 rfl rfl)
theorem dX6_goes0_59 : decode cX6_goes0 59 = .ok (.iload_n 2, 1) := dk_28 (dk_at dksX6_goes0_2 12 rfl rfl)
theorem dX6_goes0_60 : decode cX6_goes0 60 = .ok (.iaload, 1) := dk_46 (dk_at dksX6_goes0_2 13 rfl rfl)
theorem dX6_goes0_61 : decode cX6_goes0 61 = .ok (.ifCond .ne 13, 3) := dk_154 0 13 (dk_at dksX6_goes0_2 14 rfl rfl)
theorem dX6_goes0_64 : decode cX6_goes0 64 = .ok (.aload_n 0, 1) := dk_42 (dk_at dksX6_goes0_2 17 rfl rfl)
theorem dX6_goes0_65 : decode cX6_goes0 65 = .ok (.getfield 73, 3) := dk_180 0 73 (dk_at dksX6_goes0_2 18 rfl rfl)
theorem dX6_goes0_68 : decode cX6_goes0 68 = .ok (.iload_n 2, 1) := dk_28 (dk_at dksX6_goes0_2 21 rfl rfl)
theorem dX6_goes0_69 : decode cX6_goes0 69 = .ok (.iaload, 1) := dk_46 (dk_at dksX6_goes0_2 22 rfl rfl)
theorem dX6_goes0_70 : decode cX6_goes0 70 = .ok (.i2l, 1) := dk_133 (dk_at dksX6_goes0_2 23 rfl rfl)
theorem dX6_goes0_71 : decode cX6_goes0 71 = .ok (.goto 14, 3) := dk_167 0 14 (dk_at dksX6_goes0_3 0 rfl rfl)
theorem dX6_goes0_74 : decode cX6_goes0 74 = .ok (.aload_n 0, 1) := dk_42 (dk_at dksX6_goes0_3 3 rfl rfl)
theorem dX6_goes0_75 : decode cX6_goes0 75 = .ok (.getfield 80, 3) := dk_180 0 80 (dk_at dksX6_goes0_3 4 rfl rfl)
theorem dX6_goes0_78 : decode cX6_goes0 78 = .ok (.aload_n 0, 1) := dk_42 (dk_at dksX6_goes0_3 7 rfl rfl)
theorem dX6_goes0_79 : decode cX6_goes0 79 = .ok (.getfield 73, 3) := dk_180 0 73 (dk_at dksX6_goes0_3 8 rfl rfl)
theorem dX6_goes0_82 : decode cX6_goes0 82 = .ok (.iload_n 2, 1) := dk_28 (dk_at dksX6_goes0_3 11 rfl rfl)
theorem dX6_goes0_83 : decode cX6_goes0 83 = .ok (.iaload, 1) := dk_46 (dk_at dksX6_goes0_3 12 rfl rfl)
theorem dX6_goes0_84 : decode cX6_goes0 84 = .ok (.laload, 1) := dk_47 (dk_at dksX6_goes0_3 13 rfl rfl)
theorem dX6_goes0_85 : decode cX6_goes0 85 = .ok (.lastore, 1) := dk_80 (dk_at dksX6_goes0_3 14 rfl rfl)
theorem dX6_goes0_86 : decode cX6_goes0 86 = .ok (.aload_n 0, 1) := dk_42 (dk_at dksX6_goes0_3 15 rfl rfl)
theorem dX6_goes0_87 : decode cX6_goes0 87 = .ok (.dup, 1) := dk_89 (dk_at dksX6_goes0_3 16 rfl rfl)
theorem dX6_goes0_88 : decode cX6_goes0 88 = .ok (.getfield 355, 3) := dk_180 1 99 (dk_at dksX6_goes0_3 17 rfl rfl)
theorem dX6_goes0_91 : decode cX6_goes0 91 = .ok (.iconst 1, 1) := dk_4 (dk_at dksX6_goes0_3 20 rfl rfl)
theorem dX6_goes0_92 : decode cX6_goes0 92 = .ok (.iadd, 1) := dk_96 (dk_at dksX6_goes0_3 21 rfl rfl)
theorem dX6_goes0_93 : decode cX6_goes0 93 = .ok (.putfield 355, 3) := dk_181 1 99 (dk_at dksX6_goes0_4 0 rfl rfl)
theorem dX6_goes0_96 : decode cX6_goes0 96 = .ok (.iinc 2 1, 3) := dk_132 2 1 (dk_at dksX6_goes0_4 3 rfl rfl)
theorem dX6_goes0_99 : decode cX6_goes0 99 = .ok (.goto (-87), 3) := dk_167 255 169 (dk_at dksX6_goes0_4 6 rfl rfl)
theorem dX6_goes0_102 : decode cX6_goes0 102 = .ok (.iconst 1, 1) := dk_4 (dk_at dksX6_goes0_4 9 rfl rfl)
theorem dX6_goes0_103 : decode cX6_goes0 103 = .ok (.ireturn, 1) := dk_172 (dk_at dksX6_goes0_4 10 rfl rfl)
abbrev cX6_works : ByteArray := prog_23_method_50_code
def yX6_works : MethodName := ⟨RX6, "works", "(I)Z"⟩
def dkwX6_works_15 : List UInt8 := [157, 0, 16, 22, 6, 20, 1, 114, 148, 155, 0, 7, 4, 167, 0, 4, 3, 172]
abbrev dktX6_works_15 : List UInt8 := dkwX6_works_15 ++ []
def dkwX6_works_14 : List UInt8 := [184, 1, 102, 55, 6, 42, 180, 0, 84, 42, 180, 1, 99, 4, 100, 22, 6, 80, 22, 6, 20, 1, 112, 148]
abbrev dktX6_works_14 : List UInt8 := dkwX6_works_14 ++ dktX6_works_15
def dkwX6_works_13 : List UInt8 := [55, 6, 167, 0, 26, 22, 4, 9, 148, 154, 0, 9, 32, 9, 148, 153, 0, 7, 4, 167, 0, 4, 3]
abbrev dktX6_works_13 : List UInt8 := dkwX6_works_13 ++ dktX6_works_14
def dkwX6_works_12 : List UInt8 := [167, 0, 52, 22, 4, 9, 148, 153, 0, 13, 32, 9, 148, 153, 0, 7, 4, 167, 0, 4, 3, 184, 1, 102]
abbrev dktX6_works_12 : List UInt8 := dkwX6_works_12 ++ dktX6_works_13
def dkwX6_works_11 : List UInt8 := [55, 6, 167, 0, 72, 22, 4, 32, 148, 153, 0, 7, 4, 167, 0, 4, 3, 184, 1, 102, 55, 6]
abbrev dktX6_works_11 : List UInt8 := dkwX6_works_11 ++ dktX6_works_12
def dkwX6_works_10 : List UInt8 := [184, 1, 102, 55, 6, 167, 0, 92, 22, 4, 32, 148, 155, 0, 7, 4, 167, 0, 4, 3, 184, 1, 102]
abbrev dktX6_works_10 : List UInt8 := dkwX6_works_10 ++ dktX6_works_11
def dkwX6_works_9 : List UInt8 := [167, 0, 4, 3, 184, 1, 102, 55, 6, 167, 0, 112, 22, 4, 32, 148, 157, 0, 7, 4, 167, 0, 4, 3]
abbrev dktX6_works_9 : List UInt8 := dkwX6_works_9 ++ dktX6_works_10
def dkwX6_works_8 : List UInt8 := [158, 0, 7, 4, 167, 0, 4, 3, 184, 1, 102, 55, 6, 167, 0, 132, 22, 4, 32, 148, 154, 0, 7, 4]
abbrev dktX6_works_8 : List UInt8 := dkwX6_works_8 ++ dktX6_works_9
def dkwX6_works_7 : List UInt8 := [22, 4, 32, 148, 156, 0, 7, 4, 167, 0, 4, 3, 184, 1, 102, 55, 6, 167, 0, 152, 22, 4, 32, 148]
abbrev dktX6_works_7 : List UInt8 := dkwX6_works_7 ++ dktX6_works_8
def dkwX6_works_6 : List UInt8 := [32, 105, 55, 6, 167, 0, 189, 32, 9, 148, 154, 0, 5, 3, 172, 22, 4, 32, 109, 55, 6, 167, 0, 172]
abbrev dktX6_works_6 : List UInt8 := dkwX6_works_6 ++ dktX6_works_7
def dkwX6_works_5 : List UInt8 := [153, 0, 22, 32, 184, 1, 106, 20, 1, 112, 22, 4, 184, 1, 106, 109, 148, 158, 0, 5, 3, 172, 22, 4]
abbrev dktX6_works_5 : List UInt8 := dkwX6_works_5 ++ dktX6_works_6
def dkwX6_works_4 : List UInt8 := [22, 4, 32, 97, 55, 6, 167, 0, 233, 22, 4, 32, 101, 55, 6, 167, 0, 224, 22, 4, 9, 148]
abbrev dktX6_works_4 : List UInt8 := dkwX6_works_4 ++ dktX6_works_5
def dkwX6_works_3 : List UInt8 := [171, 0, 0, 0, 1, 58, 0, 0, 0, 11, 0, 0, 0, 42, 0, 0, 0, 116, 0, 0, 0, 43, 0, 0, 0, 98, 0, 0, 0, 45, 0, 0, 0, 107, 0, 0, 0, 47, 0, 0, 0, 151, 0, 0, 0, 60, 0, 0, 0, 168, 0, 0, 0, 61, 0, 0, 0, 208, 0, 0, 0, 62, 0, 0, 0, 188, 0, 0, 1, 0, 0, 0, 0, 228, 0, 0, 1, 1, 0, 0, 1, 12, 0, 0, 1, 2, 0, 0, 0, 248, 0, 0, 1, 5, 0, 0, 1, 32]
abbrev dktX6_works_3 : List UInt8 := dkwX6_works_3 ++ dktX6_works_4
def dkwX6_works_2 : List UInt8 := [180, 0, 84, 42, 180, 1, 99, 5, 100, 47, 55, 4, 42, 89, 180, 1, 99, 4, 100, 181, 1, 99, 27]
abbrev dktX6_works_2 : List UInt8 := dkwX6_works_2 ++ dktX6_works_3
def dkwX6_works_1 : List UInt8 := [180, 1, 99, 4, 100, 32, 9, 148, 154, 0, 7, 4, 167, 0, 4, 3, 184, 1, 102, 80, 4, 172, 42]
abbrev dktX6_works_1 : List UInt8 := dkwX6_works_1 ++ dktX6_works_2
def dkwX6_works_0 : List UInt8 := [42, 180, 0, 84, 42, 180, 1, 99, 4, 100, 47, 65, 27, 17, 1, 4, 160, 0, 30, 42, 180, 0, 84, 42]
abbrev dktX6_works_0 : List UInt8 := dkwX6_works_0 ++ dktX6_works_1
theorem dksX6_works_0 : cX6_works.data.toList.drop 0 = dktX6_works_0 := by decide +kernel
theorem dksX6_works_1 : cX6_works.data.toList.drop 24 = dktX6_works_1 := dk_seg dksX6_works_0 24 rfl rfl
theorem dksX6_works_2 : cX6_works.data.toList.drop 47 = dktX6_works_2 := dk_seg dksX6_works_1 23 rfl rfl
theorem dksX6_works_3 : cX6_works.data.toList.drop 70 = dktX6_works_3 := dk_seg dksX6_works_2 23 rfl rfl
theorem dksX6_works_4 : cX6_works.data.toList.drop 168 = dktX6_works_4 := dk_seg dksX6_works_3 98 rfl rfl
theorem dksX6_works_5 : cX6_works.data.toList.drop 190 = dktX6_works_5 := dk_seg dksX6_works_4 22 rfl rfl
theorem dksX6_works_6 : cX6_works.data.toList.drop 214 = dktX6_works_6 := dk_seg dksX6_works_5 24 rfl rfl
theorem dksX6_works_7 : cX6_works.data.toList.drop 238 = dktX6_works_7 := dk_seg dksX6_works_6 24 rfl rfl
theorem dksX6_works_8 : cX6_works.data.toList.drop 262 = dktX6_works_8 := dk_seg dksX6_works_7 24 rfl rfl
theorem dksX6_works_9 : cX6_works.data.toList.drop 286 = dktX6_works_9 := dk_seg dksX6_works_8 24 rfl rfl
theorem dksX6_works_10 : cX6_works.data.toList.drop 310 = dktX6_works_10 := dk_seg dksX6_works_9 24 rfl rfl
theorem dksX6_works_11 : cX6_works.data.toList.drop 333 = dktX6_works_11 := dk_seg dksX6_works_10 23 rfl rfl
theorem dksX6_works_12 : cX6_works.data.toList.drop 355 = dktX6_works_12 := dk_seg dksX6_works_11 22 rfl rfl
theorem dksX6_works_13 : cX6_works.data.toList.drop 379 = dktX6_works_13 := dk_seg dksX6_works_12 24 rfl rfl
theorem dksX6_works_14 : cX6_works.data.toList.drop 402 = dktX6_works_14 := dk_seg dksX6_works_13 23 rfl rfl
theorem dksX6_works_15 : cX6_works.data.toList.drop 426 = dktX6_works_15 := dk_seg dksX6_works_14 24 rfl rfl
theorem dX6_works_0 : decode cX6_works 0 = .ok (.aload_n 0, 1) := dk_42 (dk_at dksX6_works_0 0 rfl rfl)
theorem dX6_works_1 : decode cX6_works 1 = .ok (.getfield 84, 3) := dk_180 0 84 (dk_at dksX6_works_0 1 rfl rfl)
theorem dX6_works_4 : decode cX6_works 4 = .ok (.aload_n 0, 1) := dk_42 (dk_at dksX6_works_0 4 rfl rfl)
theorem dX6_works_5 : decode cX6_works 5 = .ok (.getfield 355, 3) := dk_180 1 99 (dk_at dksX6_works_0 5 rfl rfl)
theorem dX6_works_8 : decode cX6_works 8 = .ok (.iconst 1, 1) := dk_4 (dk_at dksX6_works_0 8 rfl rfl)
theorem dX6_works_9 : decode cX6_works 9 = .ok (.isub, 1) := dk_100 (dk_at dksX6_works_0 9 rfl rfl)
theorem dX6_works_10 : decode cX6_works 10 = .ok (.laload, 1) := dk_47 (dk_at dksX6_works_0 10 rfl rfl)
theorem dX6_works_11 : decode cX6_works 11 = .ok (.lstore_n 2, 1) := dk_65 (dk_at dksX6_works_0 11 rfl rfl)
theorem dX6_works_12 : decode cX6_works 12 = .ok (.iload_n 1, 1) := dk_27 (dk_at dksX6_works_0 12 rfl rfl)
theorem dX6_works_13 : decode cX6_works 13 = .ok (.sipush 260, 3) := dk_17 1 4 (dk_at dksX6_works_0 13 rfl rfl)
theorem dX6_works_16 : decode cX6_works 16 = .ok (.if_icmp .ne 30, 3) := dk_160 0 30 (dk_at dksX6_works_0 16 rfl rfl)
theorem dX6_works_19 : decode cX6_works 19 = .ok (.aload_n 0, 1) := dk_42 (dk_at dksX6_works_0 19 rfl rfl)
theorem dX6_works_20 : decode cX6_works 20 = .ok (.getfield 84, 3) := dk_180 0 84 (dk_at dksX6_works_0 20 rfl rfl)
theorem dX6_works_23 : decode cX6_works 23 = .ok (.aload_n 0, 1) := dk_42 (dk_at dksX6_works_0 23 rfl rfl)
theorem dX6_works_24 : decode cX6_works 24 = .ok (.getfield 355, 3) := dk_180 1 99 (dk_at dksX6_works_1 0 rfl rfl)
theorem dX6_works_27 : decode cX6_works 27 = .ok (.iconst 1, 1) := dk_4 (dk_at dksX6_works_1 3 rfl rfl)
theorem dX6_works_28 : decode cX6_works 28 = .ok (.isub, 1) := dk_100 (dk_at dksX6_works_1 4 rfl rfl)
theorem dX6_works_29 : decode cX6_works 29 = .ok (.lload_n 2, 1) := dk_32 (dk_at dksX6_works_1 5 rfl rfl)
theorem dX6_works_30 : decode cX6_works 30 = .ok (.lconst 0, 1) := dk_9 (dk_at dksX6_works_1 6 rfl rfl)
theorem dX6_works_31 : decode cX6_works 31 = .ok (.lcmp, 1) := dk_148 (dk_at dksX6_works_1 7 rfl rfl)
theorem dX6_works_32 : decode cX6_works 32 = .ok (.ifCond .ne 7, 3) := dk_154 0 7 (dk_at dksX6_works_1 8 rfl rfl)
theorem dX6_works_35 : decode cX6_works 35 = .ok (.iconst 1, 1) := dk_4 (dk_at dksX6_works_1 11 rfl rfl)
theorem dX6_works_36 : decode cX6_works 36 = .ok (.goto 4, 3) := dk_167 0 4 (dk_at dksX6_works_1 12 rfl rfl)
theorem dX6_works_39 : decode cX6_works 39 = .ok (.iconst 0, 1) := dk_3 (dk_at dksX6_works_1 15 rfl rfl)
theorem dX6_works_40 : decode cX6_works 40 = .ok (.invokestatic 358, 3) := dk_184 1 102 (dk_at dksX6_works_1 16 rfl rfl)
theorem dX6_works_43 : decode cX6_works 43 = .ok (.lastore, 1) := dk_80 (dk_at dksX6_works_1 19 rfl rfl)
theorem dX6_works_44 : decode cX6_works 44 = .ok (.iconst 1, 1) := dk_4 (dk_at dksX6_works_1 20 rfl rfl)
theorem dX6_works_45 : decode cX6_works 45 = .ok (.ireturn, 1) := dk_172 (dk_at dksX6_works_1 21 rfl rfl)
theorem dX6_works_46 : decode cX6_works 46 = .ok (.aload_n 0, 1) := dk_42 (dk_at dksX6_works_1 22 rfl rfl)
theorem dX6_works_47 : decode cX6_works 47 = .ok (.getfield 84, 3) := dk_180 0 84 (dk_at dksX6_works_2 0 rfl rfl)
theorem dX6_works_50 : decode cX6_works 50 = .ok (.aload_n 0, 1) := dk_42 (dk_at dksX6_works_2 3 rfl rfl)
theorem dX6_works_51 : decode cX6_works 51 = .ok (.getfield 355, 3) := dk_180 1 99 (dk_at dksX6_works_2 4 rfl rfl)
theorem dX6_works_54 : decode cX6_works 54 = .ok (.iconst 2, 1) := dk_5 (dk_at dksX6_works_2 7 rfl rfl)
theorem dX6_works_55 : decode cX6_works 55 = .ok (.isub, 1) := dk_100 (dk_at dksX6_works_2 8 rfl rfl)
theorem dX6_works_56 : decode cX6_works 56 = .ok (.laload, 1) := dk_47 (dk_at dksX6_works_2 9 rfl rfl)
theorem dX6_works_57 : decode cX6_works 57 = .ok (.lstore 4, 2) := dk_55 4 (dk_at dksX6_works_2 10 rfl rfl)
theorem dX6_works_59 : decode cX6_works 59 = .ok (.aload_n 0, 1) := dk_42 (dk_at dksX6_works_2 12 rfl rfl)
theorem dX6_works_60 : decode cX6_works 60 = .ok (.dup, 1) := dk_89 (dk_at dksX6_works_2 13 rfl rfl)
theorem dX6_works_61 : decode cX6_works 61 = .ok (.getfield 355, 3) := dk_180 1 99 (dk_at dksX6_works_2 14 rfl rfl)
theorem dX6_works_64 : decode cX6_works 64 = .ok (.iconst 1, 1) := dk_4 (dk_at dksX6_works_2 17 rfl rfl)
theorem dX6_works_65 : decode cX6_works 65 = .ok (.isub, 1) := dk_100 (dk_at dksX6_works_2 18 rfl rfl)
theorem dX6_works_66 : decode cX6_works 66 = .ok (.putfield 355, 3) := dk_181 1 99 (dk_at dksX6_works_2 19 rfl rfl)
theorem dX6_works_69 : decode cX6_works 69 = .ok (.iload_n 1, 1) := dk_27 (dk_at dksX6_works_2 22 rfl rfl)
theorem dX6_works_70 : decode cX6_works 70 = .ok (.lookupswitch 314 #[(42, 116), (43, 98), (45, 107), (47, 151), (60, 168), (61, 208), (62, 188), (256, 228), (257, 268), (258, 248), (261, 288)], 98) := by decide +kernel
theorem dX6_works_168 : decode cX6_works 168 = .ok (.lload 4, 2) := dk_22 4 (dk_at dksX6_works_4 0 rfl rfl)
theorem dX6_works_170 : decode cX6_works 170 = .ok (.lload_n 2, 1) := dk_32 (dk_at dksX6_works_4 2 rfl rfl)
theorem dX6_works_171 : decode cX6_works 171 = .ok (.ladd, 1) := dk_97 (dk_at dksX6_works_4 3 rfl rfl)
theorem dX6_works_172 : decode cX6_works 172 = .ok (.lstore 6, 2) := dk_55 6 (dk_at dksX6_works_4 4 rfl rfl)
theorem dX6_works_174 : decode cX6_works 174 = .ok (.goto 233, 3) := dk_167 0 233 (dk_at dksX6_works_4 6 rfl rfl)
theorem dX6_works_177 : decode cX6_works 177 = .ok (.lload 4, 2) := dk_22 4 (dk_at dksX6_works_4 9 rfl rfl)
theorem dX6_works_179 : decode cX6_works 179 = .ok (.lload_n 2, 1) := dk_32 (dk_at dksX6_works_4 11 rfl rfl)
theorem dX6_works_180 : decode cX6_works 180 = .ok (.lsub, 1) := dk_101 (dk_at dksX6_works_4 12 rfl rfl)
theorem dX6_works_181 : decode cX6_works 181 = .ok (.lstore 6, 2) := dk_55 6 (dk_at dksX6_works_4 13 rfl rfl)
theorem dX6_works_183 : decode cX6_works 183 = .ok (.goto 224, 3) := dk_167 0 224 (dk_at dksX6_works_4 15 rfl rfl)
theorem dX6_works_186 : decode cX6_works 186 = .ok (.lload 4, 2) := dk_22 4 (dk_at dksX6_works_4 18 rfl rfl)
theorem dX6_works_188 : decode cX6_works 188 = .ok (.lconst 0, 1) := dk_9 (dk_at dksX6_works_4 20 rfl rfl)
theorem dX6_works_189 : decode cX6_works 189 = .ok (.lcmp, 1) := dk_148 (dk_at dksX6_works_4 21 rfl rfl)
theorem dX6_works_190 : decode cX6_works 190 = .ok (.ifCond .eq 22, 3) := dk_153 0 22 (dk_at dksX6_works_5 0 rfl rfl)
theorem dX6_works_193 : decode cX6_works 193 = .ok (.lload_n 2, 1) := dk_32 (dk_at dksX6_works_5 3 rfl rfl)
theorem dX6_works_194 : decode cX6_works 194 = .ok (.invokestatic 362, 3) := dk_184 1 106 (dk_at dksX6_works_5 4 rfl rfl)
theorem dX6_works_197 : decode cX6_works 197 = .ok (.ldc2_w 368, 3) := dk_20 1 112 (dk_at dksX6_works_5 7 rfl rfl)
theorem dX6_works_200 : decode cX6_works 200 = .ok (.lload 4, 2) := dk_22 4 (dk_at dksX6_works_5 10 rfl rfl)
theorem dX6_works_202 : decode cX6_works 202 = .ok (.invokestatic 362, 3) := dk_184 1 106 (dk_at dksX6_works_5 12 rfl rfl)
theorem dX6_works_205 : decode cX6_works 205 = .ok (.ldiv, 1) := dk_109 (dk_at dksX6_works_5 15 rfl rfl)
theorem dX6_works_206 : decode cX6_works 206 = .ok (.lcmp, 1) := dk_148 (dk_at dksX6_works_5 16 rfl rfl)
theorem dX6_works_207 : decode cX6_works 207 = .ok (.ifCond .le 5, 3) := dk_158 0 5 (dk_at dksX6_works_5 17 rfl rfl)
theorem dX6_works_210 : decode cX6_works 210 = .ok (.iconst 0, 1) := dk_3 (dk_at dksX6_works_5 20 rfl rfl)
theorem dX6_works_211 : decode cX6_works 211 = .ok (.ireturn, 1) := dk_172 (dk_at dksX6_works_5 21 rfl rfl)
theorem dX6_works_212 : decode cX6_works 212 = .ok (.lload 4, 2) := dk_22 4 (dk_at dksX6_works_5 22 rfl rfl)
theorem dX6_works_214 : decode cX6_works 214 = .ok (.lload_n 2, 1) := dk_32 (dk_at dksX6_works_6 0 rfl rfl)
theorem dX6_works_215 : decode cX6_works 215 = .ok (.lmul, 1) := dk_105 (dk_at dksX6_works_6 1 rfl rfl)
theorem dX6_works_216 : decode cX6_works 216 = .ok (.lstore 6, 2) := dk_55 6 (dk_at dksX6_works_6 2 rfl rfl)
theorem dX6_works_218 : decode cX6_works 218 = .ok (.goto 189, 3) := dk_167 0 189 (dk_at dksX6_works_6 4 rfl rfl)
theorem dX6_works_221 : decode cX6_works 221 = .ok (.lload_n 2, 1) := dk_32 (dk_at dksX6_works_6 7 rfl rfl)
theorem dX6_works_222 : decode cX6_works 222 = .ok (.lconst 0, 1) := dk_9 (dk_at dksX6_works_6 8 rfl rfl)
theorem dX6_works_223 : decode cX6_works 223 = .ok (.lcmp, 1) := dk_148 (dk_at dksX6_works_6 9 rfl rfl)
theorem dX6_works_224 : decode cX6_works 224 = .ok (.ifCond .ne 5, 3) := dk_154 0 5 (dk_at dksX6_works_6 10 rfl rfl)
theorem dX6_works_227 : decode cX6_works 227 = .ok (.iconst 0, 1) := dk_3 (dk_at dksX6_works_6 13 rfl rfl)
theorem dX6_works_228 : decode cX6_works 228 = .ok (.ireturn, 1) := dk_172 (dk_at dksX6_works_6 14 rfl rfl)
theorem dX6_works_229 : decode cX6_works 229 = .ok (.lload 4, 2) := dk_22 4 (dk_at dksX6_works_6 15 rfl rfl)
theorem dX6_works_231 : decode cX6_works 231 = .ok (.lload_n 2, 1) := dk_32 (dk_at dksX6_works_6 17 rfl rfl)
theorem dX6_works_232 : decode cX6_works 232 = .ok (.ldiv, 1) := dk_109 (dk_at dksX6_works_6 18 rfl rfl)
theorem dX6_works_233 : decode cX6_works 233 = .ok (.lstore 6, 2) := dk_55 6 (dk_at dksX6_works_6 19 rfl rfl)
theorem dX6_works_235 : decode cX6_works 235 = .ok (.goto 172, 3) := dk_167 0 172 (dk_at dksX6_works_6 21 rfl rfl)
theorem dX6_works_238 : decode cX6_works 238 = .ok (.lload 4, 2) := dk_22 4 (dk_at dksX6_works_7 0 rfl rfl)
theorem dX6_works_240 : decode cX6_works 240 = .ok (.lload_n 2, 1) := dk_32 (dk_at dksX6_works_7 2 rfl rfl)
theorem dX6_works_241 : decode cX6_works 241 = .ok (.lcmp, 1) := dk_148 (dk_at dksX6_works_7 3 rfl rfl)
theorem dX6_works_242 : decode cX6_works 242 = .ok (.ifCond .ge 7, 3) := dk_156 0 7 (dk_at dksX6_works_7 4 rfl rfl)
theorem dX6_works_245 : decode cX6_works 245 = .ok (.iconst 1, 1) := dk_4 (dk_at dksX6_works_7 7 rfl rfl)
theorem dX6_works_246 : decode cX6_works 246 = .ok (.goto 4, 3) := dk_167 0 4 (dk_at dksX6_works_7 8 rfl rfl)
theorem dX6_works_249 : decode cX6_works 249 = .ok (.iconst 0, 1) := dk_3 (dk_at dksX6_works_7 11 rfl rfl)
theorem dX6_works_250 : decode cX6_works 250 = .ok (.invokestatic 358, 3) := dk_184 1 102 (dk_at dksX6_works_7 12 rfl rfl)
theorem dX6_works_253 : decode cX6_works 253 = .ok (.lstore 6, 2) := dk_55 6 (dk_at dksX6_works_7 15 rfl rfl)
theorem dX6_works_255 : decode cX6_works 255 = .ok (.goto 152, 3) := dk_167 0 152 (dk_at dksX6_works_7 17 rfl rfl)
theorem dX6_works_258 : decode cX6_works 258 = .ok (.lload 4, 2) := dk_22 4 (dk_at dksX6_works_7 20 rfl rfl)
theorem dX6_works_260 : decode cX6_works 260 = .ok (.lload_n 2, 1) := dk_32 (dk_at dksX6_works_7 22 rfl rfl)
theorem dX6_works_261 : decode cX6_works 261 = .ok (.lcmp, 1) := dk_148 (dk_at dksX6_works_7 23 rfl rfl)
theorem dX6_works_262 : decode cX6_works 262 = .ok (.ifCond .le 7, 3) := dk_158 0 7 (dk_at dksX6_works_8 0 rfl rfl)
theorem dX6_works_265 : decode cX6_works 265 = .ok (.iconst 1, 1) := dk_4 (dk_at dksX6_works_8 3 rfl rfl)
theorem dX6_works_266 : decode cX6_works 266 = .ok (.goto 4, 3) := dk_167 0 4 (dk_at dksX6_works_8 4 rfl rfl)
theorem dX6_works_269 : decode cX6_works 269 = .ok (.iconst 0, 1) := dk_3 (dk_at dksX6_works_8 7 rfl rfl)
theorem dX6_works_270 : decode cX6_works 270 = .ok (.invokestatic 358, 3) := dk_184 1 102 (dk_at dksX6_works_8 8 rfl rfl)
theorem dX6_works_273 : decode cX6_works 273 = .ok (.lstore 6, 2) := dk_55 6 (dk_at dksX6_works_8 11 rfl rfl)
theorem dX6_works_275 : decode cX6_works 275 = .ok (.goto 132, 3) := dk_167 0 132 (dk_at dksX6_works_8 13 rfl rfl)
theorem dX6_works_278 : decode cX6_works 278 = .ok (.lload 4, 2) := dk_22 4 (dk_at dksX6_works_8 16 rfl rfl)
theorem dX6_works_280 : decode cX6_works 280 = .ok (.lload_n 2, 1) := dk_32 (dk_at dksX6_works_8 18 rfl rfl)
theorem dX6_works_281 : decode cX6_works 281 = .ok (.lcmp, 1) := dk_148 (dk_at dksX6_works_8 19 rfl rfl)
theorem dX6_works_282 : decode cX6_works 282 = .ok (.ifCond .ne 7, 3) := dk_154 0 7 (dk_at dksX6_works_8 20 rfl rfl)
theorem dX6_works_285 : decode cX6_works 285 = .ok (.iconst 1, 1) := dk_4 (dk_at dksX6_works_8 23 rfl rfl)
theorem dX6_works_286 : decode cX6_works 286 = .ok (.goto 4, 3) := dk_167 0 4 (dk_at dksX6_works_9 0 rfl rfl)
theorem dX6_works_289 : decode cX6_works 289 = .ok (.iconst 0, 1) := dk_3 (dk_at dksX6_works_9 3 rfl rfl)
theorem dX6_works_290 : decode cX6_works 290 = .ok (.invokestatic 358, 3) := dk_184 1 102 (dk_at dksX6_works_9 4 rfl rfl)
theorem dX6_works_293 : decode cX6_works 293 = .ok (.lstore 6, 2) := dk_55 6 (dk_at dksX6_works_9 7 rfl rfl)
theorem dX6_works_295 : decode cX6_works 295 = .ok (.goto 112, 3) := dk_167 0 112 (dk_at dksX6_works_9 9 rfl rfl)
theorem dX6_works_298 : decode cX6_works 298 = .ok (.lload 4, 2) := dk_22 4 (dk_at dksX6_works_9 12 rfl rfl)
theorem dX6_works_300 : decode cX6_works 300 = .ok (.lload_n 2, 1) := dk_32 (dk_at dksX6_works_9 14 rfl rfl)
theorem dX6_works_301 : decode cX6_works 301 = .ok (.lcmp, 1) := dk_148 (dk_at dksX6_works_9 15 rfl rfl)
theorem dX6_works_302 : decode cX6_works 302 = .ok (.ifCond .gt 7, 3) := dk_157 0 7 (dk_at dksX6_works_9 16 rfl rfl)
theorem dX6_works_305 : decode cX6_works 305 = .ok (.iconst 1, 1) := dk_4 (dk_at dksX6_works_9 19 rfl rfl)
theorem dX6_works_306 : decode cX6_works 306 = .ok (.goto 4, 3) := dk_167 0 4 (dk_at dksX6_works_9 20 rfl rfl)
theorem dX6_works_309 : decode cX6_works 309 = .ok (.iconst 0, 1) := dk_3 (dk_at dksX6_works_9 23 rfl rfl)
theorem dX6_works_310 : decode cX6_works 310 = .ok (.invokestatic 358, 3) := dk_184 1 102 (dk_at dksX6_works_10 0 rfl rfl)
theorem dX6_works_313 : decode cX6_works 313 = .ok (.lstore 6, 2) := dk_55 6 (dk_at dksX6_works_10 3 rfl rfl)
theorem dX6_works_315 : decode cX6_works 315 = .ok (.goto 92, 3) := dk_167 0 92 (dk_at dksX6_works_10 5 rfl rfl)
theorem dX6_works_318 : decode cX6_works 318 = .ok (.lload 4, 2) := dk_22 4 (dk_at dksX6_works_10 8 rfl rfl)
theorem dX6_works_320 : decode cX6_works 320 = .ok (.lload_n 2, 1) := dk_32 (dk_at dksX6_works_10 10 rfl rfl)
theorem dX6_works_321 : decode cX6_works 321 = .ok (.lcmp, 1) := dk_148 (dk_at dksX6_works_10 11 rfl rfl)
theorem dX6_works_322 : decode cX6_works 322 = .ok (.ifCond .lt 7, 3) := dk_155 0 7 (dk_at dksX6_works_10 12 rfl rfl)
theorem dX6_works_325 : decode cX6_works 325 = .ok (.iconst 1, 1) := dk_4 (dk_at dksX6_works_10 15 rfl rfl)
theorem dX6_works_326 : decode cX6_works 326 = .ok (.goto 4, 3) := dk_167 0 4 (dk_at dksX6_works_10 16 rfl rfl)
theorem dX6_works_329 : decode cX6_works 329 = .ok (.iconst 0, 1) := dk_3 (dk_at dksX6_works_10 19 rfl rfl)
theorem dX6_works_330 : decode cX6_works 330 = .ok (.invokestatic 358, 3) := dk_184 1 102 (dk_at dksX6_works_10 20 rfl rfl)
theorem dX6_works_333 : decode cX6_works 333 = .ok (.lstore 6, 2) := dk_55 6 (dk_at dksX6_works_11 0 rfl rfl)
theorem dX6_works_335 : decode cX6_works 335 = .ok (.goto 72, 3) := dk_167 0 72 (dk_at dksX6_works_11 2 rfl rfl)
theorem dX6_works_338 : decode cX6_works 338 = .ok (.lload 4, 2) := dk_22 4 (dk_at dksX6_works_11 5 rfl rfl)
theorem dX6_works_340 : decode cX6_works 340 = .ok (.lload_n 2, 1) := dk_32 (dk_at dksX6_works_11 7 rfl rfl)
theorem dX6_works_341 : decode cX6_works 341 = .ok (.lcmp, 1) := dk_148 (dk_at dksX6_works_11 8 rfl rfl)
theorem dX6_works_342 : decode cX6_works 342 = .ok (.ifCond .eq 7, 3) := dk_153 0 7 (dk_at dksX6_works_11 9 rfl rfl)
theorem dX6_works_345 : decode cX6_works 345 = .ok (.iconst 1, 1) := dk_4 (dk_at dksX6_works_11 12 rfl rfl)
theorem dX6_works_346 : decode cX6_works 346 = .ok (.goto 4, 3) := dk_167 0 4 (dk_at dksX6_works_11 13 rfl rfl)
theorem dX6_works_349 : decode cX6_works 349 = .ok (.iconst 0, 1) := dk_3 (dk_at dksX6_works_11 16 rfl rfl)
theorem dX6_works_350 : decode cX6_works 350 = .ok (.invokestatic 358, 3) := dk_184 1 102 (dk_at dksX6_works_11 17 rfl rfl)
theorem dX6_works_353 : decode cX6_works 353 = .ok (.lstore 6, 2) := dk_55 6 (dk_at dksX6_works_11 20 rfl rfl)
theorem dX6_works_355 : decode cX6_works 355 = .ok (.goto 52, 3) := dk_167 0 52 (dk_at dksX6_works_12 0 rfl rfl)
theorem dX6_works_358 : decode cX6_works 358 = .ok (.lload 4, 2) := dk_22 4 (dk_at dksX6_works_12 3 rfl rfl)
theorem dX6_works_360 : decode cX6_works 360 = .ok (.lconst 0, 1) := dk_9 (dk_at dksX6_works_12 5 rfl rfl)
theorem dX6_works_361 : decode cX6_works 361 = .ok (.lcmp, 1) := dk_148 (dk_at dksX6_works_12 6 rfl rfl)
theorem dX6_works_362 : decode cX6_works 362 = .ok (.ifCond .eq 13, 3) := dk_153 0 13 (dk_at dksX6_works_12 7 rfl rfl)
theorem dX6_works_365 : decode cX6_works 365 = .ok (.lload_n 2, 1) := dk_32 (dk_at dksX6_works_12 10 rfl rfl)
theorem dX6_works_366 : decode cX6_works 366 = .ok (.lconst 0, 1) := dk_9 (dk_at dksX6_works_12 11 rfl rfl)
theorem dX6_works_367 : decode cX6_works 367 = .ok (.lcmp, 1) := dk_148 (dk_at dksX6_works_12 12 rfl rfl)
theorem dX6_works_368 : decode cX6_works 368 = .ok (.ifCond .eq 7, 3) := dk_153 0 7 (dk_at dksX6_works_12 13 rfl rfl)
theorem dX6_works_371 : decode cX6_works 371 = .ok (.iconst 1, 1) := dk_4 (dk_at dksX6_works_12 16 rfl rfl)
theorem dX6_works_372 : decode cX6_works 372 = .ok (.goto 4, 3) := dk_167 0 4 (dk_at dksX6_works_12 17 rfl rfl)
theorem dX6_works_375 : decode cX6_works 375 = .ok (.iconst 0, 1) := dk_3 (dk_at dksX6_works_12 20 rfl rfl)
theorem dX6_works_376 : decode cX6_works 376 = .ok (.invokestatic 358, 3) := dk_184 1 102 (dk_at dksX6_works_12 21 rfl rfl)
theorem dX6_works_379 : decode cX6_works 379 = .ok (.lstore 6, 2) := dk_55 6 (dk_at dksX6_works_13 0 rfl rfl)
theorem dX6_works_381 : decode cX6_works 381 = .ok (.goto 26, 3) := dk_167 0 26 (dk_at dksX6_works_13 2 rfl rfl)
theorem dX6_works_384 : decode cX6_works 384 = .ok (.lload 4, 2) := dk_22 4 (dk_at dksX6_works_13 5 rfl rfl)
theorem dX6_works_386 : decode cX6_works 386 = .ok (.lconst 0, 1) := dk_9 (dk_at dksX6_works_13 7 rfl rfl)
theorem dX6_works_387 : decode cX6_works 387 = .ok (.lcmp, 1) := dk_148 (dk_at dksX6_works_13 8 rfl rfl)
theorem dX6_works_388 : decode cX6_works 388 = .ok (.ifCond .ne 9, 3) := dk_154 0 9 (dk_at dksX6_works_13 9 rfl rfl)
theorem dX6_works_391 : decode cX6_works 391 = .ok (.lload_n 2, 1) := dk_32 (dk_at dksX6_works_13 12 rfl rfl)
theorem dX6_works_392 : decode cX6_works 392 = .ok (.lconst 0, 1) := dk_9 (dk_at dksX6_works_13 13 rfl rfl)
theorem dX6_works_393 : decode cX6_works 393 = .ok (.lcmp, 1) := dk_148 (dk_at dksX6_works_13 14 rfl rfl)
theorem dX6_works_394 : decode cX6_works 394 = .ok (.ifCond .eq 7, 3) := dk_153 0 7 (dk_at dksX6_works_13 15 rfl rfl)
theorem dX6_works_397 : decode cX6_works 397 = .ok (.iconst 1, 1) := dk_4 (dk_at dksX6_works_13 18 rfl rfl)
theorem dX6_works_398 : decode cX6_works 398 = .ok (.goto 4, 3) := dk_167 0 4 (dk_at dksX6_works_13 19 rfl rfl)
theorem dX6_works_401 : decode cX6_works 401 = .ok (.iconst 0, 1) := dk_3 (dk_at dksX6_works_13 22 rfl rfl)
theorem dX6_works_402 : decode cX6_works 402 = .ok (.invokestatic 358, 3) := dk_184 1 102 (dk_at dksX6_works_14 0 rfl rfl)
theorem dX6_works_405 : decode cX6_works 405 = .ok (.lstore 6, 2) := dk_55 6 (dk_at dksX6_works_14 3 rfl rfl)
theorem dX6_works_407 : decode cX6_works 407 = .ok (.aload_n 0, 1) := dk_42 (dk_at dksX6_works_14 5 rfl rfl)
theorem dX6_works_408 : decode cX6_works 408 = .ok (.getfield 84, 3) := dk_180 0 84 (dk_at dksX6_works_14 6 rfl rfl)
theorem dX6_works_411 : decode cX6_works 411 = .ok (.aload_n 0, 1) := dk_42 (dk_at dksX6_works_14 9 rfl rfl)
theorem dX6_works_412 : decode cX6_works 412 = .ok (.getfield 355, 3) := dk_180 1 99 (dk_at dksX6_works_14 10 rfl rfl)
theorem dX6_works_415 : decode cX6_works 415 = .ok (.iconst 1, 1) := dk_4 (dk_at dksX6_works_14 13 rfl rfl)
theorem dX6_works_416 : decode cX6_works 416 = .ok (.isub, 1) := dk_100 (dk_at dksX6_works_14 14 rfl rfl)
theorem dX6_works_417 : decode cX6_works 417 = .ok (.lload 6, 2) := dk_22 6 (dk_at dksX6_works_14 15 rfl rfl)
theorem dX6_works_419 : decode cX6_works 419 = .ok (.lastore, 1) := dk_80 (dk_at dksX6_works_14 17 rfl rfl)
theorem dX6_works_420 : decode cX6_works 420 = .ok (.lload 6, 2) := dk_22 6 (dk_at dksX6_works_14 18 rfl rfl)
theorem dX6_works_422 : decode cX6_works 422 = .ok (.ldc2_w 368, 3) := dk_20 1 112 (dk_at dksX6_works_14 20 rfl rfl)
theorem dX6_works_425 : decode cX6_works 425 = .ok (.lcmp, 1) := dk_148 (dk_at dksX6_works_14 23 rfl rfl)
theorem dX6_works_426 : decode cX6_works 426 = .ok (.ifCond .gt 16, 3) := dk_157 0 16 (dk_at dksX6_works_15 0 rfl rfl)
theorem dX6_works_429 : decode cX6_works 429 = .ok (.lload 6, 2) := dk_22 6 (dk_at dksX6_works_15 3 rfl rfl)
theorem dX6_works_431 : decode cX6_works 431 = .ok (.ldc2_w 370, 3) := dk_20 1 114 (dk_at dksX6_works_15 5 rfl rfl)
theorem dX6_works_434 : decode cX6_works 434 = .ok (.lcmp, 1) := dk_148 (dk_at dksX6_works_15 8 rfl rfl)
theorem dX6_works_435 : decode cX6_works 435 = .ok (.ifCond .lt 7, 3) := dk_155 0 7 (dk_at dksX6_works_15 9 rfl rfl)
theorem dX6_works_438 : decode cX6_works 438 = .ok (.iconst 1, 1) := dk_4 (dk_at dksX6_works_15 12 rfl rfl)
theorem dX6_works_439 : decode cX6_works 439 = .ok (.goto 4, 3) := dk_167 0 4 (dk_at dksX6_works_15 13 rfl rfl)
theorem dX6_works_442 : decode cX6_works 442 = .ok (.iconst 0, 1) := dk_3 (dk_at dksX6_works_15 16 rfl rfl)
theorem dX6_works_443 : decode cX6_works 443 = .ok (.ireturn, 1) := dk_172 (dk_at dksX6_works_15 17 rfl rfl)
abbrev cX6_noon : ByteArray := prog_23_method_67_code
def yX6_noon : MethodName := ⟨RX6, "noon", "(I)V"⟩
def dkwX6_noon_5 : List UInt8 := [182, 1, 177, 132, 2, 1, 167, 255, 215, 42, 3, 181, 1, 123, 177]
abbrev dktX6_noon_5 : List UInt8 := dkwX6_noon_5 ++ []
def dkwX6_noon_4 : List UInt8 := [180, 0, 133, 28, 46, 2, 159, 0, 21, 42, 27, 28, 42, 180, 0, 133, 28, 46, 42, 180, 0, 136, 28, 46]
abbrev dktX6_noon_4 : List UInt8 := dkwX6_noon_4 ++ dktX6_noon_5
def dkwX6_noon_3 : List UInt8 := [182, 1, 174, 132, 2, 1, 167, 255, 216, 3, 61, 28, 42, 180, 0, 13, 3, 46, 162, 0, 37, 42]
abbrev dktX6_noon_3 : List UInt8 := dkwX6_noon_3 ++ dktX6_noon_4
def dkwX6_noon_2 : List UInt8 := [180, 0, 133, 28, 2, 79, 42, 28, 182, 1, 171, 2, 159, 0, 14, 42, 27, 28, 42, 28, 182, 1, 171]
abbrev dktX6_noon_2 : List UInt8 := dkwX6_noon_2 ++ dktX6_noon_3
def dkwX6_noon_1 : List UInt8 := [132, 2, 1, 167, 255, 231, 42, 4, 181, 1, 123, 3, 61, 28, 42, 180, 0, 13, 3, 46, 162, 0, 36, 42]
abbrev dktX6_noon_1 : List UInt8 := dkwX6_noon_1 ++ dktX6_noon_2
def dkwX6_noon_0 : List UInt8 := [3, 61, 28, 42, 180, 0, 13, 3, 46, 162, 0, 21, 42, 180, 0, 130, 28, 42, 27, 28, 182, 1, 126, 79]
abbrev dktX6_noon_0 : List UInt8 := dkwX6_noon_0 ++ dktX6_noon_1
theorem dksX6_noon_0 : cX6_noon.data.toList.drop 0 = dktX6_noon_0 := by decide +kernel
theorem dksX6_noon_1 : cX6_noon.data.toList.drop 24 = dktX6_noon_1 := dk_seg dksX6_noon_0 24 rfl rfl
theorem dksX6_noon_2 : cX6_noon.data.toList.drop 48 = dktX6_noon_2 := dk_seg dksX6_noon_1 24 rfl rfl
theorem dksX6_noon_3 : cX6_noon.data.toList.drop 71 = dktX6_noon_3 := dk_seg dksX6_noon_2 23 rfl rfl
theorem dksX6_noon_4 : cX6_noon.data.toList.drop 93 = dktX6_noon_4 := dk_seg dksX6_noon_3 22 rfl rfl
theorem dksX6_noon_5 : cX6_noon.data.toList.drop 117 = dktX6_noon_5 := dk_seg dksX6_noon_4 24 rfl rfl
theorem dX6_noon_0 : decode cX6_noon 0 = .ok (.iconst 0, 1) := dk_3 (dk_at dksX6_noon_0 0 rfl rfl)
theorem dX6_noon_1 : decode cX6_noon 1 = .ok (.istore_n 2, 1) := dk_61 (dk_at dksX6_noon_0 1 rfl rfl)
theorem dX6_noon_2 : decode cX6_noon 2 = .ok (.iload_n 2, 1) := dk_28 (dk_at dksX6_noon_0 2 rfl rfl)
theorem dX6_noon_3 : decode cX6_noon 3 = .ok (.aload_n 0, 1) := dk_42 (dk_at dksX6_noon_0 3 rfl rfl)
theorem dX6_noon_4 : decode cX6_noon 4 = .ok (.getfield 13, 3) := dk_180 0 13 (dk_at dksX6_noon_0 4 rfl rfl)
theorem dX6_noon_7 : decode cX6_noon 7 = .ok (.iconst 0, 1) := dk_3 (dk_at dksX6_noon_0 7 rfl rfl)
theorem dX6_noon_8 : decode cX6_noon 8 = .ok (.iaload, 1) := dk_46 (dk_at dksX6_noon_0 8 rfl rfl)
theorem dX6_noon_9 : decode cX6_noon 9 = .ok (.if_icmp .ge 21, 3) := dk_162 0 21 (dk_at dksX6_noon_0 9 rfl rfl)
theorem dX6_noon_12 : decode cX6_noon 12 = .ok (.aload_n 0, 1) := dk_42 (dk_at dksX6_noon_0 12 rfl rfl)
theorem dX6_noon_13 : decode cX6_noon 13 = .ok (.getfield 130, 3) := dk_180 0 130 (dk_at dksX6_noon_0 13 rfl rfl)
theorem dX6_noon_16 : decode cX6_noon 16 = .ok (.iload_n 2, 1) := dk_28 (dk_at dksX6_noon_0 16 rfl rfl)
theorem dX6_noon_17 : decode cX6_noon 17 = .ok (.aload_n 0, 1) := dk_42 (dk_at dksX6_noon_0 17 rfl rfl)
theorem dX6_noon_18 : decode cX6_noon 18 = .ok (.iload_n 1, 1) := dk_27 (dk_at dksX6_noon_0 18 rfl rfl)
theorem dX6_noon_19 : decode cX6_noon 19 = .ok (.iload_n 2, 1) := dk_28 (dk_at dksX6_noon_0 19 rfl rfl)
theorem dX6_noon_20 : decode cX6_noon 20 = .ok (.invokevirtual 382, 3) := dk_182 1 126 (dk_at dksX6_noon_0 20 rfl rfl)
theorem dX6_noon_23 : decode cX6_noon 23 = .ok (.iastore, 1) := dk_79 (dk_at dksX6_noon_0 23 rfl rfl)
theorem dX6_noon_24 : decode cX6_noon 24 = .ok (.iinc 2 1, 3) := dk_132 2 1 (dk_at dksX6_noon_1 0 rfl rfl)
theorem dX6_noon_27 : decode cX6_noon 27 = .ok (.goto (-25), 3) := dk_167 255 231 (dk_at dksX6_noon_1 3 rfl rfl)
theorem dX6_noon_30 : decode cX6_noon 30 = .ok (.aload_n 0, 1) := dk_42 (dk_at dksX6_noon_1 6 rfl rfl)
theorem dX6_noon_31 : decode cX6_noon 31 = .ok (.iconst 1, 1) := dk_4 (dk_at dksX6_noon_1 7 rfl rfl)
theorem dX6_noon_32 : decode cX6_noon 32 = .ok (.putfield 379, 3) := dk_181 1 123 (dk_at dksX6_noon_1 8 rfl rfl)
theorem dX6_noon_35 : decode cX6_noon 35 = .ok (.iconst 0, 1) := dk_3 (dk_at dksX6_noon_1 11 rfl rfl)
theorem dX6_noon_36 : decode cX6_noon 36 = .ok (.istore_n 2, 1) := dk_61 (dk_at dksX6_noon_1 12 rfl rfl)
theorem dX6_noon_37 : decode cX6_noon 37 = .ok (.iload_n 2, 1) := dk_28 (dk_at dksX6_noon_1 13 rfl rfl)
theorem dX6_noon_38 : decode cX6_noon 38 = .ok (.aload_n 0, 1) := dk_42 (dk_at dksX6_noon_1 14 rfl rfl)
theorem dX6_noon_39 : decode cX6_noon 39 = .ok (.getfield 13, 3) := dk_180 0 13 (dk_at dksX6_noon_1 15 rfl rfl)
theorem dX6_noon_42 : decode cX6_noon 42 = .ok (.iconst 0, 1) := dk_3 (dk_at dksX6_noon_1 18 rfl rfl)
theorem dX6_noon_43 : decode cX6_noon 43 = .ok (.iaload, 1) := dk_46 (dk_at dksX6_noon_1 19 rfl rfl)
theorem dX6_noon_44 : decode cX6_noon 44 = .ok (.if_icmp .ge 36, 3) := dk_162 0 36 (dk_at dksX6_noon_1 20 rfl rfl)
theorem dX6_noon_47 : decode cX6_noon 47 = .ok (.aload_n 0, 1) := dk_42 (dk_at dksX6_noon_1 23 rfl rfl)
theorem dX6_noon_48 : decode cX6_noon 48 = .ok (.getfield 133, 3) := dk_180 0 133 (dk_at dksX6_noon_2 0 rfl rfl)
theorem dX6_noon_51 : decode cX6_noon 51 = .ok (.iload_n 2, 1) := dk_28 (dk_at dksX6_noon_2 3 rfl rfl)
theorem dX6_noon_52 : decode cX6_noon 52 = .ok (.iconst (-1), 1) := dk_2 (dk_at dksX6_noon_2 4 rfl rfl)
theorem dX6_noon_53 : decode cX6_noon 53 = .ok (.iastore, 1) := dk_79 (dk_at dksX6_noon_2 5 rfl rfl)
theorem dX6_noon_54 : decode cX6_noon 54 = .ok (.aload_n 0, 1) := dk_42 (dk_at dksX6_noon_2 6 rfl rfl)
theorem dX6_noon_55 : decode cX6_noon 55 = .ok (.iload_n 2, 1) := dk_28 (dk_at dksX6_noon_2 7 rfl rfl)
theorem dX6_noon_56 : decode cX6_noon 56 = .ok (.invokevirtual 427, 3) := dk_182 1 171 (dk_at dksX6_noon_2 8 rfl rfl)
theorem dX6_noon_59 : decode cX6_noon 59 = .ok (.iconst (-1), 1) := dk_2 (dk_at dksX6_noon_2 11 rfl rfl)
theorem dX6_noon_60 : decode cX6_noon 60 = .ok (.if_icmp .eq 14, 3) := dk_159 0 14 (dk_at dksX6_noon_2 12 rfl rfl)
theorem dX6_noon_63 : decode cX6_noon 63 = .ok (.aload_n 0, 1) := dk_42 (dk_at dksX6_noon_2 15 rfl rfl)
theorem dX6_noon_64 : decode cX6_noon 64 = .ok (.iload_n 1, 1) := dk_27 (dk_at dksX6_noon_2 16 rfl rfl)
theorem dX6_noon_65 : decode cX6_noon 65 = .ok (.iload_n 2, 1) := dk_28 (dk_at dksX6_noon_2 17 rfl rfl)
theorem dX6_noon_66 : decode cX6_noon 66 = .ok (.aload_n 0, 1) := dk_42 (dk_at dksX6_noon_2 18 rfl rfl)
theorem dX6_noon_67 : decode cX6_noon 67 = .ok (.iload_n 2, 1) := dk_28 (dk_at dksX6_noon_2 19 rfl rfl)
theorem dX6_noon_68 : decode cX6_noon 68 = .ok (.invokevirtual 427, 3) := dk_182 1 171 (dk_at dksX6_noon_2 20 rfl rfl)
theorem dX6_noon_71 : decode cX6_noon 71 = .ok (.invokevirtual 430, 3) := dk_182 1 174 (dk_at dksX6_noon_3 0 rfl rfl)
theorem dX6_noon_74 : decode cX6_noon 74 = .ok (.iinc 2 1, 3) := dk_132 2 1 (dk_at dksX6_noon_3 3 rfl rfl)
theorem dX6_noon_77 : decode cX6_noon 77 = .ok (.goto (-40), 3) := dk_167 255 216 (dk_at dksX6_noon_3 6 rfl rfl)
theorem dX6_noon_80 : decode cX6_noon 80 = .ok (.iconst 0, 1) := dk_3 (dk_at dksX6_noon_3 9 rfl rfl)
theorem dX6_noon_81 : decode cX6_noon 81 = .ok (.istore_n 2, 1) := dk_61 (dk_at dksX6_noon_3 10 rfl rfl)
theorem dX6_noon_82 : decode cX6_noon 82 = .ok (.iload_n 2, 1) := dk_28 (dk_at dksX6_noon_3 11 rfl rfl)
theorem dX6_noon_83 : decode cX6_noon 83 = .ok (.aload_n 0, 1) := dk_42 (dk_at dksX6_noon_3 12 rfl rfl)
theorem dX6_noon_84 : decode cX6_noon 84 = .ok (.getfield 13, 3) := dk_180 0 13 (dk_at dksX6_noon_3 13 rfl rfl)
theorem dX6_noon_87 : decode cX6_noon 87 = .ok (.iconst 0, 1) := dk_3 (dk_at dksX6_noon_3 16 rfl rfl)
theorem dX6_noon_88 : decode cX6_noon 88 = .ok (.iaload, 1) := dk_46 (dk_at dksX6_noon_3 17 rfl rfl)
theorem dX6_noon_89 : decode cX6_noon 89 = .ok (.if_icmp .ge 37, 3) := dk_162 0 37 (dk_at dksX6_noon_3 18 rfl rfl)
theorem dX6_noon_92 : decode cX6_noon 92 = .ok (.aload_n 0, 1) := dk_42 (dk_at dksX6_noon_3 21 rfl rfl)
theorem dX6_noon_93 : decode cX6_noon 93 = .ok (.getfield 133, 3) := dk_180 0 133 (dk_at dksX6_noon_4 0 rfl rfl)
theorem dX6_noon_96 : decode cX6_noon 96 = .ok (.iload_n 2, 1) := dk_28 (dk_at dksX6_noon_4 3 rfl rfl)
theorem dX6_noon_97 : decode cX6_noon 97 = .ok (.iaload, 1) := dk_46 (dk_at dksX6_noon_4 4 rfl rfl)
theorem dX6_noon_98 : decode cX6_noon 98 = .ok (.iconst (-1), 1) := dk_2 (dk_at dksX6_noon_4 5 rfl rfl)
theorem dX6_noon_99 : decode cX6_noon 99 = .ok (.if_icmp .eq 21, 3) := dk_159 0 21 (dk_at dksX6_noon_4 6 rfl rfl)
theorem dX6_noon_102 : decode cX6_noon 102 = .ok (.aload_n 0, 1) := dk_42 (dk_at dksX6_noon_4 9 rfl rfl)
theorem dX6_noon_103 : decode cX6_noon 103 = .ok (.iload_n 1, 1) := dk_27 (dk_at dksX6_noon_4 10 rfl rfl)
theorem dX6_noon_104 : decode cX6_noon 104 = .ok (.iload_n 2, 1) := dk_28 (dk_at dksX6_noon_4 11 rfl rfl)
theorem dX6_noon_105 : decode cX6_noon 105 = .ok (.aload_n 0, 1) := dk_42 (dk_at dksX6_noon_4 12 rfl rfl)
theorem dX6_noon_106 : decode cX6_noon 106 = .ok (.getfield 133, 3) := dk_180 0 133 (dk_at dksX6_noon_4 13 rfl rfl)
theorem dX6_noon_109 : decode cX6_noon 109 = .ok (.iload_n 2, 1) := dk_28 (dk_at dksX6_noon_4 16 rfl rfl)
theorem dX6_noon_110 : decode cX6_noon 110 = .ok (.iaload, 1) := dk_46 (dk_at dksX6_noon_4 17 rfl rfl)
theorem dX6_noon_111 : decode cX6_noon 111 = .ok (.aload_n 0, 1) := dk_42 (dk_at dksX6_noon_4 18 rfl rfl)
theorem dX6_noon_112 : decode cX6_noon 112 = .ok (.getfield 136, 3) := dk_180 0 136 (dk_at dksX6_noon_4 19 rfl rfl)
theorem dX6_noon_115 : decode cX6_noon 115 = .ok (.iload_n 2, 1) := dk_28 (dk_at dksX6_noon_4 22 rfl rfl)
theorem dX6_noon_116 : decode cX6_noon 116 = .ok (.iaload, 1) := dk_46 (dk_at dksX6_noon_4 23 rfl rfl)
theorem dX6_noon_117 : decode cX6_noon 117 = .ok (.invokevirtual 433, 3) := dk_182 1 177 (dk_at dksX6_noon_5 0 rfl rfl)
theorem dX6_noon_120 : decode cX6_noon 120 = .ok (.iinc 2 1, 3) := dk_132 2 1 (dk_at dksX6_noon_5 3 rfl rfl)
theorem dX6_noon_123 : decode cX6_noon 123 = .ok (.goto (-41), 3) := dk_167 255 215 (dk_at dksX6_noon_5 6 rfl rfl)
theorem dX6_noon_126 : decode cX6_noon 126 = .ok (.aload_n 0, 1) := dk_42 (dk_at dksX6_noon_5 9 rfl rfl)
theorem dX6_noon_127 : decode cX6_noon 127 = .ok (.iconst 0, 1) := dk_3 (dk_at dksX6_noon_5 10 rfl rfl)
theorem dX6_noon_128 : decode cX6_noon 128 = .ok (.putfield 379, 3) := dk_181 1 123 (dk_at dksX6_noon_5 11 rfl rfl)
theorem dX6_noon_131 : decode cX6_noon 131 = .ok (.return_, 1) := dk_177 (dk_at dksX6_noon_5 14 rfl rfl)
abbrev cX6_whomOf : ByteArray := prog_23_method_47_code
def yX6_whomOf : MethodName := ⟨RX6, "whomOf", "(I)I"⟩
def dkwX6_whomOf_1 : List UInt8 := [167, 0, 9, 42, 180, 0, 22, 27, 46, 172]
abbrev dktX6_whomOf_1 : List UInt8 := dkwX6_whomOf_1 ++ []
def dkwX6_whomOf_0 : List UInt8 := [42, 180, 1, 90, 153, 0, 19, 42, 180, 1, 90, 7, 160, 0, 15, 42, 180, 1, 93, 27, 160, 0, 7, 2]
abbrev dktX6_whomOf_0 : List UInt8 := dkwX6_whomOf_0 ++ dktX6_whomOf_1
theorem dksX6_whomOf_0 : cX6_whomOf.data.toList.drop 0 = dktX6_whomOf_0 := by decide +kernel
theorem dksX6_whomOf_1 : cX6_whomOf.data.toList.drop 24 = dktX6_whomOf_1 := dk_seg dksX6_whomOf_0 24 rfl rfl
theorem dX6_whomOf_0 : decode cX6_whomOf 0 = .ok (.aload_n 0, 1) := dk_42 (dk_at dksX6_whomOf_0 0 rfl rfl)
theorem dX6_whomOf_1 : decode cX6_whomOf 1 = .ok (.getfield 346, 3) := dk_180 1 90 (dk_at dksX6_whomOf_0 1 rfl rfl)
theorem dX6_whomOf_4 : decode cX6_whomOf 4 = .ok (.ifCond .eq 19, 3) := dk_153 0 19 (dk_at dksX6_whomOf_0 4 rfl rfl)
theorem dX6_whomOf_7 : decode cX6_whomOf 7 = .ok (.aload_n 0, 1) := dk_42 (dk_at dksX6_whomOf_0 7 rfl rfl)
theorem dX6_whomOf_8 : decode cX6_whomOf 8 = .ok (.getfield 346, 3) := dk_180 1 90 (dk_at dksX6_whomOf_0 8 rfl rfl)
theorem dX6_whomOf_11 : decode cX6_whomOf 11 = .ok (.iconst 4, 1) := dk_7 (dk_at dksX6_whomOf_0 11 rfl rfl)
theorem dX6_whomOf_12 : decode cX6_whomOf 12 = .ok (.if_icmp .ne 15, 3) := dk_160 0 15 (dk_at dksX6_whomOf_0 12 rfl rfl)
theorem dX6_whomOf_15 : decode cX6_whomOf 15 = .ok (.aload_n 0, 1) := dk_42 (dk_at dksX6_whomOf_0 15 rfl rfl)
theorem dX6_whomOf_16 : decode cX6_whomOf 16 = .ok (.getfield 349, 3) := dk_180 1 93 (dk_at dksX6_whomOf_0 16 rfl rfl)
theorem dX6_whomOf_19 : decode cX6_whomOf 19 = .ok (.iload_n 1, 1) := dk_27 (dk_at dksX6_whomOf_0 19 rfl rfl)
theorem dX6_whomOf_20 : decode cX6_whomOf 20 = .ok (.if_icmp .ne 7, 3) := dk_160 0 7 (dk_at dksX6_whomOf_0 20 rfl rfl)
theorem dX6_whomOf_23 : decode cX6_whomOf 23 = .ok (.iconst (-1), 1) := dk_2 (dk_at dksX6_whomOf_0 23 rfl rfl)
theorem dX6_whomOf_24 : decode cX6_whomOf 24 = .ok (.goto 9, 3) := dk_167 0 9 (dk_at dksX6_whomOf_1 0 rfl rfl)
theorem dX6_whomOf_27 : decode cX6_whomOf 27 = .ok (.aload_n 0, 1) := dk_42 (dk_at dksX6_whomOf_1 3 rfl rfl)
theorem dX6_whomOf_28 : decode cX6_whomOf 28 = .ok (.getfield 22, 3) := dk_180 0 22 (dk_at dksX6_whomOf_1 4 rfl rfl)
theorem dX6_whomOf_31 : decode cX6_whomOf 31 = .ok (.iload_n 1, 1) := dk_27 (dk_at dksX6_whomOf_1 7 rfl rfl)
theorem dX6_whomOf_32 : decode cX6_whomOf 32 = .ok (.iaload, 1) := dk_46 (dk_at dksX6_whomOf_1 8 rfl rfl)
theorem dX6_whomOf_33 : decode cX6_whomOf 33 = .ok (.ireturn, 1) := dk_172 (dk_at dksX6_whomOf_1 9 rfl rfl)
abbrev cX6_wants : ByteArray := prog_23_method_68_code
def yX6_wants : MethodName := ⟨RX6, "wants", "(III)V"⟩
def dkwX6_wants_5 : List UInt8 := [180, 0, 136, 28, 42, 180, 0, 96, 21, 7, 46, 79, 132, 6, 1, 167, 255, 128, 177]
abbrev dktX6_wants_5 : List UInt8 := dkwX6_wants_5 ++ []
def dkwX6_wants_4 : List UInt8 := [157, 0, 6, 167, 0, 33, 22, 8, 55, 4, 42, 180, 0, 133, 28, 42, 180, 0, 93, 21, 7, 46, 79, 42]
abbrev dktX6_wants_4 : List UInt8 := dkwX6_wants_4 ++ dktX6_wants_5
def dkwX6_wants_3 : List UInt8 := [2, 42, 180, 0, 28, 42, 180, 0, 93, 21, 7, 46, 46, 133, 182, 1, 141, 55, 8, 22, 8, 22, 4, 148]
abbrev dktX6_wants_3 : List UInt8 := dkwX6_wants_3 ++ dktX6_wants_4
def dkwX6_wants_2 : List UInt8 := [160, 0, 6, 167, 0, 81, 42, 4, 27, 28, 42, 180, 0, 93, 21, 7, 46, 42, 180, 0, 96, 21, 7, 46]
abbrev dktX6_wants_2 : List UInt8 := dkwX6_wants_2 ++ dktX6_wants_3
def dkwX6_wants_1 : List UInt8 := [21, 6, 184, 1, 119, 54, 7, 42, 180, 0, 130, 28, 46, 42, 180, 0, 93, 21, 7, 46, 122, 4, 126, 4]
abbrev dktX6_wants_1 : List UInt8 := dkwX6_wants_1 ++ dktX6_wants_2
def dkwX6_wants_0 : List UInt8 := [9, 55, 4, 3, 54, 6, 21, 6, 42, 180, 0, 90, 7, 27, 104, 29, 96, 46, 162, 0, 119, 27, 29]
abbrev dktX6_wants_0 : List UInt8 := dkwX6_wants_0 ++ dktX6_wants_1
theorem dksX6_wants_0 : cX6_wants.data.toList.drop 0 = dktX6_wants_0 := by decide +kernel
theorem dksX6_wants_1 : cX6_wants.data.toList.drop 23 = dktX6_wants_1 := dk_seg dksX6_wants_0 23 rfl rfl
theorem dksX6_wants_2 : cX6_wants.data.toList.drop 47 = dktX6_wants_2 := dk_seg dksX6_wants_1 24 rfl rfl
theorem dksX6_wants_3 : cX6_wants.data.toList.drop 71 = dktX6_wants_3 := dk_seg dksX6_wants_2 24 rfl rfl
theorem dksX6_wants_4 : cX6_wants.data.toList.drop 95 = dktX6_wants_4 := dk_seg dksX6_wants_3 24 rfl rfl
theorem dksX6_wants_5 : cX6_wants.data.toList.drop 119 = dktX6_wants_5 := dk_seg dksX6_wants_4 24 rfl rfl
theorem dX6_wants_0 : decode cX6_wants 0 = .ok (.lconst 0, 1) := dk_9 (dk_at dksX6_wants_0 0 rfl rfl)
theorem dX6_wants_1 : decode cX6_wants 1 = .ok (.lstore 4, 2) := dk_55 4 (dk_at dksX6_wants_0 1 rfl rfl)
theorem dX6_wants_3 : decode cX6_wants 3 = .ok (.iconst 0, 1) := dk_3 (dk_at dksX6_wants_0 3 rfl rfl)
theorem dX6_wants_4 : decode cX6_wants 4 = .ok (.istore 6, 2) := dk_54 6 (dk_at dksX6_wants_0 4 rfl rfl)
theorem dX6_wants_6 : decode cX6_wants 6 = .ok (.iload 6, 2) := dk_21 6 (dk_at dksX6_wants_0 6 rfl rfl)
theorem dX6_wants_8 : decode cX6_wants 8 = .ok (.aload_n 0, 1) := dk_42 (dk_at dksX6_wants_0 8 rfl rfl)
theorem dX6_wants_9 : decode cX6_wants 9 = .ok (.getfield 90, 3) := dk_180 0 90 (dk_at dksX6_wants_0 9 rfl rfl)
theorem dX6_wants_12 : decode cX6_wants 12 = .ok (.iconst 4, 1) := dk_7 (dk_at dksX6_wants_0 12 rfl rfl)
theorem dX6_wants_13 : decode cX6_wants 13 = .ok (.iload_n 1, 1) := dk_27 (dk_at dksX6_wants_0 13 rfl rfl)
theorem dX6_wants_14 : decode cX6_wants 14 = .ok (.imul, 1) := dk_104 (dk_at dksX6_wants_0 14 rfl rfl)
theorem dX6_wants_15 : decode cX6_wants 15 = .ok (.iload_n 3, 1) := dk_29 (dk_at dksX6_wants_0 15 rfl rfl)
theorem dX6_wants_16 : decode cX6_wants 16 = .ok (.iadd, 1) := dk_96 (dk_at dksX6_wants_0 16 rfl rfl)
theorem dX6_wants_17 : decode cX6_wants 17 = .ok (.iaload, 1) := dk_46 (dk_at dksX6_wants_0 17 rfl rfl)
theorem dX6_wants_18 : decode cX6_wants 18 = .ok (.if_icmp .ge 119, 3) := dk_162 0 119 (dk_at dksX6_wants_0 18 rfl rfl)
theorem dX6_wants_21 : decode cX6_wants 21 = .ok (.iload_n 1, 1) := dk_27 (dk_at dksX6_wants_0 21 rfl rfl)
theorem dX6_wants_22 : decode cX6_wants 22 = .ok (.iload_n 3, 1) := dk_29 (dk_at dksX6_wants_0 22 rfl rfl)
theorem dX6_wants_23 : decode cX6_wants 23 = .ok (.iload 6, 2) := dk_21 6 (dk_at dksX6_wants_1 0 rfl rfl)
theorem dX6_wants_25 : decode cX6_wants 25 = .ok (.invokestatic 375, 3) := dk_184 1 119 (dk_at dksX6_wants_1 2 rfl rfl)
theorem dX6_wants_28 : decode cX6_wants 28 = .ok (.istore 7, 2) := dk_54 7 (dk_at dksX6_wants_1 5 rfl rfl)
theorem dX6_wants_30 : decode cX6_wants 30 = .ok (.aload_n 0, 1) := dk_42 (dk_at dksX6_wants_1 7 rfl rfl)
theorem dX6_wants_31 : decode cX6_wants 31 = .ok (.getfield 130, 3) := dk_180 0 130 (dk_at dksX6_wants_1 8 rfl rfl)
theorem dX6_wants_34 : decode cX6_wants 34 = .ok (.iload_n 2, 1) := dk_28 (dk_at dksX6_wants_1 11 rfl rfl)
theorem dX6_wants_35 : decode cX6_wants 35 = .ok (.iaload, 1) := dk_46 (dk_at dksX6_wants_1 12 rfl rfl)
theorem dX6_wants_36 : decode cX6_wants 36 = .ok (.aload_n 0, 1) := dk_42 (dk_at dksX6_wants_1 13 rfl rfl)
theorem dX6_wants_37 : decode cX6_wants 37 = .ok (.getfield 93, 3) := dk_180 0 93 (dk_at dksX6_wants_1 14 rfl rfl)
theorem dX6_wants_40 : decode cX6_wants 40 = .ok (.iload 7, 2) := dk_21 7 (dk_at dksX6_wants_1 17 rfl rfl)
theorem dX6_wants_42 : decode cX6_wants 42 = .ok (.iaload, 1) := dk_46 (dk_at dksX6_wants_1 19 rfl rfl)
theorem dX6_wants_43 : decode cX6_wants 43 = .ok (.ishr, 1) := dk_122 (dk_at dksX6_wants_1 20 rfl rfl)
theorem dX6_wants_44 : decode cX6_wants 44 = .ok (.iconst 1, 1) := dk_4 (dk_at dksX6_wants_1 21 rfl rfl)
theorem dX6_wants_45 : decode cX6_wants 45 = .ok (.iand, 1) := dk_126 (dk_at dksX6_wants_1 22 rfl rfl)
theorem dX6_wants_46 : decode cX6_wants 46 = .ok (.iconst 1, 1) := dk_4 (dk_at dksX6_wants_1 23 rfl rfl)
theorem dX6_wants_47 : decode cX6_wants 47 = .ok (.if_icmp .ne 6, 3) := dk_160 0 6 (dk_at dksX6_wants_2 0 rfl rfl)
theorem dX6_wants_50 : decode cX6_wants 50 = .ok (.goto 81, 3) := dk_167 0 81 (dk_at dksX6_wants_2 3 rfl rfl)
theorem dX6_wants_53 : decode cX6_wants 53 = .ok (.aload_n 0, 1) := dk_42 (dk_at dksX6_wants_2 6 rfl rfl)
theorem dX6_wants_54 : decode cX6_wants 54 = .ok (.iconst 1, 1) := dk_4 (dk_at dksX6_wants_2 7 rfl rfl)
theorem dX6_wants_55 : decode cX6_wants 55 = .ok (.iload_n 1, 1) := dk_27 (dk_at dksX6_wants_2 8 rfl rfl)
theorem dX6_wants_56 : decode cX6_wants 56 = .ok (.iload_n 2, 1) := dk_28 (dk_at dksX6_wants_2 9 rfl rfl)
theorem dX6_wants_57 : decode cX6_wants 57 = .ok (.aload_n 0, 1) := dk_42 (dk_at dksX6_wants_2 10 rfl rfl)
theorem dX6_wants_58 : decode cX6_wants 58 = .ok (.getfield 93, 3) := dk_180 0 93 (dk_at dksX6_wants_2 11 rfl rfl)
theorem dX6_wants_61 : decode cX6_wants 61 = .ok (.iload 7, 2) := dk_21 7 (dk_at dksX6_wants_2 14 rfl rfl)
theorem dX6_wants_63 : decode cX6_wants 63 = .ok (.iaload, 1) := dk_46 (dk_at dksX6_wants_2 16 rfl rfl)
theorem dX6_wants_64 : decode cX6_wants 64 = .ok (.aload_n 0, 1) := dk_42 (dk_at dksX6_wants_2 17 rfl rfl)
theorem dX6_wants_65 : decode cX6_wants 65 = .ok (.getfield 96, 3) := dk_180 0 96 (dk_at dksX6_wants_2 18 rfl rfl)
theorem dX6_wants_68 : decode cX6_wants 68 = .ok (.iload 7, 2) := dk_21 7 (dk_at dksX6_wants_2 21 rfl rfl)
theorem dX6_wants_70 : decode cX6_wants 70 = .ok (.iaload, 1) := dk_46 (dk_at dksX6_wants_2 23 rfl rfl)
theorem dX6_wants_71 : decode cX6_wants 71 = .ok (.iconst (-1), 1) := dk_2 (dk_at dksX6_wants_3 0 rfl rfl)
theorem dX6_wants_72 : decode cX6_wants 72 = .ok (.aload_n 0, 1) := dk_42 (dk_at dksX6_wants_3 1 rfl rfl)
theorem dX6_wants_73 : decode cX6_wants 73 = .ok (.getfield 28, 3) := dk_180 0 28 (dk_at dksX6_wants_3 2 rfl rfl)
theorem dX6_wants_76 : decode cX6_wants 76 = .ok (.aload_n 0, 1) := dk_42 (dk_at dksX6_wants_3 5 rfl rfl)
theorem dX6_wants_77 : decode cX6_wants 77 = .ok (.getfield 93, 3) := dk_180 0 93 (dk_at dksX6_wants_3 6 rfl rfl)
theorem dX6_wants_80 : decode cX6_wants 80 = .ok (.iload 7, 2) := dk_21 7 (dk_at dksX6_wants_3 9 rfl rfl)
theorem dX6_wants_82 : decode cX6_wants 82 = .ok (.iaload, 1) := dk_46 (dk_at dksX6_wants_3 11 rfl rfl)
theorem dX6_wants_83 : decode cX6_wants 83 = .ok (.iaload, 1) := dk_46 (dk_at dksX6_wants_3 12 rfl rfl)
theorem dX6_wants_84 : decode cX6_wants 84 = .ok (.i2l, 1) := dk_133 (dk_at dksX6_wants_3 13 rfl rfl)
theorem dX6_wants_85 : decode cX6_wants 85 = .ok (.invokevirtual 397, 3) := dk_182 1 141 (dk_at dksX6_wants_3 14 rfl rfl)
theorem dX6_wants_88 : decode cX6_wants 88 = .ok (.lstore 8, 2) := dk_55 8 (dk_at dksX6_wants_3 17 rfl rfl)
theorem dX6_wants_90 : decode cX6_wants 90 = .ok (.lload 8, 2) := dk_22 8 (dk_at dksX6_wants_3 19 rfl rfl)
theorem dX6_wants_92 : decode cX6_wants 92 = .ok (.lload 4, 2) := dk_22 4 (dk_at dksX6_wants_3 21 rfl rfl)
theorem dX6_wants_94 : decode cX6_wants 94 = .ok (.lcmp, 1) := dk_148 (dk_at dksX6_wants_3 23 rfl rfl)
theorem dX6_wants_95 : decode cX6_wants 95 = .ok (.ifCond .gt 6, 3) := dk_157 0 6 (dk_at dksX6_wants_4 0 rfl rfl)
theorem dX6_wants_98 : decode cX6_wants 98 = .ok (.goto 33, 3) := dk_167 0 33 (dk_at dksX6_wants_4 3 rfl rfl)
theorem dX6_wants_101 : decode cX6_wants 101 = .ok (.lload 8, 2) := dk_22 8 (dk_at dksX6_wants_4 6 rfl rfl)
theorem dX6_wants_103 : decode cX6_wants 103 = .ok (.lstore 4, 2) := dk_55 4 (dk_at dksX6_wants_4 8 rfl rfl)
theorem dX6_wants_105 : decode cX6_wants 105 = .ok (.aload_n 0, 1) := dk_42 (dk_at dksX6_wants_4 10 rfl rfl)
theorem dX6_wants_106 : decode cX6_wants 106 = .ok (.getfield 133, 3) := dk_180 0 133 (dk_at dksX6_wants_4 11 rfl rfl)
theorem dX6_wants_109 : decode cX6_wants 109 = .ok (.iload_n 2, 1) := dk_28 (dk_at dksX6_wants_4 14 rfl rfl)
theorem dX6_wants_110 : decode cX6_wants 110 = .ok (.aload_n 0, 1) := dk_42 (dk_at dksX6_wants_4 15 rfl rfl)
theorem dX6_wants_111 : decode cX6_wants 111 = .ok (.getfield 93, 3) := dk_180 0 93 (dk_at dksX6_wants_4 16 rfl rfl)
theorem dX6_wants_114 : decode cX6_wants 114 = .ok (.iload 7, 2) := dk_21 7 (dk_at dksX6_wants_4 19 rfl rfl)
theorem dX6_wants_116 : decode cX6_wants 116 = .ok (.iaload, 1) := dk_46 (dk_at dksX6_wants_4 21 rfl rfl)
theorem dX6_wants_117 : decode cX6_wants 117 = .ok (.iastore, 1) := dk_79 (dk_at dksX6_wants_4 22 rfl rfl)
theorem dX6_wants_118 : decode cX6_wants 118 = .ok (.aload_n 0, 1) := dk_42 (dk_at dksX6_wants_4 23 rfl rfl)
theorem dX6_wants_119 : decode cX6_wants 119 = .ok (.getfield 136, 3) := dk_180 0 136 (dk_at dksX6_wants_5 0 rfl rfl)
theorem dX6_wants_122 : decode cX6_wants 122 = .ok (.iload_n 2, 1) := dk_28 (dk_at dksX6_wants_5 3 rfl rfl)
theorem dX6_wants_123 : decode cX6_wants 123 = .ok (.aload_n 0, 1) := dk_42 (dk_at dksX6_wants_5 4 rfl rfl)
theorem dX6_wants_124 : decode cX6_wants 124 = .ok (.getfield 96, 3) := dk_180 0 96 (dk_at dksX6_wants_5 5 rfl rfl)
theorem dX6_wants_127 : decode cX6_wants 127 = .ok (.iload 7, 2) := dk_21 7 (dk_at dksX6_wants_5 8 rfl rfl)
theorem dX6_wants_129 : decode cX6_wants 129 = .ok (.iaload, 1) := dk_46 (dk_at dksX6_wants_5 10 rfl rfl)
theorem dX6_wants_130 : decode cX6_wants 130 = .ok (.iastore, 1) := dk_79 (dk_at dksX6_wants_5 11 rfl rfl)
theorem dX6_wants_131 : decode cX6_wants 131 = .ok (.iinc 6 1, 3) := dk_132 6 1 (dk_at dksX6_wants_5 12 rfl rfl)
theorem dX6_wants_134 : decode cX6_wants 134 = .ok (.goto (-128), 3) := dk_167 255 128 (dk_at dksX6_wants_5 15 rfl rfl)
theorem dX6_wants_137 : decode cX6_wants 137 = .ok (.return_, 1) := dk_177 (dk_at dksX6_wants_5 18 rfl rfl)
abbrev cX6_burns : ByteArray := prog_23_method_71_code
def yX6_burns : MethodName := ⟨RX6, "burns", "(II)Z"⟩
def dkwX6_burns_2 : List UInt8 := [3, 172]
abbrev dktX6_burns_2 : List UInt8 := dkwX6_burns_2 ++ []
def dkwX6_burns_1 : List UInt8 := [29, 46, 28, 160, 0, 15, 42, 180, 0, 58, 29, 46, 27, 160, 0, 5, 4, 172, 132, 3, 1, 167, 255, 213]
abbrev dktX6_burns_1 : List UInt8 := dkwX6_burns_1 ++ dktX6_burns_2
def dkwX6_burns_0 : List UInt8 := [3, 62, 29, 42, 180, 0, 13, 7, 46, 162, 0, 39, 42, 180, 1, 90, 4, 159, 0, 31, 42, 180, 0, 55]
abbrev dktX6_burns_0 : List UInt8 := dkwX6_burns_0 ++ dktX6_burns_1
theorem dksX6_burns_0 : cX6_burns.data.toList.drop 0 = dktX6_burns_0 := by decide +kernel
theorem dksX6_burns_1 : cX6_burns.data.toList.drop 24 = dktX6_burns_1 := dk_seg dksX6_burns_0 24 rfl rfl
theorem dksX6_burns_2 : cX6_burns.data.toList.drop 48 = dktX6_burns_2 := dk_seg dksX6_burns_1 24 rfl rfl
theorem dX6_burns_0 : decode cX6_burns 0 = .ok (.iconst 0, 1) := dk_3 (dk_at dksX6_burns_0 0 rfl rfl)
theorem dX6_burns_1 : decode cX6_burns 1 = .ok (.istore_n 3, 1) := dk_62 (dk_at dksX6_burns_0 1 rfl rfl)
theorem dX6_burns_2 : decode cX6_burns 2 = .ok (.iload_n 3, 1) := dk_29 (dk_at dksX6_burns_0 2 rfl rfl)
theorem dX6_burns_3 : decode cX6_burns 3 = .ok (.aload_n 0, 1) := dk_42 (dk_at dksX6_burns_0 3 rfl rfl)
theorem dX6_burns_4 : decode cX6_burns 4 = .ok (.getfield 13, 3) := dk_180 0 13 (dk_at dksX6_burns_0 4 rfl rfl)
theorem dX6_burns_7 : decode cX6_burns 7 = .ok (.iconst 4, 1) := dk_7 (dk_at dksX6_burns_0 7 rfl rfl)
theorem dX6_burns_8 : decode cX6_burns 8 = .ok (.iaload, 1) := dk_46 (dk_at dksX6_burns_0 8 rfl rfl)
theorem dX6_burns_9 : decode cX6_burns 9 = .ok (.if_icmp .ge 39, 3) := dk_162 0 39 (dk_at dksX6_burns_0 9 rfl rfl)
theorem dX6_burns_12 : decode cX6_burns 12 = .ok (.aload_n 0, 1) := dk_42 (dk_at dksX6_burns_0 12 rfl rfl)
theorem dX6_burns_13 : decode cX6_burns 13 = .ok (.getfield 346, 3) := dk_180 1 90 (dk_at dksX6_burns_0 13 rfl rfl)
theorem dX6_burns_16 : decode cX6_burns 16 = .ok (.iconst 1, 1) := dk_4 (dk_at dksX6_burns_0 16 rfl rfl)
theorem dX6_burns_17 : decode cX6_burns 17 = .ok (.if_icmp .eq 31, 3) := dk_159 0 31 (dk_at dksX6_burns_0 17 rfl rfl)
theorem dX6_burns_20 : decode cX6_burns 20 = .ok (.aload_n 0, 1) := dk_42 (dk_at dksX6_burns_0 20 rfl rfl)
theorem dX6_burns_21 : decode cX6_burns 21 = .ok (.getfield 55, 3) := dk_180 0 55 (dk_at dksX6_burns_0 21 rfl rfl)
theorem dX6_burns_24 : decode cX6_burns 24 = .ok (.iload_n 3, 1) := dk_29 (dk_at dksX6_burns_1 0 rfl rfl)
theorem dX6_burns_25 : decode cX6_burns 25 = .ok (.iaload, 1) := dk_46 (dk_at dksX6_burns_1 1 rfl rfl)
theorem dX6_burns_26 : decode cX6_burns 26 = .ok (.iload_n 2, 1) := dk_28 (dk_at dksX6_burns_1 2 rfl rfl)
theorem dX6_burns_27 : decode cX6_burns 27 = .ok (.if_icmp .ne 15, 3) := dk_160 0 15 (dk_at dksX6_burns_1 3 rfl rfl)
theorem dX6_burns_30 : decode cX6_burns 30 = .ok (.aload_n 0, 1) := dk_42 (dk_at dksX6_burns_1 6 rfl rfl)
theorem dX6_burns_31 : decode cX6_burns 31 = .ok (.getfield 58, 3) := dk_180 0 58 (dk_at dksX6_burns_1 7 rfl rfl)
theorem dX6_burns_34 : decode cX6_burns 34 = .ok (.iload_n 3, 1) := dk_29 (dk_at dksX6_burns_1 10 rfl rfl)
theorem dX6_burns_35 : decode cX6_burns 35 = .ok (.iaload, 1) := dk_46 (dk_at dksX6_burns_1 11 rfl rfl)
theorem dX6_burns_36 : decode cX6_burns 36 = .ok (.iload_n 1, 1) := dk_27 (dk_at dksX6_burns_1 12 rfl rfl)
theorem dX6_burns_37 : decode cX6_burns 37 = .ok (.if_icmp .ne 5, 3) := dk_160 0 5 (dk_at dksX6_burns_1 13 rfl rfl)
theorem dX6_burns_40 : decode cX6_burns 40 = .ok (.iconst 1, 1) := dk_4 (dk_at dksX6_burns_1 16 rfl rfl)
theorem dX6_burns_41 : decode cX6_burns 41 = .ok (.ireturn, 1) := dk_172 (dk_at dksX6_burns_1 17 rfl rfl)
theorem dX6_burns_42 : decode cX6_burns 42 = .ok (.iinc 3 1, 3) := dk_132 3 1 (dk_at dksX6_burns_1 18 rfl rfl)
theorem dX6_burns_45 : decode cX6_burns 45 = .ok (.goto (-43), 3) := dk_167 255 213 (dk_at dksX6_burns_1 21 rfl rfl)
theorem dX6_burns_48 : decode cX6_burns 48 = .ok (.iconst 0, 1) := dk_3 (dk_at dksX6_burns_2 0 rfl rfl)
theorem dX6_burns_49 : decode cX6_burns 49 = .ok (.ireturn, 1) := dk_172 (dk_at dksX6_burns_2 1 rfl rfl)
abbrev cX6_asks : ByteArray := prog_23_method_72_code
def yX6_asks : MethodName := ⟨RX6, "asks", "(II)V"⟩
def dkwX6_asks_5 : List UInt8 := [46, 46, 96, 79, 177]
abbrev dktX6_asks_5 : List UInt8 := dkwX6_asks_5 ++ []
def dkwX6_asks_4 : List UInt8 := [180, 0, 102, 7, 27, 104, 42, 180, 0, 46, 28, 46, 96, 92, 46, 42, 180, 0, 28, 42, 180, 0, 49, 28]
abbrev dktX6_asks_4 : List UInt8 := dkwX6_asks_4 ++ dktX6_asks_5
def dkwX6_asks_3 : List UInt8 := [153, 0, 7, 4, 167, 0, 13, 21, 4, 153, 0, 7, 5, 167, 0, 4, 3, 79, 21, 4, 153, 0, 32, 42]
abbrev dktX6_asks_3 : List UInt8 := dkwX6_asks_3 ++ dktX6_asks_4
def dkwX6_asks_2 : List UInt8 := [182, 1, 193, 153, 0, 7, 4, 167, 0, 4, 3, 54, 4, 42, 180, 0, 112, 16, 16, 27, 104, 28, 96, 29]
abbrev dktX6_asks_2 : List UInt8 := dkwX6_asks_2 ++ dktX6_asks_3
def dkwX6_asks_1 : List UInt8 := [167, 0, 4, 3, 62, 29, 154, 0, 26, 42, 42, 180, 0, 49, 28, 46, 42, 180, 0, 43, 28, 46]
abbrev dktX6_asks_1 : List UInt8 := dkwX6_asks_1 ++ dktX6_asks_2
def dkwX6_asks_0 : List UInt8 := [42, 27, 42, 180, 0, 46, 28, 46, 42, 180, 0, 49, 28, 46, 182, 1, 145, 2, 159, 0, 7, 4]
abbrev dktX6_asks_0 : List UInt8 := dkwX6_asks_0 ++ dktX6_asks_1
theorem dksX6_asks_0 : cX6_asks.data.toList.drop 0 = dktX6_asks_0 := by decide +kernel
theorem dksX6_asks_1 : cX6_asks.data.toList.drop 22 = dktX6_asks_1 := dk_seg dksX6_asks_0 22 rfl rfl
theorem dksX6_asks_2 : cX6_asks.data.toList.drop 44 = dktX6_asks_2 := dk_seg dksX6_asks_1 22 rfl rfl
theorem dksX6_asks_3 : cX6_asks.data.toList.drop 68 = dktX6_asks_3 := dk_seg dksX6_asks_2 24 rfl rfl
theorem dksX6_asks_4 : cX6_asks.data.toList.drop 92 = dktX6_asks_4 := dk_seg dksX6_asks_3 24 rfl rfl
theorem dksX6_asks_5 : cX6_asks.data.toList.drop 116 = dktX6_asks_5 := dk_seg dksX6_asks_4 24 rfl rfl
theorem dX6_asks_0 : decode cX6_asks 0 = .ok (.aload_n 0, 1) := dk_42 (dk_at dksX6_asks_0 0 rfl rfl)
theorem dX6_asks_1 : decode cX6_asks 1 = .ok (.iload_n 1, 1) := dk_27 (dk_at dksX6_asks_0 1 rfl rfl)
theorem dX6_asks_2 : decode cX6_asks 2 = .ok (.aload_n 0, 1) := dk_42 (dk_at dksX6_asks_0 2 rfl rfl)
theorem dX6_asks_3 : decode cX6_asks 3 = .ok (.getfield 46, 3) := dk_180 0 46 (dk_at dksX6_asks_0 3 rfl rfl)
theorem dX6_asks_6 : decode cX6_asks 6 = .ok (.iload_n 2, 1) := dk_28 (dk_at dksX6_asks_0 6 rfl rfl)
theorem dX6_asks_7 : decode cX6_asks 7 = .ok (.iaload, 1) := dk_46 (dk_at dksX6_asks_0 7 rfl rfl)
theorem dX6_asks_8 : decode cX6_asks 8 = .ok (.aload_n 0, 1) := dk_42 (dk_at dksX6_asks_0 8 rfl rfl)
theorem dX6_asks_9 : decode cX6_asks 9 = .ok (.getfield 49, 3) := dk_180 0 49 (dk_at dksX6_asks_0 9 rfl rfl)
theorem dX6_asks_12 : decode cX6_asks 12 = .ok (.iload_n 2, 1) := dk_28 (dk_at dksX6_asks_0 12 rfl rfl)
theorem dX6_asks_13 : decode cX6_asks 13 = .ok (.iaload, 1) := dk_46 (dk_at dksX6_asks_0 13 rfl rfl)
theorem dX6_asks_14 : decode cX6_asks 14 = .ok (.invokevirtual 401, 3) := dk_182 1 145 (dk_at dksX6_asks_0 14 rfl rfl)
theorem dX6_asks_17 : decode cX6_asks 17 = .ok (.iconst (-1), 1) := dk_2 (dk_at dksX6_asks_0 17 rfl rfl)
theorem dX6_asks_18 : decode cX6_asks 18 = .ok (.if_icmp .eq 7, 3) := dk_159 0 7 (dk_at dksX6_asks_0 18 rfl rfl)
theorem dX6_asks_21 : decode cX6_asks 21 = .ok (.iconst 1, 1) := dk_4 (dk_at dksX6_asks_0 21 rfl rfl)
theorem dX6_asks_22 : decode cX6_asks 22 = .ok (.goto 4, 3) := dk_167 0 4 (dk_at dksX6_asks_1 0 rfl rfl)
theorem dX6_asks_25 : decode cX6_asks 25 = .ok (.iconst 0, 1) := dk_3 (dk_at dksX6_asks_1 3 rfl rfl)
theorem dX6_asks_26 : decode cX6_asks 26 = .ok (.istore_n 3, 1) := dk_62 (dk_at dksX6_asks_1 4 rfl rfl)
theorem dX6_asks_27 : decode cX6_asks 27 = .ok (.iload_n 3, 1) := dk_29 (dk_at dksX6_asks_1 5 rfl rfl)
theorem dX6_asks_28 : decode cX6_asks 28 = .ok (.ifCond .ne 26, 3) := dk_154 0 26 (dk_at dksX6_asks_1 6 rfl rfl)
theorem dX6_asks_31 : decode cX6_asks 31 = .ok (.aload_n 0, 1) := dk_42 (dk_at dksX6_asks_1 9 rfl rfl)
theorem dX6_asks_32 : decode cX6_asks 32 = .ok (.aload_n 0, 1) := dk_42 (dk_at dksX6_asks_1 10 rfl rfl)
theorem dX6_asks_33 : decode cX6_asks 33 = .ok (.getfield 49, 3) := dk_180 0 49 (dk_at dksX6_asks_1 11 rfl rfl)
theorem dX6_asks_36 : decode cX6_asks 36 = .ok (.iload_n 2, 1) := dk_28 (dk_at dksX6_asks_1 14 rfl rfl)
theorem dX6_asks_37 : decode cX6_asks 37 = .ok (.iaload, 1) := dk_46 (dk_at dksX6_asks_1 15 rfl rfl)
theorem dX6_asks_38 : decode cX6_asks 38 = .ok (.aload_n 0, 1) := dk_42 (dk_at dksX6_asks_1 16 rfl rfl)
theorem dX6_asks_39 : decode cX6_asks 39 = .ok (.getfield 43, 3) := dk_180 0 43 (dk_at dksX6_asks_1 17 rfl rfl)
theorem dX6_asks_42 : decode cX6_asks 42 = .ok (.iload_n 2, 1) := dk_28 (dk_at dksX6_asks_1 20 rfl rfl)
theorem dX6_asks_43 : decode cX6_asks 43 = .ok (.iaload, 1) := dk_46 (dk_at dksX6_asks_1 21 rfl rfl)
theorem dX6_asks_44 : decode cX6_asks 44 = .ok (.invokevirtual 449, 3) := dk_182 1 193 (dk_at dksX6_asks_2 0 rfl rfl)
theorem dX6_asks_47 : decode cX6_asks 47 = .ok (.ifCond .eq 7, 3) := dk_153 0 7 (dk_at dksX6_asks_2 3 rfl rfl)
theorem dX6_asks_50 : decode cX6_asks 50 = .ok (.iconst 1, 1) := dk_4 (dk_at dksX6_asks_2 6 rfl rfl)
theorem dX6_asks_51 : decode cX6_asks 51 = .ok (.goto 4, 3) := dk_167 0 4 (dk_at dksX6_asks_2 7 rfl rfl)
theorem dX6_asks_54 : decode cX6_asks 54 = .ok (.iconst 0, 1) := dk_3 (dk_at dksX6_asks_2 10 rfl rfl)
theorem dX6_asks_55 : decode cX6_asks 55 = .ok (.istore 4, 2) := dk_54 4 (dk_at dksX6_asks_2 11 rfl rfl)
theorem dX6_asks_57 : decode cX6_asks 57 = .ok (.aload_n 0, 1) := dk_42 (dk_at dksX6_asks_2 13 rfl rfl)
theorem dX6_asks_58 : decode cX6_asks 58 = .ok (.getfield 112, 3) := dk_180 0 112 (dk_at dksX6_asks_2 14 rfl rfl)
theorem dX6_asks_61 : decode cX6_asks 61 = .ok (.bipush 16, 2) := dk_16 16 (dk_at dksX6_asks_2 17 rfl rfl)
theorem dX6_asks_63 : decode cX6_asks 63 = .ok (.iload_n 1, 1) := dk_27 (dk_at dksX6_asks_2 19 rfl rfl)
theorem dX6_asks_64 : decode cX6_asks 64 = .ok (.imul, 1) := dk_104 (dk_at dksX6_asks_2 20 rfl rfl)
theorem dX6_asks_65 : decode cX6_asks 65 = .ok (.iload_n 2, 1) := dk_28 (dk_at dksX6_asks_2 21 rfl rfl)
theorem dX6_asks_66 : decode cX6_asks 66 = .ok (.iadd, 1) := dk_96 (dk_at dksX6_asks_2 22 rfl rfl)
theorem dX6_asks_67 : decode cX6_asks 67 = .ok (.iload_n 3, 1) := dk_29 (dk_at dksX6_asks_2 23 rfl rfl)
theorem dX6_asks_68 : decode cX6_asks 68 = .ok (.ifCond .eq 7, 3) := dk_153 0 7 (dk_at dksX6_asks_3 0 rfl rfl)
theorem dX6_asks_71 : decode cX6_asks 71 = .ok (.iconst 1, 1) := dk_4 (dk_at dksX6_asks_3 3 rfl rfl)
theorem dX6_asks_72 : decode cX6_asks 72 = .ok (.goto 13, 3) := dk_167 0 13 (dk_at dksX6_asks_3 4 rfl rfl)
theorem dX6_asks_75 : decode cX6_asks 75 = .ok (.iload 4, 2) := dk_21 4 (dk_at dksX6_asks_3 7 rfl rfl)
theorem dX6_asks_77 : decode cX6_asks 77 = .ok (.ifCond .eq 7, 3) := dk_153 0 7 (dk_at dksX6_asks_3 9 rfl rfl)
theorem dX6_asks_80 : decode cX6_asks 80 = .ok (.iconst 2, 1) := dk_5 (dk_at dksX6_asks_3 12 rfl rfl)
theorem dX6_asks_81 : decode cX6_asks 81 = .ok (.goto 4, 3) := dk_167 0 4 (dk_at dksX6_asks_3 13 rfl rfl)
theorem dX6_asks_84 : decode cX6_asks 84 = .ok (.iconst 0, 1) := dk_3 (dk_at dksX6_asks_3 16 rfl rfl)
theorem dX6_asks_85 : decode cX6_asks 85 = .ok (.iastore, 1) := dk_79 (dk_at dksX6_asks_3 17 rfl rfl)
theorem dX6_asks_86 : decode cX6_asks 86 = .ok (.iload 4, 2) := dk_21 4 (dk_at dksX6_asks_3 18 rfl rfl)
theorem dX6_asks_88 : decode cX6_asks 88 = .ok (.ifCond .eq 32, 3) := dk_153 0 32 (dk_at dksX6_asks_3 20 rfl rfl)
theorem dX6_asks_91 : decode cX6_asks 91 = .ok (.aload_n 0, 1) := dk_42 (dk_at dksX6_asks_3 23 rfl rfl)
theorem dX6_asks_92 : decode cX6_asks 92 = .ok (.getfield 102, 3) := dk_180 0 102 (dk_at dksX6_asks_4 0 rfl rfl)
theorem dX6_asks_95 : decode cX6_asks 95 = .ok (.iconst 4, 1) := dk_7 (dk_at dksX6_asks_4 3 rfl rfl)
theorem dX6_asks_96 : decode cX6_asks 96 = .ok (.iload_n 1, 1) := dk_27 (dk_at dksX6_asks_4 4 rfl rfl)
theorem dX6_asks_97 : decode cX6_asks 97 = .ok (.imul, 1) := dk_104 (dk_at dksX6_asks_4 5 rfl rfl)
theorem dX6_asks_98 : decode cX6_asks 98 = .ok (.aload_n 0, 1) := dk_42 (dk_at dksX6_asks_4 6 rfl rfl)
theorem dX6_asks_99 : decode cX6_asks 99 = .ok (.getfield 46, 3) := dk_180 0 46 (dk_at dksX6_asks_4 7 rfl rfl)
theorem dX6_asks_102 : decode cX6_asks 102 = .ok (.iload_n 2, 1) := dk_28 (dk_at dksX6_asks_4 10 rfl rfl)
theorem dX6_asks_103 : decode cX6_asks 103 = .ok (.iaload, 1) := dk_46 (dk_at dksX6_asks_4 11 rfl rfl)
theorem dX6_asks_104 : decode cX6_asks 104 = .ok (.iadd, 1) := dk_96 (dk_at dksX6_asks_4 12 rfl rfl)
theorem dX6_asks_105 : decode cX6_asks 105 = .ok (.dup2, 1) := dk_92 (dk_at dksX6_asks_4 13 rfl rfl)
theorem dX6_asks_106 : decode cX6_asks 106 = .ok (.iaload, 1) := dk_46 (dk_at dksX6_asks_4 14 rfl rfl)
theorem dX6_asks_107 : decode cX6_asks 107 = .ok (.aload_n 0, 1) := dk_42 (dk_at dksX6_asks_4 15 rfl rfl)
theorem dX6_asks_108 : decode cX6_asks 108 = .ok (.getfield 28, 3) := dk_180 0 28 (dk_at dksX6_asks_4 16 rfl rfl)
theorem dX6_asks_111 : decode cX6_asks 111 = .ok (.aload_n 0, 1) := dk_42 (dk_at dksX6_asks_4 19 rfl rfl)
theorem dX6_asks_112 : decode cX6_asks 112 = .ok (.getfield 49, 3) := dk_180 0 49 (dk_at dksX6_asks_4 20 rfl rfl)
theorem dX6_asks_115 : decode cX6_asks 115 = .ok (.iload_n 2, 1) := dk_28 (dk_at dksX6_asks_4 23 rfl rfl)
theorem dX6_asks_116 : decode cX6_asks 116 = .ok (.iaload, 1) := dk_46 (dk_at dksX6_asks_5 0 rfl rfl)
theorem dX6_asks_117 : decode cX6_asks 117 = .ok (.iaload, 1) := dk_46 (dk_at dksX6_asks_5 1 rfl rfl)
theorem dX6_asks_118 : decode cX6_asks 118 = .ok (.iadd, 1) := dk_96 (dk_at dksX6_asks_5 2 rfl rfl)
theorem dX6_asks_119 : decode cX6_asks 119 = .ok (.iastore, 1) := dk_79 (dk_at dksX6_asks_5 3 rfl rfl)
theorem dX6_asks_120 : decode cX6_asks 120 = .ok (.return_, 1) := dk_177 (dk_at dksX6_asks_5 4 rfl rfl)
abbrev cX6_hasCome : ByteArray := prog_23_method_69_code
def yX6_hasCome : MethodName := ⟨RX6, "hasCome", "(II)Z"⟩
def dkwX6_hasCome_2 : List UInt8 := [161, 0, 5, 4, 172, 132, 3, 1, 167, 255, 203, 3, 172]
abbrev dktX6_hasCome_2 : List UInt8 := dkwX6_hasCome_2 ++ []
def dkwX6_hasCome_1 : List UInt8 := [29, 46, 27, 160, 0, 25, 42, 180, 0, 31, 29, 46, 28, 163, 0, 15, 42, 180, 0, 40, 29, 46, 28]
abbrev dktX6_hasCome_1 : List UInt8 := dkwX6_hasCome_1 ++ dktX6_hasCome_2
def dkwX6_hasCome_0 : List UInt8 := [3, 62, 29, 42, 180, 0, 13, 5, 46, 162, 0, 49, 42, 29, 182, 1, 180, 153, 0, 35, 42, 180, 0, 37]
abbrev dktX6_hasCome_0 : List UInt8 := dkwX6_hasCome_0 ++ dktX6_hasCome_1
theorem dksX6_hasCome_0 : cX6_hasCome.data.toList.drop 0 = dktX6_hasCome_0 := by decide +kernel
theorem dksX6_hasCome_1 : cX6_hasCome.data.toList.drop 24 = dktX6_hasCome_1 := dk_seg dksX6_hasCome_0 24 rfl rfl
theorem dksX6_hasCome_2 : cX6_hasCome.data.toList.drop 47 = dktX6_hasCome_2 := dk_seg dksX6_hasCome_1 23 rfl rfl
theorem dX6_hasCome_0 : decode cX6_hasCome 0 = .ok (.iconst 0, 1) := dk_3 (dk_at dksX6_hasCome_0 0 rfl rfl)
theorem dX6_hasCome_1 : decode cX6_hasCome 1 = .ok (.istore_n 3, 1) := dk_62 (dk_at dksX6_hasCome_0 1 rfl rfl)
theorem dX6_hasCome_2 : decode cX6_hasCome 2 = .ok (.iload_n 3, 1) := dk_29 (dk_at dksX6_hasCome_0 2 rfl rfl)
theorem dX6_hasCome_3 : decode cX6_hasCome 3 = .ok (.aload_n 0, 1) := dk_42 (dk_at dksX6_hasCome_0 3 rfl rfl)
theorem dX6_hasCome_4 : decode cX6_hasCome 4 = .ok (.getfield 13, 3) := dk_180 0 13 (dk_at dksX6_hasCome_0 4 rfl rfl)
theorem dX6_hasCome_7 : decode cX6_hasCome 7 = .ok (.iconst 2, 1) := dk_5 (dk_at dksX6_hasCome_0 7 rfl rfl)
theorem dX6_hasCome_8 : decode cX6_hasCome 8 = .ok (.iaload, 1) := dk_46 (dk_at dksX6_hasCome_0 8 rfl rfl)
theorem dX6_hasCome_9 : decode cX6_hasCome 9 = .ok (.if_icmp .ge 49, 3) := dk_162 0 49 (dk_at dksX6_hasCome_0 9 rfl rfl)
theorem dX6_hasCome_12 : decode cX6_hasCome 12 = .ok (.aload_n 0, 1) := dk_42 (dk_at dksX6_hasCome_0 12 rfl rfl)
theorem dX6_hasCome_13 : decode cX6_hasCome 13 = .ok (.iload_n 3, 1) := dk_29 (dk_at dksX6_hasCome_0 13 rfl rfl)
theorem dX6_hasCome_14 : decode cX6_hasCome 14 = .ok (.invokevirtual 436, 3) := dk_182 1 180 (dk_at dksX6_hasCome_0 14 rfl rfl)
theorem dX6_hasCome_17 : decode cX6_hasCome 17 = .ok (.ifCond .eq 35, 3) := dk_153 0 35 (dk_at dksX6_hasCome_0 17 rfl rfl)
theorem dX6_hasCome_20 : decode cX6_hasCome 20 = .ok (.aload_n 0, 1) := dk_42 (dk_at dksX6_hasCome_0 20 rfl rfl)
theorem dX6_hasCome_21 : decode cX6_hasCome 21 = .ok (.getfield 37, 3) := dk_180 0 37 (dk_at dksX6_hasCome_0 21 rfl rfl)
theorem dX6_hasCome_24 : decode cX6_hasCome 24 = .ok (.iload_n 3, 1) := dk_29 (dk_at dksX6_hasCome_1 0 rfl rfl)
theorem dX6_hasCome_25 : decode cX6_hasCome 25 = .ok (.iaload, 1) := dk_46 (dk_at dksX6_hasCome_1 1 rfl rfl)
theorem dX6_hasCome_26 : decode cX6_hasCome 26 = .ok (.iload_n 1, 1) := dk_27 (dk_at dksX6_hasCome_1 2 rfl rfl)
theorem dX6_hasCome_27 : decode cX6_hasCome 27 = .ok (.if_icmp .ne 25, 3) := dk_160 0 25 (dk_at dksX6_hasCome_1 3 rfl rfl)
theorem dX6_hasCome_30 : decode cX6_hasCome 30 = .ok (.aload_n 0, 1) := dk_42 (dk_at dksX6_hasCome_1 6 rfl rfl)
theorem dX6_hasCome_31 : decode cX6_hasCome 31 = .ok (.getfield 31, 3) := dk_180 0 31 (dk_at dksX6_hasCome_1 7 rfl rfl)
theorem dX6_hasCome_34 : decode cX6_hasCome 34 = .ok (.iload_n 3, 1) := dk_29 (dk_at dksX6_hasCome_1 10 rfl rfl)
theorem dX6_hasCome_35 : decode cX6_hasCome 35 = .ok (.iaload, 1) := dk_46 (dk_at dksX6_hasCome_1 11 rfl rfl)
theorem dX6_hasCome_36 : decode cX6_hasCome 36 = .ok (.iload_n 2, 1) := dk_28 (dk_at dksX6_hasCome_1 12 rfl rfl)
theorem dX6_hasCome_37 : decode cX6_hasCome 37 = .ok (.if_icmp .gt 15, 3) := dk_163 0 15 (dk_at dksX6_hasCome_1 13 rfl rfl)
theorem dX6_hasCome_40 : decode cX6_hasCome 40 = .ok (.aload_n 0, 1) := dk_42 (dk_at dksX6_hasCome_1 16 rfl rfl)
theorem dX6_hasCome_41 : decode cX6_hasCome 41 = .ok (.getfield 40, 3) := dk_180 0 40 (dk_at dksX6_hasCome_1 17 rfl rfl)
theorem dX6_hasCome_44 : decode cX6_hasCome 44 = .ok (.iload_n 3, 1) := dk_29 (dk_at dksX6_hasCome_1 20 rfl rfl)
theorem dX6_hasCome_45 : decode cX6_hasCome 45 = .ok (.iaload, 1) := dk_46 (dk_at dksX6_hasCome_1 21 rfl rfl)
theorem dX6_hasCome_46 : decode cX6_hasCome 46 = .ok (.iload_n 2, 1) := dk_28 (dk_at dksX6_hasCome_1 22 rfl rfl)
theorem dX6_hasCome_47 : decode cX6_hasCome 47 = .ok (.if_icmp .lt 5, 3) := dk_161 0 5 (dk_at dksX6_hasCome_2 0 rfl rfl)
theorem dX6_hasCome_50 : decode cX6_hasCome 50 = .ok (.iconst 1, 1) := dk_4 (dk_at dksX6_hasCome_2 3 rfl rfl)
theorem dX6_hasCome_51 : decode cX6_hasCome 51 = .ok (.ireturn, 1) := dk_172 (dk_at dksX6_hasCome_2 4 rfl rfl)
theorem dX6_hasCome_52 : decode cX6_hasCome 52 = .ok (.iinc 3 1, 3) := dk_132 3 1 (dk_at dksX6_hasCome_2 5 rfl rfl)
theorem dX6_hasCome_55 : decode cX6_hasCome 55 = .ok (.goto (-53), 3) := dk_167 255 203 (dk_at dksX6_hasCome_2 8 rfl rfl)
theorem dX6_hasCome_58 : decode cX6_hasCome 58 = .ok (.iconst 0, 1) := dk_3 (dk_at dksX6_hasCome_2 11 rfl rfl)
theorem dX6_hasCome_59 : decode cX6_hasCome 59 = .ok (.ireturn, 1) := dk_172 (dk_at dksX6_hasCome_2 12 rfl rfl)
abbrev cX6_went : ByteArray := prog_23_method_76_code
def yX6_went : MethodName := ⟨RX6, "went", "(II)I"⟩
def dkwX6_went_4 : List UInt8 := [180, 0, 127, 27, 46, 172]
abbrev dktX6_went_4 : List UInt8 := dkwX6_went_4 ++ []
def dkwX6_went_3 : List UInt8 := [42, 180, 0, 121, 27, 46, 167, 0, 23, 28, 5, 160, 0, 12, 42, 180, 0, 124, 27, 46, 167, 0, 9, 42]
abbrev dktX6_went_3 : List UInt8 := dkwX6_went_3 ++ dktX6_went_4
def dkwX6_went_2 : List UInt8 := [161, 0, 6, 16, 254, 172, 28, 154, 0, 12, 42, 180, 0, 118, 27, 46, 167, 0, 37, 28, 4, 160, 0, 12]
abbrev dktX6_went_2 : List UInt8 := dkwX6_went_2 ++ dktX6_went_3
def dkwX6_went_1 : List UInt8 := [172, 27, 155, 0, 12, 28, 155, 0, 8, 28, 6, 164, 0, 5, 2, 172, 27, 42, 180, 0, 115, 3, 46]
abbrev dktX6_went_1 : List UInt8 := dkwX6_went_1 ++ dktX6_went_2
def dkwX6_went_0 : List UInt8 := [42, 3, 181, 0, 166, 27, 2, 160, 0, 18, 28, 154, 0, 12, 42, 180, 0, 115, 3, 46, 167, 0, 4, 2]
abbrev dktX6_went_0 : List UInt8 := dkwX6_went_0 ++ dktX6_went_1
theorem dksX6_went_0 : cX6_went.data.toList.drop 0 = dktX6_went_0 := by decide +kernel
theorem dksX6_went_1 : cX6_went.data.toList.drop 24 = dktX6_went_1 := dk_seg dksX6_went_0 24 rfl rfl
theorem dksX6_went_2 : cX6_went.data.toList.drop 47 = dktX6_went_2 := dk_seg dksX6_went_1 23 rfl rfl
theorem dksX6_went_3 : cX6_went.data.toList.drop 71 = dktX6_went_3 := dk_seg dksX6_went_2 24 rfl rfl
theorem dksX6_went_4 : cX6_went.data.toList.drop 95 = dktX6_went_4 := dk_seg dksX6_went_3 24 rfl rfl
theorem dX6_went_0 : decode cX6_went 0 = .ok (.aload_n 0, 1) := dk_42 (dk_at dksX6_went_0 0 rfl rfl)
theorem dX6_went_1 : decode cX6_went 1 = .ok (.iconst 0, 1) := dk_3 (dk_at dksX6_went_0 1 rfl rfl)
theorem dX6_went_2 : decode cX6_went 2 = .ok (.putfield 166, 3) := dk_181 0 166 (dk_at dksX6_went_0 2 rfl rfl)
theorem dX6_went_5 : decode cX6_went 5 = .ok (.iload_n 1, 1) := dk_27 (dk_at dksX6_went_0 5 rfl rfl)
theorem dX6_went_6 : decode cX6_went 6 = .ok (.iconst (-1), 1) := dk_2 (dk_at dksX6_went_0 6 rfl rfl)
theorem dX6_went_7 : decode cX6_went 7 = .ok (.if_icmp .ne 18, 3) := dk_160 0 18 (dk_at dksX6_went_0 7 rfl rfl)
theorem dX6_went_10 : decode cX6_went 10 = .ok (.iload_n 2, 1) := dk_28 (dk_at dksX6_went_0 10 rfl rfl)
theorem dX6_went_11 : decode cX6_went 11 = .ok (.ifCond .ne 12, 3) := dk_154 0 12 (dk_at dksX6_went_0 11 rfl rfl)
theorem dX6_went_14 : decode cX6_went 14 = .ok (.aload_n 0, 1) := dk_42 (dk_at dksX6_went_0 14 rfl rfl)
theorem dX6_went_15 : decode cX6_went 15 = .ok (.getfield 115, 3) := dk_180 0 115 (dk_at dksX6_went_0 15 rfl rfl)
theorem dX6_went_18 : decode cX6_went 18 = .ok (.iconst 0, 1) := dk_3 (dk_at dksX6_went_0 18 rfl rfl)
theorem dX6_went_19 : decode cX6_went 19 = .ok (.iaload, 1) := dk_46 (dk_at dksX6_went_0 19 rfl rfl)
theorem dX6_went_20 : decode cX6_went 20 = .ok (.goto 4, 3) := dk_167 0 4 (dk_at dksX6_went_0 20 rfl rfl)
theorem dX6_went_23 : decode cX6_went 23 = .ok (.iconst (-1), 1) := dk_2 (dk_at dksX6_went_0 23 rfl rfl)
theorem dX6_went_24 : decode cX6_went 24 = .ok (.ireturn, 1) := dk_172 (dk_at dksX6_went_1 0 rfl rfl)
theorem dX6_went_25 : decode cX6_went 25 = .ok (.iload_n 1, 1) := dk_27 (dk_at dksX6_went_1 1 rfl rfl)
theorem dX6_went_26 : decode cX6_went 26 = .ok (.ifCond .lt 12, 3) := dk_155 0 12 (dk_at dksX6_went_1 2 rfl rfl)
theorem dX6_went_29 : decode cX6_went 29 = .ok (.iload_n 2, 1) := dk_28 (dk_at dksX6_went_1 5 rfl rfl)
theorem dX6_went_30 : decode cX6_went 30 = .ok (.ifCond .lt 8, 3) := dk_155 0 8 (dk_at dksX6_went_1 6 rfl rfl)
theorem dX6_went_33 : decode cX6_went 33 = .ok (.iload_n 2, 1) := dk_28 (dk_at dksX6_went_1 9 rfl rfl)
theorem dX6_went_34 : decode cX6_went 34 = .ok (.iconst 3, 1) := dk_6 (dk_at dksX6_went_1 10 rfl rfl)
theorem dX6_went_35 : decode cX6_went 35 = .ok (.if_icmp .le 5, 3) := dk_164 0 5 (dk_at dksX6_went_1 11 rfl rfl)
theorem dX6_went_38 : decode cX6_went 38 = .ok (.iconst (-1), 1) := dk_2 (dk_at dksX6_went_1 14 rfl rfl)
theorem dX6_went_39 : decode cX6_went 39 = .ok (.ireturn, 1) := dk_172 (dk_at dksX6_went_1 15 rfl rfl)
theorem dX6_went_40 : decode cX6_went 40 = .ok (.iload_n 1, 1) := dk_27 (dk_at dksX6_went_1 16 rfl rfl)
theorem dX6_went_41 : decode cX6_went 41 = .ok (.aload_n 0, 1) := dk_42 (dk_at dksX6_went_1 17 rfl rfl)
theorem dX6_went_42 : decode cX6_went 42 = .ok (.getfield 115, 3) := dk_180 0 115 (dk_at dksX6_went_1 18 rfl rfl)
theorem dX6_went_45 : decode cX6_went 45 = .ok (.iconst 0, 1) := dk_3 (dk_at dksX6_went_1 21 rfl rfl)
theorem dX6_went_46 : decode cX6_went 46 = .ok (.iaload, 1) := dk_46 (dk_at dksX6_went_1 22 rfl rfl)
theorem dX6_went_47 : decode cX6_went 47 = .ok (.if_icmp .lt 6, 3) := dk_161 0 6 (dk_at dksX6_went_2 0 rfl rfl)
theorem dX6_went_50 : decode cX6_went 50 = .ok (.bipush (-2), 2) := dk_16 254 (dk_at dksX6_went_2 3 rfl rfl)
theorem dX6_went_52 : decode cX6_went 52 = .ok (.ireturn, 1) := dk_172 (dk_at dksX6_went_2 5 rfl rfl)
theorem dX6_went_53 : decode cX6_went 53 = .ok (.iload_n 2, 1) := dk_28 (dk_at dksX6_went_2 6 rfl rfl)
theorem dX6_went_54 : decode cX6_went 54 = .ok (.ifCond .ne 12, 3) := dk_154 0 12 (dk_at dksX6_went_2 7 rfl rfl)
theorem dX6_went_57 : decode cX6_went 57 = .ok (.aload_n 0, 1) := dk_42 (dk_at dksX6_went_2 10 rfl rfl)
theorem dX6_went_58 : decode cX6_went 58 = .ok (.getfield 118, 3) := dk_180 0 118 (dk_at dksX6_went_2 11 rfl rfl)
theorem dX6_went_61 : decode cX6_went 61 = .ok (.iload_n 1, 1) := dk_27 (dk_at dksX6_went_2 14 rfl rfl)
theorem dX6_went_62 : decode cX6_went 62 = .ok (.iaload, 1) := dk_46 (dk_at dksX6_went_2 15 rfl rfl)
theorem dX6_went_63 : decode cX6_went 63 = .ok (.goto 37, 3) := dk_167 0 37 (dk_at dksX6_went_2 16 rfl rfl)
theorem dX6_went_66 : decode cX6_went 66 = .ok (.iload_n 2, 1) := dk_28 (dk_at dksX6_went_2 19 rfl rfl)
theorem dX6_went_67 : decode cX6_went 67 = .ok (.iconst 1, 1) := dk_4 (dk_at dksX6_went_2 20 rfl rfl)
theorem dX6_went_68 : decode cX6_went 68 = .ok (.if_icmp .ne 12, 3) := dk_160 0 12 (dk_at dksX6_went_2 21 rfl rfl)
theorem dX6_went_71 : decode cX6_went 71 = .ok (.aload_n 0, 1) := dk_42 (dk_at dksX6_went_3 0 rfl rfl)
theorem dX6_went_72 : decode cX6_went 72 = .ok (.getfield 121, 3) := dk_180 0 121 (dk_at dksX6_went_3 1 rfl rfl)
theorem dX6_went_75 : decode cX6_went 75 = .ok (.iload_n 1, 1) := dk_27 (dk_at dksX6_went_3 4 rfl rfl)
theorem dX6_went_76 : decode cX6_went 76 = .ok (.iaload, 1) := dk_46 (dk_at dksX6_went_3 5 rfl rfl)
theorem dX6_went_77 : decode cX6_went 77 = .ok (.goto 23, 3) := dk_167 0 23 (dk_at dksX6_went_3 6 rfl rfl)
theorem dX6_went_80 : decode cX6_went 80 = .ok (.iload_n 2, 1) := dk_28 (dk_at dksX6_went_3 9 rfl rfl)
theorem dX6_went_81 : decode cX6_went 81 = .ok (.iconst 2, 1) := dk_5 (dk_at dksX6_went_3 10 rfl rfl)
theorem dX6_went_82 : decode cX6_went 82 = .ok (.if_icmp .ne 12, 3) := dk_160 0 12 (dk_at dksX6_went_3 11 rfl rfl)
theorem dX6_went_85 : decode cX6_went 85 = .ok (.aload_n 0, 1) := dk_42 (dk_at dksX6_went_3 14 rfl rfl)
theorem dX6_went_86 : decode cX6_went 86 = .ok (.getfield 124, 3) := dk_180 0 124 (dk_at dksX6_went_3 15 rfl rfl)
theorem dX6_went_89 : decode cX6_went 89 = .ok (.iload_n 1, 1) := dk_27 (dk_at dksX6_went_3 18 rfl rfl)
theorem dX6_went_90 : decode cX6_went 90 = .ok (.iaload, 1) := dk_46 (dk_at dksX6_went_3 19 rfl rfl)
theorem dX6_went_91 : decode cX6_went 91 = .ok (.goto 9, 3) := dk_167 0 9 (dk_at dksX6_went_3 20 rfl rfl)
theorem dX6_went_94 : decode cX6_went 94 = .ok (.aload_n 0, 1) := dk_42 (dk_at dksX6_went_3 23 rfl rfl)
theorem dX6_went_95 : decode cX6_went 95 = .ok (.getfield 127, 3) := dk_180 0 127 (dk_at dksX6_went_4 0 rfl rfl)
theorem dX6_went_98 : decode cX6_went 98 = .ok (.iload_n 1, 1) := dk_27 (dk_at dksX6_went_4 3 rfl rfl)
theorem dX6_went_99 : decode cX6_went 99 = .ok (.iaload, 1) := dk_46 (dk_at dksX6_went_4 4 rfl rfl)
theorem dX6_went_100 : decode cX6_went 100 = .ok (.ireturn, 1) := dk_172 (dk_at dksX6_went_4 5 rfl rfl)
abbrev cX6_answer : ByteArray := prog_23_method_77_code
def yX6_answer : MethodName := ⟨RX6, "answer", "(I)I"⟩
def dkwX6_answer_0 : List UInt8 := [42, 3, 181, 0, 166, 42, 27, 182, 1, 202, 153, 0, 12, 42, 180, 0, 112, 27, 46, 167, 0, 4, 2, 172]
abbrev dktX6_answer_0 : List UInt8 := dkwX6_answer_0 ++ []
theorem dksX6_answer_0 : cX6_answer.data.toList.drop 0 = dktX6_answer_0 := by decide +kernel
theorem dX6_answer_0 : decode cX6_answer 0 = .ok (.aload_n 0, 1) := dk_42 (dk_at dksX6_answer_0 0 rfl rfl)
theorem dX6_answer_1 : decode cX6_answer 1 = .ok (.iconst 0, 1) := dk_3 (dk_at dksX6_answer_0 1 rfl rfl)
theorem dX6_answer_2 : decode cX6_answer 2 = .ok (.putfield 166, 3) := dk_181 0 166 (dk_at dksX6_answer_0 2 rfl rfl)
theorem dX6_answer_5 : decode cX6_answer 5 = .ok (.aload_n 0, 1) := dk_42 (dk_at dksX6_answer_0 5 rfl rfl)
theorem dX6_answer_6 : decode cX6_answer 6 = .ok (.iload_n 1, 1) := dk_27 (dk_at dksX6_answer_0 6 rfl rfl)
theorem dX6_answer_7 : decode cX6_answer 7 = .ok (.invokevirtual 458, 3) := dk_182 1 202 (dk_at dksX6_answer_0 7 rfl rfl)
theorem dX6_answer_10 : decode cX6_answer 10 = .ok (.ifCond .eq 12, 3) := dk_153 0 12 (dk_at dksX6_answer_0 10 rfl rfl)
theorem dX6_answer_13 : decode cX6_answer 13 = .ok (.aload_n 0, 1) := dk_42 (dk_at dksX6_answer_0 13 rfl rfl)
theorem dX6_answer_14 : decode cX6_answer 14 = .ok (.getfield 112, 3) := dk_180 0 112 (dk_at dksX6_answer_0 14 rfl rfl)
theorem dX6_answer_17 : decode cX6_answer 17 = .ok (.iload_n 1, 1) := dk_27 (dk_at dksX6_answer_0 17 rfl rfl)
theorem dX6_answer_18 : decode cX6_answer 18 = .ok (.iaload, 1) := dk_46 (dk_at dksX6_answer_0 18 rfl rfl)
theorem dX6_answer_19 : decode cX6_answer 19 = .ok (.goto 4, 3) := dk_167 0 4 (dk_at dksX6_answer_0 19 rfl rfl)
theorem dX6_answer_22 : decode cX6_answer 22 = .ok (.iconst (-1), 1) := dk_2 (dk_at dksX6_answer_0 22 rfl rfl)
theorem dX6_answer_23 : decode cX6_answer 23 = .ok (.ireturn, 1) := dk_172 (dk_at dksX6_answer_0 23 rfl rfl)
abbrev cX6_isQuestion : ByteArray := prog_23_method_44_code
def yX6_isQuestion : MethodName := ⟨RX6, "isQuestion", "(I)Z"⟩
def dkwX6_isQuestion_0 : List UInt8 := [27, 155, 0, 17, 27, 42, 180, 0, 13, 6, 46, 162, 0, 7, 4, 167, 0, 4, 3, 172]
abbrev dktX6_isQuestion_0 : List UInt8 := dkwX6_isQuestion_0 ++ []
theorem dksX6_isQuestion_0 : cX6_isQuestion.data.toList.drop 0 = dktX6_isQuestion_0 := by decide +kernel
theorem dX6_isQuestion_0 : decode cX6_isQuestion 0 = .ok (.iload_n 1, 1) := dk_27 (dk_at dksX6_isQuestion_0 0 rfl rfl)
theorem dX6_isQuestion_1 : decode cX6_isQuestion 1 = .ok (.ifCond .lt 17, 3) := dk_155 0 17 (dk_at dksX6_isQuestion_0 1 rfl rfl)
theorem dX6_isQuestion_4 : decode cX6_isQuestion 4 = .ok (.iload_n 1, 1) := dk_27 (dk_at dksX6_isQuestion_0 4 rfl rfl)
theorem dX6_isQuestion_5 : decode cX6_isQuestion 5 = .ok (.aload_n 0, 1) := dk_42 (dk_at dksX6_isQuestion_0 5 rfl rfl)
theorem dX6_isQuestion_6 : decode cX6_isQuestion 6 = .ok (.getfield 13, 3) := dk_180 0 13 (dk_at dksX6_isQuestion_0 6 rfl rfl)
theorem dX6_isQuestion_9 : decode cX6_isQuestion 9 = .ok (.iconst 3, 1) := dk_6 (dk_at dksX6_isQuestion_0 9 rfl rfl)
theorem dX6_isQuestion_10 : decode cX6_isQuestion 10 = .ok (.iaload, 1) := dk_46 (dk_at dksX6_isQuestion_0 10 rfl rfl)
theorem dX6_isQuestion_11 : decode cX6_isQuestion 11 = .ok (.if_icmp .ge 7, 3) := dk_162 0 7 (dk_at dksX6_isQuestion_0 11 rfl rfl)
theorem dX6_isQuestion_14 : decode cX6_isQuestion 14 = .ok (.iconst 1, 1) := dk_4 (dk_at dksX6_isQuestion_0 14 rfl rfl)
theorem dX6_isQuestion_15 : decode cX6_isQuestion 15 = .ok (.goto 4, 3) := dk_167 0 4 (dk_at dksX6_isQuestion_0 15 rfl rfl)
theorem dX6_isQuestion_18 : decode cX6_isQuestion 18 = .ok (.iconst 0, 1) := dk_3 (dk_at dksX6_isQuestion_0 18 rfl rfl)
theorem dX6_isQuestion_19 : decode cX6_isQuestion 19 = .ok (.ireturn, 1) := dk_172 (dk_at dksX6_isQuestion_0 19 rfl rfl)
abbrev cX6_best : ByteArray := prog_23_method_90_code
def yX6_best : MethodName := ⟨RX6, "best", "(I)I"⟩
def dkwX6_best_1 : List UInt8 := [136, 172]
abbrev dktX6_best_1 : List UInt8 := dkwX6_best_1 ++ []
def dkwX6_best_0 : List UInt8 := [42, 3, 181, 0, 166, 42, 27, 182, 1, 196, 154, 0, 5, 2, 172, 42, 182, 1, 240, 42, 27, 182, 1, 243]
abbrev dktX6_best_0 : List UInt8 := dkwX6_best_0 ++ dktX6_best_1
theorem dksX6_best_0 : cX6_best.data.toList.drop 0 = dktX6_best_0 := by decide +kernel
theorem dksX6_best_1 : cX6_best.data.toList.drop 24 = dktX6_best_1 := dk_seg dksX6_best_0 24 rfl rfl
theorem dX6_best_0 : decode cX6_best 0 = .ok (.aload_n 0, 1) := dk_42 (dk_at dksX6_best_0 0 rfl rfl)
theorem dX6_best_1 : decode cX6_best 1 = .ok (.iconst 0, 1) := dk_3 (dk_at dksX6_best_0 1 rfl rfl)
theorem dX6_best_2 : decode cX6_best 2 = .ok (.putfield 166, 3) := dk_181 0 166 (dk_at dksX6_best_0 2 rfl rfl)
theorem dX6_best_5 : decode cX6_best 5 = .ok (.aload_n 0, 1) := dk_42 (dk_at dksX6_best_0 5 rfl rfl)
theorem dX6_best_6 : decode cX6_best 6 = .ok (.iload_n 1, 1) := dk_27 (dk_at dksX6_best_0 6 rfl rfl)
theorem dX6_best_7 : decode cX6_best 7 = .ok (.invokevirtual 452, 3) := dk_182 1 196 (dk_at dksX6_best_0 7 rfl rfl)
theorem dX6_best_10 : decode cX6_best 10 = .ok (.ifCond .ne 5, 3) := dk_154 0 5 (dk_at dksX6_best_0 10 rfl rfl)
theorem dX6_best_13 : decode cX6_best 13 = .ok (.iconst (-1), 1) := dk_2 (dk_at dksX6_best_0 13 rfl rfl)
theorem dX6_best_14 : decode cX6_best 14 = .ok (.ireturn, 1) := dk_172 (dk_at dksX6_best_0 14 rfl rfl)
theorem dX6_best_15 : decode cX6_best 15 = .ok (.aload_n 0, 1) := dk_42 (dk_at dksX6_best_0 15 rfl rfl)
theorem dX6_best_16 : decode cX6_best 16 = .ok (.invokevirtual 496, 3) := dk_182 1 240 (dk_at dksX6_best_0 16 rfl rfl)
theorem dX6_best_19 : decode cX6_best 19 = .ok (.aload_n 0, 1) := dk_42 (dk_at dksX6_best_0 19 rfl rfl)
theorem dX6_best_20 : decode cX6_best 20 = .ok (.iload_n 1, 1) := dk_27 (dk_at dksX6_best_0 20 rfl rfl)
theorem dX6_best_21 : decode cX6_best 21 = .ok (.invokevirtual 499, 3) := dk_182 1 243 (dk_at dksX6_best_0 21 rfl rfl)
theorem dX6_best_24 : decode cX6_best 24 = .ok (.l2i, 1) := dk_136 (dk_at dksX6_best_1 0 rfl rfl)
theorem dX6_best_25 : decode cX6_best 25 = .ok (.ireturn, 1) := dk_172 (dk_at dksX6_best_1 1 rfl rfl)
abbrev cX6_byOdds : ByteArray := prog_23_method_89_code
def yX6_byOdds : MethodName := ⟨RX6, "byOdds", "()V"⟩
def dkwX6_byOdds_1 : List UInt8 := [180, 0, 49, 27, 46, 46, 42, 180, 0, 52, 27, 46, 104, 79, 132, 1, 1, 167, 255, 219, 177]
abbrev dktX6_byOdds_1 : List UInt8 := dkwX6_byOdds_1 ++ []
def dkwX6_byOdds_0 : List UInt8 := [3, 60, 27, 42, 180, 0, 13, 6, 46, 162, 0, 33, 42, 180, 0, 145, 27, 42, 180, 0, 28, 42]
abbrev dktX6_byOdds_0 : List UInt8 := dkwX6_byOdds_0 ++ dktX6_byOdds_1
theorem dksX6_byOdds_0 : cX6_byOdds.data.toList.drop 0 = dktX6_byOdds_0 := by decide +kernel
theorem dksX6_byOdds_1 : cX6_byOdds.data.toList.drop 22 = dktX6_byOdds_1 := dk_seg dksX6_byOdds_0 22 rfl rfl
theorem dX6_byOdds_0 : decode cX6_byOdds 0 = .ok (.iconst 0, 1) := dk_3 (dk_at dksX6_byOdds_0 0 rfl rfl)
theorem dX6_byOdds_1 : decode cX6_byOdds 1 = .ok (.istore_n 1, 1) := dk_60 (dk_at dksX6_byOdds_0 1 rfl rfl)
theorem dX6_byOdds_2 : decode cX6_byOdds 2 = .ok (.iload_n 1, 1) := dk_27 (dk_at dksX6_byOdds_0 2 rfl rfl)
theorem dX6_byOdds_3 : decode cX6_byOdds 3 = .ok (.aload_n 0, 1) := dk_42 (dk_at dksX6_byOdds_0 3 rfl rfl)
theorem dX6_byOdds_4 : decode cX6_byOdds 4 = .ok (.getfield 13, 3) := dk_180 0 13 (dk_at dksX6_byOdds_0 4 rfl rfl)
theorem dX6_byOdds_7 : decode cX6_byOdds 7 = .ok (.iconst 3, 1) := dk_6 (dk_at dksX6_byOdds_0 7 rfl rfl)
theorem dX6_byOdds_8 : decode cX6_byOdds 8 = .ok (.iaload, 1) := dk_46 (dk_at dksX6_byOdds_0 8 rfl rfl)
theorem dX6_byOdds_9 : decode cX6_byOdds 9 = .ok (.if_icmp .ge 33, 3) := dk_162 0 33 (dk_at dksX6_byOdds_0 9 rfl rfl)
theorem dX6_byOdds_12 : decode cX6_byOdds 12 = .ok (.aload_n 0, 1) := dk_42 (dk_at dksX6_byOdds_0 12 rfl rfl)
theorem dX6_byOdds_13 : decode cX6_byOdds 13 = .ok (.getfield 145, 3) := dk_180 0 145 (dk_at dksX6_byOdds_0 13 rfl rfl)
theorem dX6_byOdds_16 : decode cX6_byOdds 16 = .ok (.iload_n 1, 1) := dk_27 (dk_at dksX6_byOdds_0 16 rfl rfl)
theorem dX6_byOdds_17 : decode cX6_byOdds 17 = .ok (.aload_n 0, 1) := dk_42 (dk_at dksX6_byOdds_0 17 rfl rfl)
theorem dX6_byOdds_18 : decode cX6_byOdds 18 = .ok (.getfield 28, 3) := dk_180 0 28 (dk_at dksX6_byOdds_0 18 rfl rfl)
theorem dX6_byOdds_21 : decode cX6_byOdds 21 = .ok (.aload_n 0, 1) := dk_42 (dk_at dksX6_byOdds_0 21 rfl rfl)
theorem dX6_byOdds_22 : decode cX6_byOdds 22 = .ok (.getfield 49, 3) := dk_180 0 49 (dk_at dksX6_byOdds_1 0 rfl rfl)
theorem dX6_byOdds_25 : decode cX6_byOdds 25 = .ok (.iload_n 1, 1) := dk_27 (dk_at dksX6_byOdds_1 3 rfl rfl)
theorem dX6_byOdds_26 : decode cX6_byOdds 26 = .ok (.iaload, 1) := dk_46 (dk_at dksX6_byOdds_1 4 rfl rfl)
theorem dX6_byOdds_27 : decode cX6_byOdds 27 = .ok (.iaload, 1) := dk_46 (dk_at dksX6_byOdds_1 5 rfl rfl)
theorem dX6_byOdds_28 : decode cX6_byOdds 28 = .ok (.aload_n 0, 1) := dk_42 (dk_at dksX6_byOdds_1 6 rfl rfl)
theorem dX6_byOdds_29 : decode cX6_byOdds 29 = .ok (.getfield 52, 3) := dk_180 0 52 (dk_at dksX6_byOdds_1 7 rfl rfl)
theorem dX6_byOdds_32 : decode cX6_byOdds 32 = .ok (.iload_n 1, 1) := dk_27 (dk_at dksX6_byOdds_1 10 rfl rfl)
theorem dX6_byOdds_33 : decode cX6_byOdds 33 = .ok (.iaload, 1) := dk_46 (dk_at dksX6_byOdds_1 11 rfl rfl)
theorem dX6_byOdds_34 : decode cX6_byOdds 34 = .ok (.imul, 1) := dk_104 (dk_at dksX6_byOdds_1 12 rfl rfl)
theorem dX6_byOdds_35 : decode cX6_byOdds 35 = .ok (.iastore, 1) := dk_79 (dk_at dksX6_byOdds_1 13 rfl rfl)
theorem dX6_byOdds_36 : decode cX6_byOdds 36 = .ok (.iinc 1 1, 3) := dk_132 1 1 (dk_at dksX6_byOdds_1 14 rfl rfl)
theorem dX6_byOdds_39 : decode cX6_byOdds 39 = .ok (.goto (-37), 3) := dk_167 255 219 (dk_at dksX6_byOdds_1 17 rfl rfl)
theorem dX6_byOdds_42 : decode cX6_byOdds 42 = .ok (.return_, 1) := dk_177 (dk_at dksX6_byOdds_1 20 rfl rfl)
abbrev cX6_most : ByteArray := prog_23_method_88_code
def yX6_most : MethodName := ⟨RX6, "most", "(I)J"⟩
def dkwX6_most_1 : List UInt8 := [184, 1, 217, 47, 173]
abbrev dktX6_most_1 : List UInt8 := dkwX6_most_1 ++ []
def dkwX6_most_0 : List UInt8 := [42, 27, 182, 1, 237, 42, 180, 1, 205, 154, 0, 7, 9, 167, 0, 14, 42, 180, 0, 139, 3, 3, 3]
abbrev dktX6_most_0 : List UInt8 := dkwX6_most_0 ++ dktX6_most_1
theorem dksX6_most_0 : cX6_most.data.toList.drop 0 = dktX6_most_0 := by decide +kernel
theorem dksX6_most_1 : cX6_most.data.toList.drop 23 = dktX6_most_1 := dk_seg dksX6_most_0 23 rfl rfl
theorem dX6_most_0 : decode cX6_most 0 = .ok (.aload_n 0, 1) := dk_42 (dk_at dksX6_most_0 0 rfl rfl)
theorem dX6_most_1 : decode cX6_most 1 = .ok (.iload_n 1, 1) := dk_27 (dk_at dksX6_most_0 1 rfl rfl)
theorem dX6_most_2 : decode cX6_most 2 = .ok (.invokevirtual 493, 3) := dk_182 1 237 (dk_at dksX6_most_0 2 rfl rfl)
theorem dX6_most_5 : decode cX6_most 5 = .ok (.aload_n 0, 1) := dk_42 (dk_at dksX6_most_0 5 rfl rfl)
theorem dX6_most_6 : decode cX6_most 6 = .ok (.getfield 461, 3) := dk_180 1 205 (dk_at dksX6_most_0 6 rfl rfl)
theorem dX6_most_9 : decode cX6_most 9 = .ok (.ifCond .ne 7, 3) := dk_154 0 7 (dk_at dksX6_most_0 9 rfl rfl)
theorem dX6_most_12 : decode cX6_most 12 = .ok (.lconst 0, 1) := dk_9 (dk_at dksX6_most_0 12 rfl rfl)
theorem dX6_most_13 : decode cX6_most 13 = .ok (.goto 14, 3) := dk_167 0 14 (dk_at dksX6_most_0 13 rfl rfl)
theorem dX6_most_16 : decode cX6_most 16 = .ok (.aload_n 0, 1) := dk_42 (dk_at dksX6_most_0 16 rfl rfl)
theorem dX6_most_17 : decode cX6_most 17 = .ok (.getfield 139, 3) := dk_180 0 139 (dk_at dksX6_most_0 17 rfl rfl)
theorem dX6_most_20 : decode cX6_most 20 = .ok (.iconst 0, 1) := dk_3 (dk_at dksX6_most_0 20 rfl rfl)
theorem dX6_most_21 : decode cX6_most 21 = .ok (.iconst 0, 1) := dk_3 (dk_at dksX6_most_0 21 rfl rfl)
theorem dX6_most_22 : decode cX6_most 22 = .ok (.iconst 0, 1) := dk_3 (dk_at dksX6_most_0 22 rfl rfl)
theorem dX6_most_23 : decode cX6_most 23 = .ok (.invokestatic 473, 3) := dk_184 1 217 (dk_at dksX6_most_1 0 rfl rfl)
theorem dX6_most_26 : decode cX6_most 26 = .ok (.laload, 1) := dk_47 (dk_at dksX6_most_1 3 rfl rfl)
theorem dX6_most_27 : decode cX6_most 27 = .ok (.lreturn, 1) := dk_173 (dk_at dksX6_most_1 4 rfl rfl)
abbrev cX6_layYet : ByteArray := prog_23_method_87_code
def yX6_layYet : MethodName := ⟨RX6, "layYet", "(I)V"⟩
def dkwX6_layYet_8 : List UInt8 := [132, 4, 1, 167, 255, 95, 132, 2, 255, 167, 255, 70, 177]
abbrev dktX6_layYet_8 : List UInt8 := dkwX6_layYet_8 ++ []
def dkwX6_layYet_7 : List UInt8 := [167, 255, 201, 42, 180, 0, 139, 28, 21, 4, 21, 5, 184, 1, 217, 22, 6, 80, 132, 5, 1, 167, 255, 112]
abbrev dktX6_layYet_7 : List UInt8 := dkwX6_layYet_7 ++ dktX6_layYet_8
def dkwX6_layYet_6 : List UInt8 := [21, 8, 120, 2, 130, 126, 4, 29, 120, 128, 4, 182, 1, 229, 184, 1, 233, 55, 6, 132, 8, 1]
abbrev dktX6_layYet_6 : List UInt8 := dkwX6_layYet_6 ++ dktX6_layYet_7
def dkwX6_layYet_5 : List UInt8 := [154, 0, 49, 21, 4, 21, 8, 122, 4, 126, 4, 160, 0, 32, 22, 6, 42, 27, 28, 4, 96, 21, 4, 4]
abbrev dktX6_layYet_5 : List UInt8 := dkwX6_layYet_5 ++ dktX6_layYet_6
def dkwX6_layYet_4 : List UInt8 := [4, 96, 21, 4, 21, 5, 182, 1, 229, 55, 6, 3, 54, 8, 21, 8, 16, 7, 162, 0, 54, 21, 5]
abbrev dktX6_layYet_4 : List UInt8 := dkwX6_layYet_4 ++ dktX6_layYet_5
def dkwX6_layYet_3 : List UInt8 := [42, 27, 28, 4, 96, 21, 4, 4, 29, 120, 128, 21, 5, 182, 1, 229, 55, 6, 167, 0, 78, 42, 27, 28]
abbrev dktX6_layYet_3 : List UInt8 := dkwX6_layYet_3 ++ dktX6_layYet_4
def dkwX6_layYet_2 : List UInt8 := [21, 4, 29, 122, 4, 126, 4, 159, 0, 17, 21, 4, 184, 1, 223, 42, 180, 0, 19, 27, 46, 162, 0, 24]
abbrev dktX6_layYet_2 : List UInt8 := dkwX6_layYet_2 ++ dktX6_layYet_3
def dkwX6_layYet_1 : List UInt8 := [28, 46, 46, 62, 3, 54, 4, 21, 4, 17, 0, 128, 162, 0, 159, 3, 54, 5, 21, 5, 5, 162, 0, 144]
abbrev dktX6_layYet_1 : List UInt8 := dkwX6_layYet_1 ++ dktX6_layYet_2
def dkwX6_layYet_0 : List UInt8 := [42, 27, 182, 1, 226, 42, 180, 1, 205, 4, 100, 61, 28, 155, 0, 188, 42, 180, 0, 37, 42, 180, 0, 142]
abbrev dktX6_layYet_0 : List UInt8 := dkwX6_layYet_0 ++ dktX6_layYet_1
theorem dksX6_layYet_0 : cX6_layYet.data.toList.drop 0 = dktX6_layYet_0 := by decide +kernel
theorem dksX6_layYet_1 : cX6_layYet.data.toList.drop 24 = dktX6_layYet_1 := dk_seg dksX6_layYet_0 24 rfl rfl
theorem dksX6_layYet_2 : cX6_layYet.data.toList.drop 48 = dktX6_layYet_2 := dk_seg dksX6_layYet_1 24 rfl rfl
theorem dksX6_layYet_3 : cX6_layYet.data.toList.drop 72 = dktX6_layYet_3 := dk_seg dksX6_layYet_2 24 rfl rfl
theorem dksX6_layYet_4 : cX6_layYet.data.toList.drop 96 = dktX6_layYet_4 := dk_seg dksX6_layYet_3 24 rfl rfl
theorem dksX6_layYet_5 : cX6_layYet.data.toList.drop 119 = dktX6_layYet_5 := dk_seg dksX6_layYet_4 23 rfl rfl
theorem dksX6_layYet_6 : cX6_layYet.data.toList.drop 143 = dktX6_layYet_6 := dk_seg dksX6_layYet_5 24 rfl rfl
theorem dksX6_layYet_7 : cX6_layYet.data.toList.drop 165 = dktX6_layYet_7 := dk_seg dksX6_layYet_6 22 rfl rfl
theorem dksX6_layYet_8 : cX6_layYet.data.toList.drop 189 = dktX6_layYet_8 := dk_seg dksX6_layYet_7 24 rfl rfl
theorem dX6_layYet_0 : decode cX6_layYet 0 = .ok (.aload_n 0, 1) := dk_42 (dk_at dksX6_layYet_0 0 rfl rfl)
theorem dX6_layYet_1 : decode cX6_layYet 1 = .ok (.iload_n 1, 1) := dk_27 (dk_at dksX6_layYet_0 1 rfl rfl)
theorem dX6_layYet_2 : decode cX6_layYet 2 = .ok (.invokevirtual 482, 3) := dk_182 1 226 (dk_at dksX6_layYet_0 2 rfl rfl)
theorem dX6_layYet_5 : decode cX6_layYet 5 = .ok (.aload_n 0, 1) := dk_42 (dk_at dksX6_layYet_0 5 rfl rfl)
theorem dX6_layYet_6 : decode cX6_layYet 6 = .ok (.getfield 461, 3) := dk_180 1 205 (dk_at dksX6_layYet_0 6 rfl rfl)
theorem dX6_layYet_9 : decode cX6_layYet 9 = .ok (.iconst 1, 1) := dk_4 (dk_at dksX6_layYet_0 9 rfl rfl)
theorem dX6_layYet_10 : decode cX6_layYet 10 = .ok (.isub, 1) := dk_100 (dk_at dksX6_layYet_0 10 rfl rfl)
theorem dX6_layYet_11 : decode cX6_layYet 11 = .ok (.istore_n 2, 1) := dk_61 (dk_at dksX6_layYet_0 11 rfl rfl)
theorem dX6_layYet_12 : decode cX6_layYet 12 = .ok (.iload_n 2, 1) := dk_28 (dk_at dksX6_layYet_0 12 rfl rfl)
theorem dX6_layYet_13 : decode cX6_layYet 13 = .ok (.ifCond .lt 188, 3) := dk_155 0 188 (dk_at dksX6_layYet_0 13 rfl rfl)
theorem dX6_layYet_16 : decode cX6_layYet 16 = .ok (.aload_n 0, 1) := dk_42 (dk_at dksX6_layYet_0 16 rfl rfl)
theorem dX6_layYet_17 : decode cX6_layYet 17 = .ok (.getfield 37, 3) := dk_180 0 37 (dk_at dksX6_layYet_0 17 rfl rfl)
theorem dX6_layYet_20 : decode cX6_layYet 20 = .ok (.aload_n 0, 1) := dk_42 (dk_at dksX6_layYet_0 20 rfl rfl)
theorem dX6_layYet_21 : decode cX6_layYet 21 = .ok (.getfield 142, 3) := dk_180 0 142 (dk_at dksX6_layYet_0 21 rfl rfl)
theorem dX6_layYet_24 : decode cX6_layYet 24 = .ok (.iload_n 2, 1) := dk_28 (dk_at dksX6_layYet_1 0 rfl rfl)
theorem dX6_layYet_25 : decode cX6_layYet 25 = .ok (.iaload, 1) := dk_46 (dk_at dksX6_layYet_1 1 rfl rfl)
theorem dX6_layYet_26 : decode cX6_layYet 26 = .ok (.iaload, 1) := dk_46 (dk_at dksX6_layYet_1 2 rfl rfl)
theorem dX6_layYet_27 : decode cX6_layYet 27 = .ok (.istore_n 3, 1) := dk_62 (dk_at dksX6_layYet_1 3 rfl rfl)
theorem dX6_layYet_28 : decode cX6_layYet 28 = .ok (.iconst 0, 1) := dk_3 (dk_at dksX6_layYet_1 4 rfl rfl)
theorem dX6_layYet_29 : decode cX6_layYet 29 = .ok (.istore 4, 2) := dk_54 4 (dk_at dksX6_layYet_1 5 rfl rfl)
theorem dX6_layYet_31 : decode cX6_layYet 31 = .ok (.iload 4, 2) := dk_21 4 (dk_at dksX6_layYet_1 7 rfl rfl)
theorem dX6_layYet_33 : decode cX6_layYet 33 = .ok (.sipush 128, 3) := dk_17 0 128 (dk_at dksX6_layYet_1 9 rfl rfl)
theorem dX6_layYet_36 : decode cX6_layYet 36 = .ok (.if_icmp .ge 159, 3) := dk_162 0 159 (dk_at dksX6_layYet_1 12 rfl rfl)
theorem dX6_layYet_39 : decode cX6_layYet 39 = .ok (.iconst 0, 1) := dk_3 (dk_at dksX6_layYet_1 15 rfl rfl)
theorem dX6_layYet_40 : decode cX6_layYet 40 = .ok (.istore 5, 2) := dk_54 5 (dk_at dksX6_layYet_1 16 rfl rfl)
theorem dX6_layYet_42 : decode cX6_layYet 42 = .ok (.iload 5, 2) := dk_21 5 (dk_at dksX6_layYet_1 18 rfl rfl)
theorem dX6_layYet_44 : decode cX6_layYet 44 = .ok (.iconst 2, 1) := dk_5 (dk_at dksX6_layYet_1 20 rfl rfl)
theorem dX6_layYet_45 : decode cX6_layYet 45 = .ok (.if_icmp .ge 144, 3) := dk_162 0 144 (dk_at dksX6_layYet_1 21 rfl rfl)
theorem dX6_layYet_48 : decode cX6_layYet 48 = .ok (.iload 4, 2) := dk_21 4 (dk_at dksX6_layYet_2 0 rfl rfl)
theorem dX6_layYet_50 : decode cX6_layYet 50 = .ok (.iload_n 3, 1) := dk_29 (dk_at dksX6_layYet_2 2 rfl rfl)
theorem dX6_layYet_51 : decode cX6_layYet 51 = .ok (.ishr, 1) := dk_122 (dk_at dksX6_layYet_2 3 rfl rfl)
theorem dX6_layYet_52 : decode cX6_layYet 52 = .ok (.iconst 1, 1) := dk_4 (dk_at dksX6_layYet_2 4 rfl rfl)
theorem dX6_layYet_53 : decode cX6_layYet 53 = .ok (.iand, 1) := dk_126 (dk_at dksX6_layYet_2 5 rfl rfl)
theorem dX6_layYet_54 : decode cX6_layYet 54 = .ok (.iconst 1, 1) := dk_4 (dk_at dksX6_layYet_2 6 rfl rfl)
theorem dX6_layYet_55 : decode cX6_layYet 55 = .ok (.if_icmp .eq 17, 3) := dk_159 0 17 (dk_at dksX6_layYet_2 7 rfl rfl)
theorem dX6_layYet_58 : decode cX6_layYet 58 = .ok (.iload 4, 2) := dk_21 4 (dk_at dksX6_layYet_2 10 rfl rfl)
theorem dX6_layYet_60 : decode cX6_layYet 60 = .ok (.invokestatic 479, 3) := dk_184 1 223 (dk_at dksX6_layYet_2 12 rfl rfl)
theorem dX6_layYet_63 : decode cX6_layYet 63 = .ok (.aload_n 0, 1) := dk_42 (dk_at dksX6_layYet_2 15 rfl rfl)
theorem dX6_layYet_64 : decode cX6_layYet 64 = .ok (.getfield 19, 3) := dk_180 0 19 (dk_at dksX6_layYet_2 16 rfl rfl)
theorem dX6_layYet_67 : decode cX6_layYet 67 = .ok (.iload_n 1, 1) := dk_27 (dk_at dksX6_layYet_2 19 rfl rfl)
theorem dX6_layYet_68 : decode cX6_layYet 68 = .ok (.iaload, 1) := dk_46 (dk_at dksX6_layYet_2 20 rfl rfl)
theorem dX6_layYet_69 : decode cX6_layYet 69 = .ok (.if_icmp .ge 24, 3) := dk_162 0 24 (dk_at dksX6_layYet_2 21 rfl rfl)
theorem dX6_layYet_72 : decode cX6_layYet 72 = .ok (.aload_n 0, 1) := dk_42 (dk_at dksX6_layYet_3 0 rfl rfl)
theorem dX6_layYet_73 : decode cX6_layYet 73 = .ok (.iload_n 1, 1) := dk_27 (dk_at dksX6_layYet_3 1 rfl rfl)
theorem dX6_layYet_74 : decode cX6_layYet 74 = .ok (.iload_n 2, 1) := dk_28 (dk_at dksX6_layYet_3 2 rfl rfl)
theorem dX6_layYet_75 : decode cX6_layYet 75 = .ok (.iconst 1, 1) := dk_4 (dk_at dksX6_layYet_3 3 rfl rfl)
theorem dX6_layYet_76 : decode cX6_layYet 76 = .ok (.iadd, 1) := dk_96 (dk_at dksX6_layYet_3 4 rfl rfl)
theorem dX6_layYet_77 : decode cX6_layYet 77 = .ok (.iload 4, 2) := dk_21 4 (dk_at dksX6_layYet_3 5 rfl rfl)
theorem dX6_layYet_79 : decode cX6_layYet 79 = .ok (.iconst 1, 1) := dk_4 (dk_at dksX6_layYet_3 7 rfl rfl)
theorem dX6_layYet_80 : decode cX6_layYet 80 = .ok (.iload_n 3, 1) := dk_29 (dk_at dksX6_layYet_3 8 rfl rfl)
theorem dX6_layYet_81 : decode cX6_layYet 81 = .ok (.ishl, 1) := dk_120 (dk_at dksX6_layYet_3 9 rfl rfl)
theorem dX6_layYet_82 : decode cX6_layYet 82 = .ok (.ior, 1) := dk_128 (dk_at dksX6_layYet_3 10 rfl rfl)
theorem dX6_layYet_83 : decode cX6_layYet 83 = .ok (.iload 5, 2) := dk_21 5 (dk_at dksX6_layYet_3 11 rfl rfl)
theorem dX6_layYet_85 : decode cX6_layYet 85 = .ok (.invokevirtual 485, 3) := dk_182 1 229 (dk_at dksX6_layYet_3 13 rfl rfl)
theorem dX6_layYet_88 : decode cX6_layYet 88 = .ok (.lstore 6, 2) := dk_55 6 (dk_at dksX6_layYet_3 16 rfl rfl)
theorem dX6_layYet_90 : decode cX6_layYet 90 = .ok (.goto 78, 3) := dk_167 0 78 (dk_at dksX6_layYet_3 18 rfl rfl)
theorem dX6_layYet_93 : decode cX6_layYet 93 = .ok (.aload_n 0, 1) := dk_42 (dk_at dksX6_layYet_3 21 rfl rfl)
theorem dX6_layYet_94 : decode cX6_layYet 94 = .ok (.iload_n 1, 1) := dk_27 (dk_at dksX6_layYet_3 22 rfl rfl)
theorem dX6_layYet_95 : decode cX6_layYet 95 = .ok (.iload_n 2, 1) := dk_28 (dk_at dksX6_layYet_3 23 rfl rfl)
theorem dX6_layYet_96 : decode cX6_layYet 96 = .ok (.iconst 1, 1) := dk_4 (dk_at dksX6_layYet_4 0 rfl rfl)
theorem dX6_layYet_97 : decode cX6_layYet 97 = .ok (.iadd, 1) := dk_96 (dk_at dksX6_layYet_4 1 rfl rfl)
theorem dX6_layYet_98 : decode cX6_layYet 98 = .ok (.iload 4, 2) := dk_21 4 (dk_at dksX6_layYet_4 2 rfl rfl)
theorem dX6_layYet_100 : decode cX6_layYet 100 = .ok (.iload 5, 2) := dk_21 5 (dk_at dksX6_layYet_4 4 rfl rfl)
theorem dX6_layYet_102 : decode cX6_layYet 102 = .ok (.invokevirtual 485, 3) := dk_182 1 229 (dk_at dksX6_layYet_4 6 rfl rfl)
theorem dX6_layYet_105 : decode cX6_layYet 105 = .ok (.lstore 6, 2) := dk_55 6 (dk_at dksX6_layYet_4 9 rfl rfl)
theorem dX6_layYet_107 : decode cX6_layYet 107 = .ok (.iconst 0, 1) := dk_3 (dk_at dksX6_layYet_4 11 rfl rfl)
theorem dX6_layYet_108 : decode cX6_layYet 108 = .ok (.istore 8, 2) := dk_54 8 (dk_at dksX6_layYet_4 12 rfl rfl)
theorem dX6_layYet_110 : decode cX6_layYet 110 = .ok (.iload 8, 2) := dk_21 8 (dk_at dksX6_layYet_4 14 rfl rfl)
theorem dX6_layYet_112 : decode cX6_layYet 112 = .ok (.bipush 7, 2) := dk_16 7 (dk_at dksX6_layYet_4 16 rfl rfl)
theorem dX6_layYet_114 : decode cX6_layYet 114 = .ok (.if_icmp .ge 54, 3) := dk_162 0 54 (dk_at dksX6_layYet_4 18 rfl rfl)
theorem dX6_layYet_117 : decode cX6_layYet 117 = .ok (.iload 5, 2) := dk_21 5 (dk_at dksX6_layYet_4 21 rfl rfl)
theorem dX6_layYet_119 : decode cX6_layYet 119 = .ok (.ifCond .ne 49, 3) := dk_154 0 49 (dk_at dksX6_layYet_5 0 rfl rfl)
theorem dX6_layYet_122 : decode cX6_layYet 122 = .ok (.iload 4, 2) := dk_21 4 (dk_at dksX6_layYet_5 3 rfl rfl)
theorem dX6_layYet_124 : decode cX6_layYet 124 = .ok (.iload 8, 2) := dk_21 8 (dk_at dksX6_layYet_5 5 rfl rfl)
theorem dX6_layYet_126 : decode cX6_layYet 126 = .ok (.ishr, 1) := dk_122 (dk_at dksX6_layYet_5 7 rfl rfl)
theorem dX6_layYet_127 : decode cX6_layYet 127 = .ok (.iconst 1, 1) := dk_4 (dk_at dksX6_layYet_5 8 rfl rfl)
theorem dX6_layYet_128 : decode cX6_layYet 128 = .ok (.iand, 1) := dk_126 (dk_at dksX6_layYet_5 9 rfl rfl)
theorem dX6_layYet_129 : decode cX6_layYet 129 = .ok (.iconst 1, 1) := dk_4 (dk_at dksX6_layYet_5 10 rfl rfl)
theorem dX6_layYet_130 : decode cX6_layYet 130 = .ok (.if_icmp .ne 32, 3) := dk_160 0 32 (dk_at dksX6_layYet_5 11 rfl rfl)
theorem dX6_layYet_133 : decode cX6_layYet 133 = .ok (.lload 6, 2) := dk_22 6 (dk_at dksX6_layYet_5 14 rfl rfl)
theorem dX6_layYet_135 : decode cX6_layYet 135 = .ok (.aload_n 0, 1) := dk_42 (dk_at dksX6_layYet_5 16 rfl rfl)
theorem dX6_layYet_136 : decode cX6_layYet 136 = .ok (.iload_n 1, 1) := dk_27 (dk_at dksX6_layYet_5 17 rfl rfl)
theorem dX6_layYet_137 : decode cX6_layYet 137 = .ok (.iload_n 2, 1) := dk_28 (dk_at dksX6_layYet_5 18 rfl rfl)
theorem dX6_layYet_138 : decode cX6_layYet 138 = .ok (.iconst 1, 1) := dk_4 (dk_at dksX6_layYet_5 19 rfl rfl)
theorem dX6_layYet_139 : decode cX6_layYet 139 = .ok (.iadd, 1) := dk_96 (dk_at dksX6_layYet_5 20 rfl rfl)
theorem dX6_layYet_140 : decode cX6_layYet 140 = .ok (.iload 4, 2) := dk_21 4 (dk_at dksX6_layYet_5 21 rfl rfl)
theorem dX6_layYet_142 : decode cX6_layYet 142 = .ok (.iconst 1, 1) := dk_4 (dk_at dksX6_layYet_5 23 rfl rfl)
theorem dX6_layYet_143 : decode cX6_layYet 143 = .ok (.iload 8, 2) := dk_21 8 (dk_at dksX6_layYet_6 0 rfl rfl)
theorem dX6_layYet_145 : decode cX6_layYet 145 = .ok (.ishl, 1) := dk_120 (dk_at dksX6_layYet_6 2 rfl rfl)
theorem dX6_layYet_146 : decode cX6_layYet 146 = .ok (.iconst (-1), 1) := dk_2 (dk_at dksX6_layYet_6 3 rfl rfl)
theorem dX6_layYet_147 : decode cX6_layYet 147 = .ok (.ixor, 1) := dk_130 (dk_at dksX6_layYet_6 4 rfl rfl)
theorem dX6_layYet_148 : decode cX6_layYet 148 = .ok (.iand, 1) := dk_126 (dk_at dksX6_layYet_6 5 rfl rfl)
theorem dX6_layYet_149 : decode cX6_layYet 149 = .ok (.iconst 1, 1) := dk_4 (dk_at dksX6_layYet_6 6 rfl rfl)
theorem dX6_layYet_150 : decode cX6_layYet 150 = .ok (.iload_n 3, 1) := dk_29 (dk_at dksX6_layYet_6 7 rfl rfl)
theorem dX6_layYet_151 : decode cX6_layYet 151 = .ok (.ishl, 1) := dk_120 (dk_at dksX6_layYet_6 8 rfl rfl)
theorem dX6_layYet_152 : decode cX6_layYet 152 = .ok (.ior, 1) := dk_128 (dk_at dksX6_layYet_6 9 rfl rfl)
theorem dX6_layYet_153 : decode cX6_layYet 153 = .ok (.iconst 1, 1) := dk_4 (dk_at dksX6_layYet_6 10 rfl rfl)
theorem dX6_layYet_154 : decode cX6_layYet 154 = .ok (.invokevirtual 485, 3) := dk_182 1 229 (dk_at dksX6_layYet_6 11 rfl rfl)
theorem dX6_layYet_157 : decode cX6_layYet 157 = .ok (.invokestatic 489, 3) := dk_184 1 233 (dk_at dksX6_layYet_6 14 rfl rfl)
theorem dX6_layYet_160 : decode cX6_layYet 160 = .ok (.lstore 6, 2) := dk_55 6 (dk_at dksX6_layYet_6 17 rfl rfl)
theorem dX6_layYet_162 : decode cX6_layYet 162 = .ok (.iinc 8 1, 3) := dk_132 8 1 (dk_at dksX6_layYet_6 19 rfl rfl)
theorem dX6_layYet_165 : decode cX6_layYet 165 = .ok (.goto (-55), 3) := dk_167 255 201 (dk_at dksX6_layYet_7 0 rfl rfl)
theorem dX6_layYet_168 : decode cX6_layYet 168 = .ok (.aload_n 0, 1) := dk_42 (dk_at dksX6_layYet_7 3 rfl rfl)
theorem dX6_layYet_169 : decode cX6_layYet 169 = .ok (.getfield 139, 3) := dk_180 0 139 (dk_at dksX6_layYet_7 4 rfl rfl)
theorem dX6_layYet_172 : decode cX6_layYet 172 = .ok (.iload_n 2, 1) := dk_28 (dk_at dksX6_layYet_7 7 rfl rfl)
theorem dX6_layYet_173 : decode cX6_layYet 173 = .ok (.iload 4, 2) := dk_21 4 (dk_at dksX6_layYet_7 8 rfl rfl)
theorem dX6_layYet_175 : decode cX6_layYet 175 = .ok (.iload 5, 2) := dk_21 5 (dk_at dksX6_layYet_7 10 rfl rfl)
theorem dX6_layYet_177 : decode cX6_layYet 177 = .ok (.invokestatic 473, 3) := dk_184 1 217 (dk_at dksX6_layYet_7 12 rfl rfl)
theorem dX6_layYet_180 : decode cX6_layYet 180 = .ok (.lload 6, 2) := dk_22 6 (dk_at dksX6_layYet_7 15 rfl rfl)
theorem dX6_layYet_182 : decode cX6_layYet 182 = .ok (.lastore, 1) := dk_80 (dk_at dksX6_layYet_7 17 rfl rfl)
theorem dX6_layYet_183 : decode cX6_layYet 183 = .ok (.iinc 5 1, 3) := dk_132 5 1 (dk_at dksX6_layYet_7 18 rfl rfl)
theorem dX6_layYet_186 : decode cX6_layYet 186 = .ok (.goto (-144), 3) := dk_167 255 112 (dk_at dksX6_layYet_7 21 rfl rfl)
theorem dX6_layYet_189 : decode cX6_layYet 189 = .ok (.iinc 4 1, 3) := dk_132 4 1 (dk_at dksX6_layYet_8 0 rfl rfl)
theorem dX6_layYet_192 : decode cX6_layYet 192 = .ok (.goto (-161), 3) := dk_167 255 95 (dk_at dksX6_layYet_8 3 rfl rfl)
theorem dX6_layYet_195 : decode cX6_layYet 195 = .ok (.iinc 2 (-1), 3) := dk_132 2 255 (dk_at dksX6_layYet_8 6 rfl rfl)
theorem dX6_layYet_198 : decode cX6_layYet 198 = .ok (.goto (-186), 3) := dk_167 255 70 (dk_at dksX6_layYet_8 9 rfl rfl)
theorem dX6_layYet_201 : decode cX6_layYet 201 = .ok (.return_, 1) := dk_177 (dk_at dksX6_layYet_8 12 rfl rfl)
abbrev cX6_orders : ByteArray := prog_23_method_78_code
def yX6_orders : MethodName := ⟨RX6, "orders", "(I)V"⟩
def dkwX6_orders_3 : List UInt8 := [132, 3, 1, 167, 255, 200, 132, 2, 1, 167, 255, 186, 177]
abbrev dktX6_orders_3 : List UInt8 := dkwX6_orders_3 ++ []
def dkwX6_orders_2 : List UInt8 := [167, 0, 23, 42, 180, 0, 142, 42, 180, 1, 205, 29, 79, 42, 89, 180, 1, 205, 4, 96, 181, 1, 205]
abbrev dktX6_orders_2 : List UInt8 := dkwX6_orders_2 ++ dktX6_orders_3
def dkwX6_orders_1 : List UInt8 := [162, 0, 52, 42, 180, 0, 34, 29, 46, 27, 160, 0, 36, 42, 180, 0, 31, 29, 46, 28, 159, 0, 6]
abbrev dktX6_orders_1 : List UInt8 := dkwX6_orders_1 ++ dktX6_orders_2
def dkwX6_orders_0 : List UInt8 := [42, 3, 181, 1, 205, 3, 61, 28, 16, 61, 162, 0, 70, 3, 62, 29, 42, 180, 0, 13, 5, 46]
abbrev dktX6_orders_0 : List UInt8 := dkwX6_orders_0 ++ dktX6_orders_1
theorem dksX6_orders_0 : cX6_orders.data.toList.drop 0 = dktX6_orders_0 := by decide +kernel
theorem dksX6_orders_1 : cX6_orders.data.toList.drop 22 = dktX6_orders_1 := dk_seg dksX6_orders_0 22 rfl rfl
theorem dksX6_orders_2 : cX6_orders.data.toList.drop 45 = dktX6_orders_2 := dk_seg dksX6_orders_1 23 rfl rfl
theorem dksX6_orders_3 : cX6_orders.data.toList.drop 68 = dktX6_orders_3 := dk_seg dksX6_orders_2 23 rfl rfl
theorem dX6_orders_0 : decode cX6_orders 0 = .ok (.aload_n 0, 1) := dk_42 (dk_at dksX6_orders_0 0 rfl rfl)
theorem dX6_orders_1 : decode cX6_orders 1 = .ok (.iconst 0, 1) := dk_3 (dk_at dksX6_orders_0 1 rfl rfl)
theorem dX6_orders_2 : decode cX6_orders 2 = .ok (.putfield 461, 3) := dk_181 1 205 (dk_at dksX6_orders_0 2 rfl rfl)
theorem dX6_orders_5 : decode cX6_orders 5 = .ok (.iconst 0, 1) := dk_3 (dk_at dksX6_orders_0 5 rfl rfl)
theorem dX6_orders_6 : decode cX6_orders 6 = .ok (.istore_n 2, 1) := dk_61 (dk_at dksX6_orders_0 6 rfl rfl)
theorem dX6_orders_7 : decode cX6_orders 7 = .ok (.iload_n 2, 1) := dk_28 (dk_at dksX6_orders_0 7 rfl rfl)
theorem dX6_orders_8 : decode cX6_orders 8 = .ok (.bipush 61, 2) := dk_16 61 (dk_at dksX6_orders_0 8 rfl rfl)
theorem dX6_orders_10 : decode cX6_orders 10 = .ok (.if_icmp .ge 70, 3) := dk_162 0 70 (dk_at dksX6_orders_0 10 rfl rfl)
theorem dX6_orders_13 : decode cX6_orders 13 = .ok (.iconst 0, 1) := dk_3 (dk_at dksX6_orders_0 13 rfl rfl)
theorem dX6_orders_14 : decode cX6_orders 14 = .ok (.istore_n 3, 1) := dk_62 (dk_at dksX6_orders_0 14 rfl rfl)
theorem dX6_orders_15 : decode cX6_orders 15 = .ok (.iload_n 3, 1) := dk_29 (dk_at dksX6_orders_0 15 rfl rfl)
theorem dX6_orders_16 : decode cX6_orders 16 = .ok (.aload_n 0, 1) := dk_42 (dk_at dksX6_orders_0 16 rfl rfl)
theorem dX6_orders_17 : decode cX6_orders 17 = .ok (.getfield 13, 3) := dk_180 0 13 (dk_at dksX6_orders_0 17 rfl rfl)
theorem dX6_orders_20 : decode cX6_orders 20 = .ok (.iconst 2, 1) := dk_5 (dk_at dksX6_orders_0 20 rfl rfl)
theorem dX6_orders_21 : decode cX6_orders 21 = .ok (.iaload, 1) := dk_46 (dk_at dksX6_orders_0 21 rfl rfl)
theorem dX6_orders_22 : decode cX6_orders 22 = .ok (.if_icmp .ge 52, 3) := dk_162 0 52 (dk_at dksX6_orders_1 0 rfl rfl)
theorem dX6_orders_25 : decode cX6_orders 25 = .ok (.aload_n 0, 1) := dk_42 (dk_at dksX6_orders_1 3 rfl rfl)
theorem dX6_orders_26 : decode cX6_orders 26 = .ok (.getfield 34, 3) := dk_180 0 34 (dk_at dksX6_orders_1 4 rfl rfl)
theorem dX6_orders_29 : decode cX6_orders 29 = .ok (.iload_n 3, 1) := dk_29 (dk_at dksX6_orders_1 7 rfl rfl)
theorem dX6_orders_30 : decode cX6_orders 30 = .ok (.iaload, 1) := dk_46 (dk_at dksX6_orders_1 8 rfl rfl)
theorem dX6_orders_31 : decode cX6_orders 31 = .ok (.iload_n 1, 1) := dk_27 (dk_at dksX6_orders_1 9 rfl rfl)
theorem dX6_orders_32 : decode cX6_orders 32 = .ok (.if_icmp .ne 36, 3) := dk_160 0 36 (dk_at dksX6_orders_1 10 rfl rfl)
theorem dX6_orders_35 : decode cX6_orders 35 = .ok (.aload_n 0, 1) := dk_42 (dk_at dksX6_orders_1 13 rfl rfl)
theorem dX6_orders_36 : decode cX6_orders 36 = .ok (.getfield 31, 3) := dk_180 0 31 (dk_at dksX6_orders_1 14 rfl rfl)
theorem dX6_orders_39 : decode cX6_orders 39 = .ok (.iload_n 3, 1) := dk_29 (dk_at dksX6_orders_1 17 rfl rfl)
theorem dX6_orders_40 : decode cX6_orders 40 = .ok (.iaload, 1) := dk_46 (dk_at dksX6_orders_1 18 rfl rfl)
theorem dX6_orders_41 : decode cX6_orders 41 = .ok (.iload_n 2, 1) := dk_28 (dk_at dksX6_orders_1 19 rfl rfl)
theorem dX6_orders_42 : decode cX6_orders 42 = .ok (.if_icmp .eq 6, 3) := dk_159 0 6 (dk_at dksX6_orders_1 20 rfl rfl)
theorem dX6_orders_45 : decode cX6_orders 45 = .ok (.goto 23, 3) := dk_167 0 23 (dk_at dksX6_orders_2 0 rfl rfl)
theorem dX6_orders_48 : decode cX6_orders 48 = .ok (.aload_n 0, 1) := dk_42 (dk_at dksX6_orders_2 3 rfl rfl)
theorem dX6_orders_49 : decode cX6_orders 49 = .ok (.getfield 142, 3) := dk_180 0 142 (dk_at dksX6_orders_2 4 rfl rfl)
theorem dX6_orders_52 : decode cX6_orders 52 = .ok (.aload_n 0, 1) := dk_42 (dk_at dksX6_orders_2 7 rfl rfl)
theorem dX6_orders_53 : decode cX6_orders 53 = .ok (.getfield 461, 3) := dk_180 1 205 (dk_at dksX6_orders_2 8 rfl rfl)
theorem dX6_orders_56 : decode cX6_orders 56 = .ok (.iload_n 3, 1) := dk_29 (dk_at dksX6_orders_2 11 rfl rfl)
theorem dX6_orders_57 : decode cX6_orders 57 = .ok (.iastore, 1) := dk_79 (dk_at dksX6_orders_2 12 rfl rfl)
theorem dX6_orders_58 : decode cX6_orders 58 = .ok (.aload_n 0, 1) := dk_42 (dk_at dksX6_orders_2 13 rfl rfl)
theorem dX6_orders_59 : decode cX6_orders 59 = .ok (.dup, 1) := dk_89 (dk_at dksX6_orders_2 14 rfl rfl)
theorem dX6_orders_60 : decode cX6_orders 60 = .ok (.getfield 461, 3) := dk_180 1 205 (dk_at dksX6_orders_2 15 rfl rfl)
theorem dX6_orders_63 : decode cX6_orders 63 = .ok (.iconst 1, 1) := dk_4 (dk_at dksX6_orders_2 18 rfl rfl)
theorem dX6_orders_64 : decode cX6_orders 64 = .ok (.iadd, 1) := dk_96 (dk_at dksX6_orders_2 19 rfl rfl)
theorem dX6_orders_65 : decode cX6_orders 65 = .ok (.putfield 461, 3) := dk_181 1 205 (dk_at dksX6_orders_2 20 rfl rfl)
theorem dX6_orders_68 : decode cX6_orders 68 = .ok (.iinc 3 1, 3) := dk_132 3 1 (dk_at dksX6_orders_3 0 rfl rfl)
theorem dX6_orders_71 : decode cX6_orders 71 = .ok (.goto (-56), 3) := dk_167 255 200 (dk_at dksX6_orders_3 3 rfl rfl)
theorem dX6_orders_74 : decode cX6_orders 74 = .ok (.iinc 2 1, 3) := dk_132 2 1 (dk_at dksX6_orders_3 6 rfl rfl)
theorem dX6_orders_77 : decode cX6_orders 77 = .ok (.goto (-70), 3) := dk_167 255 186 (dk_at dksX6_orders_3 9 rfl rfl)
theorem dX6_orders_80 : decode cX6_orders 80 = .ok (.return_, 1) := dk_177 (dk_at dksX6_orders_3 12 rfl rfl)
abbrev cX6_bitsOf : ByteArray := prog_23_method_84_code
def yX6_bitsOf : MethodName := ⟨RX6, "bitsOf", "(I)I"⟩
def dkwX6_bitsOf_1 : List UInt8 := [27, 172]
abbrev dktX6_bitsOf_1 : List UInt8 := dkwX6_bitsOf_1 ++ []
def dkwX6_bitsOf_0 : List UInt8 := [3, 60, 3, 61, 28, 16, 31, 162, 0, 17, 27, 26, 28, 122, 4, 126, 96, 60, 132, 2, 1, 167, 255, 239]
abbrev dktX6_bitsOf_0 : List UInt8 := dkwX6_bitsOf_0 ++ dktX6_bitsOf_1
theorem dksX6_bitsOf_0 : cX6_bitsOf.data.toList.drop 0 = dktX6_bitsOf_0 := by decide +kernel
theorem dksX6_bitsOf_1 : cX6_bitsOf.data.toList.drop 24 = dktX6_bitsOf_1 := dk_seg dksX6_bitsOf_0 24 rfl rfl
theorem dX6_bitsOf_0 : decode cX6_bitsOf 0 = .ok (.iconst 0, 1) := dk_3 (dk_at dksX6_bitsOf_0 0 rfl rfl)
theorem dX6_bitsOf_1 : decode cX6_bitsOf 1 = .ok (.istore_n 1, 1) := dk_60 (dk_at dksX6_bitsOf_0 1 rfl rfl)
theorem dX6_bitsOf_2 : decode cX6_bitsOf 2 = .ok (.iconst 0, 1) := dk_3 (dk_at dksX6_bitsOf_0 2 rfl rfl)
theorem dX6_bitsOf_3 : decode cX6_bitsOf 3 = .ok (.istore_n 2, 1) := dk_61 (dk_at dksX6_bitsOf_0 3 rfl rfl)
theorem dX6_bitsOf_4 : decode cX6_bitsOf 4 = .ok (.iload_n 2, 1) := dk_28 (dk_at dksX6_bitsOf_0 4 rfl rfl)
theorem dX6_bitsOf_5 : decode cX6_bitsOf 5 = .ok (.bipush 31, 2) := dk_16 31 (dk_at dksX6_bitsOf_0 5 rfl rfl)
theorem dX6_bitsOf_7 : decode cX6_bitsOf 7 = .ok (.if_icmp .ge 17, 3) := dk_162 0 17 (dk_at dksX6_bitsOf_0 7 rfl rfl)
theorem dX6_bitsOf_10 : decode cX6_bitsOf 10 = .ok (.iload_n 1, 1) := dk_27 (dk_at dksX6_bitsOf_0 10 rfl rfl)
theorem dX6_bitsOf_11 : decode cX6_bitsOf 11 = .ok (.iload_n 0, 1) := dk_26 (dk_at dksX6_bitsOf_0 11 rfl rfl)
theorem dX6_bitsOf_12 : decode cX6_bitsOf 12 = .ok (.iload_n 2, 1) := dk_28 (dk_at dksX6_bitsOf_0 12 rfl rfl)
theorem dX6_bitsOf_13 : decode cX6_bitsOf 13 = .ok (.ishr, 1) := dk_122 (dk_at dksX6_bitsOf_0 13 rfl rfl)
theorem dX6_bitsOf_14 : decode cX6_bitsOf 14 = .ok (.iconst 1, 1) := dk_4 (dk_at dksX6_bitsOf_0 14 rfl rfl)
theorem dX6_bitsOf_15 : decode cX6_bitsOf 15 = .ok (.iand, 1) := dk_126 (dk_at dksX6_bitsOf_0 15 rfl rfl)
theorem dX6_bitsOf_16 : decode cX6_bitsOf 16 = .ok (.iadd, 1) := dk_96 (dk_at dksX6_bitsOf_0 16 rfl rfl)
theorem dX6_bitsOf_17 : decode cX6_bitsOf 17 = .ok (.istore_n 1, 1) := dk_60 (dk_at dksX6_bitsOf_0 17 rfl rfl)
theorem dX6_bitsOf_18 : decode cX6_bitsOf 18 = .ok (.iinc 2 1, 3) := dk_132 2 1 (dk_at dksX6_bitsOf_0 18 rfl rfl)
theorem dX6_bitsOf_21 : decode cX6_bitsOf 21 = .ok (.goto (-17), 3) := dk_167 255 239 (dk_at dksX6_bitsOf_0 21 rfl rfl)
theorem dX6_bitsOf_24 : decode cX6_bitsOf 24 = .ok (.iload_n 1, 1) := dk_27 (dk_at dksX6_bitsOf_1 0 rfl rfl)
theorem dX6_bitsOf_25 : decode cX6_bitsOf 25 = .ok (.ireturn, 1) := dk_172 (dk_at dksX6_bitsOf_1 1 rfl rfl)
abbrev cX6_behind : ByteArray := prog_23_method_85_code
def yX6_behind : MethodName := ⟨RX6, "behind", "(IIII)J"⟩
def dkwX6_behind_4 : List UInt8 := [182, 1, 211, 3, 184, 1, 217, 47, 97, 173]
abbrev dktX6_behind_4 : List UInt8 := dkwX6_behind_4 ++ []
def dkwX6_behind_3 : List UInt8 := [180, 1, 205, 160, 0, 8, 22, 7, 167, 0, 24, 22, 7, 42, 180, 0, 139, 28, 42, 29, 28, 21, 6]
abbrev dktX6_behind_3 : List UInt8 := dkwX6_behind_3 ++ dktX6_behind_4
def dkwX6_behind_2 : List UInt8 := [29, 21, 4, 184, 1, 217, 47, 173, 42, 27, 29, 28, 21, 5, 21, 6, 182, 1, 220, 55, 7, 28, 42]
abbrev dktX6_behind_2 : List UInt8 := dkwX6_behind_2 ++ dktX6_behind_3
def dkwX6_behind_1 : List UInt8 := [28, 42, 180, 1, 205, 162, 0, 27, 21, 6, 21, 5, 160, 0, 20, 28, 158, 0, 16, 42, 180, 0, 139, 28]
abbrev dktX6_behind_1 : List UInt8 := dkwX6_behind_1 ++ dktX6_behind_2
def dkwX6_behind_0 : List UInt8 := [28, 154, 0, 7, 3, 167, 0, 10, 42, 28, 4, 100, 182, 1, 214, 54, 5, 42, 28, 182, 1, 214, 54, 6]
abbrev dktX6_behind_0 : List UInt8 := dkwX6_behind_0 ++ dktX6_behind_1
theorem dksX6_behind_0 : cX6_behind.data.toList.drop 0 = dktX6_behind_0 := by decide +kernel
theorem dksX6_behind_1 : cX6_behind.data.toList.drop 24 = dktX6_behind_1 := dk_seg dksX6_behind_0 24 rfl rfl
theorem dksX6_behind_2 : cX6_behind.data.toList.drop 48 = dktX6_behind_2 := dk_seg dksX6_behind_1 24 rfl rfl
theorem dksX6_behind_3 : cX6_behind.data.toList.drop 71 = dktX6_behind_3 := dk_seg dksX6_behind_2 23 rfl rfl
theorem dksX6_behind_4 : cX6_behind.data.toList.drop 94 = dktX6_behind_4 := dk_seg dksX6_behind_3 23 rfl rfl
theorem dX6_behind_0 : decode cX6_behind 0 = .ok (.iload_n 2, 1) := dk_28 (dk_at dksX6_behind_0 0 rfl rfl)
theorem dX6_behind_1 : decode cX6_behind 1 = .ok (.ifCond .ne 7, 3) := dk_154 0 7 (dk_at dksX6_behind_0 1 rfl rfl)
theorem dX6_behind_4 : decode cX6_behind 4 = .ok (.iconst 0, 1) := dk_3 (dk_at dksX6_behind_0 4 rfl rfl)
theorem dX6_behind_5 : decode cX6_behind 5 = .ok (.goto 10, 3) := dk_167 0 10 (dk_at dksX6_behind_0 5 rfl rfl)
theorem dX6_behind_8 : decode cX6_behind 8 = .ok (.aload_n 0, 1) := dk_42 (dk_at dksX6_behind_0 8 rfl rfl)
theorem dX6_behind_9 : decode cX6_behind 9 = .ok (.iload_n 2, 1) := dk_28 (dk_at dksX6_behind_0 9 rfl rfl)
theorem dX6_behind_10 : decode cX6_behind 10 = .ok (.iconst 1, 1) := dk_4 (dk_at dksX6_behind_0 10 rfl rfl)
theorem dX6_behind_11 : decode cX6_behind 11 = .ok (.isub, 1) := dk_100 (dk_at dksX6_behind_0 11 rfl rfl)
theorem dX6_behind_12 : decode cX6_behind 12 = .ok (.invokevirtual 470, 3) := dk_182 1 214 (dk_at dksX6_behind_0 12 rfl rfl)
theorem dX6_behind_15 : decode cX6_behind 15 = .ok (.istore 5, 2) := dk_54 5 (dk_at dksX6_behind_0 15 rfl rfl)
theorem dX6_behind_17 : decode cX6_behind 17 = .ok (.aload_n 0, 1) := dk_42 (dk_at dksX6_behind_0 17 rfl rfl)
theorem dX6_behind_18 : decode cX6_behind 18 = .ok (.iload_n 2, 1) := dk_28 (dk_at dksX6_behind_0 18 rfl rfl)
theorem dX6_behind_19 : decode cX6_behind 19 = .ok (.invokevirtual 470, 3) := dk_182 1 214 (dk_at dksX6_behind_0 19 rfl rfl)
theorem dX6_behind_22 : decode cX6_behind 22 = .ok (.istore 6, 2) := dk_54 6 (dk_at dksX6_behind_0 22 rfl rfl)
theorem dX6_behind_24 : decode cX6_behind 24 = .ok (.iload_n 2, 1) := dk_28 (dk_at dksX6_behind_1 0 rfl rfl)
theorem dX6_behind_25 : decode cX6_behind 25 = .ok (.aload_n 0, 1) := dk_42 (dk_at dksX6_behind_1 1 rfl rfl)
theorem dX6_behind_26 : decode cX6_behind 26 = .ok (.getfield 461, 3) := dk_180 1 205 (dk_at dksX6_behind_1 2 rfl rfl)
theorem dX6_behind_29 : decode cX6_behind 29 = .ok (.if_icmp .ge 27, 3) := dk_162 0 27 (dk_at dksX6_behind_1 5 rfl rfl)
theorem dX6_behind_32 : decode cX6_behind 32 = .ok (.iload 6, 2) := dk_21 6 (dk_at dksX6_behind_1 8 rfl rfl)
theorem dX6_behind_34 : decode cX6_behind 34 = .ok (.iload 5, 2) := dk_21 5 (dk_at dksX6_behind_1 10 rfl rfl)
theorem dX6_behind_36 : decode cX6_behind 36 = .ok (.if_icmp .ne 20, 3) := dk_160 0 20 (dk_at dksX6_behind_1 12 rfl rfl)
theorem dX6_behind_39 : decode cX6_behind 39 = .ok (.iload_n 2, 1) := dk_28 (dk_at dksX6_behind_1 15 rfl rfl)
theorem dX6_behind_40 : decode cX6_behind 40 = .ok (.ifCond .le 16, 3) := dk_158 0 16 (dk_at dksX6_behind_1 16 rfl rfl)
theorem dX6_behind_43 : decode cX6_behind 43 = .ok (.aload_n 0, 1) := dk_42 (dk_at dksX6_behind_1 19 rfl rfl)
theorem dX6_behind_44 : decode cX6_behind 44 = .ok (.getfield 139, 3) := dk_180 0 139 (dk_at dksX6_behind_1 20 rfl rfl)
theorem dX6_behind_47 : decode cX6_behind 47 = .ok (.iload_n 2, 1) := dk_28 (dk_at dksX6_behind_1 23 rfl rfl)
theorem dX6_behind_48 : decode cX6_behind 48 = .ok (.iload_n 3, 1) := dk_29 (dk_at dksX6_behind_2 0 rfl rfl)
theorem dX6_behind_49 : decode cX6_behind 49 = .ok (.iload 4, 2) := dk_21 4 (dk_at dksX6_behind_2 1 rfl rfl)
theorem dX6_behind_51 : decode cX6_behind 51 = .ok (.invokestatic 473, 3) := dk_184 1 217 (dk_at dksX6_behind_2 3 rfl rfl)
theorem dX6_behind_54 : decode cX6_behind 54 = .ok (.laload, 1) := dk_47 (dk_at dksX6_behind_2 6 rfl rfl)
theorem dX6_behind_55 : decode cX6_behind 55 = .ok (.lreturn, 1) := dk_173 (dk_at dksX6_behind_2 7 rfl rfl)
theorem dX6_behind_56 : decode cX6_behind 56 = .ok (.aload_n 0, 1) := dk_42 (dk_at dksX6_behind_2 8 rfl rfl)
theorem dX6_behind_57 : decode cX6_behind 57 = .ok (.iload_n 1, 1) := dk_27 (dk_at dksX6_behind_2 9 rfl rfl)
theorem dX6_behind_58 : decode cX6_behind 58 = .ok (.iload_n 3, 1) := dk_29 (dk_at dksX6_behind_2 10 rfl rfl)
theorem dX6_behind_59 : decode cX6_behind 59 = .ok (.iload_n 2, 1) := dk_28 (dk_at dksX6_behind_2 11 rfl rfl)
theorem dX6_behind_60 : decode cX6_behind 60 = .ok (.iload 5, 2) := dk_21 5 (dk_at dksX6_behind_2 12 rfl rfl)
theorem dX6_behind_62 : decode cX6_behind 62 = .ok (.iload 6, 2) := dk_21 6 (dk_at dksX6_behind_2 14 rfl rfl)
theorem dX6_behind_64 : decode cX6_behind 64 = .ok (.invokevirtual 476, 3) := dk_182 1 220 (dk_at dksX6_behind_2 16 rfl rfl)
theorem dX6_behind_67 : decode cX6_behind 67 = .ok (.lstore 7, 2) := dk_55 7 (dk_at dksX6_behind_2 19 rfl rfl)
theorem dX6_behind_69 : decode cX6_behind 69 = .ok (.iload_n 2, 1) := dk_28 (dk_at dksX6_behind_2 21 rfl rfl)
theorem dX6_behind_70 : decode cX6_behind 70 = .ok (.aload_n 0, 1) := dk_42 (dk_at dksX6_behind_2 22 rfl rfl)
theorem dX6_behind_71 : decode cX6_behind 71 = .ok (.getfield 461, 3) := dk_180 1 205 (dk_at dksX6_behind_3 0 rfl rfl)
theorem dX6_behind_74 : decode cX6_behind 74 = .ok (.if_icmp .ne 8, 3) := dk_160 0 8 (dk_at dksX6_behind_3 3 rfl rfl)
theorem dX6_behind_77 : decode cX6_behind 77 = .ok (.lload 7, 2) := dk_22 7 (dk_at dksX6_behind_3 6 rfl rfl)
theorem dX6_behind_79 : decode cX6_behind 79 = .ok (.goto 24, 3) := dk_167 0 24 (dk_at dksX6_behind_3 8 rfl rfl)
theorem dX6_behind_82 : decode cX6_behind 82 = .ok (.lload 7, 2) := dk_22 7 (dk_at dksX6_behind_3 11 rfl rfl)
theorem dX6_behind_84 : decode cX6_behind 84 = .ok (.aload_n 0, 1) := dk_42 (dk_at dksX6_behind_3 13 rfl rfl)
theorem dX6_behind_85 : decode cX6_behind 85 = .ok (.getfield 139, 3) := dk_180 0 139 (dk_at dksX6_behind_3 14 rfl rfl)
theorem dX6_behind_88 : decode cX6_behind 88 = .ok (.iload_n 2, 1) := dk_28 (dk_at dksX6_behind_3 17 rfl rfl)
theorem dX6_behind_89 : decode cX6_behind 89 = .ok (.aload_n 0, 1) := dk_42 (dk_at dksX6_behind_3 18 rfl rfl)
theorem dX6_behind_90 : decode cX6_behind 90 = .ok (.iload_n 3, 1) := dk_29 (dk_at dksX6_behind_3 19 rfl rfl)
theorem dX6_behind_91 : decode cX6_behind 91 = .ok (.iload_n 2, 1) := dk_28 (dk_at dksX6_behind_3 20 rfl rfl)
theorem dX6_behind_92 : decode cX6_behind 92 = .ok (.iload 6, 2) := dk_21 6 (dk_at dksX6_behind_3 21 rfl rfl)
theorem dX6_behind_94 : decode cX6_behind 94 = .ok (.invokevirtual 467, 3) := dk_182 1 211 (dk_at dksX6_behind_4 0 rfl rfl)
theorem dX6_behind_97 : decode cX6_behind 97 = .ok (.iconst 0, 1) := dk_3 (dk_at dksX6_behind_4 3 rfl rfl)
theorem dX6_behind_98 : decode cX6_behind 98 = .ok (.invokestatic 473, 3) := dk_184 1 217 (dk_at dksX6_behind_4 4 rfl rfl)
theorem dX6_behind_101 : decode cX6_behind 101 = .ok (.laload, 1) := dk_47 (dk_at dksX6_behind_4 7 rfl rfl)
theorem dX6_behind_102 : decode cX6_behind 102 = .ok (.ladd, 1) := dk_97 (dk_at dksX6_behind_4 8 rfl rfl)
theorem dX6_behind_103 : decode cX6_behind 103 = .ok (.lreturn, 1) := dk_173 (dk_at dksX6_behind_4 9 rfl rfl)
abbrev cX6_dayOf : ByteArray := prog_23_method_80_code
def yX6_dayOf : MethodName := ⟨RX6, "dayOf", "(I)I"⟩
def dkwX6_dayOf_1 : List UInt8 := [172]
abbrev dktX6_dayOf_1 : List UInt8 := dkwX6_dayOf_1 ++ []
def dkwX6_dayOf_0 : List UInt8 := [27, 42, 180, 1, 205, 162, 0, 17, 42, 180, 0, 31, 42, 180, 0, 142, 27, 46, 46, 167, 0, 5, 16, 61]
abbrev dktX6_dayOf_0 : List UInt8 := dkwX6_dayOf_0 ++ dktX6_dayOf_1
theorem dksX6_dayOf_0 : cX6_dayOf.data.toList.drop 0 = dktX6_dayOf_0 := by decide +kernel
theorem dksX6_dayOf_1 : cX6_dayOf.data.toList.drop 24 = dktX6_dayOf_1 := dk_seg dksX6_dayOf_0 24 rfl rfl
theorem dX6_dayOf_0 : decode cX6_dayOf 0 = .ok (.iload_n 1, 1) := dk_27 (dk_at dksX6_dayOf_0 0 rfl rfl)
theorem dX6_dayOf_1 : decode cX6_dayOf 1 = .ok (.aload_n 0, 1) := dk_42 (dk_at dksX6_dayOf_0 1 rfl rfl)
theorem dX6_dayOf_2 : decode cX6_dayOf 2 = .ok (.getfield 461, 3) := dk_180 1 205 (dk_at dksX6_dayOf_0 2 rfl rfl)
theorem dX6_dayOf_5 : decode cX6_dayOf 5 = .ok (.if_icmp .ge 17, 3) := dk_162 0 17 (dk_at dksX6_dayOf_0 5 rfl rfl)
theorem dX6_dayOf_8 : decode cX6_dayOf 8 = .ok (.aload_n 0, 1) := dk_42 (dk_at dksX6_dayOf_0 8 rfl rfl)
theorem dX6_dayOf_9 : decode cX6_dayOf 9 = .ok (.getfield 31, 3) := dk_180 0 31 (dk_at dksX6_dayOf_0 9 rfl rfl)
theorem dX6_dayOf_12 : decode cX6_dayOf 12 = .ok (.aload_n 0, 1) := dk_42 (dk_at dksX6_dayOf_0 12 rfl rfl)
theorem dX6_dayOf_13 : decode cX6_dayOf 13 = .ok (.getfield 142, 3) := dk_180 0 142 (dk_at dksX6_dayOf_0 13 rfl rfl)
theorem dX6_dayOf_16 : decode cX6_dayOf 16 = .ok (.iload_n 1, 1) := dk_27 (dk_at dksX6_dayOf_0 16 rfl rfl)
theorem dX6_dayOf_17 : decode cX6_dayOf 17 = .ok (.iaload, 1) := dk_46 (dk_at dksX6_dayOf_0 17 rfl rfl)
theorem dX6_dayOf_18 : decode cX6_dayOf 18 = .ok (.iaload, 1) := dk_46 (dk_at dksX6_dayOf_0 18 rfl rfl)
theorem dX6_dayOf_19 : decode cX6_dayOf 19 = .ok (.goto 5, 3) := dk_167 0 5 (dk_at dksX6_dayOf_0 19 rfl rfl)
theorem dX6_dayOf_22 : decode cX6_dayOf 22 = .ok (.bipush 61, 2) := dk_16 61 (dk_at dksX6_dayOf_0 22 rfl rfl)
theorem dX6_dayOf_24 : decode cX6_dayOf 24 = .ok (.ireturn, 1) := dk_172 (dk_at dksX6_dayOf_1 0 rfl rfl)
abbrev cX6_atYet : ByteArray := prog_23_method_83_code
def yX6_atYet : MethodName := ⟨RX6, "atYet", "(III)I"⟩
def dkwX6_atYet_0 : List UInt8 := [26, 17, 0, 128, 104, 27, 96, 5, 104, 28, 96, 172]
abbrev dktX6_atYet_0 : List UInt8 := dkwX6_atYet_0 ++ []
theorem dksX6_atYet_0 : cX6_atYet.data.toList.drop 0 = dktX6_atYet_0 := by decide +kernel
theorem dX6_atYet_0 : decode cX6_atYet 0 = .ok (.iload_n 0, 1) := dk_26 (dk_at dksX6_atYet_0 0 rfl rfl)
theorem dX6_atYet_1 : decode cX6_atYet 1 = .ok (.sipush 128, 3) := dk_17 0 128 (dk_at dksX6_atYet_0 1 rfl rfl)
theorem dX6_atYet_4 : decode cX6_atYet 4 = .ok (.imul, 1) := dk_104 (dk_at dksX6_atYet_0 4 rfl rfl)
theorem dX6_atYet_5 : decode cX6_atYet 5 = .ok (.iload_n 1, 1) := dk_27 (dk_at dksX6_atYet_0 5 rfl rfl)
theorem dX6_atYet_6 : decode cX6_atYet 6 = .ok (.iadd, 1) := dk_96 (dk_at dksX6_atYet_0 6 rfl rfl)
theorem dX6_atYet_7 : decode cX6_atYet 7 = .ok (.iconst 2, 1) := dk_5 (dk_at dksX6_atYet_0 7 rfl rfl)
theorem dX6_atYet_8 : decode cX6_atYet 8 = .ok (.imul, 1) := dk_104 (dk_at dksX6_atYet_0 8 rfl rfl)
theorem dX6_atYet_9 : decode cX6_atYet 9 = .ok (.iload_n 2, 1) := dk_28 (dk_at dksX6_atYet_0 9 rfl rfl)
theorem dX6_atYet_10 : decode cX6_atYet 10 = .ok (.iadd, 1) := dk_96 (dk_at dksX6_atYet_0 10 rfl rfl)
theorem dX6_atYet_11 : decode cX6_atYet 11 = .ok (.ireturn, 1) := dk_172 (dk_at dksX6_atYet_0 11 rfl rfl)
abbrev cX6_brings : ByteArray := prog_23_method_82_code
def yX6_brings : MethodName := ⟨RX6, "brings", "(IIIII)J"⟩
def dkwX6_brings_4 : List UInt8 := [55, 6, 132, 8, 1, 167, 255, 164, 22, 6, 173]
abbrev dktX6_brings_4 : List UInt8 := dkwX6_brings_4 ++ []
def dkwX6_brings_3 : List UInt8 := [180, 0, 49, 21, 8, 46, 122, 4, 126, 4, 160, 0, 16, 22, 6, 42, 180, 0, 145, 21, 8, 46, 133, 97]
abbrev dktX6_brings_3 : List UInt8 := dkwX6_brings_3 ++ dktX6_brings_4
def dkwX6_brings_2 : List UInt8 := [21, 5, 161, 0, 6, 167, 0, 43, 42, 28, 29, 42, 180, 0, 43, 21, 8, 46, 182, 1, 211, 42]
abbrev dktX6_brings_2 : List UInt8 := dkwX6_brings_2 ++ dktX6_brings_3
def dkwX6_brings_1 : List UInt8 := [27, 160, 0, 70, 42, 180, 0, 43, 21, 8, 46, 21, 4, 161, 0, 58, 42, 180, 0, 43, 21, 8, 46]
abbrev dktX6_brings_1 : List UInt8 := dkwX6_brings_1 ++ dktX6_brings_2
def dkwX6_brings_0 : List UInt8 := [9, 55, 6, 3, 54, 8, 21, 8, 42, 180, 0, 13, 6, 46, 162, 0, 87, 42, 180, 0, 46, 21, 8, 46]
abbrev dktX6_brings_0 : List UInt8 := dkwX6_brings_0 ++ dktX6_brings_1
theorem dksX6_brings_0 : cX6_brings.data.toList.drop 0 = dktX6_brings_0 := by decide +kernel
theorem dksX6_brings_1 : cX6_brings.data.toList.drop 24 = dktX6_brings_1 := dk_seg dksX6_brings_0 24 rfl rfl
theorem dksX6_brings_2 : cX6_brings.data.toList.drop 47 = dktX6_brings_2 := dk_seg dksX6_brings_1 23 rfl rfl
theorem dksX6_brings_3 : cX6_brings.data.toList.drop 69 = dktX6_brings_3 := dk_seg dksX6_brings_2 22 rfl rfl
theorem dksX6_brings_4 : cX6_brings.data.toList.drop 93 = dktX6_brings_4 := dk_seg dksX6_brings_3 24 rfl rfl
theorem dX6_brings_0 : decode cX6_brings 0 = .ok (.lconst 0, 1) := dk_9 (dk_at dksX6_brings_0 0 rfl rfl)
theorem dX6_brings_1 : decode cX6_brings 1 = .ok (.lstore 6, 2) := dk_55 6 (dk_at dksX6_brings_0 1 rfl rfl)
theorem dX6_brings_3 : decode cX6_brings 3 = .ok (.iconst 0, 1) := dk_3 (dk_at dksX6_brings_0 3 rfl rfl)
theorem dX6_brings_4 : decode cX6_brings 4 = .ok (.istore 8, 2) := dk_54 8 (dk_at dksX6_brings_0 4 rfl rfl)
theorem dX6_brings_6 : decode cX6_brings 6 = .ok (.iload 8, 2) := dk_21 8 (dk_at dksX6_brings_0 6 rfl rfl)
theorem dX6_brings_8 : decode cX6_brings 8 = .ok (.aload_n 0, 1) := dk_42 (dk_at dksX6_brings_0 8 rfl rfl)
theorem dX6_brings_9 : decode cX6_brings 9 = .ok (.getfield 13, 3) := dk_180 0 13 (dk_at dksX6_brings_0 9 rfl rfl)
theorem dX6_brings_12 : decode cX6_brings 12 = .ok (.iconst 3, 1) := dk_6 (dk_at dksX6_brings_0 12 rfl rfl)
theorem dX6_brings_13 : decode cX6_brings 13 = .ok (.iaload, 1) := dk_46 (dk_at dksX6_brings_0 13 rfl rfl)
theorem dX6_brings_14 : decode cX6_brings 14 = .ok (.if_icmp .ge 87, 3) := dk_162 0 87 (dk_at dksX6_brings_0 14 rfl rfl)
theorem dX6_brings_17 : decode cX6_brings 17 = .ok (.aload_n 0, 1) := dk_42 (dk_at dksX6_brings_0 17 rfl rfl)
theorem dX6_brings_18 : decode cX6_brings 18 = .ok (.getfield 46, 3) := dk_180 0 46 (dk_at dksX6_brings_0 18 rfl rfl)
theorem dX6_brings_21 : decode cX6_brings 21 = .ok (.iload 8, 2) := dk_21 8 (dk_at dksX6_brings_0 21 rfl rfl)
theorem dX6_brings_23 : decode cX6_brings 23 = .ok (.iaload, 1) := dk_46 (dk_at dksX6_brings_0 23 rfl rfl)
theorem dX6_brings_24 : decode cX6_brings 24 = .ok (.iload_n 1, 1) := dk_27 (dk_at dksX6_brings_1 0 rfl rfl)
theorem dX6_brings_25 : decode cX6_brings 25 = .ok (.if_icmp .ne 70, 3) := dk_160 0 70 (dk_at dksX6_brings_1 1 rfl rfl)
theorem dX6_brings_28 : decode cX6_brings 28 = .ok (.aload_n 0, 1) := dk_42 (dk_at dksX6_brings_1 4 rfl rfl)
theorem dX6_brings_29 : decode cX6_brings 29 = .ok (.getfield 43, 3) := dk_180 0 43 (dk_at dksX6_brings_1 5 rfl rfl)
theorem dX6_brings_32 : decode cX6_brings 32 = .ok (.iload 8, 2) := dk_21 8 (dk_at dksX6_brings_1 8 rfl rfl)
theorem dX6_brings_34 : decode cX6_brings 34 = .ok (.iaload, 1) := dk_46 (dk_at dksX6_brings_1 10 rfl rfl)
theorem dX6_brings_35 : decode cX6_brings 35 = .ok (.iload 4, 2) := dk_21 4 (dk_at dksX6_brings_1 11 rfl rfl)
theorem dX6_brings_37 : decode cX6_brings 37 = .ok (.if_icmp .lt 58, 3) := dk_161 0 58 (dk_at dksX6_brings_1 13 rfl rfl)
theorem dX6_brings_40 : decode cX6_brings 40 = .ok (.aload_n 0, 1) := dk_42 (dk_at dksX6_brings_1 16 rfl rfl)
theorem dX6_brings_41 : decode cX6_brings 41 = .ok (.getfield 43, 3) := dk_180 0 43 (dk_at dksX6_brings_1 17 rfl rfl)
theorem dX6_brings_44 : decode cX6_brings 44 = .ok (.iload 8, 2) := dk_21 8 (dk_at dksX6_brings_1 20 rfl rfl)
theorem dX6_brings_46 : decode cX6_brings 46 = .ok (.iaload, 1) := dk_46 (dk_at dksX6_brings_1 22 rfl rfl)
theorem dX6_brings_47 : decode cX6_brings 47 = .ok (.iload 5, 2) := dk_21 5 (dk_at dksX6_brings_2 0 rfl rfl)
theorem dX6_brings_49 : decode cX6_brings 49 = .ok (.if_icmp .lt 6, 3) := dk_161 0 6 (dk_at dksX6_brings_2 2 rfl rfl)
theorem dX6_brings_52 : decode cX6_brings 52 = .ok (.goto 43, 3) := dk_167 0 43 (dk_at dksX6_brings_2 5 rfl rfl)
theorem dX6_brings_55 : decode cX6_brings 55 = .ok (.aload_n 0, 1) := dk_42 (dk_at dksX6_brings_2 8 rfl rfl)
theorem dX6_brings_56 : decode cX6_brings 56 = .ok (.iload_n 2, 1) := dk_28 (dk_at dksX6_brings_2 9 rfl rfl)
theorem dX6_brings_57 : decode cX6_brings 57 = .ok (.iload_n 3, 1) := dk_29 (dk_at dksX6_brings_2 10 rfl rfl)
theorem dX6_brings_58 : decode cX6_brings 58 = .ok (.aload_n 0, 1) := dk_42 (dk_at dksX6_brings_2 11 rfl rfl)
theorem dX6_brings_59 : decode cX6_brings 59 = .ok (.getfield 43, 3) := dk_180 0 43 (dk_at dksX6_brings_2 12 rfl rfl)
theorem dX6_brings_62 : decode cX6_brings 62 = .ok (.iload 8, 2) := dk_21 8 (dk_at dksX6_brings_2 15 rfl rfl)
theorem dX6_brings_64 : decode cX6_brings 64 = .ok (.iaload, 1) := dk_46 (dk_at dksX6_brings_2 17 rfl rfl)
theorem dX6_brings_65 : decode cX6_brings 65 = .ok (.invokevirtual 467, 3) := dk_182 1 211 (dk_at dksX6_brings_2 18 rfl rfl)
theorem dX6_brings_68 : decode cX6_brings 68 = .ok (.aload_n 0, 1) := dk_42 (dk_at dksX6_brings_2 21 rfl rfl)
theorem dX6_brings_69 : decode cX6_brings 69 = .ok (.getfield 49, 3) := dk_180 0 49 (dk_at dksX6_brings_3 0 rfl rfl)
theorem dX6_brings_72 : decode cX6_brings 72 = .ok (.iload 8, 2) := dk_21 8 (dk_at dksX6_brings_3 3 rfl rfl)
theorem dX6_brings_74 : decode cX6_brings 74 = .ok (.iaload, 1) := dk_46 (dk_at dksX6_brings_3 5 rfl rfl)
theorem dX6_brings_75 : decode cX6_brings 75 = .ok (.ishr, 1) := dk_122 (dk_at dksX6_brings_3 6 rfl rfl)
theorem dX6_brings_76 : decode cX6_brings 76 = .ok (.iconst 1, 1) := dk_4 (dk_at dksX6_brings_3 7 rfl rfl)
theorem dX6_brings_77 : decode cX6_brings 77 = .ok (.iand, 1) := dk_126 (dk_at dksX6_brings_3 8 rfl rfl)
theorem dX6_brings_78 : decode cX6_brings 78 = .ok (.iconst 1, 1) := dk_4 (dk_at dksX6_brings_3 9 rfl rfl)
theorem dX6_brings_79 : decode cX6_brings 79 = .ok (.if_icmp .ne 16, 3) := dk_160 0 16 (dk_at dksX6_brings_3 10 rfl rfl)
theorem dX6_brings_82 : decode cX6_brings 82 = .ok (.lload 6, 2) := dk_22 6 (dk_at dksX6_brings_3 13 rfl rfl)
theorem dX6_brings_84 : decode cX6_brings 84 = .ok (.aload_n 0, 1) := dk_42 (dk_at dksX6_brings_3 15 rfl rfl)
theorem dX6_brings_85 : decode cX6_brings 85 = .ok (.getfield 145, 3) := dk_180 0 145 (dk_at dksX6_brings_3 16 rfl rfl)
theorem dX6_brings_88 : decode cX6_brings 88 = .ok (.iload 8, 2) := dk_21 8 (dk_at dksX6_brings_3 19 rfl rfl)
theorem dX6_brings_90 : decode cX6_brings 90 = .ok (.iaload, 1) := dk_46 (dk_at dksX6_brings_3 21 rfl rfl)
theorem dX6_brings_91 : decode cX6_brings 91 = .ok (.i2l, 1) := dk_133 (dk_at dksX6_brings_3 22 rfl rfl)
theorem dX6_brings_92 : decode cX6_brings 92 = .ok (.ladd, 1) := dk_97 (dk_at dksX6_brings_3 23 rfl rfl)
theorem dX6_brings_93 : decode cX6_brings 93 = .ok (.lstore 6, 2) := dk_55 6 (dk_at dksX6_brings_4 0 rfl rfl)
theorem dX6_brings_95 : decode cX6_brings 95 = .ok (.iinc 8 1, 3) := dk_132 8 1 (dk_at dksX6_brings_4 2 rfl rfl)
theorem dX6_brings_98 : decode cX6_brings 98 = .ok (.goto (-92), 3) := dk_167 255 164 (dk_at dksX6_brings_4 5 rfl rfl)
theorem dX6_brings_101 : decode cX6_brings 101 = .ok (.lload 6, 2) := dk_22 6 (dk_at dksX6_brings_4 8 rfl rfl)
theorem dX6_brings_103 : decode cX6_brings 103 = .ok (.lreturn, 1) := dk_173 (dk_at dksX6_brings_4 10 rfl rfl)
abbrev cX6_living : ByteArray := prog_23_method_81_code
def yX6_living : MethodName := ⟨RX6, "living", "(III)I"⟩
def dkwX6_living_2 : List UInt8 := [167, 255, 214, 21, 4, 172]
abbrev dktX6_living_2 : List UInt8 := dkwX6_living_2 ++ []
def dkwX6_living_1 : List UInt8 := [28, 21, 5, 182, 1, 208, 29, 162, 0, 14, 21, 4, 4, 21, 5, 120, 2, 130, 126, 54, 4, 132, 5, 1]
abbrev dktX6_living_1 : List UInt8 := dkwX6_living_1 ++ dktX6_living_2
def dkwX6_living_0 : List UInt8 := [27, 54, 4, 3, 54, 5, 21, 5, 16, 7, 162, 0, 41, 27, 21, 5, 122, 4, 126, 4, 160, 0, 25, 42]
abbrev dktX6_living_0 : List UInt8 := dkwX6_living_0 ++ dktX6_living_1
theorem dksX6_living_0 : cX6_living.data.toList.drop 0 = dktX6_living_0 := by decide +kernel
theorem dksX6_living_1 : cX6_living.data.toList.drop 24 = dktX6_living_1 := dk_seg dksX6_living_0 24 rfl rfl
theorem dksX6_living_2 : cX6_living.data.toList.drop 48 = dktX6_living_2 := dk_seg dksX6_living_1 24 rfl rfl
theorem dX6_living_0 : decode cX6_living 0 = .ok (.iload_n 1, 1) := dk_27 (dk_at dksX6_living_0 0 rfl rfl)
theorem dX6_living_1 : decode cX6_living 1 = .ok (.istore 4, 2) := dk_54 4 (dk_at dksX6_living_0 1 rfl rfl)
theorem dX6_living_3 : decode cX6_living 3 = .ok (.iconst 0, 1) := dk_3 (dk_at dksX6_living_0 3 rfl rfl)
theorem dX6_living_4 : decode cX6_living 4 = .ok (.istore 5, 2) := dk_54 5 (dk_at dksX6_living_0 4 rfl rfl)
theorem dX6_living_6 : decode cX6_living 6 = .ok (.iload 5, 2) := dk_21 5 (dk_at dksX6_living_0 6 rfl rfl)
theorem dX6_living_8 : decode cX6_living 8 = .ok (.bipush 7, 2) := dk_16 7 (dk_at dksX6_living_0 8 rfl rfl)
theorem dX6_living_10 : decode cX6_living 10 = .ok (.if_icmp .ge 41, 3) := dk_162 0 41 (dk_at dksX6_living_0 10 rfl rfl)
theorem dX6_living_13 : decode cX6_living 13 = .ok (.iload_n 1, 1) := dk_27 (dk_at dksX6_living_0 13 rfl rfl)
theorem dX6_living_14 : decode cX6_living 14 = .ok (.iload 5, 2) := dk_21 5 (dk_at dksX6_living_0 14 rfl rfl)
theorem dX6_living_16 : decode cX6_living 16 = .ok (.ishr, 1) := dk_122 (dk_at dksX6_living_0 16 rfl rfl)
theorem dX6_living_17 : decode cX6_living 17 = .ok (.iconst 1, 1) := dk_4 (dk_at dksX6_living_0 17 rfl rfl)
theorem dX6_living_18 : decode cX6_living 18 = .ok (.iand, 1) := dk_126 (dk_at dksX6_living_0 18 rfl rfl)
theorem dX6_living_19 : decode cX6_living 19 = .ok (.iconst 1, 1) := dk_4 (dk_at dksX6_living_0 19 rfl rfl)
theorem dX6_living_20 : decode cX6_living 20 = .ok (.if_icmp .ne 25, 3) := dk_160 0 25 (dk_at dksX6_living_0 20 rfl rfl)
theorem dX6_living_23 : decode cX6_living 23 = .ok (.aload_n 0, 1) := dk_42 (dk_at dksX6_living_0 23 rfl rfl)
theorem dX6_living_24 : decode cX6_living 24 = .ok (.iload_n 2, 1) := dk_28 (dk_at dksX6_living_1 0 rfl rfl)
theorem dX6_living_25 : decode cX6_living 25 = .ok (.iload 5, 2) := dk_21 5 (dk_at dksX6_living_1 1 rfl rfl)
theorem dX6_living_27 : decode cX6_living 27 = .ok (.invokevirtual 464, 3) := dk_182 1 208 (dk_at dksX6_living_1 3 rfl rfl)
theorem dX6_living_30 : decode cX6_living 30 = .ok (.iload_n 3, 1) := dk_29 (dk_at dksX6_living_1 6 rfl rfl)
theorem dX6_living_31 : decode cX6_living 31 = .ok (.if_icmp .ge 14, 3) := dk_162 0 14 (dk_at dksX6_living_1 7 rfl rfl)
theorem dX6_living_34 : decode cX6_living 34 = .ok (.iload 4, 2) := dk_21 4 (dk_at dksX6_living_1 10 rfl rfl)
theorem dX6_living_36 : decode cX6_living 36 = .ok (.iconst 1, 1) := dk_4 (dk_at dksX6_living_1 12 rfl rfl)
theorem dX6_living_37 : decode cX6_living 37 = .ok (.iload 5, 2) := dk_21 5 (dk_at dksX6_living_1 13 rfl rfl)
theorem dX6_living_39 : decode cX6_living 39 = .ok (.ishl, 1) := dk_120 (dk_at dksX6_living_1 15 rfl rfl)
theorem dX6_living_40 : decode cX6_living 40 = .ok (.iconst (-1), 1) := dk_2 (dk_at dksX6_living_1 16 rfl rfl)
theorem dX6_living_41 : decode cX6_living 41 = .ok (.ixor, 1) := dk_130 (dk_at dksX6_living_1 17 rfl rfl)
theorem dX6_living_42 : decode cX6_living 42 = .ok (.iand, 1) := dk_126 (dk_at dksX6_living_1 18 rfl rfl)
theorem dX6_living_43 : decode cX6_living 43 = .ok (.istore 4, 2) := dk_54 4 (dk_at dksX6_living_1 19 rfl rfl)
theorem dX6_living_45 : decode cX6_living 45 = .ok (.iinc 5 1, 3) := dk_132 5 1 (dk_at dksX6_living_1 21 rfl rfl)
theorem dX6_living_48 : decode cX6_living 48 = .ok (.goto (-42), 3) := dk_167 255 214 (dk_at dksX6_living_2 0 rfl rfl)
theorem dX6_living_51 : decode cX6_living 51 = .ok (.iload 4, 2) := dk_21 4 (dk_at dksX6_living_2 3 rfl rfl)
theorem dX6_living_53 : decode cX6_living 53 = .ok (.ireturn, 1) := dk_172 (dk_at dksX6_living_2 5 rfl rfl)
abbrev cX6_tillAt : ByteArray := prog_23_method_79_code
def yX6_tillAt : MethodName := ⟨RX6, "tillAt", "(II)I"⟩
def dkwX6_tillAt_1 : List UInt8 := [160, 0, 16, 42, 180, 0, 40, 42, 180, 0, 142, 21, 4, 46, 46, 62, 132, 4, 1, 167, 255, 218, 29, 172]
abbrev dktX6_tillAt_1 : List UInt8 := dkwX6_tillAt_1 ++ []
def dkwX6_tillAt_0 : List UInt8 := [2, 62, 3, 54, 4, 21, 4, 27, 162, 0, 38, 42, 180, 0, 37, 42, 180, 0, 142, 21, 4, 46, 46, 28]
abbrev dktX6_tillAt_0 : List UInt8 := dkwX6_tillAt_0 ++ dktX6_tillAt_1
theorem dksX6_tillAt_0 : cX6_tillAt.data.toList.drop 0 = dktX6_tillAt_0 := by decide +kernel
theorem dksX6_tillAt_1 : cX6_tillAt.data.toList.drop 24 = dktX6_tillAt_1 := dk_seg dksX6_tillAt_0 24 rfl rfl
theorem dX6_tillAt_0 : decode cX6_tillAt 0 = .ok (.iconst (-1), 1) := dk_2 (dk_at dksX6_tillAt_0 0 rfl rfl)
theorem dX6_tillAt_1 : decode cX6_tillAt 1 = .ok (.istore_n 3, 1) := dk_62 (dk_at dksX6_tillAt_0 1 rfl rfl)
theorem dX6_tillAt_2 : decode cX6_tillAt 2 = .ok (.iconst 0, 1) := dk_3 (dk_at dksX6_tillAt_0 2 rfl rfl)
theorem dX6_tillAt_3 : decode cX6_tillAt 3 = .ok (.istore 4, 2) := dk_54 4 (dk_at dksX6_tillAt_0 3 rfl rfl)
theorem dX6_tillAt_5 : decode cX6_tillAt 5 = .ok (.iload 4, 2) := dk_21 4 (dk_at dksX6_tillAt_0 5 rfl rfl)
theorem dX6_tillAt_7 : decode cX6_tillAt 7 = .ok (.iload_n 1, 1) := dk_27 (dk_at dksX6_tillAt_0 7 rfl rfl)
theorem dX6_tillAt_8 : decode cX6_tillAt 8 = .ok (.if_icmp .ge 38, 3) := dk_162 0 38 (dk_at dksX6_tillAt_0 8 rfl rfl)
theorem dX6_tillAt_11 : decode cX6_tillAt 11 = .ok (.aload_n 0, 1) := dk_42 (dk_at dksX6_tillAt_0 11 rfl rfl)
theorem dX6_tillAt_12 : decode cX6_tillAt 12 = .ok (.getfield 37, 3) := dk_180 0 37 (dk_at dksX6_tillAt_0 12 rfl rfl)
theorem dX6_tillAt_15 : decode cX6_tillAt 15 = .ok (.aload_n 0, 1) := dk_42 (dk_at dksX6_tillAt_0 15 rfl rfl)
theorem dX6_tillAt_16 : decode cX6_tillAt 16 = .ok (.getfield 142, 3) := dk_180 0 142 (dk_at dksX6_tillAt_0 16 rfl rfl)
theorem dX6_tillAt_19 : decode cX6_tillAt 19 = .ok (.iload 4, 2) := dk_21 4 (dk_at dksX6_tillAt_0 19 rfl rfl)
theorem dX6_tillAt_21 : decode cX6_tillAt 21 = .ok (.iaload, 1) := dk_46 (dk_at dksX6_tillAt_0 21 rfl rfl)
theorem dX6_tillAt_22 : decode cX6_tillAt 22 = .ok (.iaload, 1) := dk_46 (dk_at dksX6_tillAt_0 22 rfl rfl)
theorem dX6_tillAt_23 : decode cX6_tillAt 23 = .ok (.iload_n 2, 1) := dk_28 (dk_at dksX6_tillAt_0 23 rfl rfl)
theorem dX6_tillAt_24 : decode cX6_tillAt 24 = .ok (.if_icmp .ne 16, 3) := dk_160 0 16 (dk_at dksX6_tillAt_1 0 rfl rfl)
theorem dX6_tillAt_27 : decode cX6_tillAt 27 = .ok (.aload_n 0, 1) := dk_42 (dk_at dksX6_tillAt_1 3 rfl rfl)
theorem dX6_tillAt_28 : decode cX6_tillAt 28 = .ok (.getfield 40, 3) := dk_180 0 40 (dk_at dksX6_tillAt_1 4 rfl rfl)
theorem dX6_tillAt_31 : decode cX6_tillAt 31 = .ok (.aload_n 0, 1) := dk_42 (dk_at dksX6_tillAt_1 7 rfl rfl)
theorem dX6_tillAt_32 : decode cX6_tillAt 32 = .ok (.getfield 142, 3) := dk_180 0 142 (dk_at dksX6_tillAt_1 8 rfl rfl)
theorem dX6_tillAt_35 : decode cX6_tillAt 35 = .ok (.iload 4, 2) := dk_21 4 (dk_at dksX6_tillAt_1 11 rfl rfl)
theorem dX6_tillAt_37 : decode cX6_tillAt 37 = .ok (.iaload, 1) := dk_46 (dk_at dksX6_tillAt_1 13 rfl rfl)
theorem dX6_tillAt_38 : decode cX6_tillAt 38 = .ok (.iaload, 1) := dk_46 (dk_at dksX6_tillAt_1 14 rfl rfl)
theorem dX6_tillAt_39 : decode cX6_tillAt 39 = .ok (.istore_n 3, 1) := dk_62 (dk_at dksX6_tillAt_1 15 rfl rfl)
theorem dX6_tillAt_40 : decode cX6_tillAt 40 = .ok (.iinc 4 1, 3) := dk_132 4 1 (dk_at dksX6_tillAt_1 16 rfl rfl)
theorem dX6_tillAt_43 : decode cX6_tillAt 43 = .ok (.goto (-38), 3) := dk_167 255 218 (dk_at dksX6_tillAt_1 19 rfl rfl)
theorem dX6_tillAt_46 : decode cX6_tillAt 46 = .ok (.iload_n 3, 1) := dk_29 (dk_at dksX6_tillAt_1 22 rfl rfl)
theorem dX6_tillAt_47 : decode cX6_tillAt 47 = .ok (.ireturn, 1) := dk_172 (dk_at dksX6_tillAt_1 23 rfl rfl)
abbrev cX6_goes : ByteArray := prog_23_method_93_code
def yX6_goes : MethodName := ⟨RX6, "goes", "(II)I"⟩
def dkwX6_goes_3 : List UInt8 := [160, 0, 6, 21, 5, 172, 132, 3, 1, 42, 21, 4, 182, 2, 4, 132, 4, 1, 167, 255, 211, 16, 253, 172]
abbrev dktX6_goes_3 : List UInt8 := dkwX6_goes_3 ++ []
def dkwX6_goes_2 : List UInt8 := [180, 1, 205, 162, 0, 42, 42, 27, 21, 4, 182, 2, 1, 54, 5, 21, 5, 16, 253, 159, 0, 14, 29, 28]
abbrev dktX6_goes_2 : List UInt8 := dkwX6_goes_2 ++ dktX6_goes_3
def dkwX6_goes_1 : List UInt8 := [27, 182, 1, 243, 88, 42, 3, 181, 1, 247, 42, 3, 181, 1, 250, 3, 62, 3, 54, 4, 21, 4, 42]
abbrev dktX6_goes_1 : List UInt8 := dkwX6_goes_1 ++ dktX6_goes_2
def dkwX6_goes_0 : List UInt8 := [42, 3, 181, 0, 166, 42, 27, 182, 1, 196, 153, 0, 7, 28, 156, 0, 5, 2, 172, 42, 182, 1, 240, 42]
abbrev dktX6_goes_0 : List UInt8 := dkwX6_goes_0 ++ dktX6_goes_1
theorem dksX6_goes_0 : cX6_goes.data.toList.drop 0 = dktX6_goes_0 := by decide +kernel
theorem dksX6_goes_1 : cX6_goes.data.toList.drop 24 = dktX6_goes_1 := dk_seg dksX6_goes_0 24 rfl rfl
theorem dksX6_goes_2 : cX6_goes.data.toList.drop 47 = dktX6_goes_2 := dk_seg dksX6_goes_1 23 rfl rfl
theorem dksX6_goes_3 : cX6_goes.data.toList.drop 71 = dktX6_goes_3 := dk_seg dksX6_goes_2 24 rfl rfl
theorem dX6_goes_0 : decode cX6_goes 0 = .ok (.aload_n 0, 1) := dk_42 (dk_at dksX6_goes_0 0 rfl rfl)
theorem dX6_goes_1 : decode cX6_goes 1 = .ok (.iconst 0, 1) := dk_3 (dk_at dksX6_goes_0 1 rfl rfl)
theorem dX6_goes_2 : decode cX6_goes 2 = .ok (.putfield 166, 3) := dk_181 0 166 (dk_at dksX6_goes_0 2 rfl rfl)
theorem dX6_goes_5 : decode cX6_goes 5 = .ok (.aload_n 0, 1) := dk_42 (dk_at dksX6_goes_0 5 rfl rfl)
theorem dX6_goes_6 : decode cX6_goes 6 = .ok (.iload_n 1, 1) := dk_27 (dk_at dksX6_goes_0 6 rfl rfl)
theorem dX6_goes_7 : decode cX6_goes 7 = .ok (.invokevirtual 452, 3) := dk_182 1 196 (dk_at dksX6_goes_0 7 rfl rfl)
theorem dX6_goes_10 : decode cX6_goes 10 = .ok (.ifCond .eq 7, 3) := dk_153 0 7 (dk_at dksX6_goes_0 10 rfl rfl)
theorem dX6_goes_13 : decode cX6_goes 13 = .ok (.iload_n 2, 1) := dk_28 (dk_at dksX6_goes_0 13 rfl rfl)
theorem dX6_goes_14 : decode cX6_goes 14 = .ok (.ifCond .ge 5, 3) := dk_156 0 5 (dk_at dksX6_goes_0 14 rfl rfl)
theorem dX6_goes_17 : decode cX6_goes 17 = .ok (.iconst (-1), 1) := dk_2 (dk_at dksX6_goes_0 17 rfl rfl)
theorem dX6_goes_18 : decode cX6_goes 18 = .ok (.ireturn, 1) := dk_172 (dk_at dksX6_goes_0 18 rfl rfl)
theorem dX6_goes_19 : decode cX6_goes 19 = .ok (.aload_n 0, 1) := dk_42 (dk_at dksX6_goes_0 19 rfl rfl)
theorem dX6_goes_20 : decode cX6_goes 20 = .ok (.invokevirtual 496, 3) := dk_182 1 240 (dk_at dksX6_goes_0 20 rfl rfl)
theorem dX6_goes_23 : decode cX6_goes 23 = .ok (.aload_n 0, 1) := dk_42 (dk_at dksX6_goes_0 23 rfl rfl)
theorem dX6_goes_24 : decode cX6_goes 24 = .ok (.iload_n 1, 1) := dk_27 (dk_at dksX6_goes_1 0 rfl rfl)
theorem dX6_goes_25 : decode cX6_goes 25 = .ok (.invokevirtual 499, 3) := dk_182 1 243 (dk_at dksX6_goes_1 1 rfl rfl)
theorem dX6_goes_28 : decode cX6_goes 28 = .ok (.pop2, 1) := dk_88 (dk_at dksX6_goes_1 4 rfl rfl)
theorem dX6_goes_29 : decode cX6_goes 29 = .ok (.aload_n 0, 1) := dk_42 (dk_at dksX6_goes_1 5 rfl rfl)
theorem dX6_goes_30 : decode cX6_goes 30 = .ok (.iconst 0, 1) := dk_3 (dk_at dksX6_goes_1 6 rfl rfl)
theorem dX6_goes_31 : decode cX6_goes 31 = .ok (.putfield 503, 3) := dk_181 1 247 (dk_at dksX6_goes_1 7 rfl rfl)
theorem dX6_goes_34 : decode cX6_goes 34 = .ok (.aload_n 0, 1) := dk_42 (dk_at dksX6_goes_1 10 rfl rfl)
theorem dX6_goes_35 : decode cX6_goes 35 = .ok (.iconst 0, 1) := dk_3 (dk_at dksX6_goes_1 11 rfl rfl)
theorem dX6_goes_36 : decode cX6_goes 36 = .ok (.putfield 506, 3) := dk_181 1 250 (dk_at dksX6_goes_1 12 rfl rfl)
theorem dX6_goes_39 : decode cX6_goes 39 = .ok (.iconst 0, 1) := dk_3 (dk_at dksX6_goes_1 15 rfl rfl)
theorem dX6_goes_40 : decode cX6_goes 40 = .ok (.istore_n 3, 1) := dk_62 (dk_at dksX6_goes_1 16 rfl rfl)
theorem dX6_goes_41 : decode cX6_goes 41 = .ok (.iconst 0, 1) := dk_3 (dk_at dksX6_goes_1 17 rfl rfl)
theorem dX6_goes_42 : decode cX6_goes 42 = .ok (.istore 4, 2) := dk_54 4 (dk_at dksX6_goes_1 18 rfl rfl)
theorem dX6_goes_44 : decode cX6_goes 44 = .ok (.iload 4, 2) := dk_21 4 (dk_at dksX6_goes_1 20 rfl rfl)
theorem dX6_goes_46 : decode cX6_goes 46 = .ok (.aload_n 0, 1) := dk_42 (dk_at dksX6_goes_1 22 rfl rfl)
theorem dX6_goes_47 : decode cX6_goes 47 = .ok (.getfield 461, 3) := dk_180 1 205 (dk_at dksX6_goes_2 0 rfl rfl)
theorem dX6_goes_50 : decode cX6_goes 50 = .ok (.if_icmp .ge 42, 3) := dk_162 0 42 (dk_at dksX6_goes_2 3 rfl rfl)
theorem dX6_goes_53 : decode cX6_goes 53 = .ok (.aload_n 0, 1) := dk_42 (dk_at dksX6_goes_2 6 rfl rfl)
theorem dX6_goes_54 : decode cX6_goes 54 = .ok (.iload_n 1, 1) := dk_27 (dk_at dksX6_goes_2 7 rfl rfl)
theorem dX6_goes_55 : decode cX6_goes 55 = .ok (.iload 4, 2) := dk_21 4 (dk_at dksX6_goes_2 8 rfl rfl)
theorem dX6_goes_57 : decode cX6_goes 57 = .ok (.invokevirtual 513, 3) := dk_182 2 1 (dk_at dksX6_goes_2 10 rfl rfl)
theorem dX6_goes_60 : decode cX6_goes 60 = .ok (.istore 5, 2) := dk_54 5 (dk_at dksX6_goes_2 13 rfl rfl)
theorem dX6_goes_62 : decode cX6_goes 62 = .ok (.iload 5, 2) := dk_21 5 (dk_at dksX6_goes_2 15 rfl rfl)
theorem dX6_goes_64 : decode cX6_goes 64 = .ok (.bipush (-3), 2) := dk_16 253 (dk_at dksX6_goes_2 17 rfl rfl)
theorem dX6_goes_66 : decode cX6_goes 66 = .ok (.if_icmp .eq 14, 3) := dk_159 0 14 (dk_at dksX6_goes_2 19 rfl rfl)
theorem dX6_goes_69 : decode cX6_goes 69 = .ok (.iload_n 3, 1) := dk_29 (dk_at dksX6_goes_2 22 rfl rfl)
theorem dX6_goes_70 : decode cX6_goes 70 = .ok (.iload_n 2, 1) := dk_28 (dk_at dksX6_goes_2 23 rfl rfl)
theorem dX6_goes_71 : decode cX6_goes 71 = .ok (.if_icmp .ne 6, 3) := dk_160 0 6 (dk_at dksX6_goes_3 0 rfl rfl)
theorem dX6_goes_74 : decode cX6_goes 74 = .ok (.iload 5, 2) := dk_21 5 (dk_at dksX6_goes_3 3 rfl rfl)
theorem dX6_goes_76 : decode cX6_goes 76 = .ok (.ireturn, 1) := dk_172 (dk_at dksX6_goes_3 5 rfl rfl)
theorem dX6_goes_77 : decode cX6_goes 77 = .ok (.iinc 3 1, 3) := dk_132 3 1 (dk_at dksX6_goes_3 6 rfl rfl)
theorem dX6_goes_80 : decode cX6_goes 80 = .ok (.aload_n 0, 1) := dk_42 (dk_at dksX6_goes_3 9 rfl rfl)
theorem dX6_goes_81 : decode cX6_goes 81 = .ok (.iload 4, 2) := dk_21 4 (dk_at dksX6_goes_3 10 rfl rfl)
theorem dX6_goes_83 : decode cX6_goes 83 = .ok (.invokevirtual 516, 3) := dk_182 2 4 (dk_at dksX6_goes_3 12 rfl rfl)
theorem dX6_goes_86 : decode cX6_goes 86 = .ok (.iinc 4 1, 3) := dk_132 4 1 (dk_at dksX6_goes_3 15 rfl rfl)
theorem dX6_goes_89 : decode cX6_goes 89 = .ok (.goto (-45), 3) := dk_167 255 211 (dk_at dksX6_goes_3 18 rfl rfl)
theorem dX6_goes_92 : decode cX6_goes 92 = .ok (.bipush (-3), 2) := dk_16 253 (dk_at dksX6_goes_3 21 rfl rfl)
theorem dX6_goes_94 : decode cX6_goes 94 = .ok (.ireturn, 1) := dk_172 (dk_at dksX6_goes_3 23 rfl rfl)
abbrev cX6_walk : ByteArray := prog_23_method_91_code
def yX6_walk : MethodName := ⟨RX6, "walk", "(II)I"⟩
def dkwX6_walk_8 : List UInt8 := [4, 29, 120, 128, 181, 1, 247, 21, 4, 172]
abbrev dktX6_walk_8 : List UInt8 := dkwX6_walk_8 ++ []
def dkwX6_walk_7 : List UInt8 := [159, 0, 19, 42, 180, 1, 247, 184, 1, 223, 42, 180, 0, 19, 27, 46, 162, 0, 15, 42, 89, 180, 1, 247]
abbrev dktX6_walk_7 : List UInt8 := dkwX6_walk_7 ++ dktX6_walk_8
def dkwX6_walk_6 : List UInt8 := [4, 29, 120, 128, 181, 1, 247, 42, 4, 181, 1, 250, 167, 0, 43, 42, 180, 1, 247, 29, 122, 4, 126, 4]
abbrev dktX6_walk_6 : List UInt8 := dkwX6_walk_6 ++ dktX6_walk_7
def dkwX6_walk_5 : List UInt8 := [22, 5, 148, 153, 0, 9, 132, 4, 1, 167, 255, 211, 42, 42, 180, 1, 247, 4, 21, 4, 120, 2, 130, 126]
abbrev dktX6_walk_5 : List UInt8 := dkwX6_walk_5 ++ dktX6_walk_6
def dkwX6_walk_4 : List UInt8 := [42, 27, 28, 4, 96, 42, 180, 1, 247, 4, 21, 4, 120, 2, 130, 126, 4, 29, 120, 128, 4, 182, 1, 229]
abbrev dktX6_walk_4 : List UInt8 := dkwX6_walk_4 ++ dktX6_walk_5
def dkwX6_walk_3 : List UInt8 := [182, 1, 229, 22, 5, 148, 153, 0, 78, 3, 54, 4, 42, 180, 1, 247, 21, 4, 122, 4, 126, 153, 0, 33]
abbrev dktX6_walk_3 : List UInt8 := dkwX6_walk_3 ++ dktX6_walk_4
def dkwX6_walk_2 : List UInt8 := [184, 1, 217, 47, 55, 5, 16, 254, 54, 4, 42, 27, 28, 4, 96, 42, 180, 1, 247, 42, 180, 1, 250]
abbrev dktX6_walk_2 : List UInt8 := dkwX6_walk_2 ++ dktX6_walk_3
def dkwX6_walk_1 : List UInt8 := [180, 1, 250, 182, 1, 253, 153, 0, 126, 42, 180, 0, 139, 28, 42, 180, 1, 247, 42, 180, 1, 250]
abbrev dktX6_walk_1 : List UInt8 := dkwX6_walk_1 ++ dktX6_walk_2
def dkwX6_walk_0 : List UInt8 := [42, 180, 0, 37, 42, 180, 0, 142, 28, 46, 46, 62, 16, 253, 54, 4, 42, 27, 28, 42, 180, 1, 247, 42]
abbrev dktX6_walk_0 : List UInt8 := dkwX6_walk_0 ++ dktX6_walk_1
theorem dksX6_walk_0 : cX6_walk.data.toList.drop 0 = dktX6_walk_0 := by decide +kernel
theorem dksX6_walk_1 : cX6_walk.data.toList.drop 24 = dktX6_walk_1 := dk_seg dksX6_walk_0 24 rfl rfl
theorem dksX6_walk_2 : cX6_walk.data.toList.drop 46 = dktX6_walk_2 := dk_seg dksX6_walk_1 22 rfl rfl
theorem dksX6_walk_3 : cX6_walk.data.toList.drop 69 = dktX6_walk_3 := dk_seg dksX6_walk_2 23 rfl rfl
theorem dksX6_walk_4 : cX6_walk.data.toList.drop 93 = dktX6_walk_4 := dk_seg dksX6_walk_3 24 rfl rfl
theorem dksX6_walk_5 : cX6_walk.data.toList.drop 117 = dktX6_walk_5 := dk_seg dksX6_walk_4 24 rfl rfl
theorem dksX6_walk_6 : cX6_walk.data.toList.drop 141 = dktX6_walk_6 := dk_seg dksX6_walk_5 24 rfl rfl
theorem dksX6_walk_7 : cX6_walk.data.toList.drop 165 = dktX6_walk_7 := dk_seg dksX6_walk_6 24 rfl rfl
theorem dksX6_walk_8 : cX6_walk.data.toList.drop 189 = dktX6_walk_8 := dk_seg dksX6_walk_7 24 rfl rfl
theorem dX6_walk_0 : decode cX6_walk 0 = .ok (.aload_n 0, 1) := dk_42 (dk_at dksX6_walk_0 0 rfl rfl)
theorem dX6_walk_1 : decode cX6_walk 1 = .ok (.getfield 37, 3) := dk_180 0 37 (dk_at dksX6_walk_0 1 rfl rfl)
theorem dX6_walk_4 : decode cX6_walk 4 = .ok (.aload_n 0, 1) := dk_42 (dk_at dksX6_walk_0 4 rfl rfl)
theorem dX6_walk_5 : decode cX6_walk 5 = .ok (.getfield 142, 3) := dk_180 0 142 (dk_at dksX6_walk_0 5 rfl rfl)
theorem dX6_walk_8 : decode cX6_walk 8 = .ok (.iload_n 2, 1) := dk_28 (dk_at dksX6_walk_0 8 rfl rfl)
theorem dX6_walk_9 : decode cX6_walk 9 = .ok (.iaload, 1) := dk_46 (dk_at dksX6_walk_0 9 rfl rfl)
theorem dX6_walk_10 : decode cX6_walk 10 = .ok (.iaload, 1) := dk_46 (dk_at dksX6_walk_0 10 rfl rfl)
theorem dX6_walk_11 : decode cX6_walk 11 = .ok (.istore_n 3, 1) := dk_62 (dk_at dksX6_walk_0 11 rfl rfl)
theorem dX6_walk_12 : decode cX6_walk 12 = .ok (.bipush (-3), 2) := dk_16 253 (dk_at dksX6_walk_0 12 rfl rfl)
theorem dX6_walk_14 : decode cX6_walk 14 = .ok (.istore 4, 2) := dk_54 4 (dk_at dksX6_walk_0 14 rfl rfl)
theorem dX6_walk_16 : decode cX6_walk 16 = .ok (.aload_n 0, 1) := dk_42 (dk_at dksX6_walk_0 16 rfl rfl)
theorem dX6_walk_17 : decode cX6_walk 17 = .ok (.iload_n 1, 1) := dk_27 (dk_at dksX6_walk_0 17 rfl rfl)
theorem dX6_walk_18 : decode cX6_walk 18 = .ok (.iload_n 2, 1) := dk_28 (dk_at dksX6_walk_0 18 rfl rfl)
theorem dX6_walk_19 : decode cX6_walk 19 = .ok (.aload_n 0, 1) := dk_42 (dk_at dksX6_walk_0 19 rfl rfl)
theorem dX6_walk_20 : decode cX6_walk 20 = .ok (.getfield 503, 3) := dk_180 1 247 (dk_at dksX6_walk_0 20 rfl rfl)
theorem dX6_walk_23 : decode cX6_walk 23 = .ok (.aload_n 0, 1) := dk_42 (dk_at dksX6_walk_0 23 rfl rfl)
theorem dX6_walk_24 : decode cX6_walk 24 = .ok (.getfield 506, 3) := dk_180 1 250 (dk_at dksX6_walk_1 0 rfl rfl)
theorem dX6_walk_27 : decode cX6_walk 27 = .ok (.invokevirtual 509, 3) := dk_182 1 253 (dk_at dksX6_walk_1 3 rfl rfl)
theorem dX6_walk_30 : decode cX6_walk 30 = .ok (.ifCond .eq 126, 3) := dk_153 0 126 (dk_at dksX6_walk_1 6 rfl rfl)
theorem dX6_walk_33 : decode cX6_walk 33 = .ok (.aload_n 0, 1) := dk_42 (dk_at dksX6_walk_1 9 rfl rfl)
theorem dX6_walk_34 : decode cX6_walk 34 = .ok (.getfield 139, 3) := dk_180 0 139 (dk_at dksX6_walk_1 10 rfl rfl)
theorem dX6_walk_37 : decode cX6_walk 37 = .ok (.iload_n 2, 1) := dk_28 (dk_at dksX6_walk_1 13 rfl rfl)
theorem dX6_walk_38 : decode cX6_walk 38 = .ok (.aload_n 0, 1) := dk_42 (dk_at dksX6_walk_1 14 rfl rfl)
theorem dX6_walk_39 : decode cX6_walk 39 = .ok (.getfield 503, 3) := dk_180 1 247 (dk_at dksX6_walk_1 15 rfl rfl)
theorem dX6_walk_42 : decode cX6_walk 42 = .ok (.aload_n 0, 1) := dk_42 (dk_at dksX6_walk_1 18 rfl rfl)
theorem dX6_walk_43 : decode cX6_walk 43 = .ok (.getfield 506, 3) := dk_180 1 250 (dk_at dksX6_walk_1 19 rfl rfl)
theorem dX6_walk_46 : decode cX6_walk 46 = .ok (.invokestatic 473, 3) := dk_184 1 217 (dk_at dksX6_walk_2 0 rfl rfl)
theorem dX6_walk_49 : decode cX6_walk 49 = .ok (.laload, 1) := dk_47 (dk_at dksX6_walk_2 3 rfl rfl)
theorem dX6_walk_50 : decode cX6_walk 50 = .ok (.lstore 5, 2) := dk_55 5 (dk_at dksX6_walk_2 4 rfl rfl)
theorem dX6_walk_52 : decode cX6_walk 52 = .ok (.bipush (-2), 2) := dk_16 254 (dk_at dksX6_walk_2 6 rfl rfl)
theorem dX6_walk_54 : decode cX6_walk 54 = .ok (.istore 4, 2) := dk_54 4 (dk_at dksX6_walk_2 8 rfl rfl)
theorem dX6_walk_56 : decode cX6_walk 56 = .ok (.aload_n 0, 1) := dk_42 (dk_at dksX6_walk_2 10 rfl rfl)
theorem dX6_walk_57 : decode cX6_walk 57 = .ok (.iload_n 1, 1) := dk_27 (dk_at dksX6_walk_2 11 rfl rfl)
theorem dX6_walk_58 : decode cX6_walk 58 = .ok (.iload_n 2, 1) := dk_28 (dk_at dksX6_walk_2 12 rfl rfl)
theorem dX6_walk_59 : decode cX6_walk 59 = .ok (.iconst 1, 1) := dk_4 (dk_at dksX6_walk_2 13 rfl rfl)
theorem dX6_walk_60 : decode cX6_walk 60 = .ok (.iadd, 1) := dk_96 (dk_at dksX6_walk_2 14 rfl rfl)
theorem dX6_walk_61 : decode cX6_walk 61 = .ok (.aload_n 0, 1) := dk_42 (dk_at dksX6_walk_2 15 rfl rfl)
theorem dX6_walk_62 : decode cX6_walk 62 = .ok (.getfield 503, 3) := dk_180 1 247 (dk_at dksX6_walk_2 16 rfl rfl)
theorem dX6_walk_65 : decode cX6_walk 65 = .ok (.aload_n 0, 1) := dk_42 (dk_at dksX6_walk_2 19 rfl rfl)
theorem dX6_walk_66 : decode cX6_walk 66 = .ok (.getfield 506, 3) := dk_180 1 250 (dk_at dksX6_walk_2 20 rfl rfl)
theorem dX6_walk_69 : decode cX6_walk 69 = .ok (.invokevirtual 485, 3) := dk_182 1 229 (dk_at dksX6_walk_3 0 rfl rfl)
theorem dX6_walk_72 : decode cX6_walk 72 = .ok (.lload 5, 2) := dk_22 5 (dk_at dksX6_walk_3 3 rfl rfl)
theorem dX6_walk_74 : decode cX6_walk 74 = .ok (.lcmp, 1) := dk_148 (dk_at dksX6_walk_3 5 rfl rfl)
theorem dX6_walk_75 : decode cX6_walk 75 = .ok (.ifCond .eq 78, 3) := dk_153 0 78 (dk_at dksX6_walk_3 6 rfl rfl)
theorem dX6_walk_78 : decode cX6_walk 78 = .ok (.iconst 0, 1) := dk_3 (dk_at dksX6_walk_3 9 rfl rfl)
theorem dX6_walk_79 : decode cX6_walk 79 = .ok (.istore 4, 2) := dk_54 4 (dk_at dksX6_walk_3 10 rfl rfl)
theorem dX6_walk_81 : decode cX6_walk 81 = .ok (.aload_n 0, 1) := dk_42 (dk_at dksX6_walk_3 12 rfl rfl)
theorem dX6_walk_82 : decode cX6_walk 82 = .ok (.getfield 503, 3) := dk_180 1 247 (dk_at dksX6_walk_3 13 rfl rfl)
theorem dX6_walk_85 : decode cX6_walk 85 = .ok (.iload 4, 2) := dk_21 4 (dk_at dksX6_walk_3 16 rfl rfl)
theorem dX6_walk_87 : decode cX6_walk 87 = .ok (.ishr, 1) := dk_122 (dk_at dksX6_walk_3 18 rfl rfl)
theorem dX6_walk_88 : decode cX6_walk 88 = .ok (.iconst 1, 1) := dk_4 (dk_at dksX6_walk_3 19 rfl rfl)
theorem dX6_walk_89 : decode cX6_walk 89 = .ok (.iand, 1) := dk_126 (dk_at dksX6_walk_3 20 rfl rfl)
theorem dX6_walk_90 : decode cX6_walk 90 = .ok (.ifCond .eq 33, 3) := dk_153 0 33 (dk_at dksX6_walk_3 21 rfl rfl)
theorem dX6_walk_93 : decode cX6_walk 93 = .ok (.aload_n 0, 1) := dk_42 (dk_at dksX6_walk_4 0 rfl rfl)
theorem dX6_walk_94 : decode cX6_walk 94 = .ok (.iload_n 1, 1) := dk_27 (dk_at dksX6_walk_4 1 rfl rfl)
theorem dX6_walk_95 : decode cX6_walk 95 = .ok (.iload_n 2, 1) := dk_28 (dk_at dksX6_walk_4 2 rfl rfl)
theorem dX6_walk_96 : decode cX6_walk 96 = .ok (.iconst 1, 1) := dk_4 (dk_at dksX6_walk_4 3 rfl rfl)
theorem dX6_walk_97 : decode cX6_walk 97 = .ok (.iadd, 1) := dk_96 (dk_at dksX6_walk_4 4 rfl rfl)
theorem dX6_walk_98 : decode cX6_walk 98 = .ok (.aload_n 0, 1) := dk_42 (dk_at dksX6_walk_4 5 rfl rfl)
theorem dX6_walk_99 : decode cX6_walk 99 = .ok (.getfield 503, 3) := dk_180 1 247 (dk_at dksX6_walk_4 6 rfl rfl)
theorem dX6_walk_102 : decode cX6_walk 102 = .ok (.iconst 1, 1) := dk_4 (dk_at dksX6_walk_4 9 rfl rfl)
theorem dX6_walk_103 : decode cX6_walk 103 = .ok (.iload 4, 2) := dk_21 4 (dk_at dksX6_walk_4 10 rfl rfl)
theorem dX6_walk_105 : decode cX6_walk 105 = .ok (.ishl, 1) := dk_120 (dk_at dksX6_walk_4 12 rfl rfl)
theorem dX6_walk_106 : decode cX6_walk 106 = .ok (.iconst (-1), 1) := dk_2 (dk_at dksX6_walk_4 13 rfl rfl)
theorem dX6_walk_107 : decode cX6_walk 107 = .ok (.ixor, 1) := dk_130 (dk_at dksX6_walk_4 14 rfl rfl)
theorem dX6_walk_108 : decode cX6_walk 108 = .ok (.iand, 1) := dk_126 (dk_at dksX6_walk_4 15 rfl rfl)
theorem dX6_walk_109 : decode cX6_walk 109 = .ok (.iconst 1, 1) := dk_4 (dk_at dksX6_walk_4 16 rfl rfl)
theorem dX6_walk_110 : decode cX6_walk 110 = .ok (.iload_n 3, 1) := dk_29 (dk_at dksX6_walk_4 17 rfl rfl)
theorem dX6_walk_111 : decode cX6_walk 111 = .ok (.ishl, 1) := dk_120 (dk_at dksX6_walk_4 18 rfl rfl)
theorem dX6_walk_112 : decode cX6_walk 112 = .ok (.ior, 1) := dk_128 (dk_at dksX6_walk_4 19 rfl rfl)
theorem dX6_walk_113 : decode cX6_walk 113 = .ok (.iconst 1, 1) := dk_4 (dk_at dksX6_walk_4 20 rfl rfl)
theorem dX6_walk_114 : decode cX6_walk 114 = .ok (.invokevirtual 485, 3) := dk_182 1 229 (dk_at dksX6_walk_4 21 rfl rfl)
theorem dX6_walk_117 : decode cX6_walk 117 = .ok (.lload 5, 2) := dk_22 5 (dk_at dksX6_walk_5 0 rfl rfl)
theorem dX6_walk_119 : decode cX6_walk 119 = .ok (.lcmp, 1) := dk_148 (dk_at dksX6_walk_5 2 rfl rfl)
theorem dX6_walk_120 : decode cX6_walk 120 = .ok (.ifCond .eq 9, 3) := dk_153 0 9 (dk_at dksX6_walk_5 3 rfl rfl)
theorem dX6_walk_123 : decode cX6_walk 123 = .ok (.iinc 4 1, 3) := dk_132 4 1 (dk_at dksX6_walk_5 6 rfl rfl)
theorem dX6_walk_126 : decode cX6_walk 126 = .ok (.goto (-45), 3) := dk_167 255 211 (dk_at dksX6_walk_5 9 rfl rfl)
theorem dX6_walk_129 : decode cX6_walk 129 = .ok (.aload_n 0, 1) := dk_42 (dk_at dksX6_walk_5 12 rfl rfl)
theorem dX6_walk_130 : decode cX6_walk 130 = .ok (.aload_n 0, 1) := dk_42 (dk_at dksX6_walk_5 13 rfl rfl)
theorem dX6_walk_131 : decode cX6_walk 131 = .ok (.getfield 503, 3) := dk_180 1 247 (dk_at dksX6_walk_5 14 rfl rfl)
theorem dX6_walk_134 : decode cX6_walk 134 = .ok (.iconst 1, 1) := dk_4 (dk_at dksX6_walk_5 17 rfl rfl)
theorem dX6_walk_135 : decode cX6_walk 135 = .ok (.iload 4, 2) := dk_21 4 (dk_at dksX6_walk_5 18 rfl rfl)
theorem dX6_walk_137 : decode cX6_walk 137 = .ok (.ishl, 1) := dk_120 (dk_at dksX6_walk_5 20 rfl rfl)
theorem dX6_walk_138 : decode cX6_walk 138 = .ok (.iconst (-1), 1) := dk_2 (dk_at dksX6_walk_5 21 rfl rfl)
theorem dX6_walk_139 : decode cX6_walk 139 = .ok (.ixor, 1) := dk_130 (dk_at dksX6_walk_5 22 rfl rfl)
theorem dX6_walk_140 : decode cX6_walk 140 = .ok (.iand, 1) := dk_126 (dk_at dksX6_walk_5 23 rfl rfl)
theorem dX6_walk_141 : decode cX6_walk 141 = .ok (.iconst 1, 1) := dk_4 (dk_at dksX6_walk_6 0 rfl rfl)
theorem dX6_walk_142 : decode cX6_walk 142 = .ok (.iload_n 3, 1) := dk_29 (dk_at dksX6_walk_6 1 rfl rfl)
theorem dX6_walk_143 : decode cX6_walk 143 = .ok (.ishl, 1) := dk_120 (dk_at dksX6_walk_6 2 rfl rfl)
theorem dX6_walk_144 : decode cX6_walk 144 = .ok (.ior, 1) := dk_128 (dk_at dksX6_walk_6 3 rfl rfl)
theorem dX6_walk_145 : decode cX6_walk 145 = .ok (.putfield 503, 3) := dk_181 1 247 (dk_at dksX6_walk_6 4 rfl rfl)
theorem dX6_walk_148 : decode cX6_walk 148 = .ok (.aload_n 0, 1) := dk_42 (dk_at dksX6_walk_6 7 rfl rfl)
theorem dX6_walk_149 : decode cX6_walk 149 = .ok (.iconst 1, 1) := dk_4 (dk_at dksX6_walk_6 8 rfl rfl)
theorem dX6_walk_150 : decode cX6_walk 150 = .ok (.putfield 506, 3) := dk_181 1 250 (dk_at dksX6_walk_6 9 rfl rfl)
theorem dX6_walk_153 : decode cX6_walk 153 = .ok (.goto 43, 3) := dk_167 0 43 (dk_at dksX6_walk_6 12 rfl rfl)
theorem dX6_walk_156 : decode cX6_walk 156 = .ok (.aload_n 0, 1) := dk_42 (dk_at dksX6_walk_6 15 rfl rfl)
theorem dX6_walk_157 : decode cX6_walk 157 = .ok (.getfield 503, 3) := dk_180 1 247 (dk_at dksX6_walk_6 16 rfl rfl)
theorem dX6_walk_160 : decode cX6_walk 160 = .ok (.iload_n 3, 1) := dk_29 (dk_at dksX6_walk_6 19 rfl rfl)
theorem dX6_walk_161 : decode cX6_walk 161 = .ok (.ishr, 1) := dk_122 (dk_at dksX6_walk_6 20 rfl rfl)
theorem dX6_walk_162 : decode cX6_walk 162 = .ok (.iconst 1, 1) := dk_4 (dk_at dksX6_walk_6 21 rfl rfl)
theorem dX6_walk_163 : decode cX6_walk 163 = .ok (.iand, 1) := dk_126 (dk_at dksX6_walk_6 22 rfl rfl)
theorem dX6_walk_164 : decode cX6_walk 164 = .ok (.iconst 1, 1) := dk_4 (dk_at dksX6_walk_6 23 rfl rfl)
theorem dX6_walk_165 : decode cX6_walk 165 = .ok (.if_icmp .eq 19, 3) := dk_159 0 19 (dk_at dksX6_walk_7 0 rfl rfl)
theorem dX6_walk_168 : decode cX6_walk 168 = .ok (.aload_n 0, 1) := dk_42 (dk_at dksX6_walk_7 3 rfl rfl)
theorem dX6_walk_169 : decode cX6_walk 169 = .ok (.getfield 503, 3) := dk_180 1 247 (dk_at dksX6_walk_7 4 rfl rfl)
theorem dX6_walk_172 : decode cX6_walk 172 = .ok (.invokestatic 479, 3) := dk_184 1 223 (dk_at dksX6_walk_7 7 rfl rfl)
theorem dX6_walk_175 : decode cX6_walk 175 = .ok (.aload_n 0, 1) := dk_42 (dk_at dksX6_walk_7 10 rfl rfl)
theorem dX6_walk_176 : decode cX6_walk 176 = .ok (.getfield 19, 3) := dk_180 0 19 (dk_at dksX6_walk_7 11 rfl rfl)
theorem dX6_walk_179 : decode cX6_walk 179 = .ok (.iload_n 1, 1) := dk_27 (dk_at dksX6_walk_7 14 rfl rfl)
theorem dX6_walk_180 : decode cX6_walk 180 = .ok (.iaload, 1) := dk_46 (dk_at dksX6_walk_7 15 rfl rfl)
theorem dX6_walk_181 : decode cX6_walk 181 = .ok (.if_icmp .ge 15, 3) := dk_162 0 15 (dk_at dksX6_walk_7 16 rfl rfl)
theorem dX6_walk_184 : decode cX6_walk 184 = .ok (.aload_n 0, 1) := dk_42 (dk_at dksX6_walk_7 19 rfl rfl)
theorem dX6_walk_185 : decode cX6_walk 185 = .ok (.dup, 1) := dk_89 (dk_at dksX6_walk_7 20 rfl rfl)
theorem dX6_walk_186 : decode cX6_walk 186 = .ok (.getfield 503, 3) := dk_180 1 247 (dk_at dksX6_walk_7 21 rfl rfl)
theorem dX6_walk_189 : decode cX6_walk 189 = .ok (.iconst 1, 1) := dk_4 (dk_at dksX6_walk_8 0 rfl rfl)
theorem dX6_walk_190 : decode cX6_walk 190 = .ok (.iload_n 3, 1) := dk_29 (dk_at dksX6_walk_8 1 rfl rfl)
theorem dX6_walk_191 : decode cX6_walk 191 = .ok (.ishl, 1) := dk_120 (dk_at dksX6_walk_8 2 rfl rfl)
theorem dX6_walk_192 : decode cX6_walk 192 = .ok (.ior, 1) := dk_128 (dk_at dksX6_walk_8 3 rfl rfl)
theorem dX6_walk_193 : decode cX6_walk 193 = .ok (.putfield 503, 3) := dk_181 1 247 (dk_at dksX6_walk_8 4 rfl rfl)
theorem dX6_walk_196 : decode cX6_walk 196 = .ok (.iload 4, 2) := dk_21 4 (dk_at dksX6_walk_8 7 rfl rfl)
theorem dX6_walk_198 : decode cX6_walk 198 = .ok (.ireturn, 1) := dk_172 (dk_at dksX6_walk_8 9 rfl rfl)
abbrev cX6_isTime : ByteArray := prog_23_method_86_code
def yX6_isTime : MethodName := ⟨RX6, "isTime", "(IIII)Z"⟩
def dkwX6_isTime_1 : List UInt8 := [180, 0, 19, 27, 46, 161, 0, 12, 21, 4, 154, 0, 7, 4, 167, 0, 4, 3, 172]
abbrev dktX6_isTime_1 : List UInt8 := dkwX6_isTime_1 ++ []
def dkwX6_isTime_0 : List UInt8 := [29, 42, 180, 0, 37, 42, 180, 0, 142, 28, 46, 46, 122, 4, 126, 154, 0, 25, 29, 184, 1, 223, 42]
abbrev dktX6_isTime_0 : List UInt8 := dkwX6_isTime_0 ++ dktX6_isTime_1
theorem dksX6_isTime_0 : cX6_isTime.data.toList.drop 0 = dktX6_isTime_0 := by decide +kernel
theorem dksX6_isTime_1 : cX6_isTime.data.toList.drop 23 = dktX6_isTime_1 := dk_seg dksX6_isTime_0 23 rfl rfl
theorem dX6_isTime_0 : decode cX6_isTime 0 = .ok (.iload_n 3, 1) := dk_29 (dk_at dksX6_isTime_0 0 rfl rfl)
theorem dX6_isTime_1 : decode cX6_isTime 1 = .ok (.aload_n 0, 1) := dk_42 (dk_at dksX6_isTime_0 1 rfl rfl)
theorem dX6_isTime_2 : decode cX6_isTime 2 = .ok (.getfield 37, 3) := dk_180 0 37 (dk_at dksX6_isTime_0 2 rfl rfl)
theorem dX6_isTime_5 : decode cX6_isTime 5 = .ok (.aload_n 0, 1) := dk_42 (dk_at dksX6_isTime_0 5 rfl rfl)
theorem dX6_isTime_6 : decode cX6_isTime 6 = .ok (.getfield 142, 3) := dk_180 0 142 (dk_at dksX6_isTime_0 6 rfl rfl)
theorem dX6_isTime_9 : decode cX6_isTime 9 = .ok (.iload_n 2, 1) := dk_28 (dk_at dksX6_isTime_0 9 rfl rfl)
theorem dX6_isTime_10 : decode cX6_isTime 10 = .ok (.iaload, 1) := dk_46 (dk_at dksX6_isTime_0 10 rfl rfl)
theorem dX6_isTime_11 : decode cX6_isTime 11 = .ok (.iaload, 1) := dk_46 (dk_at dksX6_isTime_0 11 rfl rfl)
theorem dX6_isTime_12 : decode cX6_isTime 12 = .ok (.ishr, 1) := dk_122 (dk_at dksX6_isTime_0 12 rfl rfl)
theorem dX6_isTime_13 : decode cX6_isTime 13 = .ok (.iconst 1, 1) := dk_4 (dk_at dksX6_isTime_0 13 rfl rfl)
theorem dX6_isTime_14 : decode cX6_isTime 14 = .ok (.iand, 1) := dk_126 (dk_at dksX6_isTime_0 14 rfl rfl)
theorem dX6_isTime_15 : decode cX6_isTime 15 = .ok (.ifCond .ne 25, 3) := dk_154 0 25 (dk_at dksX6_isTime_0 15 rfl rfl)
theorem dX6_isTime_18 : decode cX6_isTime 18 = .ok (.iload_n 3, 1) := dk_29 (dk_at dksX6_isTime_0 18 rfl rfl)
theorem dX6_isTime_19 : decode cX6_isTime 19 = .ok (.invokestatic 479, 3) := dk_184 1 223 (dk_at dksX6_isTime_0 19 rfl rfl)
theorem dX6_isTime_22 : decode cX6_isTime 22 = .ok (.aload_n 0, 1) := dk_42 (dk_at dksX6_isTime_0 22 rfl rfl)
theorem dX6_isTime_23 : decode cX6_isTime 23 = .ok (.getfield 19, 3) := dk_180 0 19 (dk_at dksX6_isTime_1 0 rfl rfl)
theorem dX6_isTime_26 : decode cX6_isTime 26 = .ok (.iload_n 1, 1) := dk_27 (dk_at dksX6_isTime_1 3 rfl rfl)
theorem dX6_isTime_27 : decode cX6_isTime 27 = .ok (.iaload, 1) := dk_46 (dk_at dksX6_isTime_1 4 rfl rfl)
theorem dX6_isTime_28 : decode cX6_isTime 28 = .ok (.if_icmp .lt 12, 3) := dk_161 0 12 (dk_at dksX6_isTime_1 5 rfl rfl)
theorem dX6_isTime_31 : decode cX6_isTime 31 = .ok (.iload 4, 2) := dk_21 4 (dk_at dksX6_isTime_1 8 rfl rfl)
theorem dX6_isTime_33 : decode cX6_isTime 33 = .ok (.ifCond .ne 7, 3) := dk_154 0 7 (dk_at dksX6_isTime_1 10 rfl rfl)
theorem dX6_isTime_36 : decode cX6_isTime 36 = .ok (.iconst 1, 1) := dk_4 (dk_at dksX6_isTime_1 13 rfl rfl)
theorem dX6_isTime_37 : decode cX6_isTime 37 = .ok (.goto 4, 3) := dk_167 0 4 (dk_at dksX6_isTime_1 14 rfl rfl)
theorem dX6_isTime_40 : decode cX6_isTime 40 = .ok (.iconst 0, 1) := dk_3 (dk_at dksX6_isTime_1 17 rfl rfl)
theorem dX6_isTime_41 : decode cX6_isTime 41 = .ok (.ireturn, 1) := dk_172 (dk_at dksX6_isTime_1 18 rfl rfl)
abbrev cX6_walksOn : ByteArray := prog_23_method_92_code
def yX6_walksOn : MethodName := ⟨RX6, "walksOn", "(I)V"⟩
def dkwX6_walksOn_1 : List UInt8 := [180, 1, 247, 27, 4, 96, 42, 27, 4, 96, 182, 1, 214, 182, 1, 211, 181, 1, 247, 177]
abbrev dktX6_walksOn_1 : List UInt8 := dkwX6_walksOn_1 ++ []
def dkwX6_walksOn_0 : List UInt8 := [42, 27, 4, 96, 182, 1, 214, 42, 27, 182, 1, 214, 160, 0, 4, 177, 42, 3, 181, 1, 250, 42, 42, 42]
abbrev dktX6_walksOn_0 : List UInt8 := dkwX6_walksOn_0 ++ dktX6_walksOn_1
theorem dksX6_walksOn_0 : cX6_walksOn.data.toList.drop 0 = dktX6_walksOn_0 := by decide +kernel
theorem dksX6_walksOn_1 : cX6_walksOn.data.toList.drop 24 = dktX6_walksOn_1 := dk_seg dksX6_walksOn_0 24 rfl rfl
theorem dX6_walksOn_0 : decode cX6_walksOn 0 = .ok (.aload_n 0, 1) := dk_42 (dk_at dksX6_walksOn_0 0 rfl rfl)
theorem dX6_walksOn_1 : decode cX6_walksOn 1 = .ok (.iload_n 1, 1) := dk_27 (dk_at dksX6_walksOn_0 1 rfl rfl)
theorem dX6_walksOn_2 : decode cX6_walksOn 2 = .ok (.iconst 1, 1) := dk_4 (dk_at dksX6_walksOn_0 2 rfl rfl)
theorem dX6_walksOn_3 : decode cX6_walksOn 3 = .ok (.iadd, 1) := dk_96 (dk_at dksX6_walksOn_0 3 rfl rfl)
theorem dX6_walksOn_4 : decode cX6_walksOn 4 = .ok (.invokevirtual 470, 3) := dk_182 1 214 (dk_at dksX6_walksOn_0 4 rfl rfl)
theorem dX6_walksOn_7 : decode cX6_walksOn 7 = .ok (.aload_n 0, 1) := dk_42 (dk_at dksX6_walksOn_0 7 rfl rfl)
theorem dX6_walksOn_8 : decode cX6_walksOn 8 = .ok (.iload_n 1, 1) := dk_27 (dk_at dksX6_walksOn_0 8 rfl rfl)
theorem dX6_walksOn_9 : decode cX6_walksOn 9 = .ok (.invokevirtual 470, 3) := dk_182 1 214 (dk_at dksX6_walksOn_0 9 rfl rfl)
theorem dX6_walksOn_12 : decode cX6_walksOn 12 = .ok (.if_icmp .ne 4, 3) := dk_160 0 4 (dk_at dksX6_walksOn_0 12 rfl rfl)
theorem dX6_walksOn_15 : decode cX6_walksOn 15 = .ok (.return_, 1) := dk_177 (dk_at dksX6_walksOn_0 15 rfl rfl)
theorem dX6_walksOn_16 : decode cX6_walksOn 16 = .ok (.aload_n 0, 1) := dk_42 (dk_at dksX6_walksOn_0 16 rfl rfl)
theorem dX6_walksOn_17 : decode cX6_walksOn 17 = .ok (.iconst 0, 1) := dk_3 (dk_at dksX6_walksOn_0 17 rfl rfl)
theorem dX6_walksOn_18 : decode cX6_walksOn 18 = .ok (.putfield 506, 3) := dk_181 1 250 (dk_at dksX6_walksOn_0 18 rfl rfl)
theorem dX6_walksOn_21 : decode cX6_walksOn 21 = .ok (.aload_n 0, 1) := dk_42 (dk_at dksX6_walksOn_0 21 rfl rfl)
theorem dX6_walksOn_22 : decode cX6_walksOn 22 = .ok (.aload_n 0, 1) := dk_42 (dk_at dksX6_walksOn_0 22 rfl rfl)
theorem dX6_walksOn_23 : decode cX6_walksOn 23 = .ok (.aload_n 0, 1) := dk_42 (dk_at dksX6_walksOn_0 23 rfl rfl)
theorem dX6_walksOn_24 : decode cX6_walksOn 24 = .ok (.getfield 503, 3) := dk_180 1 247 (dk_at dksX6_walksOn_1 0 rfl rfl)
theorem dX6_walksOn_27 : decode cX6_walksOn 27 = .ok (.iload_n 1, 1) := dk_27 (dk_at dksX6_walksOn_1 3 rfl rfl)
theorem dX6_walksOn_28 : decode cX6_walksOn 28 = .ok (.iconst 1, 1) := dk_4 (dk_at dksX6_walksOn_1 4 rfl rfl)
theorem dX6_walksOn_29 : decode cX6_walksOn 29 = .ok (.iadd, 1) := dk_96 (dk_at dksX6_walksOn_1 5 rfl rfl)
theorem dX6_walksOn_30 : decode cX6_walksOn 30 = .ok (.aload_n 0, 1) := dk_42 (dk_at dksX6_walksOn_1 6 rfl rfl)
theorem dX6_walksOn_31 : decode cX6_walksOn 31 = .ok (.iload_n 1, 1) := dk_27 (dk_at dksX6_walksOn_1 7 rfl rfl)
theorem dX6_walksOn_32 : decode cX6_walksOn 32 = .ok (.iconst 1, 1) := dk_4 (dk_at dksX6_walksOn_1 8 rfl rfl)
theorem dX6_walksOn_33 : decode cX6_walksOn 33 = .ok (.iadd, 1) := dk_96 (dk_at dksX6_walksOn_1 9 rfl rfl)
theorem dX6_walksOn_34 : decode cX6_walksOn 34 = .ok (.invokevirtual 470, 3) := dk_182 1 214 (dk_at dksX6_walksOn_1 10 rfl rfl)
theorem dX6_walksOn_37 : decode cX6_walksOn 37 = .ok (.invokevirtual 467, 3) := dk_182 1 211 (dk_at dksX6_walksOn_1 13 rfl rfl)
theorem dX6_walksOn_40 : decode cX6_walksOn 40 = .ok (.putfield 503, 3) := dk_181 1 247 (dk_at dksX6_walksOn_1 16 rfl rfl)
theorem dX6_walksOn_43 : decode cX6_walksOn 43 = .ok (.return_, 1) := dk_177 (dk_at dksX6_walksOn_1 19 rfl rfl)
abbrev cX6_knew : ByteArray := prog_23_method_95_code
def yX6_knew : MethodName := ⟨RX6, "knew", "(III)I"⟩
def dkwX6_knew_13 : List UInt8 := [167, 255, 108, 21, 4, 172]
abbrev dktX6_knew_13 : List UInt8 := dkwX6_knew_13 ++ []
def dkwX6_knew_12 : List UInt8 := [180, 0, 148, 21, 6, 46, 96, 54, 4, 132, 6, 1, 167, 255, 140, 42, 21, 5, 182, 2, 4, 132, 5, 1]
abbrev dktX6_knew_12 : List UInt8 := dkwX6_knew_12 ++ dktX6_knew_13
def dkwX6_knew_11 : List UInt8 := [21, 6, 46, 182, 1, 211, 42, 180, 0, 49, 21, 6, 46, 122, 4, 126, 4, 160, 0, 15, 21, 4, 42]
abbrev dktX6_knew_11 : List UInt8 := dkwX6_knew_11 ++ dktX6_knew_12
def dkwX6_knew_10 : List UInt8 := [167, 0, 4, 3, 54, 7, 21, 7, 153, 0, 48, 42, 42, 180, 1, 247, 21, 5, 4, 96, 42, 180, 0, 43]
abbrev dktX6_knew_10 : List UInt8 := dkwX6_knew_10 ++ dktX6_knew_11
def dkwX6_knew_9 : List UInt8 := [161, 0, 25, 42, 180, 0, 43, 21, 6, 46, 42, 21, 5, 4, 96, 182, 1, 214, 162, 0, 7, 4]
abbrev dktX6_knew_9 : List UInt8 := dkwX6_knew_9 ++ dktX6_knew_10
def dkwX6_knew_8 : List UInt8 := [180, 0, 46, 21, 6, 46, 27, 160, 0, 41, 42, 180, 0, 43, 21, 6, 46, 42, 21, 5, 182, 1, 214]
abbrev dktX6_knew_8 : List UInt8 := dkwX6_knew_8 ++ dktX6_knew_9
def dkwX6_knew_7 : List UInt8 := [42, 27, 21, 5, 182, 2, 1, 87, 3, 54, 6, 21, 6, 42, 180, 0, 13, 6, 46, 162, 0, 111, 42]
abbrev dktX6_knew_7 : List UInt8 := dkwX6_knew_7 ++ dktX6_knew_8
def dkwX6_knew_6 : List UInt8 := [3, 181, 1, 247, 42, 3, 181, 1, 250, 3, 54, 4, 3, 54, 5, 21, 5, 42, 180, 1, 205, 162, 0, 145]
abbrev dktX6_knew_6 : List UInt8 := dkwX6_knew_6 ++ dktX6_knew_7
def dkwX6_knew_5 : List UInt8 := [132, 4, 1, 167, 255, 232, 42, 27, 182, 1, 243, 136, 172, 42, 182, 1, 240, 42, 27, 182, 1, 243, 88, 42]
abbrev dktX6_knew_5 : List UInt8 := dkwX6_knew_5 ++ dktX6_knew_6
def dkwX6_knew_4 : List UInt8 := [54, 4, 21, 4, 16, 16, 162, 0, 23, 42, 180, 0, 145, 21, 4, 42, 180, 0, 148, 21, 4, 46, 79]
abbrev dktX6_knew_4 : List UInt8 := dkwX6_knew_4 ++ dktX6_knew_5
def dkwX6_knew_3 : List UInt8 := [42, 180, 0, 49, 21, 4, 46, 46, 167, 0, 4, 3, 79, 132, 4, 1, 167, 255, 205, 29, 154, 0, 40, 3]
abbrev dktX6_knew_3 : List UInt8 := dkwX6_knew_3 ++ dktX6_knew_4
def dkwX6_knew_2 : List UInt8 := [42, 180, 0, 148, 21, 4, 42, 182, 2, 14, 42, 180, 0, 52, 21, 4, 46, 162, 0, 18, 42, 180, 0, 28]
abbrev dktX6_knew_2 : List UInt8 := dkwX6_knew_2 ++ dktX6_knew_3
def dkwX6_knew_1 : List UInt8 := [164, 0, 5, 2, 172, 42, 28, 181, 2, 7, 3, 54, 4, 21, 4, 42, 180, 0, 13, 6, 46, 162, 0, 46]
abbrev dktX6_knew_1 : List UInt8 := dkwX6_knew_1 ++ dktX6_knew_2
def dkwX6_knew_0 : List UInt8 := [42, 3, 181, 0, 166, 42, 27, 182, 1, 196, 153, 0, 16, 28, 155, 0, 12, 29, 155, 0, 8, 29, 4]
abbrev dktX6_knew_0 : List UInt8 := dkwX6_knew_0 ++ dktX6_knew_1
theorem dksX6_knew_0 : cX6_knew.data.toList.drop 0 = dktX6_knew_0 := by decide +kernel
theorem dksX6_knew_1 : cX6_knew.data.toList.drop 23 = dktX6_knew_1 := dk_seg dksX6_knew_0 23 rfl rfl
theorem dksX6_knew_2 : cX6_knew.data.toList.drop 47 = dktX6_knew_2 := dk_seg dksX6_knew_1 24 rfl rfl
theorem dksX6_knew_3 : cX6_knew.data.toList.drop 71 = dktX6_knew_3 := dk_seg dksX6_knew_2 24 rfl rfl
theorem dksX6_knew_4 : cX6_knew.data.toList.drop 95 = dktX6_knew_4 := dk_seg dksX6_knew_3 24 rfl rfl
theorem dksX6_knew_5 : cX6_knew.data.toList.drop 118 = dktX6_knew_5 := dk_seg dksX6_knew_4 23 rfl rfl
theorem dksX6_knew_6 : cX6_knew.data.toList.drop 142 = dktX6_knew_6 := dk_seg dksX6_knew_5 24 rfl rfl
theorem dksX6_knew_7 : cX6_knew.data.toList.drop 166 = dktX6_knew_7 := dk_seg dksX6_knew_6 24 rfl rfl
theorem dksX6_knew_8 : cX6_knew.data.toList.drop 189 = dktX6_knew_8 := dk_seg dksX6_knew_7 23 rfl rfl
theorem dksX6_knew_9 : cX6_knew.data.toList.drop 212 = dktX6_knew_9 := dk_seg dksX6_knew_8 23 rfl rfl
theorem dksX6_knew_10 : cX6_knew.data.toList.drop 234 = dktX6_knew_10 := dk_seg dksX6_knew_9 22 rfl rfl
theorem dksX6_knew_11 : cX6_knew.data.toList.drop 258 = dktX6_knew_11 := dk_seg dksX6_knew_10 24 rfl rfl
theorem dksX6_knew_12 : cX6_knew.data.toList.drop 281 = dktX6_knew_12 := dk_seg dksX6_knew_11 23 rfl rfl
theorem dksX6_knew_13 : cX6_knew.data.toList.drop 305 = dktX6_knew_13 := dk_seg dksX6_knew_12 24 rfl rfl
theorem dX6_knew_0 : decode cX6_knew 0 = .ok (.aload_n 0, 1) := dk_42 (dk_at dksX6_knew_0 0 rfl rfl)
theorem dX6_knew_1 : decode cX6_knew 1 = .ok (.iconst 0, 1) := dk_3 (dk_at dksX6_knew_0 1 rfl rfl)
theorem dX6_knew_2 : decode cX6_knew 2 = .ok (.putfield 166, 3) := dk_181 0 166 (dk_at dksX6_knew_0 2 rfl rfl)
theorem dX6_knew_5 : decode cX6_knew 5 = .ok (.aload_n 0, 1) := dk_42 (dk_at dksX6_knew_0 5 rfl rfl)
theorem dX6_knew_6 : decode cX6_knew 6 = .ok (.iload_n 1, 1) := dk_27 (dk_at dksX6_knew_0 6 rfl rfl)
theorem dX6_knew_7 : decode cX6_knew 7 = .ok (.invokevirtual 452, 3) := dk_182 1 196 (dk_at dksX6_knew_0 7 rfl rfl)
theorem dX6_knew_10 : decode cX6_knew 10 = .ok (.ifCond .eq 16, 3) := dk_153 0 16 (dk_at dksX6_knew_0 10 rfl rfl)
theorem dX6_knew_13 : decode cX6_knew 13 = .ok (.iload_n 2, 1) := dk_28 (dk_at dksX6_knew_0 13 rfl rfl)
theorem dX6_knew_14 : decode cX6_knew 14 = .ok (.ifCond .lt 12, 3) := dk_155 0 12 (dk_at dksX6_knew_0 14 rfl rfl)
theorem dX6_knew_17 : decode cX6_knew 17 = .ok (.iload_n 3, 1) := dk_29 (dk_at dksX6_knew_0 17 rfl rfl)
theorem dX6_knew_18 : decode cX6_knew 18 = .ok (.ifCond .lt 8, 3) := dk_155 0 8 (dk_at dksX6_knew_0 18 rfl rfl)
theorem dX6_knew_21 : decode cX6_knew 21 = .ok (.iload_n 3, 1) := dk_29 (dk_at dksX6_knew_0 21 rfl rfl)
theorem dX6_knew_22 : decode cX6_knew 22 = .ok (.iconst 1, 1) := dk_4 (dk_at dksX6_knew_0 22 rfl rfl)
theorem dX6_knew_23 : decode cX6_knew 23 = .ok (.if_icmp .le 5, 3) := dk_164 0 5 (dk_at dksX6_knew_1 0 rfl rfl)
theorem dX6_knew_26 : decode cX6_knew 26 = .ok (.iconst (-1), 1) := dk_2 (dk_at dksX6_knew_1 3 rfl rfl)
theorem dX6_knew_27 : decode cX6_knew 27 = .ok (.ireturn, 1) := dk_172 (dk_at dksX6_knew_1 4 rfl rfl)
theorem dX6_knew_28 : decode cX6_knew 28 = .ok (.aload_n 0, 1) := dk_42 (dk_at dksX6_knew_1 5 rfl rfl)
theorem dX6_knew_29 : decode cX6_knew 29 = .ok (.iload_n 2, 1) := dk_28 (dk_at dksX6_knew_1 6 rfl rfl)
theorem dX6_knew_30 : decode cX6_knew 30 = .ok (.putfield 519, 3) := dk_181 2 7 (dk_at dksX6_knew_1 7 rfl rfl)
theorem dX6_knew_33 : decode cX6_knew 33 = .ok (.iconst 0, 1) := dk_3 (dk_at dksX6_knew_1 10 rfl rfl)
theorem dX6_knew_34 : decode cX6_knew 34 = .ok (.istore 4, 2) := dk_54 4 (dk_at dksX6_knew_1 11 rfl rfl)
theorem dX6_knew_36 : decode cX6_knew 36 = .ok (.iload 4, 2) := dk_21 4 (dk_at dksX6_knew_1 13 rfl rfl)
theorem dX6_knew_38 : decode cX6_knew 38 = .ok (.aload_n 0, 1) := dk_42 (dk_at dksX6_knew_1 15 rfl rfl)
theorem dX6_knew_39 : decode cX6_knew 39 = .ok (.getfield 13, 3) := dk_180 0 13 (dk_at dksX6_knew_1 16 rfl rfl)
theorem dX6_knew_42 : decode cX6_knew 42 = .ok (.iconst 3, 1) := dk_6 (dk_at dksX6_knew_1 19 rfl rfl)
theorem dX6_knew_43 : decode cX6_knew 43 = .ok (.iaload, 1) := dk_46 (dk_at dksX6_knew_1 20 rfl rfl)
theorem dX6_knew_44 : decode cX6_knew 44 = .ok (.if_icmp .ge 46, 3) := dk_162 0 46 (dk_at dksX6_knew_1 21 rfl rfl)
theorem dX6_knew_47 : decode cX6_knew 47 = .ok (.aload_n 0, 1) := dk_42 (dk_at dksX6_knew_2 0 rfl rfl)
theorem dX6_knew_48 : decode cX6_knew 48 = .ok (.getfield 148, 3) := dk_180 0 148 (dk_at dksX6_knew_2 1 rfl rfl)
theorem dX6_knew_51 : decode cX6_knew 51 = .ok (.iload 4, 2) := dk_21 4 (dk_at dksX6_knew_2 4 rfl rfl)
theorem dX6_knew_53 : decode cX6_knew 53 = .ok (.aload_n 0, 1) := dk_42 (dk_at dksX6_knew_2 6 rfl rfl)
theorem dX6_knew_54 : decode cX6_knew 54 = .ok (.invokevirtual 526, 3) := dk_182 2 14 (dk_at dksX6_knew_2 7 rfl rfl)
theorem dX6_knew_57 : decode cX6_knew 57 = .ok (.aload_n 0, 1) := dk_42 (dk_at dksX6_knew_2 10 rfl rfl)
theorem dX6_knew_58 : decode cX6_knew 58 = .ok (.getfield 52, 3) := dk_180 0 52 (dk_at dksX6_knew_2 11 rfl rfl)
theorem dX6_knew_61 : decode cX6_knew 61 = .ok (.iload 4, 2) := dk_21 4 (dk_at dksX6_knew_2 14 rfl rfl)
theorem dX6_knew_63 : decode cX6_knew 63 = .ok (.iaload, 1) := dk_46 (dk_at dksX6_knew_2 16 rfl rfl)
theorem dX6_knew_64 : decode cX6_knew 64 = .ok (.if_icmp .ge 18, 3) := dk_162 0 18 (dk_at dksX6_knew_2 17 rfl rfl)
theorem dX6_knew_67 : decode cX6_knew 67 = .ok (.aload_n 0, 1) := dk_42 (dk_at dksX6_knew_2 20 rfl rfl)
theorem dX6_knew_68 : decode cX6_knew 68 = .ok (.getfield 28, 3) := dk_180 0 28 (dk_at dksX6_knew_2 21 rfl rfl)
theorem dX6_knew_71 : decode cX6_knew 71 = .ok (.aload_n 0, 1) := dk_42 (dk_at dksX6_knew_3 0 rfl rfl)
theorem dX6_knew_72 : decode cX6_knew 72 = .ok (.getfield 49, 3) := dk_180 0 49 (dk_at dksX6_knew_3 1 rfl rfl)
theorem dX6_knew_75 : decode cX6_knew 75 = .ok (.iload 4, 2) := dk_21 4 (dk_at dksX6_knew_3 4 rfl rfl)
theorem dX6_knew_77 : decode cX6_knew 77 = .ok (.iaload, 1) := dk_46 (dk_at dksX6_knew_3 6 rfl rfl)
theorem dX6_knew_78 : decode cX6_knew 78 = .ok (.iaload, 1) := dk_46 (dk_at dksX6_knew_3 7 rfl rfl)
theorem dX6_knew_79 : decode cX6_knew 79 = .ok (.goto 4, 3) := dk_167 0 4 (dk_at dksX6_knew_3 8 rfl rfl)
theorem dX6_knew_82 : decode cX6_knew 82 = .ok (.iconst 0, 1) := dk_3 (dk_at dksX6_knew_3 11 rfl rfl)
theorem dX6_knew_83 : decode cX6_knew 83 = .ok (.iastore, 1) := dk_79 (dk_at dksX6_knew_3 12 rfl rfl)
theorem dX6_knew_84 : decode cX6_knew 84 = .ok (.iinc 4 1, 3) := dk_132 4 1 (dk_at dksX6_knew_3 13 rfl rfl)
theorem dX6_knew_87 : decode cX6_knew 87 = .ok (.goto (-51), 3) := dk_167 255 205 (dk_at dksX6_knew_3 16 rfl rfl)
theorem dX6_knew_90 : decode cX6_knew 90 = .ok (.iload_n 3, 1) := dk_29 (dk_at dksX6_knew_3 19 rfl rfl)
theorem dX6_knew_91 : decode cX6_knew 91 = .ok (.ifCond .ne 40, 3) := dk_154 0 40 (dk_at dksX6_knew_3 20 rfl rfl)
theorem dX6_knew_94 : decode cX6_knew 94 = .ok (.iconst 0, 1) := dk_3 (dk_at dksX6_knew_3 23 rfl rfl)
theorem dX6_knew_95 : decode cX6_knew 95 = .ok (.istore 4, 2) := dk_54 4 (dk_at dksX6_knew_4 0 rfl rfl)
theorem dX6_knew_97 : decode cX6_knew 97 = .ok (.iload 4, 2) := dk_21 4 (dk_at dksX6_knew_4 2 rfl rfl)
theorem dX6_knew_99 : decode cX6_knew 99 = .ok (.bipush 16, 2) := dk_16 16 (dk_at dksX6_knew_4 4 rfl rfl)
theorem dX6_knew_101 : decode cX6_knew 101 = .ok (.if_icmp .ge 23, 3) := dk_162 0 23 (dk_at dksX6_knew_4 6 rfl rfl)
theorem dX6_knew_104 : decode cX6_knew 104 = .ok (.aload_n 0, 1) := dk_42 (dk_at dksX6_knew_4 9 rfl rfl)
theorem dX6_knew_105 : decode cX6_knew 105 = .ok (.getfield 145, 3) := dk_180 0 145 (dk_at dksX6_knew_4 10 rfl rfl)
theorem dX6_knew_108 : decode cX6_knew 108 = .ok (.iload 4, 2) := dk_21 4 (dk_at dksX6_knew_4 13 rfl rfl)
theorem dX6_knew_110 : decode cX6_knew 110 = .ok (.aload_n 0, 1) := dk_42 (dk_at dksX6_knew_4 15 rfl rfl)
theorem dX6_knew_111 : decode cX6_knew 111 = .ok (.getfield 148, 3) := dk_180 0 148 (dk_at dksX6_knew_4 16 rfl rfl)
theorem dX6_knew_114 : decode cX6_knew 114 = .ok (.iload 4, 2) := dk_21 4 (dk_at dksX6_knew_4 19 rfl rfl)
theorem dX6_knew_116 : decode cX6_knew 116 = .ok (.iaload, 1) := dk_46 (dk_at dksX6_knew_4 21 rfl rfl)
theorem dX6_knew_117 : decode cX6_knew 117 = .ok (.iastore, 1) := dk_79 (dk_at dksX6_knew_4 22 rfl rfl)
theorem dX6_knew_118 : decode cX6_knew 118 = .ok (.iinc 4 1, 3) := dk_132 4 1 (dk_at dksX6_knew_5 0 rfl rfl)
theorem dX6_knew_121 : decode cX6_knew 121 = .ok (.goto (-24), 3) := dk_167 255 232 (dk_at dksX6_knew_5 3 rfl rfl)
theorem dX6_knew_124 : decode cX6_knew 124 = .ok (.aload_n 0, 1) := dk_42 (dk_at dksX6_knew_5 6 rfl rfl)
theorem dX6_knew_125 : decode cX6_knew 125 = .ok (.iload_n 1, 1) := dk_27 (dk_at dksX6_knew_5 7 rfl rfl)
theorem dX6_knew_126 : decode cX6_knew 126 = .ok (.invokevirtual 499, 3) := dk_182 1 243 (dk_at dksX6_knew_5 8 rfl rfl)
theorem dX6_knew_129 : decode cX6_knew 129 = .ok (.l2i, 1) := dk_136 (dk_at dksX6_knew_5 11 rfl rfl)
theorem dX6_knew_130 : decode cX6_knew 130 = .ok (.ireturn, 1) := dk_172 (dk_at dksX6_knew_5 12 rfl rfl)
theorem dX6_knew_131 : decode cX6_knew 131 = .ok (.aload_n 0, 1) := dk_42 (dk_at dksX6_knew_5 13 rfl rfl)
theorem dX6_knew_132 : decode cX6_knew 132 = .ok (.invokevirtual 496, 3) := dk_182 1 240 (dk_at dksX6_knew_5 14 rfl rfl)
theorem dX6_knew_135 : decode cX6_knew 135 = .ok (.aload_n 0, 1) := dk_42 (dk_at dksX6_knew_5 17 rfl rfl)
theorem dX6_knew_136 : decode cX6_knew 136 = .ok (.iload_n 1, 1) := dk_27 (dk_at dksX6_knew_5 18 rfl rfl)
theorem dX6_knew_137 : decode cX6_knew 137 = .ok (.invokevirtual 499, 3) := dk_182 1 243 (dk_at dksX6_knew_5 19 rfl rfl)
theorem dX6_knew_140 : decode cX6_knew 140 = .ok (.pop2, 1) := dk_88 (dk_at dksX6_knew_5 22 rfl rfl)
theorem dX6_knew_141 : decode cX6_knew 141 = .ok (.aload_n 0, 1) := dk_42 (dk_at dksX6_knew_5 23 rfl rfl)
theorem dX6_knew_142 : decode cX6_knew 142 = .ok (.iconst 0, 1) := dk_3 (dk_at dksX6_knew_6 0 rfl rfl)
theorem dX6_knew_143 : decode cX6_knew 143 = .ok (.putfield 503, 3) := dk_181 1 247 (dk_at dksX6_knew_6 1 rfl rfl)
theorem dX6_knew_146 : decode cX6_knew 146 = .ok (.aload_n 0, 1) := dk_42 (dk_at dksX6_knew_6 4 rfl rfl)
theorem dX6_knew_147 : decode cX6_knew 147 = .ok (.iconst 0, 1) := dk_3 (dk_at dksX6_knew_6 5 rfl rfl)
theorem dX6_knew_148 : decode cX6_knew 148 = .ok (.putfield 506, 3) := dk_181 1 250 (dk_at dksX6_knew_6 6 rfl rfl)
theorem dX6_knew_151 : decode cX6_knew 151 = .ok (.iconst 0, 1) := dk_3 (dk_at dksX6_knew_6 9 rfl rfl)
theorem dX6_knew_152 : decode cX6_knew 152 = .ok (.istore 4, 2) := dk_54 4 (dk_at dksX6_knew_6 10 rfl rfl)
theorem dX6_knew_154 : decode cX6_knew 154 = .ok (.iconst 0, 1) := dk_3 (dk_at dksX6_knew_6 12 rfl rfl)
theorem dX6_knew_155 : decode cX6_knew 155 = .ok (.istore 5, 2) := dk_54 5 (dk_at dksX6_knew_6 13 rfl rfl)
theorem dX6_knew_157 : decode cX6_knew 157 = .ok (.iload 5, 2) := dk_21 5 (dk_at dksX6_knew_6 15 rfl rfl)
theorem dX6_knew_159 : decode cX6_knew 159 = .ok (.aload_n 0, 1) := dk_42 (dk_at dksX6_knew_6 17 rfl rfl)
theorem dX6_knew_160 : decode cX6_knew 160 = .ok (.getfield 461, 3) := dk_180 1 205 (dk_at dksX6_knew_6 18 rfl rfl)
theorem dX6_knew_163 : decode cX6_knew 163 = .ok (.if_icmp .ge 145, 3) := dk_162 0 145 (dk_at dksX6_knew_6 21 rfl rfl)
theorem dX6_knew_166 : decode cX6_knew 166 = .ok (.aload_n 0, 1) := dk_42 (dk_at dksX6_knew_7 0 rfl rfl)
theorem dX6_knew_167 : decode cX6_knew 167 = .ok (.iload_n 1, 1) := dk_27 (dk_at dksX6_knew_7 1 rfl rfl)
theorem dX6_knew_168 : decode cX6_knew 168 = .ok (.iload 5, 2) := dk_21 5 (dk_at dksX6_knew_7 2 rfl rfl)
theorem dX6_knew_170 : decode cX6_knew 170 = .ok (.invokevirtual 513, 3) := dk_182 2 1 (dk_at dksX6_knew_7 4 rfl rfl)
theorem dX6_knew_173 : decode cX6_knew 173 = .ok (.pop, 1) := dk_87 (dk_at dksX6_knew_7 7 rfl rfl)
theorem dX6_knew_174 : decode cX6_knew 174 = .ok (.iconst 0, 1) := dk_3 (dk_at dksX6_knew_7 8 rfl rfl)
theorem dX6_knew_175 : decode cX6_knew 175 = .ok (.istore 6, 2) := dk_54 6 (dk_at dksX6_knew_7 9 rfl rfl)
theorem dX6_knew_177 : decode cX6_knew 177 = .ok (.iload 6, 2) := dk_21 6 (dk_at dksX6_knew_7 11 rfl rfl)
theorem dX6_knew_179 : decode cX6_knew 179 = .ok (.aload_n 0, 1) := dk_42 (dk_at dksX6_knew_7 13 rfl rfl)
theorem dX6_knew_180 : decode cX6_knew 180 = .ok (.getfield 13, 3) := dk_180 0 13 (dk_at dksX6_knew_7 14 rfl rfl)
theorem dX6_knew_183 : decode cX6_knew 183 = .ok (.iconst 3, 1) := dk_6 (dk_at dksX6_knew_7 17 rfl rfl)
theorem dX6_knew_184 : decode cX6_knew 184 = .ok (.iaload, 1) := dk_46 (dk_at dksX6_knew_7 18 rfl rfl)
theorem dX6_knew_185 : decode cX6_knew 185 = .ok (.if_icmp .ge 111, 3) := dk_162 0 111 (dk_at dksX6_knew_7 19 rfl rfl)
theorem dX6_knew_188 : decode cX6_knew 188 = .ok (.aload_n 0, 1) := dk_42 (dk_at dksX6_knew_7 22 rfl rfl)
theorem dX6_knew_189 : decode cX6_knew 189 = .ok (.getfield 46, 3) := dk_180 0 46 (dk_at dksX6_knew_8 0 rfl rfl)
theorem dX6_knew_192 : decode cX6_knew 192 = .ok (.iload 6, 2) := dk_21 6 (dk_at dksX6_knew_8 3 rfl rfl)
theorem dX6_knew_194 : decode cX6_knew 194 = .ok (.iaload, 1) := dk_46 (dk_at dksX6_knew_8 5 rfl rfl)
theorem dX6_knew_195 : decode cX6_knew 195 = .ok (.iload_n 1, 1) := dk_27 (dk_at dksX6_knew_8 6 rfl rfl)
theorem dX6_knew_196 : decode cX6_knew 196 = .ok (.if_icmp .ne 41, 3) := dk_160 0 41 (dk_at dksX6_knew_8 7 rfl rfl)
theorem dX6_knew_199 : decode cX6_knew 199 = .ok (.aload_n 0, 1) := dk_42 (dk_at dksX6_knew_8 10 rfl rfl)
theorem dX6_knew_200 : decode cX6_knew 200 = .ok (.getfield 43, 3) := dk_180 0 43 (dk_at dksX6_knew_8 11 rfl rfl)
theorem dX6_knew_203 : decode cX6_knew 203 = .ok (.iload 6, 2) := dk_21 6 (dk_at dksX6_knew_8 14 rfl rfl)
theorem dX6_knew_205 : decode cX6_knew 205 = .ok (.iaload, 1) := dk_46 (dk_at dksX6_knew_8 16 rfl rfl)
theorem dX6_knew_206 : decode cX6_knew 206 = .ok (.aload_n 0, 1) := dk_42 (dk_at dksX6_knew_8 17 rfl rfl)
theorem dX6_knew_207 : decode cX6_knew 207 = .ok (.iload 5, 2) := dk_21 5 (dk_at dksX6_knew_8 18 rfl rfl)
theorem dX6_knew_209 : decode cX6_knew 209 = .ok (.invokevirtual 470, 3) := dk_182 1 214 (dk_at dksX6_knew_8 20 rfl rfl)
theorem dX6_knew_212 : decode cX6_knew 212 = .ok (.if_icmp .lt 25, 3) := dk_161 0 25 (dk_at dksX6_knew_9 0 rfl rfl)
theorem dX6_knew_215 : decode cX6_knew 215 = .ok (.aload_n 0, 1) := dk_42 (dk_at dksX6_knew_9 3 rfl rfl)
theorem dX6_knew_216 : decode cX6_knew 216 = .ok (.getfield 43, 3) := dk_180 0 43 (dk_at dksX6_knew_9 4 rfl rfl)
theorem dX6_knew_219 : decode cX6_knew 219 = .ok (.iload 6, 2) := dk_21 6 (dk_at dksX6_knew_9 7 rfl rfl)
theorem dX6_knew_221 : decode cX6_knew 221 = .ok (.iaload, 1) := dk_46 (dk_at dksX6_knew_9 9 rfl rfl)
theorem dX6_knew_222 : decode cX6_knew 222 = .ok (.aload_n 0, 1) := dk_42 (dk_at dksX6_knew_9 10 rfl rfl)
theorem dX6_knew_223 : decode cX6_knew 223 = .ok (.iload 5, 2) := dk_21 5 (dk_at dksX6_knew_9 11 rfl rfl)
theorem dX6_knew_225 : decode cX6_knew 225 = .ok (.iconst 1, 1) := dk_4 (dk_at dksX6_knew_9 13 rfl rfl)
theorem dX6_knew_226 : decode cX6_knew 226 = .ok (.iadd, 1) := dk_96 (dk_at dksX6_knew_9 14 rfl rfl)
theorem dX6_knew_227 : decode cX6_knew 227 = .ok (.invokevirtual 470, 3) := dk_182 1 214 (dk_at dksX6_knew_9 15 rfl rfl)
theorem dX6_knew_230 : decode cX6_knew 230 = .ok (.if_icmp .ge 7, 3) := dk_162 0 7 (dk_at dksX6_knew_9 18 rfl rfl)
theorem dX6_knew_233 : decode cX6_knew 233 = .ok (.iconst 1, 1) := dk_4 (dk_at dksX6_knew_9 21 rfl rfl)
theorem dX6_knew_234 : decode cX6_knew 234 = .ok (.goto 4, 3) := dk_167 0 4 (dk_at dksX6_knew_10 0 rfl rfl)
theorem dX6_knew_237 : decode cX6_knew 237 = .ok (.iconst 0, 1) := dk_3 (dk_at dksX6_knew_10 3 rfl rfl)
theorem dX6_knew_238 : decode cX6_knew 238 = .ok (.istore 7, 2) := dk_54 7 (dk_at dksX6_knew_10 4 rfl rfl)
theorem dX6_knew_240 : decode cX6_knew 240 = .ok (.iload 7, 2) := dk_21 7 (dk_at dksX6_knew_10 6 rfl rfl)
theorem dX6_knew_242 : decode cX6_knew 242 = .ok (.ifCond .eq 48, 3) := dk_153 0 48 (dk_at dksX6_knew_10 8 rfl rfl)
theorem dX6_knew_245 : decode cX6_knew 245 = .ok (.aload_n 0, 1) := dk_42 (dk_at dksX6_knew_10 11 rfl rfl)
theorem dX6_knew_246 : decode cX6_knew 246 = .ok (.aload_n 0, 1) := dk_42 (dk_at dksX6_knew_10 12 rfl rfl)
theorem dX6_knew_247 : decode cX6_knew 247 = .ok (.getfield 503, 3) := dk_180 1 247 (dk_at dksX6_knew_10 13 rfl rfl)
theorem dX6_knew_250 : decode cX6_knew 250 = .ok (.iload 5, 2) := dk_21 5 (dk_at dksX6_knew_10 16 rfl rfl)
theorem dX6_knew_252 : decode cX6_knew 252 = .ok (.iconst 1, 1) := dk_4 (dk_at dksX6_knew_10 18 rfl rfl)
theorem dX6_knew_253 : decode cX6_knew 253 = .ok (.iadd, 1) := dk_96 (dk_at dksX6_knew_10 19 rfl rfl)
theorem dX6_knew_254 : decode cX6_knew 254 = .ok (.aload_n 0, 1) := dk_42 (dk_at dksX6_knew_10 20 rfl rfl)
theorem dX6_knew_255 : decode cX6_knew 255 = .ok (.getfield 43, 3) := dk_180 0 43 (dk_at dksX6_knew_10 21 rfl rfl)
theorem dX6_knew_258 : decode cX6_knew 258 = .ok (.iload 6, 2) := dk_21 6 (dk_at dksX6_knew_11 0 rfl rfl)
theorem dX6_knew_260 : decode cX6_knew 260 = .ok (.iaload, 1) := dk_46 (dk_at dksX6_knew_11 2 rfl rfl)
theorem dX6_knew_261 : decode cX6_knew 261 = .ok (.invokevirtual 467, 3) := dk_182 1 211 (dk_at dksX6_knew_11 3 rfl rfl)
theorem dX6_knew_264 : decode cX6_knew 264 = .ok (.aload_n 0, 1) := dk_42 (dk_at dksX6_knew_11 6 rfl rfl)
theorem dX6_knew_265 : decode cX6_knew 265 = .ok (.getfield 49, 3) := dk_180 0 49 (dk_at dksX6_knew_11 7 rfl rfl)
theorem dX6_knew_268 : decode cX6_knew 268 = .ok (.iload 6, 2) := dk_21 6 (dk_at dksX6_knew_11 10 rfl rfl)
theorem dX6_knew_270 : decode cX6_knew 270 = .ok (.iaload, 1) := dk_46 (dk_at dksX6_knew_11 12 rfl rfl)
theorem dX6_knew_271 : decode cX6_knew 271 = .ok (.ishr, 1) := dk_122 (dk_at dksX6_knew_11 13 rfl rfl)
theorem dX6_knew_272 : decode cX6_knew 272 = .ok (.iconst 1, 1) := dk_4 (dk_at dksX6_knew_11 14 rfl rfl)
theorem dX6_knew_273 : decode cX6_knew 273 = .ok (.iand, 1) := dk_126 (dk_at dksX6_knew_11 15 rfl rfl)
theorem dX6_knew_274 : decode cX6_knew 274 = .ok (.iconst 1, 1) := dk_4 (dk_at dksX6_knew_11 16 rfl rfl)
theorem dX6_knew_275 : decode cX6_knew 275 = .ok (.if_icmp .ne 15, 3) := dk_160 0 15 (dk_at dksX6_knew_11 17 rfl rfl)
theorem dX6_knew_278 : decode cX6_knew 278 = .ok (.iload 4, 2) := dk_21 4 (dk_at dksX6_knew_11 20 rfl rfl)
theorem dX6_knew_280 : decode cX6_knew 280 = .ok (.aload_n 0, 1) := dk_42 (dk_at dksX6_knew_11 22 rfl rfl)
theorem dX6_knew_281 : decode cX6_knew 281 = .ok (.getfield 148, 3) := dk_180 0 148 (dk_at dksX6_knew_12 0 rfl rfl)
theorem dX6_knew_284 : decode cX6_knew 284 = .ok (.iload 6, 2) := dk_21 6 (dk_at dksX6_knew_12 3 rfl rfl)
theorem dX6_knew_286 : decode cX6_knew 286 = .ok (.iaload, 1) := dk_46 (dk_at dksX6_knew_12 5 rfl rfl)
theorem dX6_knew_287 : decode cX6_knew 287 = .ok (.iadd, 1) := dk_96 (dk_at dksX6_knew_12 6 rfl rfl)
theorem dX6_knew_288 : decode cX6_knew 288 = .ok (.istore 4, 2) := dk_54 4 (dk_at dksX6_knew_12 7 rfl rfl)
theorem dX6_knew_290 : decode cX6_knew 290 = .ok (.iinc 6 1, 3) := dk_132 6 1 (dk_at dksX6_knew_12 9 rfl rfl)
theorem dX6_knew_293 : decode cX6_knew 293 = .ok (.goto (-116), 3) := dk_167 255 140 (dk_at dksX6_knew_12 12 rfl rfl)
theorem dX6_knew_296 : decode cX6_knew 296 = .ok (.aload_n 0, 1) := dk_42 (dk_at dksX6_knew_12 15 rfl rfl)
theorem dX6_knew_297 : decode cX6_knew 297 = .ok (.iload 5, 2) := dk_21 5 (dk_at dksX6_knew_12 16 rfl rfl)
theorem dX6_knew_299 : decode cX6_knew 299 = .ok (.invokevirtual 516, 3) := dk_182 2 4 (dk_at dksX6_knew_12 18 rfl rfl)
theorem dX6_knew_302 : decode cX6_knew 302 = .ok (.iinc 5 1, 3) := dk_132 5 1 (dk_at dksX6_knew_12 21 rfl rfl)
theorem dX6_knew_305 : decode cX6_knew 305 = .ok (.goto (-148), 3) := dk_167 255 108 (dk_at dksX6_knew_13 0 rfl rfl)
theorem dX6_knew_308 : decode cX6_knew 308 = .ok (.iload 4, 2) := dk_21 4 (dk_at dksX6_knew_13 3 rfl rfl)
theorem dX6_knew_310 : decode cX6_knew 310 = .ok (.ireturn, 1) := dk_172 (dk_at dksX6_knew_13 5 rfl rfl)
abbrev cX6_draw : ByteArray := prog_23_method_94_code
def yX6_draw : MethodName := ⟨RX6, "draw", "()I"⟩
def dkwX6_draw_1 : List UInt8 := [16, 16, 122, 16, 100, 112, 172]
abbrev dktX6_draw_1 : List UInt8 := dkwX6_draw_1 ++ []
def dkwX6_draw_0 : List UInt8 := [42, 42, 180, 2, 7, 19, 2, 10, 104, 17, 48, 57, 96, 19, 2, 13, 126, 181, 2, 7, 42, 180, 2, 7]
abbrev dktX6_draw_0 : List UInt8 := dkwX6_draw_0 ++ dktX6_draw_1
theorem dksX6_draw_0 : cX6_draw.data.toList.drop 0 = dktX6_draw_0 := by decide +kernel
theorem dksX6_draw_1 : cX6_draw.data.toList.drop 24 = dktX6_draw_1 := dk_seg dksX6_draw_0 24 rfl rfl
theorem dX6_draw_0 : decode cX6_draw 0 = .ok (.aload_n 0, 1) := dk_42 (dk_at dksX6_draw_0 0 rfl rfl)
theorem dX6_draw_1 : decode cX6_draw 1 = .ok (.aload_n 0, 1) := dk_42 (dk_at dksX6_draw_0 1 rfl rfl)
theorem dX6_draw_2 : decode cX6_draw 2 = .ok (.getfield 519, 3) := dk_180 2 7 (dk_at dksX6_draw_0 2 rfl rfl)
theorem dX6_draw_5 : decode cX6_draw 5 = .ok (.ldc_w 522, 3) := dk_19 2 10 (dk_at dksX6_draw_0 5 rfl rfl)
theorem dX6_draw_8 : decode cX6_draw 8 = .ok (.imul, 1) := dk_104 (dk_at dksX6_draw_0 8 rfl rfl)
theorem dX6_draw_9 : decode cX6_draw 9 = .ok (.sipush 12345, 3) := dk_17 48 57 (dk_at dksX6_draw_0 9 rfl rfl)
theorem dX6_draw_12 : decode cX6_draw 12 = .ok (.iadd, 1) := dk_96 (dk_at dksX6_draw_0 12 rfl rfl)
theorem dX6_draw_13 : decode cX6_draw 13 = .ok (.ldc_w 525, 3) := dk_19 2 13 (dk_at dksX6_draw_0 13 rfl rfl)
theorem dX6_draw_16 : decode cX6_draw 16 = .ok (.iand, 1) := dk_126 (dk_at dksX6_draw_0 16 rfl rfl)
theorem dX6_draw_17 : decode cX6_draw 17 = .ok (.putfield 519, 3) := dk_181 2 7 (dk_at dksX6_draw_0 17 rfl rfl)
theorem dX6_draw_20 : decode cX6_draw 20 = .ok (.aload_n 0, 1) := dk_42 (dk_at dksX6_draw_0 20 rfl rfl)
theorem dX6_draw_21 : decode cX6_draw 21 = .ok (.getfield 519, 3) := dk_180 2 7 (dk_at dksX6_draw_0 21 rfl rfl)
theorem dX6_draw_24 : decode cX6_draw 24 = .ok (.bipush 16, 2) := dk_16 16 (dk_at dksX6_draw_1 0 rfl rfl)
theorem dX6_draw_26 : decode cX6_draw 26 = .ok (.ishr, 1) := dk_122 (dk_at dksX6_draw_1 2 rfl rfl)
theorem dX6_draw_27 : decode cX6_draw 27 = .ok (.bipush 100, 2) := dk_16 100 (dk_at dksX6_draw_1 3 rfl rfl)
theorem dX6_draw_29 : decode cX6_draw 29 = .ok (.irem, 1) := dk_112 (dk_at dksX6_draw_1 5 rfl rfl)
theorem dX6_draw_30 : decode cX6_draw 30 = .ok (.ireturn, 1) := dk_172 (dk_at dksX6_draw_1 6 rfl rfl)
abbrev cX6_share : ByteArray := prog_23_method_99_code
def yX6_share : MethodName := ⟨RX6, "share", "(ZI)I"⟩
def dkwX6_share_7 : List UInt8 := [29, 21, 5, 182, 2, 21, 62, 132, 6, 1, 167, 255, 172, 21, 5, 172]
abbrev dktX6_share_7 : List UInt8 := dkwX6_share_7 ++ []
def dkwX6_share_6 : List UInt8 := [96, 42, 180, 0, 151, 17, 9, 97, 21, 6, 104, 29, 96, 46, 159, 0, 9, 132, 5, 1, 167, 255, 195, 42]
abbrev dktX6_share_6 : List UInt8 := dkwX6_share_6 ++ dktX6_share_7
def dkwX6_share_5 : List UInt8 := [182, 2, 17, 42, 180, 0, 151, 17, 9, 97, 21, 6, 4, 96, 104, 42, 29, 21, 5, 182, 2, 21, 96, 46]
abbrev dktX6_share_5 : List UInt8 := dkwX6_share_5 ++ dktX6_share_6
def dkwX6_share_4 : List UInt8 := [163, 0, 84, 3, 54, 5, 42, 29, 21, 5, 182, 2, 21, 2, 159, 0, 50, 42, 21, 6, 21, 5, 27]
abbrev dktX6_share_4 : List UInt8 := dkwX6_share_4 ++ dktX6_share_5
def dkwX6_share_3 : List UInt8 := [167, 255, 222, 28, 2, 160, 0, 10, 42, 180, 0, 151, 29, 46, 172, 3, 54, 5, 3, 54, 6, 21, 6, 28]
abbrev dktX6_share_3 : List UInt8 := dkwX6_share_3 ++ dktX6_share_4
def dkwX6_share_2 : List UInt8 := [21, 4, 42, 180, 0, 19, 21, 5, 46, 104, 96, 62, 21, 4, 16, 7, 104, 54, 4, 132, 5, 1]
abbrev dktX6_share_2 : List UInt8 := dkwX6_share_2 ++ dktX6_share_3
def dkwX6_share_1 : List UInt8 := [182, 2, 26, 3, 62, 4, 54, 4, 3, 54, 5, 21, 5, 42, 180, 0, 13, 3, 46, 162, 0, 29, 29]
abbrev dktX6_share_1 : List UInt8 := dkwX6_share_1 ++ dktX6_share_2
def dkwX6_share_0 : List UInt8 := [42, 3, 181, 0, 166, 28, 2, 161, 0, 13, 28, 42, 180, 0, 13, 4, 46, 161, 0, 5, 2, 172, 42, 27]
abbrev dktX6_share_0 : List UInt8 := dkwX6_share_0 ++ dktX6_share_1
theorem dksX6_share_0 : cX6_share.data.toList.drop 0 = dktX6_share_0 := by decide +kernel
theorem dksX6_share_1 : cX6_share.data.toList.drop 24 = dktX6_share_1 := dk_seg dksX6_share_0 24 rfl rfl
theorem dksX6_share_2 : cX6_share.data.toList.drop 47 = dktX6_share_2 := dk_seg dksX6_share_1 23 rfl rfl
theorem dksX6_share_3 : cX6_share.data.toList.drop 69 = dktX6_share_3 := dk_seg dksX6_share_2 22 rfl rfl
theorem dksX6_share_4 : cX6_share.data.toList.drop 93 = dktX6_share_4 := dk_seg dksX6_share_3 24 rfl rfl
theorem dksX6_share_5 : cX6_share.data.toList.drop 116 = dktX6_share_5 := dk_seg dksX6_share_4 23 rfl rfl
theorem dksX6_share_6 : cX6_share.data.toList.drop 140 = dktX6_share_6 := dk_seg dksX6_share_5 24 rfl rfl
theorem dksX6_share_7 : cX6_share.data.toList.drop 164 = dktX6_share_7 := dk_seg dksX6_share_6 24 rfl rfl
theorem dX6_share_0 : decode cX6_share 0 = .ok (.aload_n 0, 1) := dk_42 (dk_at dksX6_share_0 0 rfl rfl)
theorem dX6_share_1 : decode cX6_share 1 = .ok (.iconst 0, 1) := dk_3 (dk_at dksX6_share_0 1 rfl rfl)
theorem dX6_share_2 : decode cX6_share 2 = .ok (.putfield 166, 3) := dk_181 0 166 (dk_at dksX6_share_0 2 rfl rfl)
theorem dX6_share_5 : decode cX6_share 5 = .ok (.iload_n 2, 1) := dk_28 (dk_at dksX6_share_0 5 rfl rfl)
theorem dX6_share_6 : decode cX6_share 6 = .ok (.iconst (-1), 1) := dk_2 (dk_at dksX6_share_0 6 rfl rfl)
theorem dX6_share_7 : decode cX6_share 7 = .ok (.if_icmp .lt 13, 3) := dk_161 0 13 (dk_at dksX6_share_0 7 rfl rfl)
theorem dX6_share_10 : decode cX6_share 10 = .ok (.iload_n 2, 1) := dk_28 (dk_at dksX6_share_0 10 rfl rfl)
theorem dX6_share_11 : decode cX6_share 11 = .ok (.aload_n 0, 1) := dk_42 (dk_at dksX6_share_0 11 rfl rfl)
theorem dX6_share_12 : decode cX6_share 12 = .ok (.getfield 13, 3) := dk_180 0 13 (dk_at dksX6_share_0 12 rfl rfl)
theorem dX6_share_15 : decode cX6_share 15 = .ok (.iconst 1, 1) := dk_4 (dk_at dksX6_share_0 15 rfl rfl)
theorem dX6_share_16 : decode cX6_share 16 = .ok (.iaload, 1) := dk_46 (dk_at dksX6_share_0 16 rfl rfl)
theorem dX6_share_17 : decode cX6_share 17 = .ok (.if_icmp .lt 5, 3) := dk_161 0 5 (dk_at dksX6_share_0 17 rfl rfl)
theorem dX6_share_20 : decode cX6_share 20 = .ok (.iconst (-1), 1) := dk_2 (dk_at dksX6_share_0 20 rfl rfl)
theorem dX6_share_21 : decode cX6_share 21 = .ok (.ireturn, 1) := dk_172 (dk_at dksX6_share_0 21 rfl rfl)
theorem dX6_share_22 : decode cX6_share 22 = .ok (.aload_n 0, 1) := dk_42 (dk_at dksX6_share_0 22 rfl rfl)
theorem dX6_share_23 : decode cX6_share 23 = .ok (.iload_n 1, 1) := dk_27 (dk_at dksX6_share_0 23 rfl rfl)
theorem dX6_share_24 : decode cX6_share 24 = .ok (.invokevirtual 538, 3) := dk_182 2 26 (dk_at dksX6_share_1 0 rfl rfl)
theorem dX6_share_27 : decode cX6_share 27 = .ok (.iconst 0, 1) := dk_3 (dk_at dksX6_share_1 3 rfl rfl)
theorem dX6_share_28 : decode cX6_share 28 = .ok (.istore_n 3, 1) := dk_62 (dk_at dksX6_share_1 4 rfl rfl)
theorem dX6_share_29 : decode cX6_share 29 = .ok (.iconst 1, 1) := dk_4 (dk_at dksX6_share_1 5 rfl rfl)
theorem dX6_share_30 : decode cX6_share 30 = .ok (.istore 4, 2) := dk_54 4 (dk_at dksX6_share_1 6 rfl rfl)
theorem dX6_share_32 : decode cX6_share 32 = .ok (.iconst 0, 1) := dk_3 (dk_at dksX6_share_1 8 rfl rfl)
theorem dX6_share_33 : decode cX6_share 33 = .ok (.istore 5, 2) := dk_54 5 (dk_at dksX6_share_1 9 rfl rfl)
theorem dX6_share_35 : decode cX6_share 35 = .ok (.iload 5, 2) := dk_21 5 (dk_at dksX6_share_1 11 rfl rfl)
theorem dX6_share_37 : decode cX6_share 37 = .ok (.aload_n 0, 1) := dk_42 (dk_at dksX6_share_1 13 rfl rfl)
theorem dX6_share_38 : decode cX6_share 38 = .ok (.getfield 13, 3) := dk_180 0 13 (dk_at dksX6_share_1 14 rfl rfl)
theorem dX6_share_41 : decode cX6_share 41 = .ok (.iconst 0, 1) := dk_3 (dk_at dksX6_share_1 17 rfl rfl)
theorem dX6_share_42 : decode cX6_share 42 = .ok (.iaload, 1) := dk_46 (dk_at dksX6_share_1 18 rfl rfl)
theorem dX6_share_43 : decode cX6_share 43 = .ok (.if_icmp .ge 29, 3) := dk_162 0 29 (dk_at dksX6_share_1 19 rfl rfl)
theorem dX6_share_46 : decode cX6_share 46 = .ok (.iload_n 3, 1) := dk_29 (dk_at dksX6_share_1 22 rfl rfl)
theorem dX6_share_47 : decode cX6_share 47 = .ok (.iload 4, 2) := dk_21 4 (dk_at dksX6_share_2 0 rfl rfl)
theorem dX6_share_49 : decode cX6_share 49 = .ok (.aload_n 0, 1) := dk_42 (dk_at dksX6_share_2 2 rfl rfl)
theorem dX6_share_50 : decode cX6_share 50 = .ok (.getfield 19, 3) := dk_180 0 19 (dk_at dksX6_share_2 3 rfl rfl)
theorem dX6_share_53 : decode cX6_share 53 = .ok (.iload 5, 2) := dk_21 5 (dk_at dksX6_share_2 6 rfl rfl)
theorem dX6_share_55 : decode cX6_share 55 = .ok (.iaload, 1) := dk_46 (dk_at dksX6_share_2 8 rfl rfl)
theorem dX6_share_56 : decode cX6_share 56 = .ok (.imul, 1) := dk_104 (dk_at dksX6_share_2 9 rfl rfl)
theorem dX6_share_57 : decode cX6_share 57 = .ok (.iadd, 1) := dk_96 (dk_at dksX6_share_2 10 rfl rfl)
theorem dX6_share_58 : decode cX6_share 58 = .ok (.istore_n 3, 1) := dk_62 (dk_at dksX6_share_2 11 rfl rfl)
theorem dX6_share_59 : decode cX6_share 59 = .ok (.iload 4, 2) := dk_21 4 (dk_at dksX6_share_2 12 rfl rfl)
theorem dX6_share_61 : decode cX6_share 61 = .ok (.bipush 7, 2) := dk_16 7 (dk_at dksX6_share_2 14 rfl rfl)
theorem dX6_share_63 : decode cX6_share 63 = .ok (.imul, 1) := dk_104 (dk_at dksX6_share_2 16 rfl rfl)
theorem dX6_share_64 : decode cX6_share 64 = .ok (.istore 4, 2) := dk_54 4 (dk_at dksX6_share_2 17 rfl rfl)
theorem dX6_share_66 : decode cX6_share 66 = .ok (.iinc 5 1, 3) := dk_132 5 1 (dk_at dksX6_share_2 19 rfl rfl)
theorem dX6_share_69 : decode cX6_share 69 = .ok (.goto (-34), 3) := dk_167 255 222 (dk_at dksX6_share_3 0 rfl rfl)
theorem dX6_share_72 : decode cX6_share 72 = .ok (.iload_n 2, 1) := dk_28 (dk_at dksX6_share_3 3 rfl rfl)
theorem dX6_share_73 : decode cX6_share 73 = .ok (.iconst (-1), 1) := dk_2 (dk_at dksX6_share_3 4 rfl rfl)
theorem dX6_share_74 : decode cX6_share 74 = .ok (.if_icmp .ne 10, 3) := dk_160 0 10 (dk_at dksX6_share_3 5 rfl rfl)
theorem dX6_share_77 : decode cX6_share 77 = .ok (.aload_n 0, 1) := dk_42 (dk_at dksX6_share_3 8 rfl rfl)
theorem dX6_share_78 : decode cX6_share 78 = .ok (.getfield 151, 3) := dk_180 0 151 (dk_at dksX6_share_3 9 rfl rfl)
theorem dX6_share_81 : decode cX6_share 81 = .ok (.iload_n 3, 1) := dk_29 (dk_at dksX6_share_3 12 rfl rfl)
theorem dX6_share_82 : decode cX6_share 82 = .ok (.iaload, 1) := dk_46 (dk_at dksX6_share_3 13 rfl rfl)
theorem dX6_share_83 : decode cX6_share 83 = .ok (.ireturn, 1) := dk_172 (dk_at dksX6_share_3 14 rfl rfl)
theorem dX6_share_84 : decode cX6_share 84 = .ok (.iconst 0, 1) := dk_3 (dk_at dksX6_share_3 15 rfl rfl)
theorem dX6_share_85 : decode cX6_share 85 = .ok (.istore 5, 2) := dk_54 5 (dk_at dksX6_share_3 16 rfl rfl)
theorem dX6_share_87 : decode cX6_share 87 = .ok (.iconst 0, 1) := dk_3 (dk_at dksX6_share_3 18 rfl rfl)
theorem dX6_share_88 : decode cX6_share 88 = .ok (.istore 6, 2) := dk_54 6 (dk_at dksX6_share_3 19 rfl rfl)
theorem dX6_share_90 : decode cX6_share 90 = .ok (.iload 6, 2) := dk_21 6 (dk_at dksX6_share_3 21 rfl rfl)
theorem dX6_share_92 : decode cX6_share 92 = .ok (.iload_n 2, 1) := dk_28 (dk_at dksX6_share_3 23 rfl rfl)
theorem dX6_share_93 : decode cX6_share 93 = .ok (.if_icmp .gt 84, 3) := dk_163 0 84 (dk_at dksX6_share_4 0 rfl rfl)
theorem dX6_share_96 : decode cX6_share 96 = .ok (.iconst 0, 1) := dk_3 (dk_at dksX6_share_4 3 rfl rfl)
theorem dX6_share_97 : decode cX6_share 97 = .ok (.istore 5, 2) := dk_54 5 (dk_at dksX6_share_4 4 rfl rfl)
theorem dX6_share_99 : decode cX6_share 99 = .ok (.aload_n 0, 1) := dk_42 (dk_at dksX6_share_4 6 rfl rfl)
theorem dX6_share_100 : decode cX6_share 100 = .ok (.iload_n 3, 1) := dk_29 (dk_at dksX6_share_4 7 rfl rfl)
theorem dX6_share_101 : decode cX6_share 101 = .ok (.iload 5, 2) := dk_21 5 (dk_at dksX6_share_4 8 rfl rfl)
theorem dX6_share_103 : decode cX6_share 103 = .ok (.invokevirtual 533, 3) := dk_182 2 21 (dk_at dksX6_share_4 10 rfl rfl)
theorem dX6_share_106 : decode cX6_share 106 = .ok (.iconst (-1), 1) := dk_2 (dk_at dksX6_share_4 13 rfl rfl)
theorem dX6_share_107 : decode cX6_share 107 = .ok (.if_icmp .eq 50, 3) := dk_159 0 50 (dk_at dksX6_share_4 14 rfl rfl)
theorem dX6_share_110 : decode cX6_share 110 = .ok (.aload_n 0, 1) := dk_42 (dk_at dksX6_share_4 17 rfl rfl)
theorem dX6_share_111 : decode cX6_share 111 = .ok (.iload 6, 2) := dk_21 6 (dk_at dksX6_share_4 18 rfl rfl)
theorem dX6_share_113 : decode cX6_share 113 = .ok (.iload 5, 2) := dk_21 5 (dk_at dksX6_share_4 20 rfl rfl)
theorem dX6_share_115 : decode cX6_share 115 = .ok (.iload_n 1, 1) := dk_27 (dk_at dksX6_share_4 22 rfl rfl)
theorem dX6_share_116 : decode cX6_share 116 = .ok (.invokevirtual 529, 3) := dk_182 2 17 (dk_at dksX6_share_5 0 rfl rfl)
theorem dX6_share_119 : decode cX6_share 119 = .ok (.aload_n 0, 1) := dk_42 (dk_at dksX6_share_5 3 rfl rfl)
theorem dX6_share_120 : decode cX6_share 120 = .ok (.getfield 151, 3) := dk_180 0 151 (dk_at dksX6_share_5 4 rfl rfl)
theorem dX6_share_123 : decode cX6_share 123 = .ok (.sipush 2401, 3) := dk_17 9 97 (dk_at dksX6_share_5 7 rfl rfl)
theorem dX6_share_126 : decode cX6_share 126 = .ok (.iload 6, 2) := dk_21 6 (dk_at dksX6_share_5 10 rfl rfl)
theorem dX6_share_128 : decode cX6_share 128 = .ok (.iconst 1, 1) := dk_4 (dk_at dksX6_share_5 12 rfl rfl)
theorem dX6_share_129 : decode cX6_share 129 = .ok (.iadd, 1) := dk_96 (dk_at dksX6_share_5 13 rfl rfl)
theorem dX6_share_130 : decode cX6_share 130 = .ok (.imul, 1) := dk_104 (dk_at dksX6_share_5 14 rfl rfl)
theorem dX6_share_131 : decode cX6_share 131 = .ok (.aload_n 0, 1) := dk_42 (dk_at dksX6_share_5 15 rfl rfl)
theorem dX6_share_132 : decode cX6_share 132 = .ok (.iload_n 3, 1) := dk_29 (dk_at dksX6_share_5 16 rfl rfl)
theorem dX6_share_133 : decode cX6_share 133 = .ok (.iload 5, 2) := dk_21 5 (dk_at dksX6_share_5 17 rfl rfl)
theorem dX6_share_135 : decode cX6_share 135 = .ok (.invokevirtual 533, 3) := dk_182 2 21 (dk_at dksX6_share_5 19 rfl rfl)
theorem dX6_share_138 : decode cX6_share 138 = .ok (.iadd, 1) := dk_96 (dk_at dksX6_share_5 22 rfl rfl)
theorem dX6_share_139 : decode cX6_share 139 = .ok (.iaload, 1) := dk_46 (dk_at dksX6_share_5 23 rfl rfl)
theorem dX6_share_140 : decode cX6_share 140 = .ok (.iadd, 1) := dk_96 (dk_at dksX6_share_6 0 rfl rfl)
theorem dX6_share_141 : decode cX6_share 141 = .ok (.aload_n 0, 1) := dk_42 (dk_at dksX6_share_6 1 rfl rfl)
theorem dX6_share_142 : decode cX6_share 142 = .ok (.getfield 151, 3) := dk_180 0 151 (dk_at dksX6_share_6 2 rfl rfl)
theorem dX6_share_145 : decode cX6_share 145 = .ok (.sipush 2401, 3) := dk_17 9 97 (dk_at dksX6_share_6 5 rfl rfl)
theorem dX6_share_148 : decode cX6_share 148 = .ok (.iload 6, 2) := dk_21 6 (dk_at dksX6_share_6 8 rfl rfl)
theorem dX6_share_150 : decode cX6_share 150 = .ok (.imul, 1) := dk_104 (dk_at dksX6_share_6 10 rfl rfl)
theorem dX6_share_151 : decode cX6_share 151 = .ok (.iload_n 3, 1) := dk_29 (dk_at dksX6_share_6 11 rfl rfl)
theorem dX6_share_152 : decode cX6_share 152 = .ok (.iadd, 1) := dk_96 (dk_at dksX6_share_6 12 rfl rfl)
theorem dX6_share_153 : decode cX6_share 153 = .ok (.iaload, 1) := dk_46 (dk_at dksX6_share_6 13 rfl rfl)
theorem dX6_share_154 : decode cX6_share 154 = .ok (.if_icmp .eq 9, 3) := dk_159 0 9 (dk_at dksX6_share_6 14 rfl rfl)
theorem dX6_share_157 : decode cX6_share 157 = .ok (.iinc 5 1, 3) := dk_132 5 1 (dk_at dksX6_share_6 17 rfl rfl)
theorem dX6_share_160 : decode cX6_share 160 = .ok (.goto (-61), 3) := dk_167 255 195 (dk_at dksX6_share_6 20 rfl rfl)
theorem dX6_share_163 : decode cX6_share 163 = .ok (.aload_n 0, 1) := dk_42 (dk_at dksX6_share_6 23 rfl rfl)
theorem dX6_share_164 : decode cX6_share 164 = .ok (.iload_n 3, 1) := dk_29 (dk_at dksX6_share_7 0 rfl rfl)
theorem dX6_share_165 : decode cX6_share 165 = .ok (.iload 5, 2) := dk_21 5 (dk_at dksX6_share_7 1 rfl rfl)
theorem dX6_share_167 : decode cX6_share 167 = .ok (.invokevirtual 533, 3) := dk_182 2 21 (dk_at dksX6_share_7 3 rfl rfl)
theorem dX6_share_170 : decode cX6_share 170 = .ok (.istore_n 3, 1) := dk_62 (dk_at dksX6_share_7 6 rfl rfl)
theorem dX6_share_171 : decode cX6_share 171 = .ok (.iinc 6 1, 3) := dk_132 6 1 (dk_at dksX6_share_7 7 rfl rfl)
theorem dX6_share_174 : decode cX6_share 174 = .ok (.goto (-84), 3) := dk_167 255 172 (dk_at dksX6_share_7 10 rfl rfl)
theorem dX6_share_177 : decode cX6_share 177 = .ok (.iload 5, 2) := dk_21 5 (dk_at dksX6_share_7 13 rfl rfl)
theorem dX6_share_179 : decode cX6_share 179 = .ok (.ireturn, 1) := dk_172 (dk_at dksX6_share_7 15 rfl rfl)
abbrev cX6_layShares : ByteArray := prog_23_method_98_code
def yX6_layShares : MethodName := ⟨RX6, "layShares", "(Z)V"⟩
def dkwX6_layShares_7 : List UInt8 := [184, 2, 24, 79, 132, 5, 1, 167, 255, 183, 132, 3, 1, 167, 255, 153, 132, 2, 255, 167, 255, 113, 177]
abbrev dktX6_layShares_7 : List UInt8 := dkwX6_layShares_7 ++ []
def dkwX6_layShares_6 : List UInt8 := [104, 21, 5, 96, 46, 21, 4, 42, 180, 0, 151, 17, 9, 97, 28, 4, 96, 104, 21, 6, 96, 46, 96]
abbrev dktX6_layShares_6 : List UInt8 := dkwX6_layShares_6 ++ dktX6_layShares_7
def dkwX6_layShares_5 : List UInt8 := [2, 159, 0, 50, 42, 180, 0, 151, 17, 9, 97, 28, 104, 21, 5, 96, 42, 180, 0, 151, 17, 9, 97, 28]
abbrev dktX6_layShares_5 : List UInt8 := dkwX6_layShares_5 ++ dktX6_layShares_6
def dkwX6_layShares_4 : List UInt8 := [54, 4, 3, 54, 5, 21, 5, 17, 9, 97, 162, 0, 71, 42, 21, 5, 29, 182, 2, 21, 54, 6, 21, 6]
abbrev dktX6_layShares_4 : List UInt8 := dkwX6_layShares_4 ++ dktX6_layShares_5
def dkwX6_layShares_3 : List UInt8 := [167, 255, 233, 3, 62, 29, 4, 42, 180, 0, 13, 3, 46, 120, 162, 0, 97, 42, 28, 29, 27, 182, 2, 17]
abbrev dktX6_layShares_3 : List UInt8 := dkwX6_layShares_3 ++ dktX6_layShares_4
def dkwX6_layShares_2 : List UInt8 := [29, 17, 9, 97, 162, 0, 22, 42, 180, 0, 151, 17, 9, 97, 28, 104, 29, 96, 3, 79, 132, 3, 1]
abbrev dktX6_layShares_2 : List UInt8 := dkwX6_layShares_2 ++ dktX6_layShares_3
def dkwX6_layShares_1 : List UInt8 := [96, 3, 79, 132, 2, 1, 167, 255, 228, 42, 180, 0, 13, 4, 46, 4, 100, 61, 28, 155, 0, 145, 3, 62]
abbrev dktX6_layShares_1 : List UInt8 := dkwX6_layShares_1 ++ dktX6_layShares_2
def dkwX6_layShares_0 : List UInt8 := [3, 61, 28, 17, 9, 97, 162, 0, 27, 42, 180, 0, 151, 17, 9, 97, 42, 180, 0, 13, 4, 46, 104, 28]
abbrev dktX6_layShares_0 : List UInt8 := dkwX6_layShares_0 ++ dktX6_layShares_1
theorem dksX6_layShares_0 : cX6_layShares.data.toList.drop 0 = dktX6_layShares_0 := by decide +kernel
theorem dksX6_layShares_1 : cX6_layShares.data.toList.drop 24 = dktX6_layShares_1 := dk_seg dksX6_layShares_0 24 rfl rfl
theorem dksX6_layShares_2 : cX6_layShares.data.toList.drop 48 = dktX6_layShares_2 := dk_seg dksX6_layShares_1 24 rfl rfl
theorem dksX6_layShares_3 : cX6_layShares.data.toList.drop 71 = dktX6_layShares_3 := dk_seg dksX6_layShares_2 23 rfl rfl
theorem dksX6_layShares_4 : cX6_layShares.data.toList.drop 95 = dktX6_layShares_4 := dk_seg dksX6_layShares_3 24 rfl rfl
theorem dksX6_layShares_5 : cX6_layShares.data.toList.drop 119 = dktX6_layShares_5 := dk_seg dksX6_layShares_4 24 rfl rfl
theorem dksX6_layShares_6 : cX6_layShares.data.toList.drop 143 = dktX6_layShares_6 := dk_seg dksX6_layShares_5 24 rfl rfl
theorem dksX6_layShares_7 : cX6_layShares.data.toList.drop 166 = dktX6_layShares_7 := dk_seg dksX6_layShares_6 23 rfl rfl
theorem dX6_layShares_0 : decode cX6_layShares 0 = .ok (.iconst 0, 1) := dk_3 (dk_at dksX6_layShares_0 0 rfl rfl)
theorem dX6_layShares_1 : decode cX6_layShares 1 = .ok (.istore_n 2, 1) := dk_61 (dk_at dksX6_layShares_0 1 rfl rfl)
theorem dX6_layShares_2 : decode cX6_layShares 2 = .ok (.iload_n 2, 1) := dk_28 (dk_at dksX6_layShares_0 2 rfl rfl)
theorem dX6_layShares_3 : decode cX6_layShares 3 = .ok (.sipush 2401, 3) := dk_17 9 97 (dk_at dksX6_layShares_0 3 rfl rfl)
theorem dX6_layShares_6 : decode cX6_layShares 6 = .ok (.if_icmp .ge 27, 3) := dk_162 0 27 (dk_at dksX6_layShares_0 6 rfl rfl)
theorem dX6_layShares_9 : decode cX6_layShares 9 = .ok (.aload_n 0, 1) := dk_42 (dk_at dksX6_layShares_0 9 rfl rfl)
theorem dX6_layShares_10 : decode cX6_layShares 10 = .ok (.getfield 151, 3) := dk_180 0 151 (dk_at dksX6_layShares_0 10 rfl rfl)
theorem dX6_layShares_13 : decode cX6_layShares 13 = .ok (.sipush 2401, 3) := dk_17 9 97 (dk_at dksX6_layShares_0 13 rfl rfl)
theorem dX6_layShares_16 : decode cX6_layShares 16 = .ok (.aload_n 0, 1) := dk_42 (dk_at dksX6_layShares_0 16 rfl rfl)
theorem dX6_layShares_17 : decode cX6_layShares 17 = .ok (.getfield 13, 3) := dk_180 0 13 (dk_at dksX6_layShares_0 17 rfl rfl)
theorem dX6_layShares_20 : decode cX6_layShares 20 = .ok (.iconst 1, 1) := dk_4 (dk_at dksX6_layShares_0 20 rfl rfl)
theorem dX6_layShares_21 : decode cX6_layShares 21 = .ok (.iaload, 1) := dk_46 (dk_at dksX6_layShares_0 21 rfl rfl)
theorem dX6_layShares_22 : decode cX6_layShares 22 = .ok (.imul, 1) := dk_104 (dk_at dksX6_layShares_0 22 rfl rfl)
theorem dX6_layShares_23 : decode cX6_layShares 23 = .ok (.iload_n 2, 1) := dk_28 (dk_at dksX6_layShares_0 23 rfl rfl)
theorem dX6_layShares_24 : decode cX6_layShares 24 = .ok (.iadd, 1) := dk_96 (dk_at dksX6_layShares_1 0 rfl rfl)
theorem dX6_layShares_25 : decode cX6_layShares 25 = .ok (.iconst 0, 1) := dk_3 (dk_at dksX6_layShares_1 1 rfl rfl)
theorem dX6_layShares_26 : decode cX6_layShares 26 = .ok (.iastore, 1) := dk_79 (dk_at dksX6_layShares_1 2 rfl rfl)
theorem dX6_layShares_27 : decode cX6_layShares 27 = .ok (.iinc 2 1, 3) := dk_132 2 1 (dk_at dksX6_layShares_1 3 rfl rfl)
theorem dX6_layShares_30 : decode cX6_layShares 30 = .ok (.goto (-28), 3) := dk_167 255 228 (dk_at dksX6_layShares_1 6 rfl rfl)
theorem dX6_layShares_33 : decode cX6_layShares 33 = .ok (.aload_n 0, 1) := dk_42 (dk_at dksX6_layShares_1 9 rfl rfl)
theorem dX6_layShares_34 : decode cX6_layShares 34 = .ok (.getfield 13, 3) := dk_180 0 13 (dk_at dksX6_layShares_1 10 rfl rfl)
theorem dX6_layShares_37 : decode cX6_layShares 37 = .ok (.iconst 1, 1) := dk_4 (dk_at dksX6_layShares_1 13 rfl rfl)
theorem dX6_layShares_38 : decode cX6_layShares 38 = .ok (.iaload, 1) := dk_46 (dk_at dksX6_layShares_1 14 rfl rfl)
theorem dX6_layShares_39 : decode cX6_layShares 39 = .ok (.iconst 1, 1) := dk_4 (dk_at dksX6_layShares_1 15 rfl rfl)
theorem dX6_layShares_40 : decode cX6_layShares 40 = .ok (.isub, 1) := dk_100 (dk_at dksX6_layShares_1 16 rfl rfl)
theorem dX6_layShares_41 : decode cX6_layShares 41 = .ok (.istore_n 2, 1) := dk_61 (dk_at dksX6_layShares_1 17 rfl rfl)
theorem dX6_layShares_42 : decode cX6_layShares 42 = .ok (.iload_n 2, 1) := dk_28 (dk_at dksX6_layShares_1 18 rfl rfl)
theorem dX6_layShares_43 : decode cX6_layShares 43 = .ok (.ifCond .lt 145, 3) := dk_155 0 145 (dk_at dksX6_layShares_1 19 rfl rfl)
theorem dX6_layShares_46 : decode cX6_layShares 46 = .ok (.iconst 0, 1) := dk_3 (dk_at dksX6_layShares_1 22 rfl rfl)
theorem dX6_layShares_47 : decode cX6_layShares 47 = .ok (.istore_n 3, 1) := dk_62 (dk_at dksX6_layShares_1 23 rfl rfl)
theorem dX6_layShares_48 : decode cX6_layShares 48 = .ok (.iload_n 3, 1) := dk_29 (dk_at dksX6_layShares_2 0 rfl rfl)
theorem dX6_layShares_49 : decode cX6_layShares 49 = .ok (.sipush 2401, 3) := dk_17 9 97 (dk_at dksX6_layShares_2 1 rfl rfl)
theorem dX6_layShares_52 : decode cX6_layShares 52 = .ok (.if_icmp .ge 22, 3) := dk_162 0 22 (dk_at dksX6_layShares_2 4 rfl rfl)
theorem dX6_layShares_55 : decode cX6_layShares 55 = .ok (.aload_n 0, 1) := dk_42 (dk_at dksX6_layShares_2 7 rfl rfl)
theorem dX6_layShares_56 : decode cX6_layShares 56 = .ok (.getfield 151, 3) := dk_180 0 151 (dk_at dksX6_layShares_2 8 rfl rfl)
theorem dX6_layShares_59 : decode cX6_layShares 59 = .ok (.sipush 2401, 3) := dk_17 9 97 (dk_at dksX6_layShares_2 11 rfl rfl)
theorem dX6_layShares_62 : decode cX6_layShares 62 = .ok (.iload_n 2, 1) := dk_28 (dk_at dksX6_layShares_2 14 rfl rfl)
theorem dX6_layShares_63 : decode cX6_layShares 63 = .ok (.imul, 1) := dk_104 (dk_at dksX6_layShares_2 15 rfl rfl)
theorem dX6_layShares_64 : decode cX6_layShares 64 = .ok (.iload_n 3, 1) := dk_29 (dk_at dksX6_layShares_2 16 rfl rfl)
theorem dX6_layShares_65 : decode cX6_layShares 65 = .ok (.iadd, 1) := dk_96 (dk_at dksX6_layShares_2 17 rfl rfl)
theorem dX6_layShares_66 : decode cX6_layShares 66 = .ok (.iconst 0, 1) := dk_3 (dk_at dksX6_layShares_2 18 rfl rfl)
theorem dX6_layShares_67 : decode cX6_layShares 67 = .ok (.iastore, 1) := dk_79 (dk_at dksX6_layShares_2 19 rfl rfl)
theorem dX6_layShares_68 : decode cX6_layShares 68 = .ok (.iinc 3 1, 3) := dk_132 3 1 (dk_at dksX6_layShares_2 20 rfl rfl)
theorem dX6_layShares_71 : decode cX6_layShares 71 = .ok (.goto (-23), 3) := dk_167 255 233 (dk_at dksX6_layShares_3 0 rfl rfl)
theorem dX6_layShares_74 : decode cX6_layShares 74 = .ok (.iconst 0, 1) := dk_3 (dk_at dksX6_layShares_3 3 rfl rfl)
theorem dX6_layShares_75 : decode cX6_layShares 75 = .ok (.istore_n 3, 1) := dk_62 (dk_at dksX6_layShares_3 4 rfl rfl)
theorem dX6_layShares_76 : decode cX6_layShares 76 = .ok (.iload_n 3, 1) := dk_29 (dk_at dksX6_layShares_3 5 rfl rfl)
theorem dX6_layShares_77 : decode cX6_layShares 77 = .ok (.iconst 1, 1) := dk_4 (dk_at dksX6_layShares_3 6 rfl rfl)
theorem dX6_layShares_78 : decode cX6_layShares 78 = .ok (.aload_n 0, 1) := dk_42 (dk_at dksX6_layShares_3 7 rfl rfl)
theorem dX6_layShares_79 : decode cX6_layShares 79 = .ok (.getfield 13, 3) := dk_180 0 13 (dk_at dksX6_layShares_3 8 rfl rfl)
theorem dX6_layShares_82 : decode cX6_layShares 82 = .ok (.iconst 0, 1) := dk_3 (dk_at dksX6_layShares_3 11 rfl rfl)
theorem dX6_layShares_83 : decode cX6_layShares 83 = .ok (.iaload, 1) := dk_46 (dk_at dksX6_layShares_3 12 rfl rfl)
theorem dX6_layShares_84 : decode cX6_layShares 84 = .ok (.ishl, 1) := dk_120 (dk_at dksX6_layShares_3 13 rfl rfl)
theorem dX6_layShares_85 : decode cX6_layShares 85 = .ok (.if_icmp .ge 97, 3) := dk_162 0 97 (dk_at dksX6_layShares_3 14 rfl rfl)
theorem dX6_layShares_88 : decode cX6_layShares 88 = .ok (.aload_n 0, 1) := dk_42 (dk_at dksX6_layShares_3 17 rfl rfl)
theorem dX6_layShares_89 : decode cX6_layShares 89 = .ok (.iload_n 2, 1) := dk_28 (dk_at dksX6_layShares_3 18 rfl rfl)
theorem dX6_layShares_90 : decode cX6_layShares 90 = .ok (.iload_n 3, 1) := dk_29 (dk_at dksX6_layShares_3 19 rfl rfl)
theorem dX6_layShares_91 : decode cX6_layShares 91 = .ok (.iload_n 1, 1) := dk_27 (dk_at dksX6_layShares_3 20 rfl rfl)
theorem dX6_layShares_92 : decode cX6_layShares 92 = .ok (.invokevirtual 529, 3) := dk_182 2 17 (dk_at dksX6_layShares_3 21 rfl rfl)
theorem dX6_layShares_95 : decode cX6_layShares 95 = .ok (.istore 4, 2) := dk_54 4 (dk_at dksX6_layShares_4 0 rfl rfl)
theorem dX6_layShares_97 : decode cX6_layShares 97 = .ok (.iconst 0, 1) := dk_3 (dk_at dksX6_layShares_4 2 rfl rfl)
theorem dX6_layShares_98 : decode cX6_layShares 98 = .ok (.istore 5, 2) := dk_54 5 (dk_at dksX6_layShares_4 3 rfl rfl)
theorem dX6_layShares_100 : decode cX6_layShares 100 = .ok (.iload 5, 2) := dk_21 5 (dk_at dksX6_layShares_4 5 rfl rfl)
theorem dX6_layShares_102 : decode cX6_layShares 102 = .ok (.sipush 2401, 3) := dk_17 9 97 (dk_at dksX6_layShares_4 7 rfl rfl)
theorem dX6_layShares_105 : decode cX6_layShares 105 = .ok (.if_icmp .ge 71, 3) := dk_162 0 71 (dk_at dksX6_layShares_4 10 rfl rfl)
theorem dX6_layShares_108 : decode cX6_layShares 108 = .ok (.aload_n 0, 1) := dk_42 (dk_at dksX6_layShares_4 13 rfl rfl)
theorem dX6_layShares_109 : decode cX6_layShares 109 = .ok (.iload 5, 2) := dk_21 5 (dk_at dksX6_layShares_4 14 rfl rfl)
theorem dX6_layShares_111 : decode cX6_layShares 111 = .ok (.iload_n 3, 1) := dk_29 (dk_at dksX6_layShares_4 16 rfl rfl)
theorem dX6_layShares_112 : decode cX6_layShares 112 = .ok (.invokevirtual 533, 3) := dk_182 2 21 (dk_at dksX6_layShares_4 17 rfl rfl)
theorem dX6_layShares_115 : decode cX6_layShares 115 = .ok (.istore 6, 2) := dk_54 6 (dk_at dksX6_layShares_4 20 rfl rfl)
theorem dX6_layShares_117 : decode cX6_layShares 117 = .ok (.iload 6, 2) := dk_21 6 (dk_at dksX6_layShares_4 22 rfl rfl)
theorem dX6_layShares_119 : decode cX6_layShares 119 = .ok (.iconst (-1), 1) := dk_2 (dk_at dksX6_layShares_5 0 rfl rfl)
theorem dX6_layShares_120 : decode cX6_layShares 120 = .ok (.if_icmp .eq 50, 3) := dk_159 0 50 (dk_at dksX6_layShares_5 1 rfl rfl)
theorem dX6_layShares_123 : decode cX6_layShares 123 = .ok (.aload_n 0, 1) := dk_42 (dk_at dksX6_layShares_5 4 rfl rfl)
theorem dX6_layShares_124 : decode cX6_layShares 124 = .ok (.getfield 151, 3) := dk_180 0 151 (dk_at dksX6_layShares_5 5 rfl rfl)
theorem dX6_layShares_127 : decode cX6_layShares 127 = .ok (.sipush 2401, 3) := dk_17 9 97 (dk_at dksX6_layShares_5 8 rfl rfl)
theorem dX6_layShares_130 : decode cX6_layShares 130 = .ok (.iload_n 2, 1) := dk_28 (dk_at dksX6_layShares_5 11 rfl rfl)
theorem dX6_layShares_131 : decode cX6_layShares 131 = .ok (.imul, 1) := dk_104 (dk_at dksX6_layShares_5 12 rfl rfl)
theorem dX6_layShares_132 : decode cX6_layShares 132 = .ok (.iload 5, 2) := dk_21 5 (dk_at dksX6_layShares_5 13 rfl rfl)
theorem dX6_layShares_134 : decode cX6_layShares 134 = .ok (.iadd, 1) := dk_96 (dk_at dksX6_layShares_5 15 rfl rfl)
theorem dX6_layShares_135 : decode cX6_layShares 135 = .ok (.aload_n 0, 1) := dk_42 (dk_at dksX6_layShares_5 16 rfl rfl)
theorem dX6_layShares_136 : decode cX6_layShares 136 = .ok (.getfield 151, 3) := dk_180 0 151 (dk_at dksX6_layShares_5 17 rfl rfl)
theorem dX6_layShares_139 : decode cX6_layShares 139 = .ok (.sipush 2401, 3) := dk_17 9 97 (dk_at dksX6_layShares_5 20 rfl rfl)
theorem dX6_layShares_142 : decode cX6_layShares 142 = .ok (.iload_n 2, 1) := dk_28 (dk_at dksX6_layShares_5 23 rfl rfl)
theorem dX6_layShares_143 : decode cX6_layShares 143 = .ok (.imul, 1) := dk_104 (dk_at dksX6_layShares_6 0 rfl rfl)
theorem dX6_layShares_144 : decode cX6_layShares 144 = .ok (.iload 5, 2) := dk_21 5 (dk_at dksX6_layShares_6 1 rfl rfl)
theorem dX6_layShares_146 : decode cX6_layShares 146 = .ok (.iadd, 1) := dk_96 (dk_at dksX6_layShares_6 3 rfl rfl)
theorem dX6_layShares_147 : decode cX6_layShares 147 = .ok (.iaload, 1) := dk_46 (dk_at dksX6_layShares_6 4 rfl rfl)
theorem dX6_layShares_148 : decode cX6_layShares 148 = .ok (.iload 4, 2) := dk_21 4 (dk_at dksX6_layShares_6 5 rfl rfl)
theorem dX6_layShares_150 : decode cX6_layShares 150 = .ok (.aload_n 0, 1) := dk_42 (dk_at dksX6_layShares_6 7 rfl rfl)
theorem dX6_layShares_151 : decode cX6_layShares 151 = .ok (.getfield 151, 3) := dk_180 0 151 (dk_at dksX6_layShares_6 8 rfl rfl)
theorem dX6_layShares_154 : decode cX6_layShares 154 = .ok (.sipush 2401, 3) := dk_17 9 97 (dk_at dksX6_layShares_6 11 rfl rfl)
theorem dX6_layShares_157 : decode cX6_layShares 157 = .ok (.iload_n 2, 1) := dk_28 (dk_at dksX6_layShares_6 14 rfl rfl)
theorem dX6_layShares_158 : decode cX6_layShares 158 = .ok (.iconst 1, 1) := dk_4 (dk_at dksX6_layShares_6 15 rfl rfl)
theorem dX6_layShares_159 : decode cX6_layShares 159 = .ok (.iadd, 1) := dk_96 (dk_at dksX6_layShares_6 16 rfl rfl)
theorem dX6_layShares_160 : decode cX6_layShares 160 = .ok (.imul, 1) := dk_104 (dk_at dksX6_layShares_6 17 rfl rfl)
theorem dX6_layShares_161 : decode cX6_layShares 161 = .ok (.iload 6, 2) := dk_21 6 (dk_at dksX6_layShares_6 18 rfl rfl)
theorem dX6_layShares_163 : decode cX6_layShares 163 = .ok (.iadd, 1) := dk_96 (dk_at dksX6_layShares_6 20 rfl rfl)
theorem dX6_layShares_164 : decode cX6_layShares 164 = .ok (.iaload, 1) := dk_46 (dk_at dksX6_layShares_6 21 rfl rfl)
theorem dX6_layShares_165 : decode cX6_layShares 165 = .ok (.iadd, 1) := dk_96 (dk_at dksX6_layShares_6 22 rfl rfl)
theorem dX6_layShares_166 : decode cX6_layShares 166 = .ok (.invokestatic 536, 3) := dk_184 2 24 (dk_at dksX6_layShares_7 0 rfl rfl)
theorem dX6_layShares_169 : decode cX6_layShares 169 = .ok (.iastore, 1) := dk_79 (dk_at dksX6_layShares_7 3 rfl rfl)
theorem dX6_layShares_170 : decode cX6_layShares 170 = .ok (.iinc 5 1, 3) := dk_132 5 1 (dk_at dksX6_layShares_7 4 rfl rfl)
theorem dX6_layShares_173 : decode cX6_layShares 173 = .ok (.goto (-73), 3) := dk_167 255 183 (dk_at dksX6_layShares_7 7 rfl rfl)
theorem dX6_layShares_176 : decode cX6_layShares 176 = .ok (.iinc 3 1, 3) := dk_132 3 1 (dk_at dksX6_layShares_7 10 rfl rfl)
theorem dX6_layShares_179 : decode cX6_layShares 179 = .ok (.goto (-103), 3) := dk_167 255 153 (dk_at dksX6_layShares_7 13 rfl rfl)
theorem dX6_layShares_182 : decode cX6_layShares 182 = .ok (.iinc 2 (-1), 3) := dk_132 2 255 (dk_at dksX6_layShares_7 16 rfl rfl)
theorem dX6_layShares_185 : decode cX6_layShares 185 = .ok (.goto (-143), 3) := dk_167 255 113 (dk_at dksX6_layShares_7 19 rfl rfl)
theorem dX6_layShares_188 : decode cX6_layShares 188 = .ok (.return_, 1) := dk_177 (dk_at dksX6_layShares_7 22 rfl rfl)
abbrev cX6_worthBy : ByteArray := prog_23_method_96_code
def yX6_worthBy : MethodName := ⟨RX6, "worthBy", "(IIZ)I"⟩
def dkwX6_worthBy_7 : List UInt8 := [167, 255, 99, 21, 4, 172]
abbrev dktX6_worthBy_7 : List UInt8 := dkwX6_worthBy_7 ++ []
def dkwX6_worthBy_6 : List UInt8 := [21, 4, 21, 9, 153, 0, 12, 42, 180, 0, 28, 27, 46, 167, 0, 4, 3, 96, 54, 4, 132, 5, 1]
abbrev dktX6_worthBy_6 : List UInt8 := dkwX6_worthBy_6 ++ dktX6_worthBy_7
def dkwX6_worthBy_5 : List UInt8 := [167, 0, 22, 3, 167, 0, 18, 21, 7, 154, 0, 8, 21, 8, 153, 0, 7, 4, 167, 0, 4, 3, 54, 9]
abbrev dktX6_worthBy_5 : List UInt8 := dkwX6_worthBy_5 ++ dktX6_worthBy_6
def dkwX6_worthBy_4 : List UInt8 := [21, 7, 153, 0, 23, 42, 180, 0, 22, 21, 6, 46, 2, 159, 0, 8, 21, 8, 153, 0, 7, 4]
abbrev dktX6_worthBy_4 : List UInt8 := dkwX6_worthBy_4 ++ dktX6_worthBy_5
def dkwX6_worthBy_3 : List UInt8 := [180, 0, 22, 21, 6, 46, 122, 4, 126, 4, 160, 0, 7, 4, 167, 0, 4, 3, 54, 8, 29, 153, 0, 32]
abbrev dktX6_worthBy_3 : List UInt8 := dkwX6_worthBy_3 ++ dktX6_worthBy_4
def dkwX6_worthBy_2 : List UInt8 := [160, 0, 7, 4, 167, 0, 4, 3, 54, 7, 42, 180, 0, 22, 21, 6, 46, 2, 159, 0, 22, 28, 42]
abbrev dktX6_worthBy_2 : List UInt8 := dkwX6_worthBy_2 ++ dktX6_worthBy_3
def dkwX6_worthBy_1 : List UInt8 := [27, 159, 0, 6, 167, 0, 132, 42, 180, 0, 46, 21, 5, 46, 54, 6, 28, 21, 6, 122, 4, 126, 4]
abbrev dktX6_worthBy_1 : List UInt8 := dkwX6_worthBy_1 ++ dktX6_worthBy_2
def dkwX6_worthBy_0 : List UInt8 := [3, 54, 4, 3, 54, 5, 21, 5, 42, 180, 0, 13, 6, 46, 162, 0, 152, 42, 180, 0, 49, 21, 5, 46]
abbrev dktX6_worthBy_0 : List UInt8 := dkwX6_worthBy_0 ++ dktX6_worthBy_1
theorem dksX6_worthBy_0 : cX6_worthBy.data.toList.drop 0 = dktX6_worthBy_0 := by decide +kernel
theorem dksX6_worthBy_1 : cX6_worthBy.data.toList.drop 24 = dktX6_worthBy_1 := dk_seg dksX6_worthBy_0 24 rfl rfl
theorem dksX6_worthBy_2 : cX6_worthBy.data.toList.drop 47 = dktX6_worthBy_2 := dk_seg dksX6_worthBy_1 23 rfl rfl
theorem dksX6_worthBy_3 : cX6_worthBy.data.toList.drop 70 = dktX6_worthBy_3 := dk_seg dksX6_worthBy_2 23 rfl rfl
theorem dksX6_worthBy_4 : cX6_worthBy.data.toList.drop 94 = dktX6_worthBy_4 := dk_seg dksX6_worthBy_3 24 rfl rfl
theorem dksX6_worthBy_5 : cX6_worthBy.data.toList.drop 116 = dktX6_worthBy_5 := dk_seg dksX6_worthBy_4 22 rfl rfl
theorem dksX6_worthBy_6 : cX6_worthBy.data.toList.drop 140 = dktX6_worthBy_6 := dk_seg dksX6_worthBy_5 24 rfl rfl
theorem dksX6_worthBy_7 : cX6_worthBy.data.toList.drop 163 = dktX6_worthBy_7 := dk_seg dksX6_worthBy_6 23 rfl rfl
theorem dX6_worthBy_0 : decode cX6_worthBy 0 = .ok (.iconst 0, 1) := dk_3 (dk_at dksX6_worthBy_0 0 rfl rfl)
theorem dX6_worthBy_1 : decode cX6_worthBy 1 = .ok (.istore 4, 2) := dk_54 4 (dk_at dksX6_worthBy_0 1 rfl rfl)
theorem dX6_worthBy_3 : decode cX6_worthBy 3 = .ok (.iconst 0, 1) := dk_3 (dk_at dksX6_worthBy_0 3 rfl rfl)
theorem dX6_worthBy_4 : decode cX6_worthBy 4 = .ok (.istore 5, 2) := dk_54 5 (dk_at dksX6_worthBy_0 4 rfl rfl)
theorem dX6_worthBy_6 : decode cX6_worthBy 6 = .ok (.iload 5, 2) := dk_21 5 (dk_at dksX6_worthBy_0 6 rfl rfl)
theorem dX6_worthBy_8 : decode cX6_worthBy 8 = .ok (.aload_n 0, 1) := dk_42 (dk_at dksX6_worthBy_0 8 rfl rfl)
theorem dX6_worthBy_9 : decode cX6_worthBy 9 = .ok (.getfield 13, 3) := dk_180 0 13 (dk_at dksX6_worthBy_0 9 rfl rfl)
theorem dX6_worthBy_12 : decode cX6_worthBy 12 = .ok (.iconst 3, 1) := dk_6 (dk_at dksX6_worthBy_0 12 rfl rfl)
theorem dX6_worthBy_13 : decode cX6_worthBy 13 = .ok (.iaload, 1) := dk_46 (dk_at dksX6_worthBy_0 13 rfl rfl)
theorem dX6_worthBy_14 : decode cX6_worthBy 14 = .ok (.if_icmp .ge 152, 3) := dk_162 0 152 (dk_at dksX6_worthBy_0 14 rfl rfl)
theorem dX6_worthBy_17 : decode cX6_worthBy 17 = .ok (.aload_n 0, 1) := dk_42 (dk_at dksX6_worthBy_0 17 rfl rfl)
theorem dX6_worthBy_18 : decode cX6_worthBy 18 = .ok (.getfield 49, 3) := dk_180 0 49 (dk_at dksX6_worthBy_0 18 rfl rfl)
theorem dX6_worthBy_21 : decode cX6_worthBy 21 = .ok (.iload 5, 2) := dk_21 5 (dk_at dksX6_worthBy_0 21 rfl rfl)
theorem dX6_worthBy_23 : decode cX6_worthBy 23 = .ok (.iaload, 1) := dk_46 (dk_at dksX6_worthBy_0 23 rfl rfl)
theorem dX6_worthBy_24 : decode cX6_worthBy 24 = .ok (.iload_n 1, 1) := dk_27 (dk_at dksX6_worthBy_1 0 rfl rfl)
theorem dX6_worthBy_25 : decode cX6_worthBy 25 = .ok (.if_icmp .eq 6, 3) := dk_159 0 6 (dk_at dksX6_worthBy_1 1 rfl rfl)
theorem dX6_worthBy_28 : decode cX6_worthBy 28 = .ok (.goto 132, 3) := dk_167 0 132 (dk_at dksX6_worthBy_1 4 rfl rfl)
theorem dX6_worthBy_31 : decode cX6_worthBy 31 = .ok (.aload_n 0, 1) := dk_42 (dk_at dksX6_worthBy_1 7 rfl rfl)
theorem dX6_worthBy_32 : decode cX6_worthBy 32 = .ok (.getfield 46, 3) := dk_180 0 46 (dk_at dksX6_worthBy_1 8 rfl rfl)
theorem dX6_worthBy_35 : decode cX6_worthBy 35 = .ok (.iload 5, 2) := dk_21 5 (dk_at dksX6_worthBy_1 11 rfl rfl)
theorem dX6_worthBy_37 : decode cX6_worthBy 37 = .ok (.iaload, 1) := dk_46 (dk_at dksX6_worthBy_1 13 rfl rfl)
theorem dX6_worthBy_38 : decode cX6_worthBy 38 = .ok (.istore 6, 2) := dk_54 6 (dk_at dksX6_worthBy_1 14 rfl rfl)
theorem dX6_worthBy_40 : decode cX6_worthBy 40 = .ok (.iload_n 2, 1) := dk_28 (dk_at dksX6_worthBy_1 16 rfl rfl)
theorem dX6_worthBy_41 : decode cX6_worthBy 41 = .ok (.iload 6, 2) := dk_21 6 (dk_at dksX6_worthBy_1 17 rfl rfl)
theorem dX6_worthBy_43 : decode cX6_worthBy 43 = .ok (.ishr, 1) := dk_122 (dk_at dksX6_worthBy_1 19 rfl rfl)
theorem dX6_worthBy_44 : decode cX6_worthBy 44 = .ok (.iconst 1, 1) := dk_4 (dk_at dksX6_worthBy_1 20 rfl rfl)
theorem dX6_worthBy_45 : decode cX6_worthBy 45 = .ok (.iand, 1) := dk_126 (dk_at dksX6_worthBy_1 21 rfl rfl)
theorem dX6_worthBy_46 : decode cX6_worthBy 46 = .ok (.iconst 1, 1) := dk_4 (dk_at dksX6_worthBy_1 22 rfl rfl)
theorem dX6_worthBy_47 : decode cX6_worthBy 47 = .ok (.if_icmp .ne 7, 3) := dk_160 0 7 (dk_at dksX6_worthBy_2 0 rfl rfl)
theorem dX6_worthBy_50 : decode cX6_worthBy 50 = .ok (.iconst 1, 1) := dk_4 (dk_at dksX6_worthBy_2 3 rfl rfl)
theorem dX6_worthBy_51 : decode cX6_worthBy 51 = .ok (.goto 4, 3) := dk_167 0 4 (dk_at dksX6_worthBy_2 4 rfl rfl)
theorem dX6_worthBy_54 : decode cX6_worthBy 54 = .ok (.iconst 0, 1) := dk_3 (dk_at dksX6_worthBy_2 7 rfl rfl)
theorem dX6_worthBy_55 : decode cX6_worthBy 55 = .ok (.istore 7, 2) := dk_54 7 (dk_at dksX6_worthBy_2 8 rfl rfl)
theorem dX6_worthBy_57 : decode cX6_worthBy 57 = .ok (.aload_n 0, 1) := dk_42 (dk_at dksX6_worthBy_2 10 rfl rfl)
theorem dX6_worthBy_58 : decode cX6_worthBy 58 = .ok (.getfield 22, 3) := dk_180 0 22 (dk_at dksX6_worthBy_2 11 rfl rfl)
theorem dX6_worthBy_61 : decode cX6_worthBy 61 = .ok (.iload 6, 2) := dk_21 6 (dk_at dksX6_worthBy_2 14 rfl rfl)
theorem dX6_worthBy_63 : decode cX6_worthBy 63 = .ok (.iaload, 1) := dk_46 (dk_at dksX6_worthBy_2 16 rfl rfl)
theorem dX6_worthBy_64 : decode cX6_worthBy 64 = .ok (.iconst (-1), 1) := dk_2 (dk_at dksX6_worthBy_2 17 rfl rfl)
theorem dX6_worthBy_65 : decode cX6_worthBy 65 = .ok (.if_icmp .eq 22, 3) := dk_159 0 22 (dk_at dksX6_worthBy_2 18 rfl rfl)
theorem dX6_worthBy_68 : decode cX6_worthBy 68 = .ok (.iload_n 2, 1) := dk_28 (dk_at dksX6_worthBy_2 21 rfl rfl)
theorem dX6_worthBy_69 : decode cX6_worthBy 69 = .ok (.aload_n 0, 1) := dk_42 (dk_at dksX6_worthBy_2 22 rfl rfl)
theorem dX6_worthBy_70 : decode cX6_worthBy 70 = .ok (.getfield 22, 3) := dk_180 0 22 (dk_at dksX6_worthBy_3 0 rfl rfl)
theorem dX6_worthBy_73 : decode cX6_worthBy 73 = .ok (.iload 6, 2) := dk_21 6 (dk_at dksX6_worthBy_3 3 rfl rfl)
theorem dX6_worthBy_75 : decode cX6_worthBy 75 = .ok (.iaload, 1) := dk_46 (dk_at dksX6_worthBy_3 5 rfl rfl)
theorem dX6_worthBy_76 : decode cX6_worthBy 76 = .ok (.ishr, 1) := dk_122 (dk_at dksX6_worthBy_3 6 rfl rfl)
theorem dX6_worthBy_77 : decode cX6_worthBy 77 = .ok (.iconst 1, 1) := dk_4 (dk_at dksX6_worthBy_3 7 rfl rfl)
theorem dX6_worthBy_78 : decode cX6_worthBy 78 = .ok (.iand, 1) := dk_126 (dk_at dksX6_worthBy_3 8 rfl rfl)
theorem dX6_worthBy_79 : decode cX6_worthBy 79 = .ok (.iconst 1, 1) := dk_4 (dk_at dksX6_worthBy_3 9 rfl rfl)
theorem dX6_worthBy_80 : decode cX6_worthBy 80 = .ok (.if_icmp .ne 7, 3) := dk_160 0 7 (dk_at dksX6_worthBy_3 10 rfl rfl)
theorem dX6_worthBy_83 : decode cX6_worthBy 83 = .ok (.iconst 1, 1) := dk_4 (dk_at dksX6_worthBy_3 13 rfl rfl)
theorem dX6_worthBy_84 : decode cX6_worthBy 84 = .ok (.goto 4, 3) := dk_167 0 4 (dk_at dksX6_worthBy_3 14 rfl rfl)
theorem dX6_worthBy_87 : decode cX6_worthBy 87 = .ok (.iconst 0, 1) := dk_3 (dk_at dksX6_worthBy_3 17 rfl rfl)
theorem dX6_worthBy_88 : decode cX6_worthBy 88 = .ok (.istore 8, 2) := dk_54 8 (dk_at dksX6_worthBy_3 18 rfl rfl)
theorem dX6_worthBy_90 : decode cX6_worthBy 90 = .ok (.iload_n 3, 1) := dk_29 (dk_at dksX6_worthBy_3 20 rfl rfl)
theorem dX6_worthBy_91 : decode cX6_worthBy 91 = .ok (.ifCond .eq 32, 3) := dk_153 0 32 (dk_at dksX6_worthBy_3 21 rfl rfl)
theorem dX6_worthBy_94 : decode cX6_worthBy 94 = .ok (.iload 7, 2) := dk_21 7 (dk_at dksX6_worthBy_4 0 rfl rfl)
theorem dX6_worthBy_96 : decode cX6_worthBy 96 = .ok (.ifCond .eq 23, 3) := dk_153 0 23 (dk_at dksX6_worthBy_4 2 rfl rfl)
theorem dX6_worthBy_99 : decode cX6_worthBy 99 = .ok (.aload_n 0, 1) := dk_42 (dk_at dksX6_worthBy_4 5 rfl rfl)
theorem dX6_worthBy_100 : decode cX6_worthBy 100 = .ok (.getfield 22, 3) := dk_180 0 22 (dk_at dksX6_worthBy_4 6 rfl rfl)
theorem dX6_worthBy_103 : decode cX6_worthBy 103 = .ok (.iload 6, 2) := dk_21 6 (dk_at dksX6_worthBy_4 9 rfl rfl)
theorem dX6_worthBy_105 : decode cX6_worthBy 105 = .ok (.iaload, 1) := dk_46 (dk_at dksX6_worthBy_4 11 rfl rfl)
theorem dX6_worthBy_106 : decode cX6_worthBy 106 = .ok (.iconst (-1), 1) := dk_2 (dk_at dksX6_worthBy_4 12 rfl rfl)
theorem dX6_worthBy_107 : decode cX6_worthBy 107 = .ok (.if_icmp .eq 8, 3) := dk_159 0 8 (dk_at dksX6_worthBy_4 13 rfl rfl)
theorem dX6_worthBy_110 : decode cX6_worthBy 110 = .ok (.iload 8, 2) := dk_21 8 (dk_at dksX6_worthBy_4 16 rfl rfl)
theorem dX6_worthBy_112 : decode cX6_worthBy 112 = .ok (.ifCond .eq 7, 3) := dk_153 0 7 (dk_at dksX6_worthBy_4 18 rfl rfl)
theorem dX6_worthBy_115 : decode cX6_worthBy 115 = .ok (.iconst 1, 1) := dk_4 (dk_at dksX6_worthBy_4 21 rfl rfl)
theorem dX6_worthBy_116 : decode cX6_worthBy 116 = .ok (.goto 22, 3) := dk_167 0 22 (dk_at dksX6_worthBy_5 0 rfl rfl)
theorem dX6_worthBy_119 : decode cX6_worthBy 119 = .ok (.iconst 0, 1) := dk_3 (dk_at dksX6_worthBy_5 3 rfl rfl)
theorem dX6_worthBy_120 : decode cX6_worthBy 120 = .ok (.goto 18, 3) := dk_167 0 18 (dk_at dksX6_worthBy_5 4 rfl rfl)
theorem dX6_worthBy_123 : decode cX6_worthBy 123 = .ok (.iload 7, 2) := dk_21 7 (dk_at dksX6_worthBy_5 7 rfl rfl)
theorem dX6_worthBy_125 : decode cX6_worthBy 125 = .ok (.ifCond .ne 8, 3) := dk_154 0 8 (dk_at dksX6_worthBy_5 9 rfl rfl)
theorem dX6_worthBy_128 : decode cX6_worthBy 128 = .ok (.iload 8, 2) := dk_21 8 (dk_at dksX6_worthBy_5 12 rfl rfl)
theorem dX6_worthBy_130 : decode cX6_worthBy 130 = .ok (.ifCond .eq 7, 3) := dk_153 0 7 (dk_at dksX6_worthBy_5 14 rfl rfl)
theorem dX6_worthBy_133 : decode cX6_worthBy 133 = .ok (.iconst 1, 1) := dk_4 (dk_at dksX6_worthBy_5 17 rfl rfl)
theorem dX6_worthBy_134 : decode cX6_worthBy 134 = .ok (.goto 4, 3) := dk_167 0 4 (dk_at dksX6_worthBy_5 18 rfl rfl)
theorem dX6_worthBy_137 : decode cX6_worthBy 137 = .ok (.iconst 0, 1) := dk_3 (dk_at dksX6_worthBy_5 21 rfl rfl)
theorem dX6_worthBy_138 : decode cX6_worthBy 138 = .ok (.istore 9, 2) := dk_54 9 (dk_at dksX6_worthBy_5 22 rfl rfl)
theorem dX6_worthBy_140 : decode cX6_worthBy 140 = .ok (.iload 4, 2) := dk_21 4 (dk_at dksX6_worthBy_6 0 rfl rfl)
theorem dX6_worthBy_142 : decode cX6_worthBy 142 = .ok (.iload 9, 2) := dk_21 9 (dk_at dksX6_worthBy_6 2 rfl rfl)
theorem dX6_worthBy_144 : decode cX6_worthBy 144 = .ok (.ifCond .eq 12, 3) := dk_153 0 12 (dk_at dksX6_worthBy_6 4 rfl rfl)
theorem dX6_worthBy_147 : decode cX6_worthBy 147 = .ok (.aload_n 0, 1) := dk_42 (dk_at dksX6_worthBy_6 7 rfl rfl)
theorem dX6_worthBy_148 : decode cX6_worthBy 148 = .ok (.getfield 28, 3) := dk_180 0 28 (dk_at dksX6_worthBy_6 8 rfl rfl)
theorem dX6_worthBy_151 : decode cX6_worthBy 151 = .ok (.iload_n 1, 1) := dk_27 (dk_at dksX6_worthBy_6 11 rfl rfl)
theorem dX6_worthBy_152 : decode cX6_worthBy 152 = .ok (.iaload, 1) := dk_46 (dk_at dksX6_worthBy_6 12 rfl rfl)
theorem dX6_worthBy_153 : decode cX6_worthBy 153 = .ok (.goto 4, 3) := dk_167 0 4 (dk_at dksX6_worthBy_6 13 rfl rfl)
theorem dX6_worthBy_156 : decode cX6_worthBy 156 = .ok (.iconst 0, 1) := dk_3 (dk_at dksX6_worthBy_6 16 rfl rfl)
theorem dX6_worthBy_157 : decode cX6_worthBy 157 = .ok (.iadd, 1) := dk_96 (dk_at dksX6_worthBy_6 17 rfl rfl)
theorem dX6_worthBy_158 : decode cX6_worthBy 158 = .ok (.istore 4, 2) := dk_54 4 (dk_at dksX6_worthBy_6 18 rfl rfl)
theorem dX6_worthBy_160 : decode cX6_worthBy 160 = .ok (.iinc 5 1, 3) := dk_132 5 1 (dk_at dksX6_worthBy_6 20 rfl rfl)
theorem dX6_worthBy_163 : decode cX6_worthBy 163 = .ok (.goto (-157), 3) := dk_167 255 99 (dk_at dksX6_worthBy_7 0 rfl rfl)
theorem dX6_worthBy_166 : decode cX6_worthBy 166 = .ok (.iload 4, 2) := dk_21 4 (dk_at dksX6_worthBy_7 3 rfl rfl)
theorem dX6_worthBy_168 : decode cX6_worthBy 168 = .ok (.ireturn, 1) := dk_172 (dk_at dksX6_worthBy_7 5 rfl rfl)
abbrev cX6_less : ByteArray := prog_23_method_97_code
def yX6_less : MethodName := ⟨RX6, "less", "(II)I"⟩
def dkwX6_less_2 : List UInt8 := [21, 4, 16, 7, 104, 54, 4, 132, 6, 1, 167, 255, 209, 21, 5, 172]
abbrev dktX6_less_2 : List UInt8 := dkwX6_less_2 ++ []
def dkwX6_less_1 : List UInt8 := [160, 0, 19, 29, 16, 7, 112, 154, 0, 5, 2, 172, 21, 5, 21, 4, 100, 54, 5, 29, 16, 7, 108, 62]
abbrev dktX6_less_1 : List UInt8 := dkwX6_less_1 ++ dktX6_less_2
def dkwX6_less_0 : List UInt8 := [27, 62, 4, 54, 4, 27, 54, 5, 3, 54, 6, 21, 6, 7, 162, 0, 47, 28, 21, 6, 122, 4, 126, 4]
abbrev dktX6_less_0 : List UInt8 := dkwX6_less_0 ++ dktX6_less_1
theorem dksX6_less_0 : cX6_less.data.toList.drop 0 = dktX6_less_0 := by decide +kernel
theorem dksX6_less_1 : cX6_less.data.toList.drop 24 = dktX6_less_1 := dk_seg dksX6_less_0 24 rfl rfl
theorem dksX6_less_2 : cX6_less.data.toList.drop 48 = dktX6_less_2 := dk_seg dksX6_less_1 24 rfl rfl
theorem dX6_less_0 : decode cX6_less 0 = .ok (.iload_n 1, 1) := dk_27 (dk_at dksX6_less_0 0 rfl rfl)
theorem dX6_less_1 : decode cX6_less 1 = .ok (.istore_n 3, 1) := dk_62 (dk_at dksX6_less_0 1 rfl rfl)
theorem dX6_less_2 : decode cX6_less 2 = .ok (.iconst 1, 1) := dk_4 (dk_at dksX6_less_0 2 rfl rfl)
theorem dX6_less_3 : decode cX6_less 3 = .ok (.istore 4, 2) := dk_54 4 (dk_at dksX6_less_0 3 rfl rfl)
theorem dX6_less_5 : decode cX6_less 5 = .ok (.iload_n 1, 1) := dk_27 (dk_at dksX6_less_0 5 rfl rfl)
theorem dX6_less_6 : decode cX6_less 6 = .ok (.istore 5, 2) := dk_54 5 (dk_at dksX6_less_0 6 rfl rfl)
theorem dX6_less_8 : decode cX6_less 8 = .ok (.iconst 0, 1) := dk_3 (dk_at dksX6_less_0 8 rfl rfl)
theorem dX6_less_9 : decode cX6_less 9 = .ok (.istore 6, 2) := dk_54 6 (dk_at dksX6_less_0 9 rfl rfl)
theorem dX6_less_11 : decode cX6_less 11 = .ok (.iload 6, 2) := dk_21 6 (dk_at dksX6_less_0 11 rfl rfl)
theorem dX6_less_13 : decode cX6_less 13 = .ok (.iconst 4, 1) := dk_7 (dk_at dksX6_less_0 13 rfl rfl)
theorem dX6_less_14 : decode cX6_less 14 = .ok (.if_icmp .ge 47, 3) := dk_162 0 47 (dk_at dksX6_less_0 14 rfl rfl)
theorem dX6_less_17 : decode cX6_less 17 = .ok (.iload_n 2, 1) := dk_28 (dk_at dksX6_less_0 17 rfl rfl)
theorem dX6_less_18 : decode cX6_less 18 = .ok (.iload 6, 2) := dk_21 6 (dk_at dksX6_less_0 18 rfl rfl)
theorem dX6_less_20 : decode cX6_less 20 = .ok (.ishr, 1) := dk_122 (dk_at dksX6_less_0 20 rfl rfl)
theorem dX6_less_21 : decode cX6_less 21 = .ok (.iconst 1, 1) := dk_4 (dk_at dksX6_less_0 21 rfl rfl)
theorem dX6_less_22 : decode cX6_less 22 = .ok (.iand, 1) := dk_126 (dk_at dksX6_less_0 22 rfl rfl)
theorem dX6_less_23 : decode cX6_less 23 = .ok (.iconst 1, 1) := dk_4 (dk_at dksX6_less_0 23 rfl rfl)
theorem dX6_less_24 : decode cX6_less 24 = .ok (.if_icmp .ne 19, 3) := dk_160 0 19 (dk_at dksX6_less_1 0 rfl rfl)
theorem dX6_less_27 : decode cX6_less 27 = .ok (.iload_n 3, 1) := dk_29 (dk_at dksX6_less_1 3 rfl rfl)
theorem dX6_less_28 : decode cX6_less 28 = .ok (.bipush 7, 2) := dk_16 7 (dk_at dksX6_less_1 4 rfl rfl)
theorem dX6_less_30 : decode cX6_less 30 = .ok (.irem, 1) := dk_112 (dk_at dksX6_less_1 6 rfl rfl)
theorem dX6_less_31 : decode cX6_less 31 = .ok (.ifCond .ne 5, 3) := dk_154 0 5 (dk_at dksX6_less_1 7 rfl rfl)
theorem dX6_less_34 : decode cX6_less 34 = .ok (.iconst (-1), 1) := dk_2 (dk_at dksX6_less_1 10 rfl rfl)
theorem dX6_less_35 : decode cX6_less 35 = .ok (.ireturn, 1) := dk_172 (dk_at dksX6_less_1 11 rfl rfl)
theorem dX6_less_36 : decode cX6_less 36 = .ok (.iload 5, 2) := dk_21 5 (dk_at dksX6_less_1 12 rfl rfl)
theorem dX6_less_38 : decode cX6_less 38 = .ok (.iload 4, 2) := dk_21 4 (dk_at dksX6_less_1 14 rfl rfl)
theorem dX6_less_40 : decode cX6_less 40 = .ok (.isub, 1) := dk_100 (dk_at dksX6_less_1 16 rfl rfl)
theorem dX6_less_41 : decode cX6_less 41 = .ok (.istore 5, 2) := dk_54 5 (dk_at dksX6_less_1 17 rfl rfl)
theorem dX6_less_43 : decode cX6_less 43 = .ok (.iload_n 3, 1) := dk_29 (dk_at dksX6_less_1 19 rfl rfl)
theorem dX6_less_44 : decode cX6_less 44 = .ok (.bipush 7, 2) := dk_16 7 (dk_at dksX6_less_1 20 rfl rfl)
theorem dX6_less_46 : decode cX6_less 46 = .ok (.idiv, 1) := dk_108 (dk_at dksX6_less_1 22 rfl rfl)
theorem dX6_less_47 : decode cX6_less 47 = .ok (.istore_n 3, 1) := dk_62 (dk_at dksX6_less_1 23 rfl rfl)
theorem dX6_less_48 : decode cX6_less 48 = .ok (.iload 4, 2) := dk_21 4 (dk_at dksX6_less_2 0 rfl rfl)
theorem dX6_less_50 : decode cX6_less 50 = .ok (.bipush 7, 2) := dk_16 7 (dk_at dksX6_less_2 2 rfl rfl)
theorem dX6_less_52 : decode cX6_less 52 = .ok (.imul, 1) := dk_104 (dk_at dksX6_less_2 4 rfl rfl)
theorem dX6_less_53 : decode cX6_less 53 = .ok (.istore 4, 2) := dk_54 4 (dk_at dksX6_less_2 5 rfl rfl)
theorem dX6_less_55 : decode cX6_less 55 = .ok (.iinc 6 1, 3) := dk_132 6 1 (dk_at dksX6_less_2 7 rfl rfl)
theorem dX6_less_58 : decode cX6_less 58 = .ok (.goto (-47), 3) := dk_167 255 209 (dk_at dksX6_less_2 10 rfl rfl)
theorem dX6_less_61 : decode cX6_less 61 = .ok (.iload 5, 2) := dk_21 5 (dk_at dksX6_less_2 13 rfl rfl)
theorem dX6_less_63 : decode cX6_less 63 = .ok (.ireturn, 1) := dk_172 (dk_at dksX6_less_2 15 rfl rfl)
abbrev cX6_fewest : ByteArray := prog_23_method_100_code
def yX6_fewest : MethodName := ⟨RX6, "fewest", "()I"⟩
def dkwX6_fewest_4 : List UInt8 := [167, 255, 172, 27, 172]
abbrev dktX6_fewest_4 : List UInt8 := dkwX6_fewest_4 ++ []
def dkwX6_fewest_3 : List UInt8 := [132, 5, 1, 167, 255, 216, 27, 29, 158, 0, 8, 21, 4, 167, 0, 4, 3, 96, 60, 132, 2, 1]
abbrev dktX6_fewest_3 : List UInt8 := dkwX6_fewest_3 ++ dktX6_fewest_4
def dkwX6_fewest_2 : List UInt8 := [28, 21, 5, 3, 182, 2, 17, 29, 160, 0, 15, 21, 4, 21, 5, 184, 1, 223, 184, 2, 30, 54, 4]
abbrev dktX6_fewest_2 : List UInt8 := dkwX6_fewest_2 ++ dktX6_fewest_3
def dkwX6_fewest_1 : List UInt8 := [182, 2, 17, 62, 7, 54, 4, 3, 54, 5, 21, 5, 4, 42, 180, 0, 13, 3, 46, 120, 162, 0, 33, 42]
abbrev dktX6_fewest_1 : List UInt8 := dkwX6_fewest_1 ++ dktX6_fewest_2
def dkwX6_fewest_0 : List UInt8 := [42, 3, 181, 0, 166, 3, 60, 3, 61, 28, 42, 180, 0, 13, 4, 46, 162, 0, 80, 42, 28, 16, 15, 3]
abbrev dktX6_fewest_0 : List UInt8 := dkwX6_fewest_0 ++ dktX6_fewest_1
theorem dksX6_fewest_0 : cX6_fewest.data.toList.drop 0 = dktX6_fewest_0 := by decide +kernel
theorem dksX6_fewest_1 : cX6_fewest.data.toList.drop 24 = dktX6_fewest_1 := dk_seg dksX6_fewest_0 24 rfl rfl
theorem dksX6_fewest_2 : cX6_fewest.data.toList.drop 48 = dktX6_fewest_2 := dk_seg dksX6_fewest_1 24 rfl rfl
theorem dksX6_fewest_3 : cX6_fewest.data.toList.drop 71 = dktX6_fewest_3 := dk_seg dksX6_fewest_2 23 rfl rfl
theorem dksX6_fewest_4 : cX6_fewest.data.toList.drop 93 = dktX6_fewest_4 := dk_seg dksX6_fewest_3 22 rfl rfl
theorem dX6_fewest_0 : decode cX6_fewest 0 = .ok (.aload_n 0, 1) := dk_42 (dk_at dksX6_fewest_0 0 rfl rfl)
theorem dX6_fewest_1 : decode cX6_fewest 1 = .ok (.iconst 0, 1) := dk_3 (dk_at dksX6_fewest_0 1 rfl rfl)
theorem dX6_fewest_2 : decode cX6_fewest 2 = .ok (.putfield 166, 3) := dk_181 0 166 (dk_at dksX6_fewest_0 2 rfl rfl)
theorem dX6_fewest_5 : decode cX6_fewest 5 = .ok (.iconst 0, 1) := dk_3 (dk_at dksX6_fewest_0 5 rfl rfl)
theorem dX6_fewest_6 : decode cX6_fewest 6 = .ok (.istore_n 1, 1) := dk_60 (dk_at dksX6_fewest_0 6 rfl rfl)
theorem dX6_fewest_7 : decode cX6_fewest 7 = .ok (.iconst 0, 1) := dk_3 (dk_at dksX6_fewest_0 7 rfl rfl)
theorem dX6_fewest_8 : decode cX6_fewest 8 = .ok (.istore_n 2, 1) := dk_61 (dk_at dksX6_fewest_0 8 rfl rfl)
theorem dX6_fewest_9 : decode cX6_fewest 9 = .ok (.iload_n 2, 1) := dk_28 (dk_at dksX6_fewest_0 9 rfl rfl)
theorem dX6_fewest_10 : decode cX6_fewest 10 = .ok (.aload_n 0, 1) := dk_42 (dk_at dksX6_fewest_0 10 rfl rfl)
theorem dX6_fewest_11 : decode cX6_fewest 11 = .ok (.getfield 13, 3) := dk_180 0 13 (dk_at dksX6_fewest_0 11 rfl rfl)
theorem dX6_fewest_14 : decode cX6_fewest 14 = .ok (.iconst 1, 1) := dk_4 (dk_at dksX6_fewest_0 14 rfl rfl)
theorem dX6_fewest_15 : decode cX6_fewest 15 = .ok (.iaload, 1) := dk_46 (dk_at dksX6_fewest_0 15 rfl rfl)
theorem dX6_fewest_16 : decode cX6_fewest 16 = .ok (.if_icmp .ge 80, 3) := dk_162 0 80 (dk_at dksX6_fewest_0 16 rfl rfl)
theorem dX6_fewest_19 : decode cX6_fewest 19 = .ok (.aload_n 0, 1) := dk_42 (dk_at dksX6_fewest_0 19 rfl rfl)
theorem dX6_fewest_20 : decode cX6_fewest 20 = .ok (.iload_n 2, 1) := dk_28 (dk_at dksX6_fewest_0 20 rfl rfl)
theorem dX6_fewest_21 : decode cX6_fewest 21 = .ok (.bipush 15, 2) := dk_16 15 (dk_at dksX6_fewest_0 21 rfl rfl)
theorem dX6_fewest_23 : decode cX6_fewest 23 = .ok (.iconst 0, 1) := dk_3 (dk_at dksX6_fewest_0 23 rfl rfl)
theorem dX6_fewest_24 : decode cX6_fewest 24 = .ok (.invokevirtual 529, 3) := dk_182 2 17 (dk_at dksX6_fewest_1 0 rfl rfl)
theorem dX6_fewest_27 : decode cX6_fewest 27 = .ok (.istore_n 3, 1) := dk_62 (dk_at dksX6_fewest_1 3 rfl rfl)
theorem dX6_fewest_28 : decode cX6_fewest 28 = .ok (.iconst 4, 1) := dk_7 (dk_at dksX6_fewest_1 4 rfl rfl)
theorem dX6_fewest_29 : decode cX6_fewest 29 = .ok (.istore 4, 2) := dk_54 4 (dk_at dksX6_fewest_1 5 rfl rfl)
theorem dX6_fewest_31 : decode cX6_fewest 31 = .ok (.iconst 0, 1) := dk_3 (dk_at dksX6_fewest_1 7 rfl rfl)
theorem dX6_fewest_32 : decode cX6_fewest 32 = .ok (.istore 5, 2) := dk_54 5 (dk_at dksX6_fewest_1 8 rfl rfl)
theorem dX6_fewest_34 : decode cX6_fewest 34 = .ok (.iload 5, 2) := dk_21 5 (dk_at dksX6_fewest_1 10 rfl rfl)
theorem dX6_fewest_36 : decode cX6_fewest 36 = .ok (.iconst 1, 1) := dk_4 (dk_at dksX6_fewest_1 12 rfl rfl)
theorem dX6_fewest_37 : decode cX6_fewest 37 = .ok (.aload_n 0, 1) := dk_42 (dk_at dksX6_fewest_1 13 rfl rfl)
theorem dX6_fewest_38 : decode cX6_fewest 38 = .ok (.getfield 13, 3) := dk_180 0 13 (dk_at dksX6_fewest_1 14 rfl rfl)
theorem dX6_fewest_41 : decode cX6_fewest 41 = .ok (.iconst 0, 1) := dk_3 (dk_at dksX6_fewest_1 17 rfl rfl)
theorem dX6_fewest_42 : decode cX6_fewest 42 = .ok (.iaload, 1) := dk_46 (dk_at dksX6_fewest_1 18 rfl rfl)
theorem dX6_fewest_43 : decode cX6_fewest 43 = .ok (.ishl, 1) := dk_120 (dk_at dksX6_fewest_1 19 rfl rfl)
theorem dX6_fewest_44 : decode cX6_fewest 44 = .ok (.if_icmp .ge 33, 3) := dk_162 0 33 (dk_at dksX6_fewest_1 20 rfl rfl)
theorem dX6_fewest_47 : decode cX6_fewest 47 = .ok (.aload_n 0, 1) := dk_42 (dk_at dksX6_fewest_1 23 rfl rfl)
theorem dX6_fewest_48 : decode cX6_fewest 48 = .ok (.iload_n 2, 1) := dk_28 (dk_at dksX6_fewest_2 0 rfl rfl)
theorem dX6_fewest_49 : decode cX6_fewest 49 = .ok (.iload 5, 2) := dk_21 5 (dk_at dksX6_fewest_2 1 rfl rfl)
theorem dX6_fewest_51 : decode cX6_fewest 51 = .ok (.iconst 0, 1) := dk_3 (dk_at dksX6_fewest_2 3 rfl rfl)
theorem dX6_fewest_52 : decode cX6_fewest 52 = .ok (.invokevirtual 529, 3) := dk_182 2 17 (dk_at dksX6_fewest_2 4 rfl rfl)
theorem dX6_fewest_55 : decode cX6_fewest 55 = .ok (.iload_n 3, 1) := dk_29 (dk_at dksX6_fewest_2 7 rfl rfl)
theorem dX6_fewest_56 : decode cX6_fewest 56 = .ok (.if_icmp .ne 15, 3) := dk_160 0 15 (dk_at dksX6_fewest_2 8 rfl rfl)
theorem dX6_fewest_59 : decode cX6_fewest 59 = .ok (.iload 4, 2) := dk_21 4 (dk_at dksX6_fewest_2 11 rfl rfl)
theorem dX6_fewest_61 : decode cX6_fewest 61 = .ok (.iload 5, 2) := dk_21 5 (dk_at dksX6_fewest_2 13 rfl rfl)
theorem dX6_fewest_63 : decode cX6_fewest 63 = .ok (.invokestatic 479, 3) := dk_184 1 223 (dk_at dksX6_fewest_2 15 rfl rfl)
theorem dX6_fewest_66 : decode cX6_fewest 66 = .ok (.invokestatic 542, 3) := dk_184 2 30 (dk_at dksX6_fewest_2 18 rfl rfl)
theorem dX6_fewest_69 : decode cX6_fewest 69 = .ok (.istore 4, 2) := dk_54 4 (dk_at dksX6_fewest_2 21 rfl rfl)
theorem dX6_fewest_71 : decode cX6_fewest 71 = .ok (.iinc 5 1, 3) := dk_132 5 1 (dk_at dksX6_fewest_3 0 rfl rfl)
theorem dX6_fewest_74 : decode cX6_fewest 74 = .ok (.goto (-40), 3) := dk_167 255 216 (dk_at dksX6_fewest_3 3 rfl rfl)
theorem dX6_fewest_77 : decode cX6_fewest 77 = .ok (.iload_n 1, 1) := dk_27 (dk_at dksX6_fewest_3 6 rfl rfl)
theorem dX6_fewest_78 : decode cX6_fewest 78 = .ok (.iload_n 3, 1) := dk_29 (dk_at dksX6_fewest_3 7 rfl rfl)
theorem dX6_fewest_79 : decode cX6_fewest 79 = .ok (.ifCond .le 8, 3) := dk_158 0 8 (dk_at dksX6_fewest_3 8 rfl rfl)
theorem dX6_fewest_82 : decode cX6_fewest 82 = .ok (.iload 4, 2) := dk_21 4 (dk_at dksX6_fewest_3 11 rfl rfl)
theorem dX6_fewest_84 : decode cX6_fewest 84 = .ok (.goto 4, 3) := dk_167 0 4 (dk_at dksX6_fewest_3 13 rfl rfl)
theorem dX6_fewest_87 : decode cX6_fewest 87 = .ok (.iconst 0, 1) := dk_3 (dk_at dksX6_fewest_3 16 rfl rfl)
theorem dX6_fewest_88 : decode cX6_fewest 88 = .ok (.iadd, 1) := dk_96 (dk_at dksX6_fewest_3 17 rfl rfl)
theorem dX6_fewest_89 : decode cX6_fewest 89 = .ok (.istore_n 1, 1) := dk_60 (dk_at dksX6_fewest_3 18 rfl rfl)
theorem dX6_fewest_90 : decode cX6_fewest 90 = .ok (.iinc 2 1, 3) := dk_132 2 1 (dk_at dksX6_fewest_3 19 rfl rfl)
theorem dX6_fewest_93 : decode cX6_fewest 93 = .ok (.goto (-84), 3) := dk_167 255 172 (dk_at dksX6_fewest_4 0 rfl rfl)
theorem dX6_fewest_96 : decode cX6_fewest 96 = .ok (.iload_n 1, 1) := dk_27 (dk_at dksX6_fewest_4 3 rfl rfl)
theorem dX6_fewest_97 : decode cX6_fewest 97 = .ok (.ireturn, 1) := dk_172 (dk_at dksX6_fewest_4 4 rfl rfl)
abbrev cX6_gives : ByteArray := prog_23_method_103_code
def yX6_gives : MethodName := ⟨RX6, "gives", "(IJ)I"⟩
def dkwX6_gives_2 : List UInt8 := [21, 5, 120, 128, 54, 4, 132, 5, 1, 167, 255, 221, 21, 4, 172]
abbrev dktX6_gives_2 : List UInt8 := dkwX6_gives_2 ++ []
def dkwX6_gives_1 : List UInt8 := [42, 180, 0, 13, 4, 46, 162, 0, 30, 42, 27, 32, 21, 5, 182, 2, 39, 2, 159, 0, 12, 21, 4, 4]
abbrev dktX6_gives_1 : List UInt8 := dkwX6_gives_1 ++ dktX6_gives_2
def dkwX6_gives_0 : List UInt8 := [42, 3, 181, 0, 166, 42, 27, 32, 182, 2, 35, 154, 0, 5, 2, 172, 3, 54, 4, 3, 54, 5, 21, 5]
abbrev dktX6_gives_0 : List UInt8 := dkwX6_gives_0 ++ dktX6_gives_1
theorem dksX6_gives_0 : cX6_gives.data.toList.drop 0 = dktX6_gives_0 := by decide +kernel
theorem dksX6_gives_1 : cX6_gives.data.toList.drop 24 = dktX6_gives_1 := dk_seg dksX6_gives_0 24 rfl rfl
theorem dksX6_gives_2 : cX6_gives.data.toList.drop 48 = dktX6_gives_2 := dk_seg dksX6_gives_1 24 rfl rfl
theorem dX6_gives_0 : decode cX6_gives 0 = .ok (.aload_n 0, 1) := dk_42 (dk_at dksX6_gives_0 0 rfl rfl)
theorem dX6_gives_1 : decode cX6_gives 1 = .ok (.iconst 0, 1) := dk_3 (dk_at dksX6_gives_0 1 rfl rfl)
theorem dX6_gives_2 : decode cX6_gives 2 = .ok (.putfield 166, 3) := dk_181 0 166 (dk_at dksX6_gives_0 2 rfl rfl)
theorem dX6_gives_5 : decode cX6_gives 5 = .ok (.aload_n 0, 1) := dk_42 (dk_at dksX6_gives_0 5 rfl rfl)
theorem dX6_gives_6 : decode cX6_gives 6 = .ok (.iload_n 1, 1) := dk_27 (dk_at dksX6_gives_0 6 rfl rfl)
theorem dX6_gives_7 : decode cX6_gives 7 = .ok (.lload_n 2, 1) := dk_32 (dk_at dksX6_gives_0 7 rfl rfl)
theorem dX6_gives_8 : decode cX6_gives 8 = .ok (.invokevirtual 547, 3) := dk_182 2 35 (dk_at dksX6_gives_0 8 rfl rfl)
theorem dX6_gives_11 : decode cX6_gives 11 = .ok (.ifCond .ne 5, 3) := dk_154 0 5 (dk_at dksX6_gives_0 11 rfl rfl)
theorem dX6_gives_14 : decode cX6_gives 14 = .ok (.iconst (-1), 1) := dk_2 (dk_at dksX6_gives_0 14 rfl rfl)
theorem dX6_gives_15 : decode cX6_gives 15 = .ok (.ireturn, 1) := dk_172 (dk_at dksX6_gives_0 15 rfl rfl)
theorem dX6_gives_16 : decode cX6_gives 16 = .ok (.iconst 0, 1) := dk_3 (dk_at dksX6_gives_0 16 rfl rfl)
theorem dX6_gives_17 : decode cX6_gives 17 = .ok (.istore 4, 2) := dk_54 4 (dk_at dksX6_gives_0 17 rfl rfl)
theorem dX6_gives_19 : decode cX6_gives 19 = .ok (.iconst 0, 1) := dk_3 (dk_at dksX6_gives_0 19 rfl rfl)
theorem dX6_gives_20 : decode cX6_gives 20 = .ok (.istore 5, 2) := dk_54 5 (dk_at dksX6_gives_0 20 rfl rfl)
theorem dX6_gives_22 : decode cX6_gives 22 = .ok (.iload 5, 2) := dk_21 5 (dk_at dksX6_gives_0 22 rfl rfl)
theorem dX6_gives_24 : decode cX6_gives 24 = .ok (.aload_n 0, 1) := dk_42 (dk_at dksX6_gives_1 0 rfl rfl)
theorem dX6_gives_25 : decode cX6_gives 25 = .ok (.getfield 13, 3) := dk_180 0 13 (dk_at dksX6_gives_1 1 rfl rfl)
theorem dX6_gives_28 : decode cX6_gives 28 = .ok (.iconst 1, 1) := dk_4 (dk_at dksX6_gives_1 4 rfl rfl)
theorem dX6_gives_29 : decode cX6_gives 29 = .ok (.iaload, 1) := dk_46 (dk_at dksX6_gives_1 5 rfl rfl)
theorem dX6_gives_30 : decode cX6_gives 30 = .ok (.if_icmp .ge 30, 3) := dk_162 0 30 (dk_at dksX6_gives_1 6 rfl rfl)
theorem dX6_gives_33 : decode cX6_gives 33 = .ok (.aload_n 0, 1) := dk_42 (dk_at dksX6_gives_1 9 rfl rfl)
theorem dX6_gives_34 : decode cX6_gives 34 = .ok (.iload_n 1, 1) := dk_27 (dk_at dksX6_gives_1 10 rfl rfl)
theorem dX6_gives_35 : decode cX6_gives 35 = .ok (.lload_n 2, 1) := dk_32 (dk_at dksX6_gives_1 11 rfl rfl)
theorem dX6_gives_36 : decode cX6_gives 36 = .ok (.iload 5, 2) := dk_21 5 (dk_at dksX6_gives_1 12 rfl rfl)
theorem dX6_gives_38 : decode cX6_gives 38 = .ok (.invokevirtual 551, 3) := dk_182 2 39 (dk_at dksX6_gives_1 14 rfl rfl)
theorem dX6_gives_41 : decode cX6_gives 41 = .ok (.iconst (-1), 1) := dk_2 (dk_at dksX6_gives_1 17 rfl rfl)
theorem dX6_gives_42 : decode cX6_gives 42 = .ok (.if_icmp .eq 12, 3) := dk_159 0 12 (dk_at dksX6_gives_1 18 rfl rfl)
theorem dX6_gives_45 : decode cX6_gives 45 = .ok (.iload 4, 2) := dk_21 4 (dk_at dksX6_gives_1 21 rfl rfl)
theorem dX6_gives_47 : decode cX6_gives 47 = .ok (.iconst 1, 1) := dk_4 (dk_at dksX6_gives_1 23 rfl rfl)
theorem dX6_gives_48 : decode cX6_gives 48 = .ok (.iload 5, 2) := dk_21 5 (dk_at dksX6_gives_2 0 rfl rfl)
theorem dX6_gives_50 : decode cX6_gives 50 = .ok (.ishl, 1) := dk_120 (dk_at dksX6_gives_2 2 rfl rfl)
theorem dX6_gives_51 : decode cX6_gives 51 = .ok (.ior, 1) := dk_128 (dk_at dksX6_gives_2 3 rfl rfl)
theorem dX6_gives_52 : decode cX6_gives 52 = .ok (.istore 4, 2) := dk_54 4 (dk_at dksX6_gives_2 4 rfl rfl)
theorem dX6_gives_54 : decode cX6_gives 54 = .ok (.iinc 5 1, 3) := dk_132 5 1 (dk_at dksX6_gives_2 6 rfl rfl)
theorem dX6_gives_57 : decode cX6_gives 57 = .ok (.goto (-35), 3) := dk_167 255 221 (dk_at dksX6_gives_2 9 rfl rfl)
theorem dX6_gives_60 : decode cX6_gives 60 = .ok (.iload 4, 2) := dk_21 4 (dk_at dksX6_gives_2 12 rfl rfl)
theorem dX6_gives_62 : decode cX6_gives 62 = .ok (.ireturn, 1) := dk_172 (dk_at dksX6_gives_2 14 rfl rfl)
abbrev cX6_areLines : ByteArray := prog_23_method_102_code
def yX6_areLines : MethodName := ⟨RX6, "areLines", "(IJ)Z"⟩
def dkwX6_areLines_2 : List UInt8 := [132, 4, 1, 167, 255, 222, 4, 172]
abbrev dktX6_areLines_2 : List UInt8 := dkwX6_areLines_2 ++ []
def dkwX6_areLines_1 : List UInt8 := [21, 4, 104, 123, 20, 2, 33, 127, 10, 42, 180, 0, 13, 4, 46, 121, 148, 155, 0, 5, 3, 172]
abbrev dktX6_areLines_1 : List UInt8 := dkwX6_areLines_1 ++ dktX6_areLines_2
def dkwX6_areLines_0 : List UInt8 := [27, 155, 0, 9, 27, 16, 7, 164, 0, 5, 3, 172, 3, 54, 4, 21, 4, 27, 162, 0, 34, 32, 16, 8]
abbrev dktX6_areLines_0 : List UInt8 := dkwX6_areLines_0 ++ dktX6_areLines_1
theorem dksX6_areLines_0 : cX6_areLines.data.toList.drop 0 = dktX6_areLines_0 := by decide +kernel
theorem dksX6_areLines_1 : cX6_areLines.data.toList.drop 24 = dktX6_areLines_1 := dk_seg dksX6_areLines_0 24 rfl rfl
theorem dksX6_areLines_2 : cX6_areLines.data.toList.drop 46 = dktX6_areLines_2 := dk_seg dksX6_areLines_1 22 rfl rfl
theorem dX6_areLines_0 : decode cX6_areLines 0 = .ok (.iload_n 1, 1) := dk_27 (dk_at dksX6_areLines_0 0 rfl rfl)
theorem dX6_areLines_1 : decode cX6_areLines 1 = .ok (.ifCond .lt 9, 3) := dk_155 0 9 (dk_at dksX6_areLines_0 1 rfl rfl)
theorem dX6_areLines_4 : decode cX6_areLines 4 = .ok (.iload_n 1, 1) := dk_27 (dk_at dksX6_areLines_0 4 rfl rfl)
theorem dX6_areLines_5 : decode cX6_areLines 5 = .ok (.bipush 7, 2) := dk_16 7 (dk_at dksX6_areLines_0 5 rfl rfl)
theorem dX6_areLines_7 : decode cX6_areLines 7 = .ok (.if_icmp .le 5, 3) := dk_164 0 5 (dk_at dksX6_areLines_0 7 rfl rfl)
theorem dX6_areLines_10 : decode cX6_areLines 10 = .ok (.iconst 0, 1) := dk_3 (dk_at dksX6_areLines_0 10 rfl rfl)
theorem dX6_areLines_11 : decode cX6_areLines 11 = .ok (.ireturn, 1) := dk_172 (dk_at dksX6_areLines_0 11 rfl rfl)
theorem dX6_areLines_12 : decode cX6_areLines 12 = .ok (.iconst 0, 1) := dk_3 (dk_at dksX6_areLines_0 12 rfl rfl)
theorem dX6_areLines_13 : decode cX6_areLines 13 = .ok (.istore 4, 2) := dk_54 4 (dk_at dksX6_areLines_0 13 rfl rfl)
theorem dX6_areLines_15 : decode cX6_areLines 15 = .ok (.iload 4, 2) := dk_21 4 (dk_at dksX6_areLines_0 15 rfl rfl)
theorem dX6_areLines_17 : decode cX6_areLines 17 = .ok (.iload_n 1, 1) := dk_27 (dk_at dksX6_areLines_0 17 rfl rfl)
theorem dX6_areLines_18 : decode cX6_areLines 18 = .ok (.if_icmp .ge 34, 3) := dk_162 0 34 (dk_at dksX6_areLines_0 18 rfl rfl)
theorem dX6_areLines_21 : decode cX6_areLines 21 = .ok (.lload_n 2, 1) := dk_32 (dk_at dksX6_areLines_0 21 rfl rfl)
theorem dX6_areLines_22 : decode cX6_areLines 22 = .ok (.bipush 8, 2) := dk_16 8 (dk_at dksX6_areLines_0 22 rfl rfl)
theorem dX6_areLines_24 : decode cX6_areLines 24 = .ok (.iload 4, 2) := dk_21 4 (dk_at dksX6_areLines_1 0 rfl rfl)
theorem dX6_areLines_26 : decode cX6_areLines 26 = .ok (.imul, 1) := dk_104 (dk_at dksX6_areLines_1 2 rfl rfl)
theorem dX6_areLines_27 : decode cX6_areLines 27 = .ok (.lshr, 1) := dk_123 (dk_at dksX6_areLines_1 3 rfl rfl)
theorem dX6_areLines_28 : decode cX6_areLines 28 = .ok (.ldc2_w 545, 3) := dk_20 2 33 (dk_at dksX6_areLines_1 4 rfl rfl)
theorem dX6_areLines_31 : decode cX6_areLines 31 = .ok (.land, 1) := dk_127 (dk_at dksX6_areLines_1 7 rfl rfl)
theorem dX6_areLines_32 : decode cX6_areLines 32 = .ok (.lconst 1, 1) := dk_10 (dk_at dksX6_areLines_1 8 rfl rfl)
theorem dX6_areLines_33 : decode cX6_areLines 33 = .ok (.aload_n 0, 1) := dk_42 (dk_at dksX6_areLines_1 9 rfl rfl)
theorem dX6_areLines_34 : decode cX6_areLines 34 = .ok (.getfield 13, 3) := dk_180 0 13 (dk_at dksX6_areLines_1 10 rfl rfl)
theorem dX6_areLines_37 : decode cX6_areLines 37 = .ok (.iconst 1, 1) := dk_4 (dk_at dksX6_areLines_1 13 rfl rfl)
theorem dX6_areLines_38 : decode cX6_areLines 38 = .ok (.iaload, 1) := dk_46 (dk_at dksX6_areLines_1 14 rfl rfl)
theorem dX6_areLines_39 : decode cX6_areLines 39 = .ok (.lshl, 1) := dk_121 (dk_at dksX6_areLines_1 15 rfl rfl)
theorem dX6_areLines_40 : decode cX6_areLines 40 = .ok (.lcmp, 1) := dk_148 (dk_at dksX6_areLines_1 16 rfl rfl)
theorem dX6_areLines_41 : decode cX6_areLines 41 = .ok (.ifCond .lt 5, 3) := dk_155 0 5 (dk_at dksX6_areLines_1 17 rfl rfl)
theorem dX6_areLines_44 : decode cX6_areLines 44 = .ok (.iconst 0, 1) := dk_3 (dk_at dksX6_areLines_1 20 rfl rfl)
theorem dX6_areLines_45 : decode cX6_areLines 45 = .ok (.ireturn, 1) := dk_172 (dk_at dksX6_areLines_1 21 rfl rfl)
theorem dX6_areLines_46 : decode cX6_areLines 46 = .ok (.iinc 4 1, 3) := dk_132 4 1 (dk_at dksX6_areLines_2 0 rfl rfl)
theorem dX6_areLines_49 : decode cX6_areLines 49 = .ok (.goto (-34), 3) := dk_167 255 222 (dk_at dksX6_areLines_2 3 rfl rfl)
theorem dX6_areLines_52 : decode cX6_areLines 52 = .ok (.iconst 1, 1) := dk_4 (dk_at dksX6_areLines_2 6 rfl rfl)
theorem dX6_areLines_53 : decode cX6_areLines 53 = .ok (.ireturn, 1) := dk_172 (dk_at dksX6_areLines_2 7 rfl rfl)
abbrev cX6_shownBy : ByteArray := prog_23_method_101_code
def yX6_shownBy : MethodName := ⟨RX6, "shownBy", "(IJI)I"⟩
def dkwX6_shownBy_3 : List UInt8 := [132, 5, 1, 167, 255, 187, 2, 172]
abbrev dktX6_shownBy_3 : List UInt8 := dkwX6_shownBy_3 ++ []
def dkwX6_shownBy_2 : List UInt8 := [136, 130, 54, 6, 132, 7, 1, 167, 255, 219, 21, 6, 4, 21, 4, 120, 160, 0, 6, 21, 5, 172]
abbrev dktX6_shownBy_2 : List UInt8 := dkwX6_shownBy_2 ++ dktX6_shownBy_3
def dkwX6_shownBy_1 : List UInt8 := [21, 5, 21, 7, 122, 4, 126, 4, 160, 0, 20, 21, 6, 32, 16, 8, 21, 7, 104, 123, 20, 2, 33, 127]
abbrev dktX6_shownBy_1 : List UInt8 := dkwX6_shownBy_1 ++ dktX6_shownBy_2
def dkwX6_shownBy_0 : List UInt8 := [4, 54, 5, 21, 5, 4, 27, 120, 162, 0, 67, 3, 54, 6, 3, 54, 7, 21, 7, 27, 162, 0, 37]
abbrev dktX6_shownBy_0 : List UInt8 := dkwX6_shownBy_0 ++ dktX6_shownBy_1
theorem dksX6_shownBy_0 : cX6_shownBy.data.toList.drop 0 = dktX6_shownBy_0 := by decide +kernel
theorem dksX6_shownBy_1 : cX6_shownBy.data.toList.drop 23 = dktX6_shownBy_1 := dk_seg dksX6_shownBy_0 23 rfl rfl
theorem dksX6_shownBy_2 : cX6_shownBy.data.toList.drop 47 = dktX6_shownBy_2 := dk_seg dksX6_shownBy_1 24 rfl rfl
theorem dksX6_shownBy_3 : cX6_shownBy.data.toList.drop 69 = dktX6_shownBy_3 := dk_seg dksX6_shownBy_2 22 rfl rfl
theorem dX6_shownBy_0 : decode cX6_shownBy 0 = .ok (.iconst 1, 1) := dk_4 (dk_at dksX6_shownBy_0 0 rfl rfl)
theorem dX6_shownBy_1 : decode cX6_shownBy 1 = .ok (.istore 5, 2) := dk_54 5 (dk_at dksX6_shownBy_0 1 rfl rfl)
theorem dX6_shownBy_3 : decode cX6_shownBy 3 = .ok (.iload 5, 2) := dk_21 5 (dk_at dksX6_shownBy_0 3 rfl rfl)
theorem dX6_shownBy_5 : decode cX6_shownBy 5 = .ok (.iconst 1, 1) := dk_4 (dk_at dksX6_shownBy_0 5 rfl rfl)
theorem dX6_shownBy_6 : decode cX6_shownBy 6 = .ok (.iload_n 1, 1) := dk_27 (dk_at dksX6_shownBy_0 6 rfl rfl)
theorem dX6_shownBy_7 : decode cX6_shownBy 7 = .ok (.ishl, 1) := dk_120 (dk_at dksX6_shownBy_0 7 rfl rfl)
theorem dX6_shownBy_8 : decode cX6_shownBy 8 = .ok (.if_icmp .ge 67, 3) := dk_162 0 67 (dk_at dksX6_shownBy_0 8 rfl rfl)
theorem dX6_shownBy_11 : decode cX6_shownBy 11 = .ok (.iconst 0, 1) := dk_3 (dk_at dksX6_shownBy_0 11 rfl rfl)
theorem dX6_shownBy_12 : decode cX6_shownBy 12 = .ok (.istore 6, 2) := dk_54 6 (dk_at dksX6_shownBy_0 12 rfl rfl)
theorem dX6_shownBy_14 : decode cX6_shownBy 14 = .ok (.iconst 0, 1) := dk_3 (dk_at dksX6_shownBy_0 14 rfl rfl)
theorem dX6_shownBy_15 : decode cX6_shownBy 15 = .ok (.istore 7, 2) := dk_54 7 (dk_at dksX6_shownBy_0 15 rfl rfl)
theorem dX6_shownBy_17 : decode cX6_shownBy 17 = .ok (.iload 7, 2) := dk_21 7 (dk_at dksX6_shownBy_0 17 rfl rfl)
theorem dX6_shownBy_19 : decode cX6_shownBy 19 = .ok (.iload_n 1, 1) := dk_27 (dk_at dksX6_shownBy_0 19 rfl rfl)
theorem dX6_shownBy_20 : decode cX6_shownBy 20 = .ok (.if_icmp .ge 37, 3) := dk_162 0 37 (dk_at dksX6_shownBy_0 20 rfl rfl)
theorem dX6_shownBy_23 : decode cX6_shownBy 23 = .ok (.iload 5, 2) := dk_21 5 (dk_at dksX6_shownBy_1 0 rfl rfl)
theorem dX6_shownBy_25 : decode cX6_shownBy 25 = .ok (.iload 7, 2) := dk_21 7 (dk_at dksX6_shownBy_1 2 rfl rfl)
theorem dX6_shownBy_27 : decode cX6_shownBy 27 = .ok (.ishr, 1) := dk_122 (dk_at dksX6_shownBy_1 4 rfl rfl)
theorem dX6_shownBy_28 : decode cX6_shownBy 28 = .ok (.iconst 1, 1) := dk_4 (dk_at dksX6_shownBy_1 5 rfl rfl)
theorem dX6_shownBy_29 : decode cX6_shownBy 29 = .ok (.iand, 1) := dk_126 (dk_at dksX6_shownBy_1 6 rfl rfl)
theorem dX6_shownBy_30 : decode cX6_shownBy 30 = .ok (.iconst 1, 1) := dk_4 (dk_at dksX6_shownBy_1 7 rfl rfl)
theorem dX6_shownBy_31 : decode cX6_shownBy 31 = .ok (.if_icmp .ne 20, 3) := dk_160 0 20 (dk_at dksX6_shownBy_1 8 rfl rfl)
theorem dX6_shownBy_34 : decode cX6_shownBy 34 = .ok (.iload 6, 2) := dk_21 6 (dk_at dksX6_shownBy_1 11 rfl rfl)
theorem dX6_shownBy_36 : decode cX6_shownBy 36 = .ok (.lload_n 2, 1) := dk_32 (dk_at dksX6_shownBy_1 13 rfl rfl)
theorem dX6_shownBy_37 : decode cX6_shownBy 37 = .ok (.bipush 8, 2) := dk_16 8 (dk_at dksX6_shownBy_1 14 rfl rfl)
theorem dX6_shownBy_39 : decode cX6_shownBy 39 = .ok (.iload 7, 2) := dk_21 7 (dk_at dksX6_shownBy_1 16 rfl rfl)
theorem dX6_shownBy_41 : decode cX6_shownBy 41 = .ok (.imul, 1) := dk_104 (dk_at dksX6_shownBy_1 18 rfl rfl)
theorem dX6_shownBy_42 : decode cX6_shownBy 42 = .ok (.lshr, 1) := dk_123 (dk_at dksX6_shownBy_1 19 rfl rfl)
theorem dX6_shownBy_43 : decode cX6_shownBy 43 = .ok (.ldc2_w 545, 3) := dk_20 2 33 (dk_at dksX6_shownBy_1 20 rfl rfl)
theorem dX6_shownBy_46 : decode cX6_shownBy 46 = .ok (.land, 1) := dk_127 (dk_at dksX6_shownBy_1 23 rfl rfl)
theorem dX6_shownBy_47 : decode cX6_shownBy 47 = .ok (.l2i, 1) := dk_136 (dk_at dksX6_shownBy_2 0 rfl rfl)
theorem dX6_shownBy_48 : decode cX6_shownBy 48 = .ok (.ixor, 1) := dk_130 (dk_at dksX6_shownBy_2 1 rfl rfl)
theorem dX6_shownBy_49 : decode cX6_shownBy 49 = .ok (.istore 6, 2) := dk_54 6 (dk_at dksX6_shownBy_2 2 rfl rfl)
theorem dX6_shownBy_51 : decode cX6_shownBy 51 = .ok (.iinc 7 1, 3) := dk_132 7 1 (dk_at dksX6_shownBy_2 4 rfl rfl)
theorem dX6_shownBy_54 : decode cX6_shownBy 54 = .ok (.goto (-37), 3) := dk_167 255 219 (dk_at dksX6_shownBy_2 7 rfl rfl)
theorem dX6_shownBy_57 : decode cX6_shownBy 57 = .ok (.iload 6, 2) := dk_21 6 (dk_at dksX6_shownBy_2 10 rfl rfl)
theorem dX6_shownBy_59 : decode cX6_shownBy 59 = .ok (.iconst 1, 1) := dk_4 (dk_at dksX6_shownBy_2 12 rfl rfl)
theorem dX6_shownBy_60 : decode cX6_shownBy 60 = .ok (.iload 4, 2) := dk_21 4 (dk_at dksX6_shownBy_2 13 rfl rfl)
theorem dX6_shownBy_62 : decode cX6_shownBy 62 = .ok (.ishl, 1) := dk_120 (dk_at dksX6_shownBy_2 15 rfl rfl)
theorem dX6_shownBy_63 : decode cX6_shownBy 63 = .ok (.if_icmp .ne 6, 3) := dk_160 0 6 (dk_at dksX6_shownBy_2 16 rfl rfl)
theorem dX6_shownBy_66 : decode cX6_shownBy 66 = .ok (.iload 5, 2) := dk_21 5 (dk_at dksX6_shownBy_2 19 rfl rfl)
theorem dX6_shownBy_68 : decode cX6_shownBy 68 = .ok (.ireturn, 1) := dk_172 (dk_at dksX6_shownBy_2 21 rfl rfl)
theorem dX6_shownBy_69 : decode cX6_shownBy 69 = .ok (.iinc 5 1, 3) := dk_132 5 1 (dk_at dksX6_shownBy_3 0 rfl rfl)
theorem dX6_shownBy_72 : decode cX6_shownBy 72 = .ok (.goto (-69), 3) := dk_167 255 187 (dk_at dksX6_shownBy_3 3 rfl rfl)
theorem dX6_shownBy_75 : decode cX6_shownBy 75 = .ok (.iconst (-1), 1) := dk_2 (dk_at dksX6_shownBy_3 6 rfl rfl)
theorem dX6_shownBy_76 : decode cX6_shownBy 76 = .ok (.ireturn, 1) := dk_172 (dk_at dksX6_shownBy_3 7 rfl rfl)
abbrev cX6_shows : ByteArray := prog_23_method_104_code
def yX6_shows : MethodName := ⟨RX6, "shows", "(IJI)I"⟩
def dkwX6_shows_2 : List UInt8 := [172]
abbrev dktX6_shows_2 : List UInt8 := dkwX6_shows_2 ++ []
def dkwX6_shows_1 : List UInt8 := [172, 42, 27, 32, 21, 4, 182, 2, 39, 54, 5, 21, 5, 2, 160, 0, 8, 16, 254, 167, 0, 5, 21, 5]
abbrev dktX6_shows_1 : List UInt8 := dkwX6_shows_1 ++ dktX6_shows_2
def dkwX6_shows_0 : List UInt8 := [42, 3, 181, 0, 166, 42, 27, 32, 182, 2, 35, 153, 0, 12, 42, 21, 4, 182, 2, 43, 154, 0, 5, 2]
abbrev dktX6_shows_0 : List UInt8 := dkwX6_shows_0 ++ dktX6_shows_1
theorem dksX6_shows_0 : cX6_shows.data.toList.drop 0 = dktX6_shows_0 := by decide +kernel
theorem dksX6_shows_1 : cX6_shows.data.toList.drop 24 = dktX6_shows_1 := dk_seg dksX6_shows_0 24 rfl rfl
theorem dksX6_shows_2 : cX6_shows.data.toList.drop 48 = dktX6_shows_2 := dk_seg dksX6_shows_1 24 rfl rfl
theorem dX6_shows_0 : decode cX6_shows 0 = .ok (.aload_n 0, 1) := dk_42 (dk_at dksX6_shows_0 0 rfl rfl)
theorem dX6_shows_1 : decode cX6_shows 1 = .ok (.iconst 0, 1) := dk_3 (dk_at dksX6_shows_0 1 rfl rfl)
theorem dX6_shows_2 : decode cX6_shows 2 = .ok (.putfield 166, 3) := dk_181 0 166 (dk_at dksX6_shows_0 2 rfl rfl)
theorem dX6_shows_5 : decode cX6_shows 5 = .ok (.aload_n 0, 1) := dk_42 (dk_at dksX6_shows_0 5 rfl rfl)
theorem dX6_shows_6 : decode cX6_shows 6 = .ok (.iload_n 1, 1) := dk_27 (dk_at dksX6_shows_0 6 rfl rfl)
theorem dX6_shows_7 : decode cX6_shows 7 = .ok (.lload_n 2, 1) := dk_32 (dk_at dksX6_shows_0 7 rfl rfl)
theorem dX6_shows_8 : decode cX6_shows 8 = .ok (.invokevirtual 547, 3) := dk_182 2 35 (dk_at dksX6_shows_0 8 rfl rfl)
theorem dX6_shows_11 : decode cX6_shows 11 = .ok (.ifCond .eq 12, 3) := dk_153 0 12 (dk_at dksX6_shows_0 11 rfl rfl)
theorem dX6_shows_14 : decode cX6_shows 14 = .ok (.aload_n 0, 1) := dk_42 (dk_at dksX6_shows_0 14 rfl rfl)
theorem dX6_shows_15 : decode cX6_shows 15 = .ok (.iload 4, 2) := dk_21 4 (dk_at dksX6_shows_0 15 rfl rfl)
theorem dX6_shows_17 : decode cX6_shows 17 = .ok (.invokevirtual 555, 3) := dk_182 2 43 (dk_at dksX6_shows_0 17 rfl rfl)
theorem dX6_shows_20 : decode cX6_shows 20 = .ok (.ifCond .ne 5, 3) := dk_154 0 5 (dk_at dksX6_shows_0 20 rfl rfl)
theorem dX6_shows_23 : decode cX6_shows 23 = .ok (.iconst (-1), 1) := dk_2 (dk_at dksX6_shows_0 23 rfl rfl)
theorem dX6_shows_24 : decode cX6_shows 24 = .ok (.ireturn, 1) := dk_172 (dk_at dksX6_shows_1 0 rfl rfl)
theorem dX6_shows_25 : decode cX6_shows 25 = .ok (.aload_n 0, 1) := dk_42 (dk_at dksX6_shows_1 1 rfl rfl)
theorem dX6_shows_26 : decode cX6_shows 26 = .ok (.iload_n 1, 1) := dk_27 (dk_at dksX6_shows_1 2 rfl rfl)
theorem dX6_shows_27 : decode cX6_shows 27 = .ok (.lload_n 2, 1) := dk_32 (dk_at dksX6_shows_1 3 rfl rfl)
theorem dX6_shows_28 : decode cX6_shows 28 = .ok (.iload 4, 2) := dk_21 4 (dk_at dksX6_shows_1 4 rfl rfl)
theorem dX6_shows_30 : decode cX6_shows 30 = .ok (.invokevirtual 551, 3) := dk_182 2 39 (dk_at dksX6_shows_1 6 rfl rfl)
theorem dX6_shows_33 : decode cX6_shows 33 = .ok (.istore 5, 2) := dk_54 5 (dk_at dksX6_shows_1 9 rfl rfl)
theorem dX6_shows_35 : decode cX6_shows 35 = .ok (.iload 5, 2) := dk_21 5 (dk_at dksX6_shows_1 11 rfl rfl)
theorem dX6_shows_37 : decode cX6_shows 37 = .ok (.iconst (-1), 1) := dk_2 (dk_at dksX6_shows_1 13 rfl rfl)
theorem dX6_shows_38 : decode cX6_shows 38 = .ok (.if_icmp .ne 8, 3) := dk_160 0 8 (dk_at dksX6_shows_1 14 rfl rfl)
theorem dX6_shows_41 : decode cX6_shows 41 = .ok (.bipush (-2), 2) := dk_16 254 (dk_at dksX6_shows_1 17 rfl rfl)
theorem dX6_shows_43 : decode cX6_shows 43 = .ok (.goto 5, 3) := dk_167 0 5 (dk_at dksX6_shows_1 19 rfl rfl)
theorem dX6_shows_46 : decode cX6_shows 46 = .ok (.iload 5, 2) := dk_21 5 (dk_at dksX6_shows_1 22 rfl rfl)
theorem dX6_shows_48 : decode cX6_shows 48 = .ok (.ireturn, 1) := dk_172 (dk_at dksX6_shows_2 0 rfl rfl)
abbrev cX6_isFact : ByteArray := prog_23_method_43_code
def yX6_isFact : MethodName := ⟨RX6, "isFact", "(I)Z"⟩
def dkwX6_isFact_0 : List UInt8 := [27, 155, 0, 17, 27, 42, 180, 0, 13, 4, 46, 162, 0, 7, 4, 167, 0, 4, 3, 172]
abbrev dktX6_isFact_0 : List UInt8 := dkwX6_isFact_0 ++ []
theorem dksX6_isFact_0 : cX6_isFact.data.toList.drop 0 = dktX6_isFact_0 := by decide +kernel
theorem dX6_isFact_0 : decode cX6_isFact 0 = .ok (.iload_n 1, 1) := dk_27 (dk_at dksX6_isFact_0 0 rfl rfl)
theorem dX6_isFact_1 : decode cX6_isFact 1 = .ok (.ifCond .lt 17, 3) := dk_155 0 17 (dk_at dksX6_isFact_0 1 rfl rfl)
theorem dX6_isFact_4 : decode cX6_isFact 4 = .ok (.iload_n 1, 1) := dk_27 (dk_at dksX6_isFact_0 4 rfl rfl)
theorem dX6_isFact_5 : decode cX6_isFact 5 = .ok (.aload_n 0, 1) := dk_42 (dk_at dksX6_isFact_0 5 rfl rfl)
theorem dX6_isFact_6 : decode cX6_isFact 6 = .ok (.getfield 13, 3) := dk_180 0 13 (dk_at dksX6_isFact_0 6 rfl rfl)
theorem dX6_isFact_9 : decode cX6_isFact 9 = .ok (.iconst 1, 1) := dk_4 (dk_at dksX6_isFact_0 9 rfl rfl)
theorem dX6_isFact_10 : decode cX6_isFact 10 = .ok (.iaload, 1) := dk_46 (dk_at dksX6_isFact_0 10 rfl rfl)
theorem dX6_isFact_11 : decode cX6_isFact 11 = .ok (.if_icmp .ge 7, 3) := dk_162 0 7 (dk_at dksX6_isFact_0 11 rfl rfl)
theorem dX6_isFact_14 : decode cX6_isFact 14 = .ok (.iconst 1, 1) := dk_4 (dk_at dksX6_isFact_0 14 rfl rfl)
theorem dX6_isFact_15 : decode cX6_isFact 15 = .ok (.goto 4, 3) := dk_167 0 4 (dk_at dksX6_isFact_0 15 rfl rfl)
theorem dX6_isFact_18 : decode cX6_isFact 18 = .ok (.iconst 0, 1) := dk_3 (dk_at dksX6_isFact_0 18 rfl rfl)
theorem dX6_isFact_19 : decode cX6_isFact 19 = .ok (.ireturn, 1) := dk_172 (dk_at dksX6_isFact_0 19 rfl rfl)
abbrev cX6_rumour : ByteArray := prog_23_method_106_code
def yX6_rumour : MethodName := ⟨RX6, "rumour", "(II)I"⟩
def dkwX6_rumour_1 : List UInt8 := [28, 27, 27, 182, 2, 46, 62, 29, 2, 160, 0, 8, 16, 254, 167, 0, 4, 29, 172]
abbrev dktX6_rumour_1 : List UInt8 := dkwX6_rumour_1 ++ []
def dkwX6_rumour_0 : List UInt8 := [42, 3, 181, 0, 166, 42, 27, 182, 1, 196, 153, 0, 11, 42, 28, 182, 1, 196, 154, 0, 5, 2, 172, 42]
abbrev dktX6_rumour_0 : List UInt8 := dkwX6_rumour_0 ++ dktX6_rumour_1
theorem dksX6_rumour_0 : cX6_rumour.data.toList.drop 0 = dktX6_rumour_0 := by decide +kernel
theorem dksX6_rumour_1 : cX6_rumour.data.toList.drop 24 = dktX6_rumour_1 := dk_seg dksX6_rumour_0 24 rfl rfl
theorem dX6_rumour_0 : decode cX6_rumour 0 = .ok (.aload_n 0, 1) := dk_42 (dk_at dksX6_rumour_0 0 rfl rfl)
theorem dX6_rumour_1 : decode cX6_rumour 1 = .ok (.iconst 0, 1) := dk_3 (dk_at dksX6_rumour_0 1 rfl rfl)
theorem dX6_rumour_2 : decode cX6_rumour 2 = .ok (.putfield 166, 3) := dk_181 0 166 (dk_at dksX6_rumour_0 2 rfl rfl)
theorem dX6_rumour_5 : decode cX6_rumour 5 = .ok (.aload_n 0, 1) := dk_42 (dk_at dksX6_rumour_0 5 rfl rfl)
theorem dX6_rumour_6 : decode cX6_rumour 6 = .ok (.iload_n 1, 1) := dk_27 (dk_at dksX6_rumour_0 6 rfl rfl)
theorem dX6_rumour_7 : decode cX6_rumour 7 = .ok (.invokevirtual 452, 3) := dk_182 1 196 (dk_at dksX6_rumour_0 7 rfl rfl)
theorem dX6_rumour_10 : decode cX6_rumour 10 = .ok (.ifCond .eq 11, 3) := dk_153 0 11 (dk_at dksX6_rumour_0 10 rfl rfl)
theorem dX6_rumour_13 : decode cX6_rumour 13 = .ok (.aload_n 0, 1) := dk_42 (dk_at dksX6_rumour_0 13 rfl rfl)
theorem dX6_rumour_14 : decode cX6_rumour 14 = .ok (.iload_n 2, 1) := dk_28 (dk_at dksX6_rumour_0 14 rfl rfl)
theorem dX6_rumour_15 : decode cX6_rumour 15 = .ok (.invokevirtual 452, 3) := dk_182 1 196 (dk_at dksX6_rumour_0 15 rfl rfl)
theorem dX6_rumour_18 : decode cX6_rumour 18 = .ok (.ifCond .ne 5, 3) := dk_154 0 5 (dk_at dksX6_rumour_0 18 rfl rfl)
theorem dX6_rumour_21 : decode cX6_rumour 21 = .ok (.iconst (-1), 1) := dk_2 (dk_at dksX6_rumour_0 21 rfl rfl)
theorem dX6_rumour_22 : decode cX6_rumour 22 = .ok (.ireturn, 1) := dk_172 (dk_at dksX6_rumour_0 22 rfl rfl)
theorem dX6_rumour_23 : decode cX6_rumour 23 = .ok (.aload_n 0, 1) := dk_42 (dk_at dksX6_rumour_0 23 rfl rfl)
theorem dX6_rumour_24 : decode cX6_rumour 24 = .ok (.iload_n 2, 1) := dk_28 (dk_at dksX6_rumour_1 0 rfl rfl)
theorem dX6_rumour_25 : decode cX6_rumour 25 = .ok (.iload_n 1, 1) := dk_27 (dk_at dksX6_rumour_1 1 rfl rfl)
theorem dX6_rumour_26 : decode cX6_rumour 26 = .ok (.iload_n 1, 1) := dk_27 (dk_at dksX6_rumour_1 2 rfl rfl)
theorem dX6_rumour_27 : decode cX6_rumour 27 = .ok (.invokevirtual 558, 3) := dk_182 2 46 (dk_at dksX6_rumour_1 3 rfl rfl)
theorem dX6_rumour_30 : decode cX6_rumour 30 = .ok (.istore_n 3, 1) := dk_62 (dk_at dksX6_rumour_1 6 rfl rfl)
theorem dX6_rumour_31 : decode cX6_rumour 31 = .ok (.iload_n 3, 1) := dk_29 (dk_at dksX6_rumour_1 7 rfl rfl)
theorem dX6_rumour_32 : decode cX6_rumour 32 = .ok (.iconst (-1), 1) := dk_2 (dk_at dksX6_rumour_1 8 rfl rfl)
theorem dX6_rumour_33 : decode cX6_rumour 33 = .ok (.if_icmp .ne 8, 3) := dk_160 0 8 (dk_at dksX6_rumour_1 9 rfl rfl)
theorem dX6_rumour_36 : decode cX6_rumour 36 = .ok (.bipush (-2), 2) := dk_16 254 (dk_at dksX6_rumour_1 12 rfl rfl)
theorem dX6_rumour_38 : decode cX6_rumour 38 = .ok (.goto 4, 3) := dk_167 0 4 (dk_at dksX6_rumour_1 14 rfl rfl)
theorem dX6_rumour_41 : decode cX6_rumour 41 = .ok (.iload_n 3, 1) := dk_29 (dk_at dksX6_rumour_1 17 rfl rfl)
theorem dX6_rumour_42 : decode cX6_rumour 42 = .ok (.ireturn, 1) := dk_172 (dk_at dksX6_rumour_1 18 rfl rfl)
abbrev cX6_noonsTo : ByteArray := prog_23_method_105_code
def yX6_noonsTo : MethodName := ⟨RX6, "noonsTo", "(III)I"⟩
def dkwX6_noonsTo_2 : List UInt8 := [54, 4, 132, 5, 1, 167, 255, 210, 2, 172]
abbrev dktX6_noonsTo_2 : List UInt8 := dkwX6_noonsTo_2 ++ []
def dkwX6_noonsTo_1 : List UInt8 := [21, 5, 172, 42, 180, 0, 22, 21, 4, 46, 2, 160, 0, 5, 2, 172, 42, 180, 0, 22, 21, 4, 46]
abbrev dktX6_noonsTo_1 : List UInt8 := dkwX6_noonsTo_1 ++ dktX6_noonsTo_2
def dkwX6_noonsTo_0 : List UInt8 := [27, 54, 4, 3, 54, 5, 21, 5, 7, 162, 0, 46, 21, 4, 28, 159, 0, 9, 21, 4, 29, 160, 0, 6]
abbrev dktX6_noonsTo_0 : List UInt8 := dkwX6_noonsTo_0 ++ dktX6_noonsTo_1
theorem dksX6_noonsTo_0 : cX6_noonsTo.data.toList.drop 0 = dktX6_noonsTo_0 := by decide +kernel
theorem dksX6_noonsTo_1 : cX6_noonsTo.data.toList.drop 24 = dktX6_noonsTo_1 := dk_seg dksX6_noonsTo_0 24 rfl rfl
theorem dksX6_noonsTo_2 : cX6_noonsTo.data.toList.drop 47 = dktX6_noonsTo_2 := dk_seg dksX6_noonsTo_1 23 rfl rfl
theorem dX6_noonsTo_0 : decode cX6_noonsTo 0 = .ok (.iload_n 1, 1) := dk_27 (dk_at dksX6_noonsTo_0 0 rfl rfl)
theorem dX6_noonsTo_1 : decode cX6_noonsTo 1 = .ok (.istore 4, 2) := dk_54 4 (dk_at dksX6_noonsTo_0 1 rfl rfl)
theorem dX6_noonsTo_3 : decode cX6_noonsTo 3 = .ok (.iconst 0, 1) := dk_3 (dk_at dksX6_noonsTo_0 3 rfl rfl)
theorem dX6_noonsTo_4 : decode cX6_noonsTo 4 = .ok (.istore 5, 2) := dk_54 5 (dk_at dksX6_noonsTo_0 4 rfl rfl)
theorem dX6_noonsTo_6 : decode cX6_noonsTo 6 = .ok (.iload 5, 2) := dk_21 5 (dk_at dksX6_noonsTo_0 6 rfl rfl)
theorem dX6_noonsTo_8 : decode cX6_noonsTo 8 = .ok (.iconst 4, 1) := dk_7 (dk_at dksX6_noonsTo_0 8 rfl rfl)
theorem dX6_noonsTo_9 : decode cX6_noonsTo 9 = .ok (.if_icmp .ge 46, 3) := dk_162 0 46 (dk_at dksX6_noonsTo_0 9 rfl rfl)
theorem dX6_noonsTo_12 : decode cX6_noonsTo 12 = .ok (.iload 4, 2) := dk_21 4 (dk_at dksX6_noonsTo_0 12 rfl rfl)
theorem dX6_noonsTo_14 : decode cX6_noonsTo 14 = .ok (.iload_n 2, 1) := dk_28 (dk_at dksX6_noonsTo_0 14 rfl rfl)
theorem dX6_noonsTo_15 : decode cX6_noonsTo 15 = .ok (.if_icmp .eq 9, 3) := dk_159 0 9 (dk_at dksX6_noonsTo_0 15 rfl rfl)
theorem dX6_noonsTo_18 : decode cX6_noonsTo 18 = .ok (.iload 4, 2) := dk_21 4 (dk_at dksX6_noonsTo_0 18 rfl rfl)
theorem dX6_noonsTo_20 : decode cX6_noonsTo 20 = .ok (.iload_n 3, 1) := dk_29 (dk_at dksX6_noonsTo_0 20 rfl rfl)
theorem dX6_noonsTo_21 : decode cX6_noonsTo 21 = .ok (.if_icmp .ne 6, 3) := dk_160 0 6 (dk_at dksX6_noonsTo_0 21 rfl rfl)
theorem dX6_noonsTo_24 : decode cX6_noonsTo 24 = .ok (.iload 5, 2) := dk_21 5 (dk_at dksX6_noonsTo_1 0 rfl rfl)
theorem dX6_noonsTo_26 : decode cX6_noonsTo 26 = .ok (.ireturn, 1) := dk_172 (dk_at dksX6_noonsTo_1 2 rfl rfl)
theorem dX6_noonsTo_27 : decode cX6_noonsTo 27 = .ok (.aload_n 0, 1) := dk_42 (dk_at dksX6_noonsTo_1 3 rfl rfl)
theorem dX6_noonsTo_28 : decode cX6_noonsTo 28 = .ok (.getfield 22, 3) := dk_180 0 22 (dk_at dksX6_noonsTo_1 4 rfl rfl)
theorem dX6_noonsTo_31 : decode cX6_noonsTo 31 = .ok (.iload 4, 2) := dk_21 4 (dk_at dksX6_noonsTo_1 7 rfl rfl)
theorem dX6_noonsTo_33 : decode cX6_noonsTo 33 = .ok (.iaload, 1) := dk_46 (dk_at dksX6_noonsTo_1 9 rfl rfl)
theorem dX6_noonsTo_34 : decode cX6_noonsTo 34 = .ok (.iconst (-1), 1) := dk_2 (dk_at dksX6_noonsTo_1 10 rfl rfl)
theorem dX6_noonsTo_35 : decode cX6_noonsTo 35 = .ok (.if_icmp .ne 5, 3) := dk_160 0 5 (dk_at dksX6_noonsTo_1 11 rfl rfl)
theorem dX6_noonsTo_38 : decode cX6_noonsTo 38 = .ok (.iconst (-1), 1) := dk_2 (dk_at dksX6_noonsTo_1 14 rfl rfl)
theorem dX6_noonsTo_39 : decode cX6_noonsTo 39 = .ok (.ireturn, 1) := dk_172 (dk_at dksX6_noonsTo_1 15 rfl rfl)
theorem dX6_noonsTo_40 : decode cX6_noonsTo 40 = .ok (.aload_n 0, 1) := dk_42 (dk_at dksX6_noonsTo_1 16 rfl rfl)
theorem dX6_noonsTo_41 : decode cX6_noonsTo 41 = .ok (.getfield 22, 3) := dk_180 0 22 (dk_at dksX6_noonsTo_1 17 rfl rfl)
theorem dX6_noonsTo_44 : decode cX6_noonsTo 44 = .ok (.iload 4, 2) := dk_21 4 (dk_at dksX6_noonsTo_1 20 rfl rfl)
theorem dX6_noonsTo_46 : decode cX6_noonsTo 46 = .ok (.iaload, 1) := dk_46 (dk_at dksX6_noonsTo_1 22 rfl rfl)
theorem dX6_noonsTo_47 : decode cX6_noonsTo 47 = .ok (.istore 4, 2) := dk_54 4 (dk_at dksX6_noonsTo_2 0 rfl rfl)
theorem dX6_noonsTo_49 : decode cX6_noonsTo 49 = .ok (.iinc 5 1, 3) := dk_132 5 1 (dk_at dksX6_noonsTo_2 2 rfl rfl)
theorem dX6_noonsTo_52 : decode cX6_noonsTo 52 = .ok (.goto (-46), 3) := dk_167 255 210 (dk_at dksX6_noonsTo_2 5 rfl rfl)
theorem dX6_noonsTo_55 : decode cX6_noonsTo 55 = .ok (.iconst (-1), 1) := dk_2 (dk_at dksX6_noonsTo_2 8 rfl rfl)
theorem dX6_noonsTo_56 : decode cX6_noonsTo 56 = .ok (.ireturn, 1) := dk_172 (dk_at dksX6_noonsTo_2 9 rfl rfl)
abbrev cX6_differ : ByteArray := prog_23_method_108_code
def yX6_differ : MethodName := ⟨RX6, "differ", "(III)I"⟩
def dkwX6_differ_5 : List UInt8 := [167, 0, 10, 42, 180, 0, 22, 21, 4, 46, 172, 132, 4, 1, 167, 255, 167, 16, 254, 172]
abbrev dktX6_differ_5 : List UInt8 := dkwX6_differ_5 ++ []
def dkwX6_differ_4 : List UInt8 := [159, 0, 33, 21, 6, 2, 159, 0, 27, 21, 5, 21, 6, 159, 0, 20, 29, 154, 0, 8, 21, 4]
abbrev dktX6_differ_4 : List UInt8 := dkwX6_differ_4 ++ dktX6_differ_5
def dkwX6_differ_3 : List UInt8 := [182, 2, 49, 54, 5, 42, 42, 180, 0, 22, 21, 4, 46, 27, 28, 182, 2, 49, 54, 6, 21, 5, 2]
abbrev dktX6_differ_3 : List UInt8 := dkwX6_differ_3 ++ dktX6_differ_4
def dkwX6_differ_2 : List UInt8 := [46, 162, 0, 84, 42, 180, 0, 22, 21, 4, 46, 2, 160, 0, 6, 167, 0, 64, 42, 21, 4, 27, 28]
abbrev dktX6_differ_2 : List UInt8 := dkwX6_differ_2 ++ dktX6_differ_3
def dkwX6_differ_1 : List UInt8 := [159, 0, 12, 29, 155, 0, 8, 29, 4, 164, 0, 5, 2, 172, 3, 54, 4, 21, 4, 42, 180, 0, 13, 3]
abbrev dktX6_differ_1 : List UInt8 := dkwX6_differ_1 ++ dktX6_differ_2
def dkwX6_differ_0 : List UInt8 := [42, 3, 181, 0, 166, 42, 27, 182, 1, 196, 153, 0, 25, 42, 28, 182, 1, 196, 153, 0, 17, 27, 28]
abbrev dktX6_differ_0 : List UInt8 := dkwX6_differ_0 ++ dktX6_differ_1
theorem dksX6_differ_0 : cX6_differ.data.toList.drop 0 = dktX6_differ_0 := by decide +kernel
theorem dksX6_differ_1 : cX6_differ.data.toList.drop 23 = dktX6_differ_1 := dk_seg dksX6_differ_0 23 rfl rfl
theorem dksX6_differ_2 : cX6_differ.data.toList.drop 47 = dktX6_differ_2 := dk_seg dksX6_differ_1 24 rfl rfl
theorem dksX6_differ_3 : cX6_differ.data.toList.drop 70 = dktX6_differ_3 := dk_seg dksX6_differ_2 23 rfl rfl
theorem dksX6_differ_4 : cX6_differ.data.toList.drop 93 = dktX6_differ_4 := dk_seg dksX6_differ_3 23 rfl rfl
theorem dksX6_differ_5 : cX6_differ.data.toList.drop 115 = dktX6_differ_5 := dk_seg dksX6_differ_4 22 rfl rfl
theorem dX6_differ_0 : decode cX6_differ 0 = .ok (.aload_n 0, 1) := dk_42 (dk_at dksX6_differ_0 0 rfl rfl)
theorem dX6_differ_1 : decode cX6_differ 1 = .ok (.iconst 0, 1) := dk_3 (dk_at dksX6_differ_0 1 rfl rfl)
theorem dX6_differ_2 : decode cX6_differ 2 = .ok (.putfield 166, 3) := dk_181 0 166 (dk_at dksX6_differ_0 2 rfl rfl)
theorem dX6_differ_5 : decode cX6_differ 5 = .ok (.aload_n 0, 1) := dk_42 (dk_at dksX6_differ_0 5 rfl rfl)
theorem dX6_differ_6 : decode cX6_differ 6 = .ok (.iload_n 1, 1) := dk_27 (dk_at dksX6_differ_0 6 rfl rfl)
theorem dX6_differ_7 : decode cX6_differ 7 = .ok (.invokevirtual 452, 3) := dk_182 1 196 (dk_at dksX6_differ_0 7 rfl rfl)
theorem dX6_differ_10 : decode cX6_differ 10 = .ok (.ifCond .eq 25, 3) := dk_153 0 25 (dk_at dksX6_differ_0 10 rfl rfl)
theorem dX6_differ_13 : decode cX6_differ 13 = .ok (.aload_n 0, 1) := dk_42 (dk_at dksX6_differ_0 13 rfl rfl)
theorem dX6_differ_14 : decode cX6_differ 14 = .ok (.iload_n 2, 1) := dk_28 (dk_at dksX6_differ_0 14 rfl rfl)
theorem dX6_differ_15 : decode cX6_differ 15 = .ok (.invokevirtual 452, 3) := dk_182 1 196 (dk_at dksX6_differ_0 15 rfl rfl)
theorem dX6_differ_18 : decode cX6_differ 18 = .ok (.ifCond .eq 17, 3) := dk_153 0 17 (dk_at dksX6_differ_0 18 rfl rfl)
theorem dX6_differ_21 : decode cX6_differ 21 = .ok (.iload_n 1, 1) := dk_27 (dk_at dksX6_differ_0 21 rfl rfl)
theorem dX6_differ_22 : decode cX6_differ 22 = .ok (.iload_n 2, 1) := dk_28 (dk_at dksX6_differ_0 22 rfl rfl)
theorem dX6_differ_23 : decode cX6_differ 23 = .ok (.if_icmp .eq 12, 3) := dk_159 0 12 (dk_at dksX6_differ_1 0 rfl rfl)
theorem dX6_differ_26 : decode cX6_differ 26 = .ok (.iload_n 3, 1) := dk_29 (dk_at dksX6_differ_1 3 rfl rfl)
theorem dX6_differ_27 : decode cX6_differ 27 = .ok (.ifCond .lt 8, 3) := dk_155 0 8 (dk_at dksX6_differ_1 4 rfl rfl)
theorem dX6_differ_30 : decode cX6_differ 30 = .ok (.iload_n 3, 1) := dk_29 (dk_at dksX6_differ_1 7 rfl rfl)
theorem dX6_differ_31 : decode cX6_differ 31 = .ok (.iconst 1, 1) := dk_4 (dk_at dksX6_differ_1 8 rfl rfl)
theorem dX6_differ_32 : decode cX6_differ 32 = .ok (.if_icmp .le 5, 3) := dk_164 0 5 (dk_at dksX6_differ_1 9 rfl rfl)
theorem dX6_differ_35 : decode cX6_differ 35 = .ok (.iconst (-1), 1) := dk_2 (dk_at dksX6_differ_1 12 rfl rfl)
theorem dX6_differ_36 : decode cX6_differ 36 = .ok (.ireturn, 1) := dk_172 (dk_at dksX6_differ_1 13 rfl rfl)
theorem dX6_differ_37 : decode cX6_differ 37 = .ok (.iconst 0, 1) := dk_3 (dk_at dksX6_differ_1 14 rfl rfl)
theorem dX6_differ_38 : decode cX6_differ 38 = .ok (.istore 4, 2) := dk_54 4 (dk_at dksX6_differ_1 15 rfl rfl)
theorem dX6_differ_40 : decode cX6_differ 40 = .ok (.iload 4, 2) := dk_21 4 (dk_at dksX6_differ_1 17 rfl rfl)
theorem dX6_differ_42 : decode cX6_differ 42 = .ok (.aload_n 0, 1) := dk_42 (dk_at dksX6_differ_1 19 rfl rfl)
theorem dX6_differ_43 : decode cX6_differ 43 = .ok (.getfield 13, 3) := dk_180 0 13 (dk_at dksX6_differ_1 20 rfl rfl)
theorem dX6_differ_46 : decode cX6_differ 46 = .ok (.iconst 0, 1) := dk_3 (dk_at dksX6_differ_1 23 rfl rfl)
theorem dX6_differ_47 : decode cX6_differ 47 = .ok (.iaload, 1) := dk_46 (dk_at dksX6_differ_2 0 rfl rfl)
theorem dX6_differ_48 : decode cX6_differ 48 = .ok (.if_icmp .ge 84, 3) := dk_162 0 84 (dk_at dksX6_differ_2 1 rfl rfl)
theorem dX6_differ_51 : decode cX6_differ 51 = .ok (.aload_n 0, 1) := dk_42 (dk_at dksX6_differ_2 4 rfl rfl)
theorem dX6_differ_52 : decode cX6_differ 52 = .ok (.getfield 22, 3) := dk_180 0 22 (dk_at dksX6_differ_2 5 rfl rfl)
theorem dX6_differ_55 : decode cX6_differ 55 = .ok (.iload 4, 2) := dk_21 4 (dk_at dksX6_differ_2 8 rfl rfl)
theorem dX6_differ_57 : decode cX6_differ 57 = .ok (.iaload, 1) := dk_46 (dk_at dksX6_differ_2 10 rfl rfl)
theorem dX6_differ_58 : decode cX6_differ 58 = .ok (.iconst (-1), 1) := dk_2 (dk_at dksX6_differ_2 11 rfl rfl)
theorem dX6_differ_59 : decode cX6_differ 59 = .ok (.if_icmp .ne 6, 3) := dk_160 0 6 (dk_at dksX6_differ_2 12 rfl rfl)
theorem dX6_differ_62 : decode cX6_differ 62 = .ok (.goto 64, 3) := dk_167 0 64 (dk_at dksX6_differ_2 15 rfl rfl)
theorem dX6_differ_65 : decode cX6_differ 65 = .ok (.aload_n 0, 1) := dk_42 (dk_at dksX6_differ_2 18 rfl rfl)
theorem dX6_differ_66 : decode cX6_differ 66 = .ok (.iload 4, 2) := dk_21 4 (dk_at dksX6_differ_2 19 rfl rfl)
theorem dX6_differ_68 : decode cX6_differ 68 = .ok (.iload_n 1, 1) := dk_27 (dk_at dksX6_differ_2 21 rfl rfl)
theorem dX6_differ_69 : decode cX6_differ 69 = .ok (.iload_n 2, 1) := dk_28 (dk_at dksX6_differ_2 22 rfl rfl)
theorem dX6_differ_70 : decode cX6_differ 70 = .ok (.invokevirtual 561, 3) := dk_182 2 49 (dk_at dksX6_differ_3 0 rfl rfl)
theorem dX6_differ_73 : decode cX6_differ 73 = .ok (.istore 5, 2) := dk_54 5 (dk_at dksX6_differ_3 3 rfl rfl)
theorem dX6_differ_75 : decode cX6_differ 75 = .ok (.aload_n 0, 1) := dk_42 (dk_at dksX6_differ_3 5 rfl rfl)
theorem dX6_differ_76 : decode cX6_differ 76 = .ok (.aload_n 0, 1) := dk_42 (dk_at dksX6_differ_3 6 rfl rfl)
theorem dX6_differ_77 : decode cX6_differ 77 = .ok (.getfield 22, 3) := dk_180 0 22 (dk_at dksX6_differ_3 7 rfl rfl)
theorem dX6_differ_80 : decode cX6_differ 80 = .ok (.iload 4, 2) := dk_21 4 (dk_at dksX6_differ_3 10 rfl rfl)
theorem dX6_differ_82 : decode cX6_differ 82 = .ok (.iaload, 1) := dk_46 (dk_at dksX6_differ_3 12 rfl rfl)
theorem dX6_differ_83 : decode cX6_differ 83 = .ok (.iload_n 1, 1) := dk_27 (dk_at dksX6_differ_3 13 rfl rfl)
theorem dX6_differ_84 : decode cX6_differ 84 = .ok (.iload_n 2, 1) := dk_28 (dk_at dksX6_differ_3 14 rfl rfl)
theorem dX6_differ_85 : decode cX6_differ 85 = .ok (.invokevirtual 561, 3) := dk_182 2 49 (dk_at dksX6_differ_3 15 rfl rfl)
theorem dX6_differ_88 : decode cX6_differ 88 = .ok (.istore 6, 2) := dk_54 6 (dk_at dksX6_differ_3 18 rfl rfl)
theorem dX6_differ_90 : decode cX6_differ 90 = .ok (.iload 5, 2) := dk_21 5 (dk_at dksX6_differ_3 20 rfl rfl)
theorem dX6_differ_92 : decode cX6_differ 92 = .ok (.iconst (-1), 1) := dk_2 (dk_at dksX6_differ_3 22 rfl rfl)
theorem dX6_differ_93 : decode cX6_differ 93 = .ok (.if_icmp .eq 33, 3) := dk_159 0 33 (dk_at dksX6_differ_4 0 rfl rfl)
theorem dX6_differ_96 : decode cX6_differ 96 = .ok (.iload 6, 2) := dk_21 6 (dk_at dksX6_differ_4 3 rfl rfl)
theorem dX6_differ_98 : decode cX6_differ 98 = .ok (.iconst (-1), 1) := dk_2 (dk_at dksX6_differ_4 5 rfl rfl)
theorem dX6_differ_99 : decode cX6_differ 99 = .ok (.if_icmp .eq 27, 3) := dk_159 0 27 (dk_at dksX6_differ_4 6 rfl rfl)
theorem dX6_differ_102 : decode cX6_differ 102 = .ok (.iload 5, 2) := dk_21 5 (dk_at dksX6_differ_4 9 rfl rfl)
theorem dX6_differ_104 : decode cX6_differ 104 = .ok (.iload 6, 2) := dk_21 6 (dk_at dksX6_differ_4 11 rfl rfl)
theorem dX6_differ_106 : decode cX6_differ 106 = .ok (.if_icmp .eq 20, 3) := dk_159 0 20 (dk_at dksX6_differ_4 13 rfl rfl)
theorem dX6_differ_109 : decode cX6_differ 109 = .ok (.iload_n 3, 1) := dk_29 (dk_at dksX6_differ_4 16 rfl rfl)
theorem dX6_differ_110 : decode cX6_differ 110 = .ok (.ifCond .ne 8, 3) := dk_154 0 8 (dk_at dksX6_differ_4 17 rfl rfl)
theorem dX6_differ_113 : decode cX6_differ 113 = .ok (.iload 4, 2) := dk_21 4 (dk_at dksX6_differ_4 20 rfl rfl)
theorem dX6_differ_115 : decode cX6_differ 115 = .ok (.goto 10, 3) := dk_167 0 10 (dk_at dksX6_differ_5 0 rfl rfl)
theorem dX6_differ_118 : decode cX6_differ 118 = .ok (.aload_n 0, 1) := dk_42 (dk_at dksX6_differ_5 3 rfl rfl)
theorem dX6_differ_119 : decode cX6_differ 119 = .ok (.getfield 22, 3) := dk_180 0 22 (dk_at dksX6_differ_5 4 rfl rfl)
theorem dX6_differ_122 : decode cX6_differ 122 = .ok (.iload 4, 2) := dk_21 4 (dk_at dksX6_differ_5 7 rfl rfl)
theorem dX6_differ_124 : decode cX6_differ 124 = .ok (.iaload, 1) := dk_46 (dk_at dksX6_differ_5 9 rfl rfl)
theorem dX6_differ_125 : decode cX6_differ 125 = .ok (.ireturn, 1) := dk_172 (dk_at dksX6_differ_5 10 rfl rfl)
theorem dX6_differ_126 : decode cX6_differ 126 = .ok (.iinc 4 1, 3) := dk_132 4 1 (dk_at dksX6_differ_5 11 rfl rfl)
theorem dX6_differ_129 : decode cX6_differ 129 = .ok (.goto (-89), 3) := dk_167 255 167 (dk_at dksX6_differ_5 14 rfl rfl)
theorem dX6_differ_132 : decode cX6_differ 132 = .ok (.bipush (-2), 2) := dk_16 254 (dk_at dksX6_differ_5 17 rfl rfl)
theorem dX6_differ_134 : decode cX6_differ 134 = .ok (.ireturn, 1) := dk_172 (dk_at dksX6_differ_5 19 rfl rfl)
abbrev cX6_endsWith : ByteArray := prog_23_method_107_code
def yX6_endsWith : MethodName := ⟨RX6, "endsWith", "(III)I"⟩
def dkwX6_endsWith_2 : List UInt8 := [172]
abbrev dktX6_endsWith_2 : List UInt8 := dkwX6_endsWith_2 ++ []
def dkwX6_endsWith_1 : List UInt8 := [21, 6, 21, 4, 162, 0, 18, 42, 180, 0, 22, 21, 5, 46, 54, 5, 132, 6, 1, 167, 255, 237, 21, 5]
abbrev dktX6_endsWith_1 : List UInt8 := dkwX6_endsWith_1 ++ dktX6_endsWith_2
def dkwX6_endsWith_0 : List UInt8 := [42, 27, 28, 29, 182, 2, 46, 54, 4, 21, 4, 2, 160, 0, 5, 2, 172, 27, 54, 5, 3, 54, 6]
abbrev dktX6_endsWith_0 : List UInt8 := dkwX6_endsWith_0 ++ dktX6_endsWith_1
theorem dksX6_endsWith_0 : cX6_endsWith.data.toList.drop 0 = dktX6_endsWith_0 := by decide +kernel
theorem dksX6_endsWith_1 : cX6_endsWith.data.toList.drop 23 = dktX6_endsWith_1 := dk_seg dksX6_endsWith_0 23 rfl rfl
theorem dksX6_endsWith_2 : cX6_endsWith.data.toList.drop 47 = dktX6_endsWith_2 := dk_seg dksX6_endsWith_1 24 rfl rfl
theorem dX6_endsWith_0 : decode cX6_endsWith 0 = .ok (.aload_n 0, 1) := dk_42 (dk_at dksX6_endsWith_0 0 rfl rfl)
theorem dX6_endsWith_1 : decode cX6_endsWith 1 = .ok (.iload_n 1, 1) := dk_27 (dk_at dksX6_endsWith_0 1 rfl rfl)
theorem dX6_endsWith_2 : decode cX6_endsWith 2 = .ok (.iload_n 2, 1) := dk_28 (dk_at dksX6_endsWith_0 2 rfl rfl)
theorem dX6_endsWith_3 : decode cX6_endsWith 3 = .ok (.iload_n 3, 1) := dk_29 (dk_at dksX6_endsWith_0 3 rfl rfl)
theorem dX6_endsWith_4 : decode cX6_endsWith 4 = .ok (.invokevirtual 558, 3) := dk_182 2 46 (dk_at dksX6_endsWith_0 4 rfl rfl)
theorem dX6_endsWith_7 : decode cX6_endsWith 7 = .ok (.istore 4, 2) := dk_54 4 (dk_at dksX6_endsWith_0 7 rfl rfl)
theorem dX6_endsWith_9 : decode cX6_endsWith 9 = .ok (.iload 4, 2) := dk_21 4 (dk_at dksX6_endsWith_0 9 rfl rfl)
theorem dX6_endsWith_11 : decode cX6_endsWith 11 = .ok (.iconst (-1), 1) := dk_2 (dk_at dksX6_endsWith_0 11 rfl rfl)
theorem dX6_endsWith_12 : decode cX6_endsWith 12 = .ok (.if_icmp .ne 5, 3) := dk_160 0 5 (dk_at dksX6_endsWith_0 12 rfl rfl)
theorem dX6_endsWith_15 : decode cX6_endsWith 15 = .ok (.iconst (-1), 1) := dk_2 (dk_at dksX6_endsWith_0 15 rfl rfl)
theorem dX6_endsWith_16 : decode cX6_endsWith 16 = .ok (.ireturn, 1) := dk_172 (dk_at dksX6_endsWith_0 16 rfl rfl)
theorem dX6_endsWith_17 : decode cX6_endsWith 17 = .ok (.iload_n 1, 1) := dk_27 (dk_at dksX6_endsWith_0 17 rfl rfl)
theorem dX6_endsWith_18 : decode cX6_endsWith 18 = .ok (.istore 5, 2) := dk_54 5 (dk_at dksX6_endsWith_0 18 rfl rfl)
theorem dX6_endsWith_20 : decode cX6_endsWith 20 = .ok (.iconst 0, 1) := dk_3 (dk_at dksX6_endsWith_0 20 rfl rfl)
theorem dX6_endsWith_21 : decode cX6_endsWith 21 = .ok (.istore 6, 2) := dk_54 6 (dk_at dksX6_endsWith_0 21 rfl rfl)
theorem dX6_endsWith_23 : decode cX6_endsWith 23 = .ok (.iload 6, 2) := dk_21 6 (dk_at dksX6_endsWith_1 0 rfl rfl)
theorem dX6_endsWith_25 : decode cX6_endsWith 25 = .ok (.iload 4, 2) := dk_21 4 (dk_at dksX6_endsWith_1 2 rfl rfl)
theorem dX6_endsWith_27 : decode cX6_endsWith 27 = .ok (.if_icmp .ge 18, 3) := dk_162 0 18 (dk_at dksX6_endsWith_1 4 rfl rfl)
theorem dX6_endsWith_30 : decode cX6_endsWith 30 = .ok (.aload_n 0, 1) := dk_42 (dk_at dksX6_endsWith_1 7 rfl rfl)
theorem dX6_endsWith_31 : decode cX6_endsWith 31 = .ok (.getfield 22, 3) := dk_180 0 22 (dk_at dksX6_endsWith_1 8 rfl rfl)
theorem dX6_endsWith_34 : decode cX6_endsWith 34 = .ok (.iload 5, 2) := dk_21 5 (dk_at dksX6_endsWith_1 11 rfl rfl)
theorem dX6_endsWith_36 : decode cX6_endsWith 36 = .ok (.iaload, 1) := dk_46 (dk_at dksX6_endsWith_1 13 rfl rfl)
theorem dX6_endsWith_37 : decode cX6_endsWith 37 = .ok (.istore 5, 2) := dk_54 5 (dk_at dksX6_endsWith_1 14 rfl rfl)
theorem dX6_endsWith_39 : decode cX6_endsWith 39 = .ok (.iinc 6 1, 3) := dk_132 6 1 (dk_at dksX6_endsWith_1 16 rfl rfl)
theorem dX6_endsWith_42 : decode cX6_endsWith 42 = .ok (.goto (-19), 3) := dk_167 255 237 (dk_at dksX6_endsWith_1 19 rfl rfl)
theorem dX6_endsWith_45 : decode cX6_endsWith 45 = .ok (.iload 5, 2) := dk_21 5 (dk_at dksX6_endsWith_1 22 rfl rfl)
theorem dX6_endsWith_47 : decode cX6_endsWith 47 = .ok (.ireturn, 1) := dk_172 (dk_at dksX6_endsWith_2 0 rfl rfl)
abbrev cX6_ignorant : ByteArray := prog_23_method_109_code
def yX6_ignorant : MethodName := ⟨RX6, "ignorant", "(I)I"⟩
def dkwX6_ignorant_4 : List UInt8 := [167, 0, 6, 4, 29, 120, 128, 61, 132, 3, 1, 167, 255, 170, 28, 172]
abbrev dktX6_ignorant_4 : List UInt8 := dkwX6_ignorant_4 ++ []
def dkwX6_ignorant_3 : List UInt8 := [54, 4, 42, 180, 0, 22, 21, 5, 46, 54, 5, 132, 6, 1, 167, 255, 210, 28, 21, 4, 153, 0, 7, 3]
abbrev dktX6_ignorant_3 : List UInt8 := dkwX6_ignorant_3 ++ dktX6_ignorant_4
def dkwX6_ignorant_2 : List UInt8 := [159, 0, 40, 21, 4, 42, 3, 21, 5, 27, 182, 1, 145, 2, 159, 0, 7, 4, 167, 0, 4, 3, 128]
abbrev dktX6_ignorant_2 : List UInt8 := dkwX6_ignorant_2 ++ dktX6_ignorant_3
def dkwX6_ignorant_1 : List UInt8 := [3, 46, 162, 0, 82, 3, 54, 4, 29, 54, 5, 3, 54, 6, 21, 6, 7, 162, 0, 46, 21, 5, 2]
abbrev dktX6_ignorant_1 : List UInt8 := dkwX6_ignorant_1 ++ dktX6_ignorant_2
def dkwX6_ignorant_0 : List UInt8 := [42, 3, 181, 0, 166, 42, 27, 182, 2, 43, 154, 0, 5, 2, 172, 3, 61, 3, 62, 29, 42, 180, 0, 13]
abbrev dktX6_ignorant_0 : List UInt8 := dkwX6_ignorant_0 ++ dktX6_ignorant_1
theorem dksX6_ignorant_0 : cX6_ignorant.data.toList.drop 0 = dktX6_ignorant_0 := by decide +kernel
theorem dksX6_ignorant_1 : cX6_ignorant.data.toList.drop 24 = dktX6_ignorant_1 := dk_seg dksX6_ignorant_0 24 rfl rfl
theorem dksX6_ignorant_2 : cX6_ignorant.data.toList.drop 47 = dktX6_ignorant_2 := dk_seg dksX6_ignorant_1 23 rfl rfl
theorem dksX6_ignorant_3 : cX6_ignorant.data.toList.drop 70 = dktX6_ignorant_3 := dk_seg dksX6_ignorant_2 23 rfl rfl
theorem dksX6_ignorant_4 : cX6_ignorant.data.toList.drop 94 = dktX6_ignorant_4 := dk_seg dksX6_ignorant_3 24 rfl rfl
theorem dX6_ignorant_0 : decode cX6_ignorant 0 = .ok (.aload_n 0, 1) := dk_42 (dk_at dksX6_ignorant_0 0 rfl rfl)
theorem dX6_ignorant_1 : decode cX6_ignorant 1 = .ok (.iconst 0, 1) := dk_3 (dk_at dksX6_ignorant_0 1 rfl rfl)
theorem dX6_ignorant_2 : decode cX6_ignorant 2 = .ok (.putfield 166, 3) := dk_181 0 166 (dk_at dksX6_ignorant_0 2 rfl rfl)
theorem dX6_ignorant_5 : decode cX6_ignorant 5 = .ok (.aload_n 0, 1) := dk_42 (dk_at dksX6_ignorant_0 5 rfl rfl)
theorem dX6_ignorant_6 : decode cX6_ignorant 6 = .ok (.iload_n 1, 1) := dk_27 (dk_at dksX6_ignorant_0 6 rfl rfl)
theorem dX6_ignorant_7 : decode cX6_ignorant 7 = .ok (.invokevirtual 555, 3) := dk_182 2 43 (dk_at dksX6_ignorant_0 7 rfl rfl)
theorem dX6_ignorant_10 : decode cX6_ignorant 10 = .ok (.ifCond .ne 5, 3) := dk_154 0 5 (dk_at dksX6_ignorant_0 10 rfl rfl)
theorem dX6_ignorant_13 : decode cX6_ignorant 13 = .ok (.iconst (-1), 1) := dk_2 (dk_at dksX6_ignorant_0 13 rfl rfl)
theorem dX6_ignorant_14 : decode cX6_ignorant 14 = .ok (.ireturn, 1) := dk_172 (dk_at dksX6_ignorant_0 14 rfl rfl)
theorem dX6_ignorant_15 : decode cX6_ignorant 15 = .ok (.iconst 0, 1) := dk_3 (dk_at dksX6_ignorant_0 15 rfl rfl)
theorem dX6_ignorant_16 : decode cX6_ignorant 16 = .ok (.istore_n 2, 1) := dk_61 (dk_at dksX6_ignorant_0 16 rfl rfl)
theorem dX6_ignorant_17 : decode cX6_ignorant 17 = .ok (.iconst 0, 1) := dk_3 (dk_at dksX6_ignorant_0 17 rfl rfl)
theorem dX6_ignorant_18 : decode cX6_ignorant 18 = .ok (.istore_n 3, 1) := dk_62 (dk_at dksX6_ignorant_0 18 rfl rfl)
theorem dX6_ignorant_19 : decode cX6_ignorant 19 = .ok (.iload_n 3, 1) := dk_29 (dk_at dksX6_ignorant_0 19 rfl rfl)
theorem dX6_ignorant_20 : decode cX6_ignorant 20 = .ok (.aload_n 0, 1) := dk_42 (dk_at dksX6_ignorant_0 20 rfl rfl)
theorem dX6_ignorant_21 : decode cX6_ignorant 21 = .ok (.getfield 13, 3) := dk_180 0 13 (dk_at dksX6_ignorant_0 21 rfl rfl)
theorem dX6_ignorant_24 : decode cX6_ignorant 24 = .ok (.iconst 0, 1) := dk_3 (dk_at dksX6_ignorant_1 0 rfl rfl)
theorem dX6_ignorant_25 : decode cX6_ignorant 25 = .ok (.iaload, 1) := dk_46 (dk_at dksX6_ignorant_1 1 rfl rfl)
theorem dX6_ignorant_26 : decode cX6_ignorant 26 = .ok (.if_icmp .ge 82, 3) := dk_162 0 82 (dk_at dksX6_ignorant_1 2 rfl rfl)
theorem dX6_ignorant_29 : decode cX6_ignorant 29 = .ok (.iconst 0, 1) := dk_3 (dk_at dksX6_ignorant_1 5 rfl rfl)
theorem dX6_ignorant_30 : decode cX6_ignorant 30 = .ok (.istore 4, 2) := dk_54 4 (dk_at dksX6_ignorant_1 6 rfl rfl)
theorem dX6_ignorant_32 : decode cX6_ignorant 32 = .ok (.iload_n 3, 1) := dk_29 (dk_at dksX6_ignorant_1 8 rfl rfl)
theorem dX6_ignorant_33 : decode cX6_ignorant 33 = .ok (.istore 5, 2) := dk_54 5 (dk_at dksX6_ignorant_1 9 rfl rfl)
theorem dX6_ignorant_35 : decode cX6_ignorant 35 = .ok (.iconst 0, 1) := dk_3 (dk_at dksX6_ignorant_1 11 rfl rfl)
theorem dX6_ignorant_36 : decode cX6_ignorant 36 = .ok (.istore 6, 2) := dk_54 6 (dk_at dksX6_ignorant_1 12 rfl rfl)
theorem dX6_ignorant_38 : decode cX6_ignorant 38 = .ok (.iload 6, 2) := dk_21 6 (dk_at dksX6_ignorant_1 14 rfl rfl)
theorem dX6_ignorant_40 : decode cX6_ignorant 40 = .ok (.iconst 4, 1) := dk_7 (dk_at dksX6_ignorant_1 16 rfl rfl)
theorem dX6_ignorant_41 : decode cX6_ignorant 41 = .ok (.if_icmp .ge 46, 3) := dk_162 0 46 (dk_at dksX6_ignorant_1 17 rfl rfl)
theorem dX6_ignorant_44 : decode cX6_ignorant 44 = .ok (.iload 5, 2) := dk_21 5 (dk_at dksX6_ignorant_1 20 rfl rfl)
theorem dX6_ignorant_46 : decode cX6_ignorant 46 = .ok (.iconst (-1), 1) := dk_2 (dk_at dksX6_ignorant_1 22 rfl rfl)
theorem dX6_ignorant_47 : decode cX6_ignorant 47 = .ok (.if_icmp .eq 40, 3) := dk_159 0 40 (dk_at dksX6_ignorant_2 0 rfl rfl)
theorem dX6_ignorant_50 : decode cX6_ignorant 50 = .ok (.iload 4, 2) := dk_21 4 (dk_at dksX6_ignorant_2 3 rfl rfl)
theorem dX6_ignorant_52 : decode cX6_ignorant 52 = .ok (.aload_n 0, 1) := dk_42 (dk_at dksX6_ignorant_2 5 rfl rfl)
theorem dX6_ignorant_53 : decode cX6_ignorant 53 = .ok (.iconst 0, 1) := dk_3 (dk_at dksX6_ignorant_2 6 rfl rfl)
theorem dX6_ignorant_54 : decode cX6_ignorant 54 = .ok (.iload 5, 2) := dk_21 5 (dk_at dksX6_ignorant_2 7 rfl rfl)
theorem dX6_ignorant_56 : decode cX6_ignorant 56 = .ok (.iload_n 1, 1) := dk_27 (dk_at dksX6_ignorant_2 9 rfl rfl)
theorem dX6_ignorant_57 : decode cX6_ignorant 57 = .ok (.invokevirtual 401, 3) := dk_182 1 145 (dk_at dksX6_ignorant_2 10 rfl rfl)
theorem dX6_ignorant_60 : decode cX6_ignorant 60 = .ok (.iconst (-1), 1) := dk_2 (dk_at dksX6_ignorant_2 13 rfl rfl)
theorem dX6_ignorant_61 : decode cX6_ignorant 61 = .ok (.if_icmp .eq 7, 3) := dk_159 0 7 (dk_at dksX6_ignorant_2 14 rfl rfl)
theorem dX6_ignorant_64 : decode cX6_ignorant 64 = .ok (.iconst 1, 1) := dk_4 (dk_at dksX6_ignorant_2 17 rfl rfl)
theorem dX6_ignorant_65 : decode cX6_ignorant 65 = .ok (.goto 4, 3) := dk_167 0 4 (dk_at dksX6_ignorant_2 18 rfl rfl)
theorem dX6_ignorant_68 : decode cX6_ignorant 68 = .ok (.iconst 0, 1) := dk_3 (dk_at dksX6_ignorant_2 21 rfl rfl)
theorem dX6_ignorant_69 : decode cX6_ignorant 69 = .ok (.ior, 1) := dk_128 (dk_at dksX6_ignorant_2 22 rfl rfl)
theorem dX6_ignorant_70 : decode cX6_ignorant 70 = .ok (.istore 4, 2) := dk_54 4 (dk_at dksX6_ignorant_3 0 rfl rfl)
theorem dX6_ignorant_72 : decode cX6_ignorant 72 = .ok (.aload_n 0, 1) := dk_42 (dk_at dksX6_ignorant_3 2 rfl rfl)
theorem dX6_ignorant_73 : decode cX6_ignorant 73 = .ok (.getfield 22, 3) := dk_180 0 22 (dk_at dksX6_ignorant_3 3 rfl rfl)
theorem dX6_ignorant_76 : decode cX6_ignorant 76 = .ok (.iload 5, 2) := dk_21 5 (dk_at dksX6_ignorant_3 6 rfl rfl)
theorem dX6_ignorant_78 : decode cX6_ignorant 78 = .ok (.iaload, 1) := dk_46 (dk_at dksX6_ignorant_3 8 rfl rfl)
theorem dX6_ignorant_79 : decode cX6_ignorant 79 = .ok (.istore 5, 2) := dk_54 5 (dk_at dksX6_ignorant_3 9 rfl rfl)
theorem dX6_ignorant_81 : decode cX6_ignorant 81 = .ok (.iinc 6 1, 3) := dk_132 6 1 (dk_at dksX6_ignorant_3 11 rfl rfl)
theorem dX6_ignorant_84 : decode cX6_ignorant 84 = .ok (.goto (-46), 3) := dk_167 255 210 (dk_at dksX6_ignorant_3 14 rfl rfl)
theorem dX6_ignorant_87 : decode cX6_ignorant 87 = .ok (.iload_n 2, 1) := dk_28 (dk_at dksX6_ignorant_3 17 rfl rfl)
theorem dX6_ignorant_88 : decode cX6_ignorant 88 = .ok (.iload 4, 2) := dk_21 4 (dk_at dksX6_ignorant_3 18 rfl rfl)
theorem dX6_ignorant_90 : decode cX6_ignorant 90 = .ok (.ifCond .eq 7, 3) := dk_153 0 7 (dk_at dksX6_ignorant_3 20 rfl rfl)
theorem dX6_ignorant_93 : decode cX6_ignorant 93 = .ok (.iconst 0, 1) := dk_3 (dk_at dksX6_ignorant_3 23 rfl rfl)
theorem dX6_ignorant_94 : decode cX6_ignorant 94 = .ok (.goto 6, 3) := dk_167 0 6 (dk_at dksX6_ignorant_4 0 rfl rfl)
theorem dX6_ignorant_97 : decode cX6_ignorant 97 = .ok (.iconst 1, 1) := dk_4 (dk_at dksX6_ignorant_4 3 rfl rfl)
theorem dX6_ignorant_98 : decode cX6_ignorant 98 = .ok (.iload_n 3, 1) := dk_29 (dk_at dksX6_ignorant_4 4 rfl rfl)
theorem dX6_ignorant_99 : decode cX6_ignorant 99 = .ok (.ishl, 1) := dk_120 (dk_at dksX6_ignorant_4 5 rfl rfl)
theorem dX6_ignorant_100 : decode cX6_ignorant 100 = .ok (.ior, 1) := dk_128 (dk_at dksX6_ignorant_4 6 rfl rfl)
theorem dX6_ignorant_101 : decode cX6_ignorant 101 = .ok (.istore_n 2, 1) := dk_61 (dk_at dksX6_ignorant_4 7 rfl rfl)
theorem dX6_ignorant_102 : decode cX6_ignorant 102 = .ok (.iinc 3 1, 3) := dk_132 3 1 (dk_at dksX6_ignorant_4 8 rfl rfl)
theorem dX6_ignorant_105 : decode cX6_ignorant 105 = .ok (.goto (-86), 3) := dk_167 255 170 (dk_at dksX6_ignorant_4 11 rfl rfl)
theorem dX6_ignorant_108 : decode cX6_ignorant 108 = .ok (.iload_n 2, 1) := dk_28 (dk_at dksX6_ignorant_4 14 rfl rfl)
theorem dX6_ignorant_109 : decode cX6_ignorant 109 = .ok (.ireturn, 1) := dk_172 (dk_at dksX6_ignorant_4 15 rfl rfl)
abbrev cX6_spy : ByteArray := prog_23_method_110_code
def yX6_spy : MethodName := ⟨RX6, "spy", "(II)I"⟩
def dkwX6_spy_3 : List UInt8 := [167, 0, 4, 3, 96, 62, 132, 4, 1, 167, 255, 212, 29, 172]
abbrev dktX6_spy_3 : List UInt8 := dkwX6_spy_3 ++ []
def dkwX6_spy_2 : List UInt8 := [29, 27, 21, 4, 122, 4, 126, 4, 160, 0, 19, 42, 3, 21, 4, 28, 182, 1, 145, 2, 159, 0, 7, 4]
abbrev dktX6_spy_2 : List UInt8 := dkwX6_spy_2 ++ dktX6_spy_3
def dkwX6_spy_1 : List UInt8 := [182, 2, 43, 154, 0, 5, 2, 172, 3, 62, 3, 54, 4, 21, 4, 42, 180, 0, 13, 3, 46, 162, 0, 39]
abbrev dktX6_spy_1 : List UInt8 := dkwX6_spy_1 ++ dktX6_spy_2
def dkwX6_spy_0 : List UInt8 := [42, 3, 181, 0, 166, 27, 155, 0, 23, 27, 4, 42, 180, 0, 13, 3, 46, 120, 162, 0, 11, 42, 28]
abbrev dktX6_spy_0 : List UInt8 := dkwX6_spy_0 ++ dktX6_spy_1
theorem dksX6_spy_0 : cX6_spy.data.toList.drop 0 = dktX6_spy_0 := by decide +kernel
theorem dksX6_spy_1 : cX6_spy.data.toList.drop 23 = dktX6_spy_1 := dk_seg dksX6_spy_0 23 rfl rfl
theorem dksX6_spy_2 : cX6_spy.data.toList.drop 47 = dktX6_spy_2 := dk_seg dksX6_spy_1 24 rfl rfl
theorem dksX6_spy_3 : cX6_spy.data.toList.drop 71 = dktX6_spy_3 := dk_seg dksX6_spy_2 24 rfl rfl
theorem dX6_spy_0 : decode cX6_spy 0 = .ok (.aload_n 0, 1) := dk_42 (dk_at dksX6_spy_0 0 rfl rfl)
theorem dX6_spy_1 : decode cX6_spy 1 = .ok (.iconst 0, 1) := dk_3 (dk_at dksX6_spy_0 1 rfl rfl)
theorem dX6_spy_2 : decode cX6_spy 2 = .ok (.putfield 166, 3) := dk_181 0 166 (dk_at dksX6_spy_0 2 rfl rfl)
theorem dX6_spy_5 : decode cX6_spy 5 = .ok (.iload_n 1, 1) := dk_27 (dk_at dksX6_spy_0 5 rfl rfl)
theorem dX6_spy_6 : decode cX6_spy 6 = .ok (.ifCond .lt 23, 3) := dk_155 0 23 (dk_at dksX6_spy_0 6 rfl rfl)
theorem dX6_spy_9 : decode cX6_spy 9 = .ok (.iload_n 1, 1) := dk_27 (dk_at dksX6_spy_0 9 rfl rfl)
theorem dX6_spy_10 : decode cX6_spy 10 = .ok (.iconst 1, 1) := dk_4 (dk_at dksX6_spy_0 10 rfl rfl)
theorem dX6_spy_11 : decode cX6_spy 11 = .ok (.aload_n 0, 1) := dk_42 (dk_at dksX6_spy_0 11 rfl rfl)
theorem dX6_spy_12 : decode cX6_spy 12 = .ok (.getfield 13, 3) := dk_180 0 13 (dk_at dksX6_spy_0 12 rfl rfl)
theorem dX6_spy_15 : decode cX6_spy 15 = .ok (.iconst 0, 1) := dk_3 (dk_at dksX6_spy_0 15 rfl rfl)
theorem dX6_spy_16 : decode cX6_spy 16 = .ok (.iaload, 1) := dk_46 (dk_at dksX6_spy_0 16 rfl rfl)
theorem dX6_spy_17 : decode cX6_spy 17 = .ok (.ishl, 1) := dk_120 (dk_at dksX6_spy_0 17 rfl rfl)
theorem dX6_spy_18 : decode cX6_spy 18 = .ok (.if_icmp .ge 11, 3) := dk_162 0 11 (dk_at dksX6_spy_0 18 rfl rfl)
theorem dX6_spy_21 : decode cX6_spy 21 = .ok (.aload_n 0, 1) := dk_42 (dk_at dksX6_spy_0 21 rfl rfl)
theorem dX6_spy_22 : decode cX6_spy 22 = .ok (.iload_n 2, 1) := dk_28 (dk_at dksX6_spy_0 22 rfl rfl)
theorem dX6_spy_23 : decode cX6_spy 23 = .ok (.invokevirtual 555, 3) := dk_182 2 43 (dk_at dksX6_spy_1 0 rfl rfl)
theorem dX6_spy_26 : decode cX6_spy 26 = .ok (.ifCond .ne 5, 3) := dk_154 0 5 (dk_at dksX6_spy_1 3 rfl rfl)
theorem dX6_spy_29 : decode cX6_spy 29 = .ok (.iconst (-1), 1) := dk_2 (dk_at dksX6_spy_1 6 rfl rfl)
theorem dX6_spy_30 : decode cX6_spy 30 = .ok (.ireturn, 1) := dk_172 (dk_at dksX6_spy_1 7 rfl rfl)
theorem dX6_spy_31 : decode cX6_spy 31 = .ok (.iconst 0, 1) := dk_3 (dk_at dksX6_spy_1 8 rfl rfl)
theorem dX6_spy_32 : decode cX6_spy 32 = .ok (.istore_n 3, 1) := dk_62 (dk_at dksX6_spy_1 9 rfl rfl)
theorem dX6_spy_33 : decode cX6_spy 33 = .ok (.iconst 0, 1) := dk_3 (dk_at dksX6_spy_1 10 rfl rfl)
theorem dX6_spy_34 : decode cX6_spy 34 = .ok (.istore 4, 2) := dk_54 4 (dk_at dksX6_spy_1 11 rfl rfl)
theorem dX6_spy_36 : decode cX6_spy 36 = .ok (.iload 4, 2) := dk_21 4 (dk_at dksX6_spy_1 13 rfl rfl)
theorem dX6_spy_38 : decode cX6_spy 38 = .ok (.aload_n 0, 1) := dk_42 (dk_at dksX6_spy_1 15 rfl rfl)
theorem dX6_spy_39 : decode cX6_spy 39 = .ok (.getfield 13, 3) := dk_180 0 13 (dk_at dksX6_spy_1 16 rfl rfl)
theorem dX6_spy_42 : decode cX6_spy 42 = .ok (.iconst 0, 1) := dk_3 (dk_at dksX6_spy_1 19 rfl rfl)
theorem dX6_spy_43 : decode cX6_spy 43 = .ok (.iaload, 1) := dk_46 (dk_at dksX6_spy_1 20 rfl rfl)
theorem dX6_spy_44 : decode cX6_spy 44 = .ok (.if_icmp .ge 39, 3) := dk_162 0 39 (dk_at dksX6_spy_1 21 rfl rfl)
theorem dX6_spy_47 : decode cX6_spy 47 = .ok (.iload_n 3, 1) := dk_29 (dk_at dksX6_spy_2 0 rfl rfl)
theorem dX6_spy_48 : decode cX6_spy 48 = .ok (.iload_n 1, 1) := dk_27 (dk_at dksX6_spy_2 1 rfl rfl)
theorem dX6_spy_49 : decode cX6_spy 49 = .ok (.iload 4, 2) := dk_21 4 (dk_at dksX6_spy_2 2 rfl rfl)
theorem dX6_spy_51 : decode cX6_spy 51 = .ok (.ishr, 1) := dk_122 (dk_at dksX6_spy_2 4 rfl rfl)
theorem dX6_spy_52 : decode cX6_spy 52 = .ok (.iconst 1, 1) := dk_4 (dk_at dksX6_spy_2 5 rfl rfl)
theorem dX6_spy_53 : decode cX6_spy 53 = .ok (.iand, 1) := dk_126 (dk_at dksX6_spy_2 6 rfl rfl)
theorem dX6_spy_54 : decode cX6_spy 54 = .ok (.iconst 1, 1) := dk_4 (dk_at dksX6_spy_2 7 rfl rfl)
theorem dX6_spy_55 : decode cX6_spy 55 = .ok (.if_icmp .ne 19, 3) := dk_160 0 19 (dk_at dksX6_spy_2 8 rfl rfl)
theorem dX6_spy_58 : decode cX6_spy 58 = .ok (.aload_n 0, 1) := dk_42 (dk_at dksX6_spy_2 11 rfl rfl)
theorem dX6_spy_59 : decode cX6_spy 59 = .ok (.iconst 0, 1) := dk_3 (dk_at dksX6_spy_2 12 rfl rfl)
theorem dX6_spy_60 : decode cX6_spy 60 = .ok (.iload 4, 2) := dk_21 4 (dk_at dksX6_spy_2 13 rfl rfl)
theorem dX6_spy_62 : decode cX6_spy 62 = .ok (.iload_n 2, 1) := dk_28 (dk_at dksX6_spy_2 15 rfl rfl)
theorem dX6_spy_63 : decode cX6_spy 63 = .ok (.invokevirtual 401, 3) := dk_182 1 145 (dk_at dksX6_spy_2 16 rfl rfl)
theorem dX6_spy_66 : decode cX6_spy 66 = .ok (.iconst (-1), 1) := dk_2 (dk_at dksX6_spy_2 19 rfl rfl)
theorem dX6_spy_67 : decode cX6_spy 67 = .ok (.if_icmp .eq 7, 3) := dk_159 0 7 (dk_at dksX6_spy_2 20 rfl rfl)
theorem dX6_spy_70 : decode cX6_spy 70 = .ok (.iconst 1, 1) := dk_4 (dk_at dksX6_spy_2 23 rfl rfl)
theorem dX6_spy_71 : decode cX6_spy 71 = .ok (.goto 4, 3) := dk_167 0 4 (dk_at dksX6_spy_3 0 rfl rfl)
theorem dX6_spy_74 : decode cX6_spy 74 = .ok (.iconst 0, 1) := dk_3 (dk_at dksX6_spy_3 3 rfl rfl)
theorem dX6_spy_75 : decode cX6_spy 75 = .ok (.iadd, 1) := dk_96 (dk_at dksX6_spy_3 4 rfl rfl)
theorem dX6_spy_76 : decode cX6_spy 76 = .ok (.istore_n 3, 1) := dk_62 (dk_at dksX6_spy_3 5 rfl rfl)
theorem dX6_spy_77 : decode cX6_spy 77 = .ok (.iinc 4 1, 3) := dk_132 4 1 (dk_at dksX6_spy_3 6 rfl rfl)
theorem dX6_spy_80 : decode cX6_spy 80 = .ok (.goto (-44), 3) := dk_167 255 212 (dk_at dksX6_spy_3 9 rfl rfl)
theorem dX6_spy_83 : decode cX6_spy 83 = .ok (.iload_n 3, 1) := dk_29 (dk_at dksX6_spy_3 12 rfl rfl)
theorem dX6_spy_84 : decode cX6_spy 84 = .ok (.ireturn, 1) := dk_172 (dk_at dksX6_spy_3 13 rfl rfl)
abbrev cX6_law : ByteArray := prog_23_method_112_code
def yX6_law : MethodName := ⟨RX6, "law", "(IIIII)J"⟩
def dkwX6_law_5 : List UInt8 := [167, 0, 6, 20, 2, 57, 173]
abbrev dktX6_law_5 : List UInt8 := dkwX6_law_5 ++ []
def dkwX6_law_4 : List UInt8 := [7, 9, 80, 42, 180, 0, 80, 8, 9, 80, 42, 27, 182, 1, 138, 153, 0, 12, 42, 180, 0, 84, 3, 47]
abbrev dktX6_law_4 : List UInt8 := dkwX6_law_4 ++ dktX6_law_5
def dkwX6_law_3 : List UInt8 := [133, 80, 42, 180, 0, 80, 5, 21, 4, 133, 80, 42, 180, 0, 80, 6, 21, 5, 133, 80, 42, 180, 0, 80]
abbrev dktX6_law_3 : List UInt8 := dkwX6_law_3 ++ dktX6_law_4
def dkwX6_law_2 : List UInt8 := [182, 1, 129, 154, 0, 7, 20, 2, 57, 173, 42, 180, 0, 80, 3, 28, 133, 80, 42, 180, 0, 80, 4, 29]
abbrev dktX6_law_2 : List UInt8 := dkwX6_law_2 ++ dktX6_law_3
def dkwX6_law_1 : List UInt8 := [184, 2, 52, 153, 0, 27, 21, 4, 184, 2, 52, 153, 0, 19, 21, 5, 184, 2, 52, 153, 0, 11, 42, 27]
abbrev dktX6_law_1 : List UInt8 := dkwX6_law_1 ++ dktX6_law_2
def dkwX6_law_0 : List UInt8 := [42, 3, 181, 0, 166, 27, 155, 0, 46, 27, 4, 163, 0, 41, 28, 184, 2, 52, 153, 0, 34, 29]
abbrev dktX6_law_0 : List UInt8 := dkwX6_law_0 ++ dktX6_law_1
theorem dksX6_law_0 : cX6_law.data.toList.drop 0 = dktX6_law_0 := by decide +kernel
theorem dksX6_law_1 : cX6_law.data.toList.drop 22 = dktX6_law_1 := dk_seg dksX6_law_0 22 rfl rfl
theorem dksX6_law_2 : cX6_law.data.toList.drop 46 = dktX6_law_2 := dk_seg dksX6_law_1 24 rfl rfl
theorem dksX6_law_3 : cX6_law.data.toList.drop 70 = dktX6_law_3 := dk_seg dksX6_law_2 24 rfl rfl
theorem dksX6_law_4 : cX6_law.data.toList.drop 94 = dktX6_law_4 := dk_seg dksX6_law_3 24 rfl rfl
theorem dksX6_law_5 : cX6_law.data.toList.drop 118 = dktX6_law_5 := dk_seg dksX6_law_4 24 rfl rfl
theorem dX6_law_0 : decode cX6_law 0 = .ok (.aload_n 0, 1) := dk_42 (dk_at dksX6_law_0 0 rfl rfl)
theorem dX6_law_1 : decode cX6_law 1 = .ok (.iconst 0, 1) := dk_3 (dk_at dksX6_law_0 1 rfl rfl)
theorem dX6_law_2 : decode cX6_law 2 = .ok (.putfield 166, 3) := dk_181 0 166 (dk_at dksX6_law_0 2 rfl rfl)
theorem dX6_law_5 : decode cX6_law 5 = .ok (.iload_n 1, 1) := dk_27 (dk_at dksX6_law_0 5 rfl rfl)
theorem dX6_law_6 : decode cX6_law 6 = .ok (.ifCond .lt 46, 3) := dk_155 0 46 (dk_at dksX6_law_0 6 rfl rfl)
theorem dX6_law_9 : decode cX6_law 9 = .ok (.iload_n 1, 1) := dk_27 (dk_at dksX6_law_0 9 rfl rfl)
theorem dX6_law_10 : decode cX6_law 10 = .ok (.iconst 1, 1) := dk_4 (dk_at dksX6_law_0 10 rfl rfl)
theorem dX6_law_11 : decode cX6_law 11 = .ok (.if_icmp .gt 41, 3) := dk_163 0 41 (dk_at dksX6_law_0 11 rfl rfl)
theorem dX6_law_14 : decode cX6_law 14 = .ok (.iload_n 2, 1) := dk_28 (dk_at dksX6_law_0 14 rfl rfl)
theorem dX6_law_15 : decode cX6_law 15 = .ok (.invokestatic 564, 3) := dk_184 2 52 (dk_at dksX6_law_0 15 rfl rfl)
theorem dX6_law_18 : decode cX6_law 18 = .ok (.ifCond .eq 34, 3) := dk_153 0 34 (dk_at dksX6_law_0 18 rfl rfl)
theorem dX6_law_21 : decode cX6_law 21 = .ok (.iload_n 3, 1) := dk_29 (dk_at dksX6_law_0 21 rfl rfl)
theorem dX6_law_22 : decode cX6_law 22 = .ok (.invokestatic 564, 3) := dk_184 2 52 (dk_at dksX6_law_1 0 rfl rfl)
theorem dX6_law_25 : decode cX6_law 25 = .ok (.ifCond .eq 27, 3) := dk_153 0 27 (dk_at dksX6_law_1 3 rfl rfl)
theorem dX6_law_28 : decode cX6_law 28 = .ok (.iload 4, 2) := dk_21 4 (dk_at dksX6_law_1 6 rfl rfl)
theorem dX6_law_30 : decode cX6_law 30 = .ok (.invokestatic 564, 3) := dk_184 2 52 (dk_at dksX6_law_1 8 rfl rfl)
theorem dX6_law_33 : decode cX6_law 33 = .ok (.ifCond .eq 19, 3) := dk_153 0 19 (dk_at dksX6_law_1 11 rfl rfl)
theorem dX6_law_36 : decode cX6_law 36 = .ok (.iload 5, 2) := dk_21 5 (dk_at dksX6_law_1 14 rfl rfl)
theorem dX6_law_38 : decode cX6_law 38 = .ok (.invokestatic 564, 3) := dk_184 2 52 (dk_at dksX6_law_1 16 rfl rfl)
theorem dX6_law_41 : decode cX6_law 41 = .ok (.ifCond .eq 11, 3) := dk_153 0 11 (dk_at dksX6_law_1 19 rfl rfl)
theorem dX6_law_44 : decode cX6_law 44 = .ok (.aload_n 0, 1) := dk_42 (dk_at dksX6_law_1 22 rfl rfl)
theorem dX6_law_45 : decode cX6_law 45 = .ok (.iload_n 1, 1) := dk_27 (dk_at dksX6_law_1 23 rfl rfl)
theorem dX6_law_46 : decode cX6_law 46 = .ok (.invokevirtual 385, 3) := dk_182 1 129 (dk_at dksX6_law_2 0 rfl rfl)
theorem dX6_law_49 : decode cX6_law 49 = .ok (.ifCond .ne 7, 3) := dk_154 0 7 (dk_at dksX6_law_2 3 rfl rfl)
theorem dX6_law_52 : decode cX6_law 52 = .ok (.ldc2_w 569, 3) := dk_20 2 57 (dk_at dksX6_law_2 6 rfl rfl)
theorem dX6_law_55 : decode cX6_law 55 = .ok (.lreturn, 1) := dk_173 (dk_at dksX6_law_2 9 rfl rfl)
theorem dX6_law_56 : decode cX6_law 56 = .ok (.aload_n 0, 1) := dk_42 (dk_at dksX6_law_2 10 rfl rfl)
theorem dX6_law_57 : decode cX6_law 57 = .ok (.getfield 80, 3) := dk_180 0 80 (dk_at dksX6_law_2 11 rfl rfl)
theorem dX6_law_60 : decode cX6_law 60 = .ok (.iconst 0, 1) := dk_3 (dk_at dksX6_law_2 14 rfl rfl)
theorem dX6_law_61 : decode cX6_law 61 = .ok (.iload_n 2, 1) := dk_28 (dk_at dksX6_law_2 15 rfl rfl)
theorem dX6_law_62 : decode cX6_law 62 = .ok (.i2l, 1) := dk_133 (dk_at dksX6_law_2 16 rfl rfl)
theorem dX6_law_63 : decode cX6_law 63 = .ok (.lastore, 1) := dk_80 (dk_at dksX6_law_2 17 rfl rfl)
theorem dX6_law_64 : decode cX6_law 64 = .ok (.aload_n 0, 1) := dk_42 (dk_at dksX6_law_2 18 rfl rfl)
theorem dX6_law_65 : decode cX6_law 65 = .ok (.getfield 80, 3) := dk_180 0 80 (dk_at dksX6_law_2 19 rfl rfl)
theorem dX6_law_68 : decode cX6_law 68 = .ok (.iconst 1, 1) := dk_4 (dk_at dksX6_law_2 22 rfl rfl)
theorem dX6_law_69 : decode cX6_law 69 = .ok (.iload_n 3, 1) := dk_29 (dk_at dksX6_law_2 23 rfl rfl)
theorem dX6_law_70 : decode cX6_law 70 = .ok (.i2l, 1) := dk_133 (dk_at dksX6_law_3 0 rfl rfl)
theorem dX6_law_71 : decode cX6_law 71 = .ok (.lastore, 1) := dk_80 (dk_at dksX6_law_3 1 rfl rfl)
theorem dX6_law_72 : decode cX6_law 72 = .ok (.aload_n 0, 1) := dk_42 (dk_at dksX6_law_3 2 rfl rfl)
theorem dX6_law_73 : decode cX6_law 73 = .ok (.getfield 80, 3) := dk_180 0 80 (dk_at dksX6_law_3 3 rfl rfl)
theorem dX6_law_76 : decode cX6_law 76 = .ok (.iconst 2, 1) := dk_5 (dk_at dksX6_law_3 6 rfl rfl)
theorem dX6_law_77 : decode cX6_law 77 = .ok (.iload 4, 2) := dk_21 4 (dk_at dksX6_law_3 7 rfl rfl)
theorem dX6_law_79 : decode cX6_law 79 = .ok (.i2l, 1) := dk_133 (dk_at dksX6_law_3 9 rfl rfl)
theorem dX6_law_80 : decode cX6_law 80 = .ok (.lastore, 1) := dk_80 (dk_at dksX6_law_3 10 rfl rfl)
theorem dX6_law_81 : decode cX6_law 81 = .ok (.aload_n 0, 1) := dk_42 (dk_at dksX6_law_3 11 rfl rfl)
theorem dX6_law_82 : decode cX6_law 82 = .ok (.getfield 80, 3) := dk_180 0 80 (dk_at dksX6_law_3 12 rfl rfl)
theorem dX6_law_85 : decode cX6_law 85 = .ok (.iconst 3, 1) := dk_6 (dk_at dksX6_law_3 15 rfl rfl)
theorem dX6_law_86 : decode cX6_law 86 = .ok (.iload 5, 2) := dk_21 5 (dk_at dksX6_law_3 16 rfl rfl)
theorem dX6_law_88 : decode cX6_law 88 = .ok (.i2l, 1) := dk_133 (dk_at dksX6_law_3 18 rfl rfl)
theorem dX6_law_89 : decode cX6_law 89 = .ok (.lastore, 1) := dk_80 (dk_at dksX6_law_3 19 rfl rfl)
theorem dX6_law_90 : decode cX6_law 90 = .ok (.aload_n 0, 1) := dk_42 (dk_at dksX6_law_3 20 rfl rfl)
theorem dX6_law_91 : decode cX6_law 91 = .ok (.getfield 80, 3) := dk_180 0 80 (dk_at dksX6_law_3 21 rfl rfl)
theorem dX6_law_94 : decode cX6_law 94 = .ok (.iconst 4, 1) := dk_7 (dk_at dksX6_law_4 0 rfl rfl)
theorem dX6_law_95 : decode cX6_law 95 = .ok (.lconst 0, 1) := dk_9 (dk_at dksX6_law_4 1 rfl rfl)
theorem dX6_law_96 : decode cX6_law 96 = .ok (.lastore, 1) := dk_80 (dk_at dksX6_law_4 2 rfl rfl)
theorem dX6_law_97 : decode cX6_law 97 = .ok (.aload_n 0, 1) := dk_42 (dk_at dksX6_law_4 3 rfl rfl)
theorem dX6_law_98 : decode cX6_law 98 = .ok (.getfield 80, 3) := dk_180 0 80 (dk_at dksX6_law_4 4 rfl rfl)
theorem dX6_law_101 : decode cX6_law 101 = .ok (.iconst 5, 1) := dk_8 (dk_at dksX6_law_4 7 rfl rfl)
theorem dX6_law_102 : decode cX6_law 102 = .ok (.lconst 0, 1) := dk_9 (dk_at dksX6_law_4 8 rfl rfl)
theorem dX6_law_103 : decode cX6_law 103 = .ok (.lastore, 1) := dk_80 (dk_at dksX6_law_4 9 rfl rfl)
theorem dX6_law_104 : decode cX6_law 104 = .ok (.aload_n 0, 1) := dk_42 (dk_at dksX6_law_4 10 rfl rfl)
theorem dX6_law_105 : decode cX6_law 105 = .ok (.iload_n 1, 1) := dk_27 (dk_at dksX6_law_4 11 rfl rfl)
theorem dX6_law_106 : decode cX6_law 106 = .ok (.invokevirtual 394, 3) := dk_182 1 138 (dk_at dksX6_law_4 12 rfl rfl)
theorem dX6_law_109 : decode cX6_law 109 = .ok (.ifCond .eq 12, 3) := dk_153 0 12 (dk_at dksX6_law_4 15 rfl rfl)
theorem dX6_law_112 : decode cX6_law 112 = .ok (.aload_n 0, 1) := dk_42 (dk_at dksX6_law_4 18 rfl rfl)
theorem dX6_law_113 : decode cX6_law 113 = .ok (.getfield 84, 3) := dk_180 0 84 (dk_at dksX6_law_4 19 rfl rfl)
theorem dX6_law_116 : decode cX6_law 116 = .ok (.iconst 0, 1) := dk_3 (dk_at dksX6_law_4 22 rfl rfl)
theorem dX6_law_117 : decode cX6_law 117 = .ok (.laload, 1) := dk_47 (dk_at dksX6_law_4 23 rfl rfl)
theorem dX6_law_118 : decode cX6_law 118 = .ok (.goto 6, 3) := dk_167 0 6 (dk_at dksX6_law_5 0 rfl rfl)
theorem dX6_law_121 : decode cX6_law 121 = .ok (.ldc2_w 569, 3) := dk_20 2 57 (dk_at dksX6_law_5 3 rfl rfl)
theorem dX6_law_124 : decode cX6_law 124 = .ok (.lreturn, 1) := dk_173 (dk_at dksX6_law_5 6 rfl rfl)
abbrev cX6_isName : ByteArray := prog_23_method_111_code
def yX6_isName : MethodName := ⟨RX6, "isName", "(I)Z"⟩
def dkwX6_isName_0 : List UInt8 := [26, 155, 0, 14, 26, 17, 3, 231, 163, 0, 7, 4, 167, 0, 4, 3, 172]
abbrev dktX6_isName_0 : List UInt8 := dkwX6_isName_0 ++ []
theorem dksX6_isName_0 : cX6_isName.data.toList.drop 0 = dktX6_isName_0 := by decide +kernel
theorem dX6_isName_0 : decode cX6_isName 0 = .ok (.iload_n 0, 1) := dk_26 (dk_at dksX6_isName_0 0 rfl rfl)
theorem dX6_isName_1 : decode cX6_isName 1 = .ok (.ifCond .lt 14, 3) := dk_155 0 14 (dk_at dksX6_isName_0 1 rfl rfl)
theorem dX6_isName_4 : decode cX6_isName 4 = .ok (.iload_n 0, 1) := dk_26 (dk_at dksX6_isName_0 4 rfl rfl)
theorem dX6_isName_5 : decode cX6_isName 5 = .ok (.sipush 999, 3) := dk_17 3 231 (dk_at dksX6_isName_0 5 rfl rfl)
theorem dX6_isName_8 : decode cX6_isName 8 = .ok (.if_icmp .gt 7, 3) := dk_163 0 7 (dk_at dksX6_isName_0 8 rfl rfl)
theorem dX6_isName_11 : decode cX6_isName 11 = .ok (.iconst 1, 1) := dk_4 (dk_at dksX6_isName_0 11 rfl rfl)
theorem dX6_isName_12 : decode cX6_isName 12 = .ok (.goto 4, 3) := dk_167 0 4 (dk_at dksX6_isName_0 12 rfl rfl)
theorem dX6_isName_15 : decode cX6_isName 15 = .ok (.iconst 0, 1) := dk_3 (dk_at dksX6_isName_0 15 rfl rfl)
theorem dX6_isName_16 : decode cX6_isName 16 = .ok (.ireturn, 1) := dk_172 (dk_at dksX6_isName_0 16 rfl rfl)
abbrev cX6_hear : ByteArray := prog_23_method_113_code
def yX6_hear : MethodName := ⟨RX6, "hear", "(II)I"⟩
def dkwX6_hear_2 : List UInt8 := [42, 180, 1, 77, 28, 79, 42, 89, 180, 1, 77, 4, 96, 181, 1, 77, 42, 180, 1, 77, 4, 100, 172]
abbrev dktX6_hear_2 : List UInt8 := dkwX6_hear_2 ++ []
def dkwX6_hear_1 : List UInt8 := [180, 1, 77, 16, 24, 160, 0, 5, 2, 172, 42, 180, 0, 157, 42, 180, 1, 77, 27, 79, 42, 180, 0, 160]
abbrev dktX6_hear_1 : List UInt8 := dkwX6_hear_1 ++ dktX6_hear_2
def dkwX6_hear_0 : List UInt8 := [42, 3, 181, 0, 166, 42, 27, 182, 1, 202, 153, 0, 21, 28, 155, 0, 17, 28, 5, 163, 0, 12, 42]
abbrev dktX6_hear_0 : List UInt8 := dkwX6_hear_0 ++ dktX6_hear_1
theorem dksX6_hear_0 : cX6_hear.data.toList.drop 0 = dktX6_hear_0 := by decide +kernel
theorem dksX6_hear_1 : cX6_hear.data.toList.drop 23 = dktX6_hear_1 := dk_seg dksX6_hear_0 23 rfl rfl
theorem dksX6_hear_2 : cX6_hear.data.toList.drop 47 = dktX6_hear_2 := dk_seg dksX6_hear_1 24 rfl rfl
theorem dX6_hear_0 : decode cX6_hear 0 = .ok (.aload_n 0, 1) := dk_42 (dk_at dksX6_hear_0 0 rfl rfl)
theorem dX6_hear_1 : decode cX6_hear 1 = .ok (.iconst 0, 1) := dk_3 (dk_at dksX6_hear_0 1 rfl rfl)
theorem dX6_hear_2 : decode cX6_hear 2 = .ok (.putfield 166, 3) := dk_181 0 166 (dk_at dksX6_hear_0 2 rfl rfl)
theorem dX6_hear_5 : decode cX6_hear 5 = .ok (.aload_n 0, 1) := dk_42 (dk_at dksX6_hear_0 5 rfl rfl)
theorem dX6_hear_6 : decode cX6_hear 6 = .ok (.iload_n 1, 1) := dk_27 (dk_at dksX6_hear_0 6 rfl rfl)
theorem dX6_hear_7 : decode cX6_hear 7 = .ok (.invokevirtual 458, 3) := dk_182 1 202 (dk_at dksX6_hear_0 7 rfl rfl)
theorem dX6_hear_10 : decode cX6_hear 10 = .ok (.ifCond .eq 21, 3) := dk_153 0 21 (dk_at dksX6_hear_0 10 rfl rfl)
theorem dX6_hear_13 : decode cX6_hear 13 = .ok (.iload_n 2, 1) := dk_28 (dk_at dksX6_hear_0 13 rfl rfl)
theorem dX6_hear_14 : decode cX6_hear 14 = .ok (.ifCond .lt 17, 3) := dk_155 0 17 (dk_at dksX6_hear_0 14 rfl rfl)
theorem dX6_hear_17 : decode cX6_hear 17 = .ok (.iload_n 2, 1) := dk_28 (dk_at dksX6_hear_0 17 rfl rfl)
theorem dX6_hear_18 : decode cX6_hear 18 = .ok (.iconst 2, 1) := dk_5 (dk_at dksX6_hear_0 18 rfl rfl)
theorem dX6_hear_19 : decode cX6_hear 19 = .ok (.if_icmp .gt 12, 3) := dk_163 0 12 (dk_at dksX6_hear_0 19 rfl rfl)
theorem dX6_hear_22 : decode cX6_hear 22 = .ok (.aload_n 0, 1) := dk_42 (dk_at dksX6_hear_0 22 rfl rfl)
theorem dX6_hear_23 : decode cX6_hear 23 = .ok (.getfield 333, 3) := dk_180 1 77 (dk_at dksX6_hear_1 0 rfl rfl)
theorem dX6_hear_26 : decode cX6_hear 26 = .ok (.bipush 24, 2) := dk_16 24 (dk_at dksX6_hear_1 3 rfl rfl)
theorem dX6_hear_28 : decode cX6_hear 28 = .ok (.if_icmp .ne 5, 3) := dk_160 0 5 (dk_at dksX6_hear_1 5 rfl rfl)
theorem dX6_hear_31 : decode cX6_hear 31 = .ok (.iconst (-1), 1) := dk_2 (dk_at dksX6_hear_1 8 rfl rfl)
theorem dX6_hear_32 : decode cX6_hear 32 = .ok (.ireturn, 1) := dk_172 (dk_at dksX6_hear_1 9 rfl rfl)
theorem dX6_hear_33 : decode cX6_hear 33 = .ok (.aload_n 0, 1) := dk_42 (dk_at dksX6_hear_1 10 rfl rfl)
theorem dX6_hear_34 : decode cX6_hear 34 = .ok (.getfield 157, 3) := dk_180 0 157 (dk_at dksX6_hear_1 11 rfl rfl)
theorem dX6_hear_37 : decode cX6_hear 37 = .ok (.aload_n 0, 1) := dk_42 (dk_at dksX6_hear_1 14 rfl rfl)
theorem dX6_hear_38 : decode cX6_hear 38 = .ok (.getfield 333, 3) := dk_180 1 77 (dk_at dksX6_hear_1 15 rfl rfl)
theorem dX6_hear_41 : decode cX6_hear 41 = .ok (.iload_n 1, 1) := dk_27 (dk_at dksX6_hear_1 18 rfl rfl)
theorem dX6_hear_42 : decode cX6_hear 42 = .ok (.iastore, 1) := dk_79 (dk_at dksX6_hear_1 19 rfl rfl)
theorem dX6_hear_43 : decode cX6_hear 43 = .ok (.aload_n 0, 1) := dk_42 (dk_at dksX6_hear_1 20 rfl rfl)
theorem dX6_hear_44 : decode cX6_hear 44 = .ok (.getfield 160, 3) := dk_180 0 160 (dk_at dksX6_hear_1 21 rfl rfl)
theorem dX6_hear_47 : decode cX6_hear 47 = .ok (.aload_n 0, 1) := dk_42 (dk_at dksX6_hear_2 0 rfl rfl)
theorem dX6_hear_48 : decode cX6_hear 48 = .ok (.getfield 333, 3) := dk_180 1 77 (dk_at dksX6_hear_2 1 rfl rfl)
theorem dX6_hear_51 : decode cX6_hear 51 = .ok (.iload_n 2, 1) := dk_28 (dk_at dksX6_hear_2 4 rfl rfl)
theorem dX6_hear_52 : decode cX6_hear 52 = .ok (.iastore, 1) := dk_79 (dk_at dksX6_hear_2 5 rfl rfl)
theorem dX6_hear_53 : decode cX6_hear 53 = .ok (.aload_n 0, 1) := dk_42 (dk_at dksX6_hear_2 6 rfl rfl)
theorem dX6_hear_54 : decode cX6_hear 54 = .ok (.dup, 1) := dk_89 (dk_at dksX6_hear_2 7 rfl rfl)
theorem dX6_hear_55 : decode cX6_hear 55 = .ok (.getfield 333, 3) := dk_180 1 77 (dk_at dksX6_hear_2 8 rfl rfl)
theorem dX6_hear_58 : decode cX6_hear 58 = .ok (.iconst 1, 1) := dk_4 (dk_at dksX6_hear_2 11 rfl rfl)
theorem dX6_hear_59 : decode cX6_hear 59 = .ok (.iadd, 1) := dk_96 (dk_at dksX6_hear_2 12 rfl rfl)
theorem dX6_hear_60 : decode cX6_hear 60 = .ok (.putfield 333, 3) := dk_181 1 77 (dk_at dksX6_hear_2 13 rfl rfl)
theorem dX6_hear_63 : decode cX6_hear 63 = .ok (.aload_n 0, 1) := dk_42 (dk_at dksX6_hear_2 16 rfl rfl)
theorem dX6_hear_64 : decode cX6_hear 64 = .ok (.getfield 333, 3) := dk_180 1 77 (dk_at dksX6_hear_2 17 rfl rfl)
theorem dX6_hear_67 : decode cX6_hear 67 = .ok (.iconst 1, 1) := dk_4 (dk_at dksX6_hear_2 20 rfl rfl)
theorem dX6_hear_68 : decode cX6_hear 68 = .ok (.isub, 1) := dk_100 (dk_at dksX6_hear_2 21 rfl rfl)
theorem dX6_hear_69 : decode cX6_hear 69 = .ok (.ireturn, 1) := dk_172 (dk_at dksX6_hear_2 22 rfl rfl)
abbrev cX6_strike : ByteArray := prog_23_method_114_code
def yX6_strike : MethodName := ⟨RX6, "strike", "(I)I"⟩
def dkwX6_strike_2 : List UInt8 := [79, 42, 89, 180, 1, 77, 4, 96, 181, 1, 77, 42, 180, 1, 77, 4, 100, 172]
abbrev dktX6_strike_2 : List UInt8 := dkwX6_strike_2 ++ []
def dkwX6_strike_1 : List UInt8 := [160, 0, 5, 2, 172, 42, 180, 0, 157, 42, 180, 1, 77, 2, 79, 42, 180, 0, 160, 42, 180, 1, 77, 27]
abbrev dktX6_strike_1 : List UInt8 := dkwX6_strike_1 ++ dktX6_strike_2
def dkwX6_strike_0 : List UInt8 := [42, 3, 181, 0, 166, 27, 155, 0, 20, 27, 42, 180, 1, 77, 162, 0, 12, 42, 180, 1, 77, 16, 24]
abbrev dktX6_strike_0 : List UInt8 := dkwX6_strike_0 ++ dktX6_strike_1
theorem dksX6_strike_0 : cX6_strike.data.toList.drop 0 = dktX6_strike_0 := by decide +kernel
theorem dksX6_strike_1 : cX6_strike.data.toList.drop 23 = dktX6_strike_1 := dk_seg dksX6_strike_0 23 rfl rfl
theorem dksX6_strike_2 : cX6_strike.data.toList.drop 47 = dktX6_strike_2 := dk_seg dksX6_strike_1 24 rfl rfl
theorem dX6_strike_0 : decode cX6_strike 0 = .ok (.aload_n 0, 1) := dk_42 (dk_at dksX6_strike_0 0 rfl rfl)
theorem dX6_strike_1 : decode cX6_strike 1 = .ok (.iconst 0, 1) := dk_3 (dk_at dksX6_strike_0 1 rfl rfl)
theorem dX6_strike_2 : decode cX6_strike 2 = .ok (.putfield 166, 3) := dk_181 0 166 (dk_at dksX6_strike_0 2 rfl rfl)
theorem dX6_strike_5 : decode cX6_strike 5 = .ok (.iload_n 1, 1) := dk_27 (dk_at dksX6_strike_0 5 rfl rfl)
theorem dX6_strike_6 : decode cX6_strike 6 = .ok (.ifCond .lt 20, 3) := dk_155 0 20 (dk_at dksX6_strike_0 6 rfl rfl)
theorem dX6_strike_9 : decode cX6_strike 9 = .ok (.iload_n 1, 1) := dk_27 (dk_at dksX6_strike_0 9 rfl rfl)
theorem dX6_strike_10 : decode cX6_strike 10 = .ok (.aload_n 0, 1) := dk_42 (dk_at dksX6_strike_0 10 rfl rfl)
theorem dX6_strike_11 : decode cX6_strike 11 = .ok (.getfield 333, 3) := dk_180 1 77 (dk_at dksX6_strike_0 11 rfl rfl)
theorem dX6_strike_14 : decode cX6_strike 14 = .ok (.if_icmp .ge 12, 3) := dk_162 0 12 (dk_at dksX6_strike_0 14 rfl rfl)
theorem dX6_strike_17 : decode cX6_strike 17 = .ok (.aload_n 0, 1) := dk_42 (dk_at dksX6_strike_0 17 rfl rfl)
theorem dX6_strike_18 : decode cX6_strike 18 = .ok (.getfield 333, 3) := dk_180 1 77 (dk_at dksX6_strike_0 18 rfl rfl)
theorem dX6_strike_21 : decode cX6_strike 21 = .ok (.bipush 24, 2) := dk_16 24 (dk_at dksX6_strike_0 21 rfl rfl)
theorem dX6_strike_23 : decode cX6_strike 23 = .ok (.if_icmp .ne 5, 3) := dk_160 0 5 (dk_at dksX6_strike_1 0 rfl rfl)
theorem dX6_strike_26 : decode cX6_strike 26 = .ok (.iconst (-1), 1) := dk_2 (dk_at dksX6_strike_1 3 rfl rfl)
theorem dX6_strike_27 : decode cX6_strike 27 = .ok (.ireturn, 1) := dk_172 (dk_at dksX6_strike_1 4 rfl rfl)
theorem dX6_strike_28 : decode cX6_strike 28 = .ok (.aload_n 0, 1) := dk_42 (dk_at dksX6_strike_1 5 rfl rfl)
theorem dX6_strike_29 : decode cX6_strike 29 = .ok (.getfield 157, 3) := dk_180 0 157 (dk_at dksX6_strike_1 6 rfl rfl)
theorem dX6_strike_32 : decode cX6_strike 32 = .ok (.aload_n 0, 1) := dk_42 (dk_at dksX6_strike_1 9 rfl rfl)
theorem dX6_strike_33 : decode cX6_strike 33 = .ok (.getfield 333, 3) := dk_180 1 77 (dk_at dksX6_strike_1 10 rfl rfl)
theorem dX6_strike_36 : decode cX6_strike 36 = .ok (.iconst (-1), 1) := dk_2 (dk_at dksX6_strike_1 13 rfl rfl)
theorem dX6_strike_37 : decode cX6_strike 37 = .ok (.iastore, 1) := dk_79 (dk_at dksX6_strike_1 14 rfl rfl)
theorem dX6_strike_38 : decode cX6_strike 38 = .ok (.aload_n 0, 1) := dk_42 (dk_at dksX6_strike_1 15 rfl rfl)
theorem dX6_strike_39 : decode cX6_strike 39 = .ok (.getfield 160, 3) := dk_180 0 160 (dk_at dksX6_strike_1 16 rfl rfl)
theorem dX6_strike_42 : decode cX6_strike 42 = .ok (.aload_n 0, 1) := dk_42 (dk_at dksX6_strike_1 19 rfl rfl)
theorem dX6_strike_43 : decode cX6_strike 43 = .ok (.getfield 333, 3) := dk_180 1 77 (dk_at dksX6_strike_1 20 rfl rfl)
theorem dX6_strike_46 : decode cX6_strike 46 = .ok (.iload_n 1, 1) := dk_27 (dk_at dksX6_strike_1 23 rfl rfl)
theorem dX6_strike_47 : decode cX6_strike 47 = .ok (.iastore, 1) := dk_79 (dk_at dksX6_strike_2 0 rfl rfl)
theorem dX6_strike_48 : decode cX6_strike 48 = .ok (.aload_n 0, 1) := dk_42 (dk_at dksX6_strike_2 1 rfl rfl)
theorem dX6_strike_49 : decode cX6_strike 49 = .ok (.dup, 1) := dk_89 (dk_at dksX6_strike_2 2 rfl rfl)
theorem dX6_strike_50 : decode cX6_strike 50 = .ok (.getfield 333, 3) := dk_180 1 77 (dk_at dksX6_strike_2 3 rfl rfl)
theorem dX6_strike_53 : decode cX6_strike 53 = .ok (.iconst 1, 1) := dk_4 (dk_at dksX6_strike_2 6 rfl rfl)
theorem dX6_strike_54 : decode cX6_strike 54 = .ok (.iadd, 1) := dk_96 (dk_at dksX6_strike_2 7 rfl rfl)
theorem dX6_strike_55 : decode cX6_strike 55 = .ok (.putfield 333, 3) := dk_181 1 77 (dk_at dksX6_strike_2 8 rfl rfl)
theorem dX6_strike_58 : decode cX6_strike 58 = .ok (.aload_n 0, 1) := dk_42 (dk_at dksX6_strike_2 11 rfl rfl)
theorem dX6_strike_59 : decode cX6_strike 59 = .ok (.getfield 333, 3) := dk_180 1 77 (dk_at dksX6_strike_2 12 rfl rfl)
theorem dX6_strike_62 : decode cX6_strike 62 = .ok (.iconst 1, 1) := dk_4 (dk_at dksX6_strike_2 15 rfl rfl)
theorem dX6_strike_63 : decode cX6_strike 63 = .ok (.isub, 1) := dk_100 (dk_at dksX6_strike_2 16 rfl rfl)
theorem dX6_strike_64 : decode cX6_strike 64 = .ok (.ireturn, 1) := dk_172 (dk_at dksX6_strike_2 17 rfl rfl)
abbrev cX6_known : ByteArray := prog_23_method_115_code
def yX6_known : MethodName := ⟨RX6, "known", "(I)Z"⟩
def dkwX6_known_1 : List UInt8 := [181, 0, 154, 4, 172]
abbrev dktX6_known_1 : List UInt8 := dkwX6_known_1 ++ []
def dkwX6_known_0 : List UInt8 := [42, 3, 181, 0, 166, 27, 2, 161, 0, 11, 27, 42, 180, 1, 77, 164, 0, 5, 3, 172, 42, 27]
abbrev dktX6_known_0 : List UInt8 := dkwX6_known_0 ++ dktX6_known_1
theorem dksX6_known_0 : cX6_known.data.toList.drop 0 = dktX6_known_0 := by decide +kernel
theorem dksX6_known_1 : cX6_known.data.toList.drop 22 = dktX6_known_1 := dk_seg dksX6_known_0 22 rfl rfl
theorem dX6_known_0 : decode cX6_known 0 = .ok (.aload_n 0, 1) := dk_42 (dk_at dksX6_known_0 0 rfl rfl)
theorem dX6_known_1 : decode cX6_known 1 = .ok (.iconst 0, 1) := dk_3 (dk_at dksX6_known_0 1 rfl rfl)
theorem dX6_known_2 : decode cX6_known 2 = .ok (.putfield 166, 3) := dk_181 0 166 (dk_at dksX6_known_0 2 rfl rfl)
theorem dX6_known_5 : decode cX6_known 5 = .ok (.iload_n 1, 1) := dk_27 (dk_at dksX6_known_0 5 rfl rfl)
theorem dX6_known_6 : decode cX6_known 6 = .ok (.iconst (-1), 1) := dk_2 (dk_at dksX6_known_0 6 rfl rfl)
theorem dX6_known_7 : decode cX6_known 7 = .ok (.if_icmp .lt 11, 3) := dk_161 0 11 (dk_at dksX6_known_0 7 rfl rfl)
theorem dX6_known_10 : decode cX6_known 10 = .ok (.iload_n 1, 1) := dk_27 (dk_at dksX6_known_0 10 rfl rfl)
theorem dX6_known_11 : decode cX6_known 11 = .ok (.aload_n 0, 1) := dk_42 (dk_at dksX6_known_0 11 rfl rfl)
theorem dX6_known_12 : decode cX6_known 12 = .ok (.getfield 333, 3) := dk_180 1 77 (dk_at dksX6_known_0 12 rfl rfl)
theorem dX6_known_15 : decode cX6_known 15 = .ok (.if_icmp .le 5, 3) := dk_164 0 5 (dk_at dksX6_known_0 15 rfl rfl)
theorem dX6_known_18 : decode cX6_known 18 = .ok (.iconst 0, 1) := dk_3 (dk_at dksX6_known_0 18 rfl rfl)
theorem dX6_known_19 : decode cX6_known 19 = .ok (.ireturn, 1) := dk_172 (dk_at dksX6_known_0 19 rfl rfl)
theorem dX6_known_20 : decode cX6_known 20 = .ok (.aload_n 0, 1) := dk_42 (dk_at dksX6_known_0 20 rfl rfl)
theorem dX6_known_21 : decode cX6_known 21 = .ok (.iload_n 1, 1) := dk_27 (dk_at dksX6_known_0 21 rfl rfl)
theorem dX6_known_22 : decode cX6_known 22 = .ok (.putfield 154, 3) := dk_181 0 154 (dk_at dksX6_known_1 0 rfl rfl)
theorem dX6_known_25 : decode cX6_known 25 = .ok (.iconst 1, 1) := dk_4 (dk_at dksX6_known_1 3 rfl rfl)
theorem dX6_known_26 : decode cX6_known 26 = .ok (.ireturn, 1) := dk_172 (dk_at dksX6_known_1 4 rfl rfl)
abbrev cX6_fits : ByteArray := prog_23_method_118_code
def yX6_fits : MethodName := ⟨RX6, "fits", "()I"⟩
def dkwX6_fits_5 : List UInt8 := [153, 0, 9, 27, 4, 28, 120, 128, 60, 132, 2, 1, 167, 255, 209, 27, 172]
abbrev dktX6_fits_5 : List UInt8 := dkwX6_fits_5 ++ []
def dkwX6_fits_4 : List UInt8 := [42, 180, 0, 13, 8, 46, 162, 0, 9, 5, 28, 96, 167, 0, 4, 3, 181, 1, 96, 42, 182, 2, 62]
abbrev dktX6_fits_4 : List UInt8 := dkwX6_fits_4 ++ dktX6_fits_5
def dkwX6_fits_3 : List UInt8 := [4, 84, 132, 1, 255, 167, 255, 218, 3, 60, 3, 61, 28, 42, 180, 0, 13, 8, 46, 163, 0, 43, 42, 28]
abbrev dktX6_fits_3 : List UInt8 := dkwX6_fits_3 ++ dktX6_fits_4
def dkwX6_fits_2 : List UInt8 := [51, 154, 0, 25, 42, 180, 0, 157, 27, 46, 2, 160, 0, 15, 42, 180, 0, 163, 42, 180, 0, 160, 27, 46]
abbrev dktX6_fits_2 : List UInt8 := dkwX6_fits_2 ++ dktX6_fits_3
def dkwX6_fits_1 : List UInt8 := [3, 84, 132, 1, 1, 167, 255, 238, 42, 182, 2, 59, 4, 100, 60, 27, 155, 0, 40, 42, 180, 0, 163, 27]
abbrev dktX6_fits_1 : List UInt8 := dkwX6_fits_1 ++ dktX6_fits_2
def dkwX6_fits_0 : List UInt8 := [42, 3, 181, 0, 166, 42, 182, 1, 84, 3, 60, 27, 42, 182, 2, 59, 162, 0, 16, 42, 180, 0, 163, 27]
abbrev dktX6_fits_0 : List UInt8 := dkwX6_fits_0 ++ dktX6_fits_1
theorem dksX6_fits_0 : cX6_fits.data.toList.drop 0 = dktX6_fits_0 := by decide +kernel
theorem dksX6_fits_1 : cX6_fits.data.toList.drop 24 = dktX6_fits_1 := dk_seg dksX6_fits_0 24 rfl rfl
theorem dksX6_fits_2 : cX6_fits.data.toList.drop 48 = dktX6_fits_2 := dk_seg dksX6_fits_1 24 rfl rfl
theorem dksX6_fits_3 : cX6_fits.data.toList.drop 72 = dktX6_fits_3 := dk_seg dksX6_fits_2 24 rfl rfl
theorem dksX6_fits_4 : cX6_fits.data.toList.drop 96 = dktX6_fits_4 := dk_seg dksX6_fits_3 24 rfl rfl
theorem dksX6_fits_5 : cX6_fits.data.toList.drop 119 = dktX6_fits_5 := dk_seg dksX6_fits_4 23 rfl rfl
theorem dX6_fits_0 : decode cX6_fits 0 = .ok (.aload_n 0, 1) := dk_42 (dk_at dksX6_fits_0 0 rfl rfl)
theorem dX6_fits_1 : decode cX6_fits 1 = .ok (.iconst 0, 1) := dk_3 (dk_at dksX6_fits_0 1 rfl rfl)
theorem dX6_fits_2 : decode cX6_fits 2 = .ok (.putfield 166, 3) := dk_181 0 166 (dk_at dksX6_fits_0 2 rfl rfl)
theorem dX6_fits_5 : decode cX6_fits 5 = .ok (.aload_n 0, 1) := dk_42 (dk_at dksX6_fits_0 5 rfl rfl)
theorem dX6_fits_6 : decode cX6_fits 6 = .ok (.invokevirtual 340, 3) := dk_182 1 84 (dk_at dksX6_fits_0 6 rfl rfl)
theorem dX6_fits_9 : decode cX6_fits 9 = .ok (.iconst 0, 1) := dk_3 (dk_at dksX6_fits_0 9 rfl rfl)
theorem dX6_fits_10 : decode cX6_fits 10 = .ok (.istore_n 1, 1) := dk_60 (dk_at dksX6_fits_0 10 rfl rfl)
theorem dX6_fits_11 : decode cX6_fits 11 = .ok (.iload_n 1, 1) := dk_27 (dk_at dksX6_fits_0 11 rfl rfl)
theorem dX6_fits_12 : decode cX6_fits 12 = .ok (.aload_n 0, 1) := dk_42 (dk_at dksX6_fits_0 12 rfl rfl)
theorem dX6_fits_13 : decode cX6_fits 13 = .ok (.invokevirtual 571, 3) := dk_182 2 59 (dk_at dksX6_fits_0 13 rfl rfl)
theorem dX6_fits_16 : decode cX6_fits 16 = .ok (.if_icmp .ge 16, 3) := dk_162 0 16 (dk_at dksX6_fits_0 16 rfl rfl)
theorem dX6_fits_19 : decode cX6_fits 19 = .ok (.aload_n 0, 1) := dk_42 (dk_at dksX6_fits_0 19 rfl rfl)
theorem dX6_fits_20 : decode cX6_fits 20 = .ok (.getfield 163, 3) := dk_180 0 163 (dk_at dksX6_fits_0 20 rfl rfl)
theorem dX6_fits_23 : decode cX6_fits 23 = .ok (.iload_n 1, 1) := dk_27 (dk_at dksX6_fits_0 23 rfl rfl)
theorem dX6_fits_24 : decode cX6_fits 24 = .ok (.iconst 0, 1) := dk_3 (dk_at dksX6_fits_1 0 rfl rfl)
theorem dX6_fits_25 : decode cX6_fits 25 = .ok (.bastore, 1) := dk_84 (dk_at dksX6_fits_1 1 rfl rfl)
theorem dX6_fits_26 : decode cX6_fits 26 = .ok (.iinc 1 1, 3) := dk_132 1 1 (dk_at dksX6_fits_1 2 rfl rfl)
theorem dX6_fits_29 : decode cX6_fits 29 = .ok (.goto (-18), 3) := dk_167 255 238 (dk_at dksX6_fits_1 5 rfl rfl)
theorem dX6_fits_32 : decode cX6_fits 32 = .ok (.aload_n 0, 1) := dk_42 (dk_at dksX6_fits_1 8 rfl rfl)
theorem dX6_fits_33 : decode cX6_fits 33 = .ok (.invokevirtual 571, 3) := dk_182 2 59 (dk_at dksX6_fits_1 9 rfl rfl)
theorem dX6_fits_36 : decode cX6_fits 36 = .ok (.iconst 1, 1) := dk_4 (dk_at dksX6_fits_1 12 rfl rfl)
theorem dX6_fits_37 : decode cX6_fits 37 = .ok (.isub, 1) := dk_100 (dk_at dksX6_fits_1 13 rfl rfl)
theorem dX6_fits_38 : decode cX6_fits 38 = .ok (.istore_n 1, 1) := dk_60 (dk_at dksX6_fits_1 14 rfl rfl)
theorem dX6_fits_39 : decode cX6_fits 39 = .ok (.iload_n 1, 1) := dk_27 (dk_at dksX6_fits_1 15 rfl rfl)
theorem dX6_fits_40 : decode cX6_fits 40 = .ok (.ifCond .lt 40, 3) := dk_155 0 40 (dk_at dksX6_fits_1 16 rfl rfl)
theorem dX6_fits_43 : decode cX6_fits 43 = .ok (.aload_n 0, 1) := dk_42 (dk_at dksX6_fits_1 19 rfl rfl)
theorem dX6_fits_44 : decode cX6_fits 44 = .ok (.getfield 163, 3) := dk_180 0 163 (dk_at dksX6_fits_1 20 rfl rfl)
theorem dX6_fits_47 : decode cX6_fits 47 = .ok (.iload_n 1, 1) := dk_27 (dk_at dksX6_fits_1 23 rfl rfl)
theorem dX6_fits_48 : decode cX6_fits 48 = .ok (.baload, 1) := dk_51 (dk_at dksX6_fits_2 0 rfl rfl)
theorem dX6_fits_49 : decode cX6_fits 49 = .ok (.ifCond .ne 25, 3) := dk_154 0 25 (dk_at dksX6_fits_2 1 rfl rfl)
theorem dX6_fits_52 : decode cX6_fits 52 = .ok (.aload_n 0, 1) := dk_42 (dk_at dksX6_fits_2 4 rfl rfl)
theorem dX6_fits_53 : decode cX6_fits 53 = .ok (.getfield 157, 3) := dk_180 0 157 (dk_at dksX6_fits_2 5 rfl rfl)
theorem dX6_fits_56 : decode cX6_fits 56 = .ok (.iload_n 1, 1) := dk_27 (dk_at dksX6_fits_2 8 rfl rfl)
theorem dX6_fits_57 : decode cX6_fits 57 = .ok (.iaload, 1) := dk_46 (dk_at dksX6_fits_2 9 rfl rfl)
theorem dX6_fits_58 : decode cX6_fits 58 = .ok (.iconst (-1), 1) := dk_2 (dk_at dksX6_fits_2 10 rfl rfl)
theorem dX6_fits_59 : decode cX6_fits 59 = .ok (.if_icmp .ne 15, 3) := dk_160 0 15 (dk_at dksX6_fits_2 11 rfl rfl)
theorem dX6_fits_62 : decode cX6_fits 62 = .ok (.aload_n 0, 1) := dk_42 (dk_at dksX6_fits_2 14 rfl rfl)
theorem dX6_fits_63 : decode cX6_fits 63 = .ok (.getfield 163, 3) := dk_180 0 163 (dk_at dksX6_fits_2 15 rfl rfl)
theorem dX6_fits_66 : decode cX6_fits 66 = .ok (.aload_n 0, 1) := dk_42 (dk_at dksX6_fits_2 18 rfl rfl)
theorem dX6_fits_67 : decode cX6_fits 67 = .ok (.getfield 160, 3) := dk_180 0 160 (dk_at dksX6_fits_2 19 rfl rfl)
theorem dX6_fits_70 : decode cX6_fits 70 = .ok (.iload_n 1, 1) := dk_27 (dk_at dksX6_fits_2 22 rfl rfl)
theorem dX6_fits_71 : decode cX6_fits 71 = .ok (.iaload, 1) := dk_46 (dk_at dksX6_fits_2 23 rfl rfl)
theorem dX6_fits_72 : decode cX6_fits 72 = .ok (.iconst 1, 1) := dk_4 (dk_at dksX6_fits_3 0 rfl rfl)
theorem dX6_fits_73 : decode cX6_fits 73 = .ok (.bastore, 1) := dk_84 (dk_at dksX6_fits_3 1 rfl rfl)
theorem dX6_fits_74 : decode cX6_fits 74 = .ok (.iinc 1 (-1), 3) := dk_132 1 255 (dk_at dksX6_fits_3 2 rfl rfl)
theorem dX6_fits_77 : decode cX6_fits 77 = .ok (.goto (-38), 3) := dk_167 255 218 (dk_at dksX6_fits_3 5 rfl rfl)
theorem dX6_fits_80 : decode cX6_fits 80 = .ok (.iconst 0, 1) := dk_3 (dk_at dksX6_fits_3 8 rfl rfl)
theorem dX6_fits_81 : decode cX6_fits 81 = .ok (.istore_n 1, 1) := dk_60 (dk_at dksX6_fits_3 9 rfl rfl)
theorem dX6_fits_82 : decode cX6_fits 82 = .ok (.iconst 0, 1) := dk_3 (dk_at dksX6_fits_3 10 rfl rfl)
theorem dX6_fits_83 : decode cX6_fits 83 = .ok (.istore_n 2, 1) := dk_61 (dk_at dksX6_fits_3 11 rfl rfl)
theorem dX6_fits_84 : decode cX6_fits 84 = .ok (.iload_n 2, 1) := dk_28 (dk_at dksX6_fits_3 12 rfl rfl)
theorem dX6_fits_85 : decode cX6_fits 85 = .ok (.aload_n 0, 1) := dk_42 (dk_at dksX6_fits_3 13 rfl rfl)
theorem dX6_fits_86 : decode cX6_fits 86 = .ok (.getfield 13, 3) := dk_180 0 13 (dk_at dksX6_fits_3 14 rfl rfl)
theorem dX6_fits_89 : decode cX6_fits 89 = .ok (.iconst 5, 1) := dk_8 (dk_at dksX6_fits_3 17 rfl rfl)
theorem dX6_fits_90 : decode cX6_fits 90 = .ok (.iaload, 1) := dk_46 (dk_at dksX6_fits_3 18 rfl rfl)
theorem dX6_fits_91 : decode cX6_fits 91 = .ok (.if_icmp .gt 43, 3) := dk_163 0 43 (dk_at dksX6_fits_3 19 rfl rfl)
theorem dX6_fits_94 : decode cX6_fits 94 = .ok (.aload_n 0, 1) := dk_42 (dk_at dksX6_fits_3 22 rfl rfl)
theorem dX6_fits_95 : decode cX6_fits 95 = .ok (.iload_n 2, 1) := dk_28 (dk_at dksX6_fits_3 23 rfl rfl)
theorem dX6_fits_96 : decode cX6_fits 96 = .ok (.aload_n 0, 1) := dk_42 (dk_at dksX6_fits_4 0 rfl rfl)
theorem dX6_fits_97 : decode cX6_fits 97 = .ok (.getfield 13, 3) := dk_180 0 13 (dk_at dksX6_fits_4 1 rfl rfl)
theorem dX6_fits_100 : decode cX6_fits 100 = .ok (.iconst 5, 1) := dk_8 (dk_at dksX6_fits_4 4 rfl rfl)
theorem dX6_fits_101 : decode cX6_fits 101 = .ok (.iaload, 1) := dk_46 (dk_at dksX6_fits_4 5 rfl rfl)
theorem dX6_fits_102 : decode cX6_fits 102 = .ok (.if_icmp .ge 9, 3) := dk_162 0 9 (dk_at dksX6_fits_4 6 rfl rfl)
theorem dX6_fits_105 : decode cX6_fits 105 = .ok (.iconst 2, 1) := dk_5 (dk_at dksX6_fits_4 9 rfl rfl)
theorem dX6_fits_106 : decode cX6_fits 106 = .ok (.iload_n 2, 1) := dk_28 (dk_at dksX6_fits_4 10 rfl rfl)
theorem dX6_fits_107 : decode cX6_fits 107 = .ok (.iadd, 1) := dk_96 (dk_at dksX6_fits_4 11 rfl rfl)
theorem dX6_fits_108 : decode cX6_fits 108 = .ok (.goto 4, 3) := dk_167 0 4 (dk_at dksX6_fits_4 12 rfl rfl)
theorem dX6_fits_111 : decode cX6_fits 111 = .ok (.iconst 0, 1) := dk_3 (dk_at dksX6_fits_4 15 rfl rfl)
theorem dX6_fits_112 : decode cX6_fits 112 = .ok (.putfield 352, 3) := dk_181 1 96 (dk_at dksX6_fits_4 16 rfl rfl)
theorem dX6_fits_115 : decode cX6_fits 115 = .ok (.aload_n 0, 1) := dk_42 (dk_at dksX6_fits_4 19 rfl rfl)
theorem dX6_fits_116 : decode cX6_fits 116 = .ok (.invokevirtual 574, 3) := dk_182 2 62 (dk_at dksX6_fits_4 20 rfl rfl)
theorem dX6_fits_119 : decode cX6_fits 119 = .ok (.ifCond .eq 9, 3) := dk_153 0 9 (dk_at dksX6_fits_5 0 rfl rfl)
theorem dX6_fits_122 : decode cX6_fits 122 = .ok (.iload_n 1, 1) := dk_27 (dk_at dksX6_fits_5 3 rfl rfl)
theorem dX6_fits_123 : decode cX6_fits 123 = .ok (.iconst 1, 1) := dk_4 (dk_at dksX6_fits_5 4 rfl rfl)
theorem dX6_fits_124 : decode cX6_fits 124 = .ok (.iload_n 2, 1) := dk_28 (dk_at dksX6_fits_5 5 rfl rfl)
theorem dX6_fits_125 : decode cX6_fits 125 = .ok (.ishl, 1) := dk_120 (dk_at dksX6_fits_5 6 rfl rfl)
theorem dX6_fits_126 : decode cX6_fits 126 = .ok (.ior, 1) := dk_128 (dk_at dksX6_fits_5 7 rfl rfl)
theorem dX6_fits_127 : decode cX6_fits 127 = .ok (.istore_n 1, 1) := dk_60 (dk_at dksX6_fits_5 8 rfl rfl)
theorem dX6_fits_128 : decode cX6_fits 128 = .ok (.iinc 2 1, 3) := dk_132 2 1 (dk_at dksX6_fits_5 9 rfl rfl)
theorem dX6_fits_131 : decode cX6_fits 131 = .ok (.goto (-47), 3) := dk_167 255 209 (dk_at dksX6_fits_5 12 rfl rfl)
theorem dX6_fits_134 : decode cX6_fits 134 = .ok (.iload_n 1, 1) := dk_27 (dk_at dksX6_fits_5 15 rfl rfl)
theorem dX6_fits_135 : decode cX6_fits 135 = .ok (.ireturn, 1) := dk_172 (dk_at dksX6_fits_5 16 rfl rfl)
abbrev cX6_knownMany : ByteArray := prog_23_method_116_code
def yX6_knownMany : MethodName := ⟨RX6, "knownMany", "()I"⟩
def dkwX6_knownMany_0 : List UInt8 := [42, 180, 0, 154, 2, 160, 0, 10, 42, 180, 1, 77, 167, 0, 7, 42, 180, 0, 154, 172]
abbrev dktX6_knownMany_0 : List UInt8 := dkwX6_knownMany_0 ++ []
theorem dksX6_knownMany_0 : cX6_knownMany.data.toList.drop 0 = dktX6_knownMany_0 := by decide +kernel
theorem dX6_knownMany_0 : decode cX6_knownMany 0 = .ok (.aload_n 0, 1) := dk_42 (dk_at dksX6_knownMany_0 0 rfl rfl)
theorem dX6_knownMany_1 : decode cX6_knownMany 1 = .ok (.getfield 154, 3) := dk_180 0 154 (dk_at dksX6_knownMany_0 1 rfl rfl)
theorem dX6_knownMany_4 : decode cX6_knownMany 4 = .ok (.iconst (-1), 1) := dk_2 (dk_at dksX6_knownMany_0 4 rfl rfl)
theorem dX6_knownMany_5 : decode cX6_knownMany 5 = .ok (.if_icmp .ne 10, 3) := dk_160 0 10 (dk_at dksX6_knownMany_0 5 rfl rfl)
theorem dX6_knownMany_8 : decode cX6_knownMany 8 = .ok (.aload_n 0, 1) := dk_42 (dk_at dksX6_knownMany_0 8 rfl rfl)
theorem dX6_knownMany_9 : decode cX6_knownMany 9 = .ok (.getfield 333, 3) := dk_180 1 77 (dk_at dksX6_knownMany_0 9 rfl rfl)
theorem dX6_knownMany_12 : decode cX6_knownMany 12 = .ok (.goto 7, 3) := dk_167 0 7 (dk_at dksX6_knownMany_0 12 rfl rfl)
theorem dX6_knownMany_15 : decode cX6_knownMany 15 = .ok (.aload_n 0, 1) := dk_42 (dk_at dksX6_knownMany_0 15 rfl rfl)
theorem dX6_knownMany_16 : decode cX6_knownMany 16 = .ok (.getfield 154, 3) := dk_180 0 154 (dk_at dksX6_knownMany_0 16 rfl rfl)
theorem dX6_knownMany_19 : decode cX6_knownMany 19 = .ok (.ireturn, 1) := dk_172 (dk_at dksX6_knownMany_0 19 rfl rfl)
abbrev cX6_goesAsHeard : ByteArray := prog_23_method_117_code
def yX6_goesAsHeard : MethodName := ⟨RX6, "goesAsHeard", "()Z"⟩
def dkwX6_goesAsHeard_3 : List UInt8 := [46, 159, 0, 5, 3, 172, 132, 1, 1, 167, 255, 201, 4, 172]
abbrev dktX6_goesAsHeard_3 : List UInt8 := dkwX6_goesAsHeard_3 ++ []
def dkwX6_goesAsHeard_2 : List UInt8 := [46, 2, 159, 0, 28, 42, 180, 0, 112, 16, 16, 42, 180, 0, 157, 27, 46, 96, 46, 42, 180, 0, 160, 27]
abbrev dktX6_goesAsHeard_2 : List UInt8 := dkwX6_goesAsHeard_2 ++ dktX6_goesAsHeard_3
def dkwX6_goesAsHeard_1 : List UInt8 := [3, 60, 27, 42, 182, 2, 59, 162, 0, 53, 42, 180, 0, 163, 27, 51, 154, 0, 38, 42, 180, 0, 157, 27]
abbrev dktX6_goesAsHeard_1 : List UInt8 := dkwX6_goesAsHeard_1 ++ dktX6_goesAsHeard_2
def dkwX6_goesAsHeard_0 : List UInt8 := [42, 4, 182, 1, 87, 3, 60, 27, 16, 61, 162, 0, 14, 42, 4, 182, 1, 199, 132, 1, 1, 167, 255, 242]
abbrev dktX6_goesAsHeard_0 : List UInt8 := dkwX6_goesAsHeard_0 ++ dktX6_goesAsHeard_1
theorem dksX6_goesAsHeard_0 : cX6_goesAsHeard.data.toList.drop 0 = dktX6_goesAsHeard_0 := by decide +kernel
theorem dksX6_goesAsHeard_1 : cX6_goesAsHeard.data.toList.drop 24 = dktX6_goesAsHeard_1 := dk_seg dksX6_goesAsHeard_0 24 rfl rfl
theorem dksX6_goesAsHeard_2 : cX6_goesAsHeard.data.toList.drop 48 = dktX6_goesAsHeard_2 := dk_seg dksX6_goesAsHeard_1 24 rfl rfl
theorem dksX6_goesAsHeard_3 : cX6_goesAsHeard.data.toList.drop 72 = dktX6_goesAsHeard_3 := dk_seg dksX6_goesAsHeard_2 24 rfl rfl
theorem dX6_goesAsHeard_0 : decode cX6_goesAsHeard 0 = .ok (.aload_n 0, 1) := dk_42 (dk_at dksX6_goesAsHeard_0 0 rfl rfl)
theorem dX6_goesAsHeard_1 : decode cX6_goesAsHeard 1 = .ok (.iconst 1, 1) := dk_4 (dk_at dksX6_goesAsHeard_0 1 rfl rfl)
theorem dX6_goesAsHeard_2 : decode cX6_goesAsHeard 2 = .ok (.invokevirtual 343, 3) := dk_182 1 87 (dk_at dksX6_goesAsHeard_0 2 rfl rfl)
theorem dX6_goesAsHeard_5 : decode cX6_goesAsHeard 5 = .ok (.iconst 0, 1) := dk_3 (dk_at dksX6_goesAsHeard_0 5 rfl rfl)
theorem dX6_goesAsHeard_6 : decode cX6_goesAsHeard 6 = .ok (.istore_n 1, 1) := dk_60 (dk_at dksX6_goesAsHeard_0 6 rfl rfl)
theorem dX6_goesAsHeard_7 : decode cX6_goesAsHeard 7 = .ok (.iload_n 1, 1) := dk_27 (dk_at dksX6_goesAsHeard_0 7 rfl rfl)
theorem dX6_goesAsHeard_8 : decode cX6_goesAsHeard 8 = .ok (.bipush 61, 2) := dk_16 61 (dk_at dksX6_goesAsHeard_0 8 rfl rfl)
theorem dX6_goesAsHeard_10 : decode cX6_goesAsHeard 10 = .ok (.if_icmp .ge 14, 3) := dk_162 0 14 (dk_at dksX6_goesAsHeard_0 10 rfl rfl)
theorem dX6_goesAsHeard_13 : decode cX6_goesAsHeard 13 = .ok (.aload_n 0, 1) := dk_42 (dk_at dksX6_goesAsHeard_0 13 rfl rfl)
theorem dX6_goesAsHeard_14 : decode cX6_goesAsHeard 14 = .ok (.iconst 1, 1) := dk_4 (dk_at dksX6_goesAsHeard_0 14 rfl rfl)
theorem dX6_goesAsHeard_15 : decode cX6_goesAsHeard 15 = .ok (.invokevirtual 455, 3) := dk_182 1 199 (dk_at dksX6_goesAsHeard_0 15 rfl rfl)
theorem dX6_goesAsHeard_18 : decode cX6_goesAsHeard 18 = .ok (.iinc 1 1, 3) := dk_132 1 1 (dk_at dksX6_goesAsHeard_0 18 rfl rfl)
theorem dX6_goesAsHeard_21 : decode cX6_goesAsHeard 21 = .ok (.goto (-14), 3) := dk_167 255 242 (dk_at dksX6_goesAsHeard_0 21 rfl rfl)
theorem dX6_goesAsHeard_24 : decode cX6_goesAsHeard 24 = .ok (.iconst 0, 1) := dk_3 (dk_at dksX6_goesAsHeard_1 0 rfl rfl)
theorem dX6_goesAsHeard_25 : decode cX6_goesAsHeard 25 = .ok (.istore_n 1, 1) := dk_60 (dk_at dksX6_goesAsHeard_1 1 rfl rfl)
theorem dX6_goesAsHeard_26 : decode cX6_goesAsHeard 26 = .ok (.iload_n 1, 1) := dk_27 (dk_at dksX6_goesAsHeard_1 2 rfl rfl)
theorem dX6_goesAsHeard_27 : decode cX6_goesAsHeard 27 = .ok (.aload_n 0, 1) := dk_42 (dk_at dksX6_goesAsHeard_1 3 rfl rfl)
theorem dX6_goesAsHeard_28 : decode cX6_goesAsHeard 28 = .ok (.invokevirtual 571, 3) := dk_182 2 59 (dk_at dksX6_goesAsHeard_1 4 rfl rfl)
theorem dX6_goesAsHeard_31 : decode cX6_goesAsHeard 31 = .ok (.if_icmp .ge 53, 3) := dk_162 0 53 (dk_at dksX6_goesAsHeard_1 7 rfl rfl)
theorem dX6_goesAsHeard_34 : decode cX6_goesAsHeard 34 = .ok (.aload_n 0, 1) := dk_42 (dk_at dksX6_goesAsHeard_1 10 rfl rfl)
theorem dX6_goesAsHeard_35 : decode cX6_goesAsHeard 35 = .ok (.getfield 163, 3) := dk_180 0 163 (dk_at dksX6_goesAsHeard_1 11 rfl rfl)
theorem dX6_goesAsHeard_38 : decode cX6_goesAsHeard 38 = .ok (.iload_n 1, 1) := dk_27 (dk_at dksX6_goesAsHeard_1 14 rfl rfl)
theorem dX6_goesAsHeard_39 : decode cX6_goesAsHeard 39 = .ok (.baload, 1) := dk_51 (dk_at dksX6_goesAsHeard_1 15 rfl rfl)
theorem dX6_goesAsHeard_40 : decode cX6_goesAsHeard 40 = .ok (.ifCond .ne 38, 3) := dk_154 0 38 (dk_at dksX6_goesAsHeard_1 16 rfl rfl)
theorem dX6_goesAsHeard_43 : decode cX6_goesAsHeard 43 = .ok (.aload_n 0, 1) := dk_42 (dk_at dksX6_goesAsHeard_1 19 rfl rfl)
theorem dX6_goesAsHeard_44 : decode cX6_goesAsHeard 44 = .ok (.getfield 157, 3) := dk_180 0 157 (dk_at dksX6_goesAsHeard_1 20 rfl rfl)
theorem dX6_goesAsHeard_47 : decode cX6_goesAsHeard 47 = .ok (.iload_n 1, 1) := dk_27 (dk_at dksX6_goesAsHeard_1 23 rfl rfl)
theorem dX6_goesAsHeard_48 : decode cX6_goesAsHeard 48 = .ok (.iaload, 1) := dk_46 (dk_at dksX6_goesAsHeard_2 0 rfl rfl)
theorem dX6_goesAsHeard_49 : decode cX6_goesAsHeard 49 = .ok (.iconst (-1), 1) := dk_2 (dk_at dksX6_goesAsHeard_2 1 rfl rfl)
theorem dX6_goesAsHeard_50 : decode cX6_goesAsHeard 50 = .ok (.if_icmp .eq 28, 3) := dk_159 0 28 (dk_at dksX6_goesAsHeard_2 2 rfl rfl)
theorem dX6_goesAsHeard_53 : decode cX6_goesAsHeard 53 = .ok (.aload_n 0, 1) := dk_42 (dk_at dksX6_goesAsHeard_2 5 rfl rfl)
theorem dX6_goesAsHeard_54 : decode cX6_goesAsHeard 54 = .ok (.getfield 112, 3) := dk_180 0 112 (dk_at dksX6_goesAsHeard_2 6 rfl rfl)
theorem dX6_goesAsHeard_57 : decode cX6_goesAsHeard 57 = .ok (.bipush 16, 2) := dk_16 16 (dk_at dksX6_goesAsHeard_2 9 rfl rfl)
theorem dX6_goesAsHeard_59 : decode cX6_goesAsHeard 59 = .ok (.aload_n 0, 1) := dk_42 (dk_at dksX6_goesAsHeard_2 11 rfl rfl)
theorem dX6_goesAsHeard_60 : decode cX6_goesAsHeard 60 = .ok (.getfield 157, 3) := dk_180 0 157 (dk_at dksX6_goesAsHeard_2 12 rfl rfl)
theorem dX6_goesAsHeard_63 : decode cX6_goesAsHeard 63 = .ok (.iload_n 1, 1) := dk_27 (dk_at dksX6_goesAsHeard_2 15 rfl rfl)
theorem dX6_goesAsHeard_64 : decode cX6_goesAsHeard 64 = .ok (.iaload, 1) := dk_46 (dk_at dksX6_goesAsHeard_2 16 rfl rfl)
theorem dX6_goesAsHeard_65 : decode cX6_goesAsHeard 65 = .ok (.iadd, 1) := dk_96 (dk_at dksX6_goesAsHeard_2 17 rfl rfl)
theorem dX6_goesAsHeard_66 : decode cX6_goesAsHeard 66 = .ok (.iaload, 1) := dk_46 (dk_at dksX6_goesAsHeard_2 18 rfl rfl)
theorem dX6_goesAsHeard_67 : decode cX6_goesAsHeard 67 = .ok (.aload_n 0, 1) := dk_42 (dk_at dksX6_goesAsHeard_2 19 rfl rfl)
theorem dX6_goesAsHeard_68 : decode cX6_goesAsHeard 68 = .ok (.getfield 160, 3) := dk_180 0 160 (dk_at dksX6_goesAsHeard_2 20 rfl rfl)
theorem dX6_goesAsHeard_71 : decode cX6_goesAsHeard 71 = .ok (.iload_n 1, 1) := dk_27 (dk_at dksX6_goesAsHeard_2 23 rfl rfl)
theorem dX6_goesAsHeard_72 : decode cX6_goesAsHeard 72 = .ok (.iaload, 1) := dk_46 (dk_at dksX6_goesAsHeard_3 0 rfl rfl)
theorem dX6_goesAsHeard_73 : decode cX6_goesAsHeard 73 = .ok (.if_icmp .eq 5, 3) := dk_159 0 5 (dk_at dksX6_goesAsHeard_3 1 rfl rfl)
theorem dX6_goesAsHeard_76 : decode cX6_goesAsHeard 76 = .ok (.iconst 0, 1) := dk_3 (dk_at dksX6_goesAsHeard_3 4 rfl rfl)
theorem dX6_goesAsHeard_77 : decode cX6_goesAsHeard 77 = .ok (.ireturn, 1) := dk_172 (dk_at dksX6_goesAsHeard_3 5 rfl rfl)
theorem dX6_goesAsHeard_78 : decode cX6_goesAsHeard 78 = .ok (.iinc 1 1, 3) := dk_132 1 1 (dk_at dksX6_goesAsHeard_3 6 rfl rfl)
theorem dX6_goesAsHeard_81 : decode cX6_goesAsHeard 81 = .ok (.goto (-55), 3) := dk_167 255 201 (dk_at dksX6_goesAsHeard_3 9 rfl rfl)
theorem dX6_goesAsHeard_84 : decode cX6_goesAsHeard 84 = .ok (.iconst 1, 1) := dk_4 (dk_at dksX6_goesAsHeard_3 12 rfl rfl)
theorem dX6_goesAsHeard_85 : decode cX6_goesAsHeard 85 = .ok (.ireturn, 1) := dk_172 (dk_at dksX6_goesAsHeard_3 13 rfl rfl)
abbrev cX6_tried : ByteArray := prog_23_method_119_code
def yX6_tried : MethodName := ⟨RX6, "tried", "(III)I"⟩
def dkwX6_tried_5 : List UInt8 := [182, 1, 199, 132, 5, 1, 167, 255, 237, 42, 180, 0, 102, 7, 29, 96, 46, 172]
abbrev dktX6_tried_5 : List UInt8 := dkwX6_tried_5 ++ []
def dkwX6_tried_4 : List UInt8 := [181, 1, 93, 42, 4, 182, 1, 87, 3, 54, 5, 21, 5, 42, 180, 0, 87, 3, 46, 162, 0, 14, 42, 4]
abbrev dktX6_tried_4 : List UInt8 := dkwX6_tried_4 ++ dktX6_tried_5
def dkwX6_tried_3 : List UInt8 := [153, 0, 11, 42, 29, 182, 1, 196, 154, 0, 5, 2, 172, 42, 182, 1, 84, 42, 27, 181, 1, 90, 42, 28]
abbrev dktX6_tried_3 : List UInt8 := dkwX6_tried_3 ++ dktX6_tried_4
def dkwX6_tried_2 : List UInt8 := [155, 0, 17, 28, 42, 180, 0, 13, 5, 46, 162, 0, 7, 4, 167, 0, 4, 3, 54, 4, 21, 4]
abbrev dktX6_tried_2 : List UInt8 := dkwX6_tried_2 ++ dktX6_tried_3
def dkwX6_tried_1 : List UInt8 := [167, 0, 40, 27, 7, 160, 0, 11, 42, 28, 182, 1, 196, 167, 0, 27, 27, 8, 160, 0, 21, 28]
abbrev dktX6_tried_1 : List UInt8 := dkwX6_tried_1 ++ dktX6_tried_2
def dkwX6_tried_0 : List UInt8 := [42, 3, 181, 0, 166, 27, 155, 0, 20, 27, 6, 163, 0, 15, 28, 154, 0, 7, 4, 167, 0, 44, 3]
abbrev dktX6_tried_0 : List UInt8 := dkwX6_tried_0 ++ dktX6_tried_1
theorem dksX6_tried_0 : cX6_tried.data.toList.drop 0 = dktX6_tried_0 := by decide +kernel
theorem dksX6_tried_1 : cX6_tried.data.toList.drop 23 = dktX6_tried_1 := dk_seg dksX6_tried_0 23 rfl rfl
theorem dksX6_tried_2 : cX6_tried.data.toList.drop 45 = dktX6_tried_2 := dk_seg dksX6_tried_1 22 rfl rfl
theorem dksX6_tried_3 : cX6_tried.data.toList.drop 67 = dktX6_tried_3 := dk_seg dksX6_tried_2 22 rfl rfl
theorem dksX6_tried_4 : cX6_tried.data.toList.drop 91 = dktX6_tried_4 := dk_seg dksX6_tried_3 24 rfl rfl
theorem dksX6_tried_5 : cX6_tried.data.toList.drop 115 = dktX6_tried_5 := dk_seg dksX6_tried_4 24 rfl rfl
theorem dX6_tried_0 : decode cX6_tried 0 = .ok (.aload_n 0, 1) := dk_42 (dk_at dksX6_tried_0 0 rfl rfl)
theorem dX6_tried_1 : decode cX6_tried 1 = .ok (.iconst 0, 1) := dk_3 (dk_at dksX6_tried_0 1 rfl rfl)
theorem dX6_tried_2 : decode cX6_tried 2 = .ok (.putfield 166, 3) := dk_181 0 166 (dk_at dksX6_tried_0 2 rfl rfl)
theorem dX6_tried_5 : decode cX6_tried 5 = .ok (.iload_n 1, 1) := dk_27 (dk_at dksX6_tried_0 5 rfl rfl)
theorem dX6_tried_6 : decode cX6_tried 6 = .ok (.ifCond .lt 20, 3) := dk_155 0 20 (dk_at dksX6_tried_0 6 rfl rfl)
theorem dX6_tried_9 : decode cX6_tried 9 = .ok (.iload_n 1, 1) := dk_27 (dk_at dksX6_tried_0 9 rfl rfl)
theorem dX6_tried_10 : decode cX6_tried 10 = .ok (.iconst 3, 1) := dk_6 (dk_at dksX6_tried_0 10 rfl rfl)
theorem dX6_tried_11 : decode cX6_tried 11 = .ok (.if_icmp .gt 15, 3) := dk_163 0 15 (dk_at dksX6_tried_0 11 rfl rfl)
theorem dX6_tried_14 : decode cX6_tried 14 = .ok (.iload_n 2, 1) := dk_28 (dk_at dksX6_tried_0 14 rfl rfl)
theorem dX6_tried_15 : decode cX6_tried 15 = .ok (.ifCond .ne 7, 3) := dk_154 0 7 (dk_at dksX6_tried_0 15 rfl rfl)
theorem dX6_tried_18 : decode cX6_tried 18 = .ok (.iconst 1, 1) := dk_4 (dk_at dksX6_tried_0 18 rfl rfl)
theorem dX6_tried_19 : decode cX6_tried 19 = .ok (.goto 44, 3) := dk_167 0 44 (dk_at dksX6_tried_0 19 rfl rfl)
theorem dX6_tried_22 : decode cX6_tried 22 = .ok (.iconst 0, 1) := dk_3 (dk_at dksX6_tried_0 22 rfl rfl)
theorem dX6_tried_23 : decode cX6_tried 23 = .ok (.goto 40, 3) := dk_167 0 40 (dk_at dksX6_tried_1 0 rfl rfl)
theorem dX6_tried_26 : decode cX6_tried 26 = .ok (.iload_n 1, 1) := dk_27 (dk_at dksX6_tried_1 3 rfl rfl)
theorem dX6_tried_27 : decode cX6_tried 27 = .ok (.iconst 4, 1) := dk_7 (dk_at dksX6_tried_1 4 rfl rfl)
theorem dX6_tried_28 : decode cX6_tried 28 = .ok (.if_icmp .ne 11, 3) := dk_160 0 11 (dk_at dksX6_tried_1 5 rfl rfl)
theorem dX6_tried_31 : decode cX6_tried 31 = .ok (.aload_n 0, 1) := dk_42 (dk_at dksX6_tried_1 8 rfl rfl)
theorem dX6_tried_32 : decode cX6_tried 32 = .ok (.iload_n 2, 1) := dk_28 (dk_at dksX6_tried_1 9 rfl rfl)
theorem dX6_tried_33 : decode cX6_tried 33 = .ok (.invokevirtual 452, 3) := dk_182 1 196 (dk_at dksX6_tried_1 10 rfl rfl)
theorem dX6_tried_36 : decode cX6_tried 36 = .ok (.goto 27, 3) := dk_167 0 27 (dk_at dksX6_tried_1 13 rfl rfl)
theorem dX6_tried_39 : decode cX6_tried 39 = .ok (.iload_n 1, 1) := dk_27 (dk_at dksX6_tried_1 16 rfl rfl)
theorem dX6_tried_40 : decode cX6_tried 40 = .ok (.iconst 5, 1) := dk_8 (dk_at dksX6_tried_1 17 rfl rfl)
theorem dX6_tried_41 : decode cX6_tried 41 = .ok (.if_icmp .ne 21, 3) := dk_160 0 21 (dk_at dksX6_tried_1 18 rfl rfl)
theorem dX6_tried_44 : decode cX6_tried 44 = .ok (.iload_n 2, 1) := dk_28 (dk_at dksX6_tried_1 21 rfl rfl)
theorem dX6_tried_45 : decode cX6_tried 45 = .ok (.ifCond .lt 17, 3) := dk_155 0 17 (dk_at dksX6_tried_2 0 rfl rfl)
theorem dX6_tried_48 : decode cX6_tried 48 = .ok (.iload_n 2, 1) := dk_28 (dk_at dksX6_tried_2 3 rfl rfl)
theorem dX6_tried_49 : decode cX6_tried 49 = .ok (.aload_n 0, 1) := dk_42 (dk_at dksX6_tried_2 4 rfl rfl)
theorem dX6_tried_50 : decode cX6_tried 50 = .ok (.getfield 13, 3) := dk_180 0 13 (dk_at dksX6_tried_2 5 rfl rfl)
theorem dX6_tried_53 : decode cX6_tried 53 = .ok (.iconst 2, 1) := dk_5 (dk_at dksX6_tried_2 8 rfl rfl)
theorem dX6_tried_54 : decode cX6_tried 54 = .ok (.iaload, 1) := dk_46 (dk_at dksX6_tried_2 9 rfl rfl)
theorem dX6_tried_55 : decode cX6_tried 55 = .ok (.if_icmp .ge 7, 3) := dk_162 0 7 (dk_at dksX6_tried_2 10 rfl rfl)
theorem dX6_tried_58 : decode cX6_tried 58 = .ok (.iconst 1, 1) := dk_4 (dk_at dksX6_tried_2 13 rfl rfl)
theorem dX6_tried_59 : decode cX6_tried 59 = .ok (.goto 4, 3) := dk_167 0 4 (dk_at dksX6_tried_2 14 rfl rfl)
theorem dX6_tried_62 : decode cX6_tried 62 = .ok (.iconst 0, 1) := dk_3 (dk_at dksX6_tried_2 17 rfl rfl)
theorem dX6_tried_63 : decode cX6_tried 63 = .ok (.istore 4, 2) := dk_54 4 (dk_at dksX6_tried_2 18 rfl rfl)
theorem dX6_tried_65 : decode cX6_tried 65 = .ok (.iload 4, 2) := dk_21 4 (dk_at dksX6_tried_2 20 rfl rfl)
theorem dX6_tried_67 : decode cX6_tried 67 = .ok (.ifCond .eq 11, 3) := dk_153 0 11 (dk_at dksX6_tried_3 0 rfl rfl)
theorem dX6_tried_70 : decode cX6_tried 70 = .ok (.aload_n 0, 1) := dk_42 (dk_at dksX6_tried_3 3 rfl rfl)
theorem dX6_tried_71 : decode cX6_tried 71 = .ok (.iload_n 3, 1) := dk_29 (dk_at dksX6_tried_3 4 rfl rfl)
theorem dX6_tried_72 : decode cX6_tried 72 = .ok (.invokevirtual 452, 3) := dk_182 1 196 (dk_at dksX6_tried_3 5 rfl rfl)
theorem dX6_tried_75 : decode cX6_tried 75 = .ok (.ifCond .ne 5, 3) := dk_154 0 5 (dk_at dksX6_tried_3 8 rfl rfl)
theorem dX6_tried_78 : decode cX6_tried 78 = .ok (.iconst (-1), 1) := dk_2 (dk_at dksX6_tried_3 11 rfl rfl)
theorem dX6_tried_79 : decode cX6_tried 79 = .ok (.ireturn, 1) := dk_172 (dk_at dksX6_tried_3 12 rfl rfl)
theorem dX6_tried_80 : decode cX6_tried 80 = .ok (.aload_n 0, 1) := dk_42 (dk_at dksX6_tried_3 13 rfl rfl)
theorem dX6_tried_81 : decode cX6_tried 81 = .ok (.invokevirtual 340, 3) := dk_182 1 84 (dk_at dksX6_tried_3 14 rfl rfl)
theorem dX6_tried_84 : decode cX6_tried 84 = .ok (.aload_n 0, 1) := dk_42 (dk_at dksX6_tried_3 17 rfl rfl)
theorem dX6_tried_85 : decode cX6_tried 85 = .ok (.iload_n 1, 1) := dk_27 (dk_at dksX6_tried_3 18 rfl rfl)
theorem dX6_tried_86 : decode cX6_tried 86 = .ok (.putfield 346, 3) := dk_181 1 90 (dk_at dksX6_tried_3 19 rfl rfl)
theorem dX6_tried_89 : decode cX6_tried 89 = .ok (.aload_n 0, 1) := dk_42 (dk_at dksX6_tried_3 22 rfl rfl)
theorem dX6_tried_90 : decode cX6_tried 90 = .ok (.iload_n 2, 1) := dk_28 (dk_at dksX6_tried_3 23 rfl rfl)
theorem dX6_tried_91 : decode cX6_tried 91 = .ok (.putfield 349, 3) := dk_181 1 93 (dk_at dksX6_tried_4 0 rfl rfl)
theorem dX6_tried_94 : decode cX6_tried 94 = .ok (.aload_n 0, 1) := dk_42 (dk_at dksX6_tried_4 3 rfl rfl)
theorem dX6_tried_95 : decode cX6_tried 95 = .ok (.iconst 1, 1) := dk_4 (dk_at dksX6_tried_4 4 rfl rfl)
theorem dX6_tried_96 : decode cX6_tried 96 = .ok (.invokevirtual 343, 3) := dk_182 1 87 (dk_at dksX6_tried_4 5 rfl rfl)
theorem dX6_tried_99 : decode cX6_tried 99 = .ok (.iconst 0, 1) := dk_3 (dk_at dksX6_tried_4 8 rfl rfl)
theorem dX6_tried_100 : decode cX6_tried 100 = .ok (.istore 5, 2) := dk_54 5 (dk_at dksX6_tried_4 9 rfl rfl)
theorem dX6_tried_102 : decode cX6_tried 102 = .ok (.iload 5, 2) := dk_21 5 (dk_at dksX6_tried_4 11 rfl rfl)
theorem dX6_tried_104 : decode cX6_tried 104 = .ok (.aload_n 0, 1) := dk_42 (dk_at dksX6_tried_4 13 rfl rfl)
theorem dX6_tried_105 : decode cX6_tried 105 = .ok (.getfield 87, 3) := dk_180 0 87 (dk_at dksX6_tried_4 14 rfl rfl)
theorem dX6_tried_108 : decode cX6_tried 108 = .ok (.iconst 0, 1) := dk_3 (dk_at dksX6_tried_4 17 rfl rfl)
theorem dX6_tried_109 : decode cX6_tried 109 = .ok (.iaload, 1) := dk_46 (dk_at dksX6_tried_4 18 rfl rfl)
theorem dX6_tried_110 : decode cX6_tried 110 = .ok (.if_icmp .ge 14, 3) := dk_162 0 14 (dk_at dksX6_tried_4 19 rfl rfl)
theorem dX6_tried_113 : decode cX6_tried 113 = .ok (.aload_n 0, 1) := dk_42 (dk_at dksX6_tried_4 22 rfl rfl)
theorem dX6_tried_114 : decode cX6_tried 114 = .ok (.iconst 1, 1) := dk_4 (dk_at dksX6_tried_4 23 rfl rfl)
theorem dX6_tried_115 : decode cX6_tried 115 = .ok (.invokevirtual 455, 3) := dk_182 1 199 (dk_at dksX6_tried_5 0 rfl rfl)
theorem dX6_tried_118 : decode cX6_tried 118 = .ok (.iinc 5 1, 3) := dk_132 5 1 (dk_at dksX6_tried_5 3 rfl rfl)
theorem dX6_tried_121 : decode cX6_tried 121 = .ok (.goto (-19), 3) := dk_167 255 237 (dk_at dksX6_tried_5 6 rfl rfl)
theorem dX6_tried_124 : decode cX6_tried 124 = .ok (.aload_n 0, 1) := dk_42 (dk_at dksX6_tried_5 9 rfl rfl)
theorem dX6_tried_125 : decode cX6_tried 125 = .ok (.getfield 102, 3) := dk_180 0 102 (dk_at dksX6_tried_5 10 rfl rfl)
theorem dX6_tried_128 : decode cX6_tried 128 = .ok (.iconst 4, 1) := dk_7 (dk_at dksX6_tried_5 13 rfl rfl)
theorem dX6_tried_129 : decode cX6_tried 129 = .ok (.iload_n 3, 1) := dk_29 (dk_at dksX6_tried_5 14 rfl rfl)
theorem dX6_tried_130 : decode cX6_tried 130 = .ok (.iadd, 1) := dk_96 (dk_at dksX6_tried_5 15 rfl rfl)
theorem dX6_tried_131 : decode cX6_tried 131 = .ok (.iaload, 1) := dk_46 (dk_at dksX6_tried_5 16 rfl rfl)
theorem dX6_tried_132 : decode cX6_tried 132 = .ok (.ireturn, 1) := dk_172 (dk_at dksX6_tried_5 17 rfl rfl)
abbrev cX6_keep : ByteArray := prog_23_method_120_code
def yX6_keep : MethodName := ⟨RX6, "keep", "()I"⟩
def dkwX6_keep_0 : List UInt8 := [42, 3, 181, 0, 166, 42, 5, 3, 182, 2, 66, 42, 4, 181, 1, 80, 42, 180, 0, 87, 3, 46, 172]
abbrev dktX6_keep_0 : List UInt8 := dkwX6_keep_0 ++ []
theorem dksX6_keep_0 : cX6_keep.data.toList.drop 0 = dktX6_keep_0 := by decide +kernel
theorem dX6_keep_0 : decode cX6_keep 0 = .ok (.aload_n 0, 1) := dk_42 (dk_at dksX6_keep_0 0 rfl rfl)
theorem dX6_keep_1 : decode cX6_keep 1 = .ok (.iconst 0, 1) := dk_3 (dk_at dksX6_keep_0 1 rfl rfl)
theorem dX6_keep_2 : decode cX6_keep 2 = .ok (.putfield 166, 3) := dk_181 0 166 (dk_at dksX6_keep_0 2 rfl rfl)
theorem dX6_keep_5 : decode cX6_keep 5 = .ok (.aload_n 0, 1) := dk_42 (dk_at dksX6_keep_0 5 rfl rfl)
theorem dX6_keep_6 : decode cX6_keep 6 = .ok (.iconst 2, 1) := dk_5 (dk_at dksX6_keep_0 6 rfl rfl)
theorem dX6_keep_7 : decode cX6_keep 7 = .ok (.iconst 0, 1) := dk_3 (dk_at dksX6_keep_0 7 rfl rfl)
theorem dX6_keep_8 : decode cX6_keep 8 = .ok (.invokevirtual 578, 3) := dk_182 2 66 (dk_at dksX6_keep_0 8 rfl rfl)
theorem dX6_keep_11 : decode cX6_keep 11 = .ok (.aload_n 0, 1) := dk_42 (dk_at dksX6_keep_0 11 rfl rfl)
theorem dX6_keep_12 : decode cX6_keep 12 = .ok (.iconst 1, 1) := dk_4 (dk_at dksX6_keep_0 12 rfl rfl)
theorem dX6_keep_13 : decode cX6_keep 13 = .ok (.putfield 336, 3) := dk_181 1 80 (dk_at dksX6_keep_0 13 rfl rfl)
theorem dX6_keep_16 : decode cX6_keep 16 = .ok (.aload_n 0, 1) := dk_42 (dk_at dksX6_keep_0 16 rfl rfl)
theorem dX6_keep_17 : decode cX6_keep 17 = .ok (.getfield 87, 3) := dk_180 0 87 (dk_at dksX6_keep_0 17 rfl rfl)
theorem dX6_keep_20 : decode cX6_keep 20 = .ok (.iconst 0, 1) := dk_3 (dk_at dksX6_keep_0 20 rfl rfl)
theorem dX6_keep_21 : decode cX6_keep 21 = .ok (.iaload, 1) := dk_46 (dk_at dksX6_keep_0 21 rfl rfl)
theorem dX6_keep_22 : decode cX6_keep 22 = .ok (.ireturn, 1) := dk_172 (dk_at dksX6_keep_0 22 rfl rfl)
abbrev cX6_copies : ByteArray := prog_23_method_54_code
def yX6_copies : MethodName := ⟨RX6, "copies", "(II)V"⟩
def dkwX6_copies_14 : List UInt8 := [167, 255, 147, 177]
abbrev dktX6_copies_14 : List UInt8 := dkwX6_copies_14 ++ []
def dkwX6_copies_13 : List UInt8 := [17, 2, 128, 27, 104, 29, 96, 42, 180, 0, 127, 17, 2, 128, 28, 104, 29, 96, 46, 79, 132, 3, 1]
abbrev dktX6_copies_13 : List UInt8 := dkwX6_copies_13 ++ dktX6_copies_14
def dkwX6_copies_12 : List UInt8 := [17, 2, 128, 27, 104, 29, 96, 42, 180, 0, 124, 17, 2, 128, 28, 104, 29, 96, 46, 79, 42, 180, 0, 127]
abbrev dktX6_copies_12 : List UInt8 := dkwX6_copies_12 ++ dktX6_copies_13
def dkwX6_copies_11 : List UInt8 := [17, 2, 128, 27, 104, 29, 96, 42, 180, 0, 121, 17, 2, 128, 28, 104, 29, 96, 46, 79, 42, 180, 0, 124]
abbrev dktX6_copies_11 : List UInt8 := dkwX6_copies_11 ++ dktX6_copies_12
def dkwX6_copies_10 : List UInt8 := [17, 2, 128, 27, 104, 29, 96, 42, 180, 0, 118, 17, 2, 128, 28, 104, 29, 96, 46, 79, 42, 180, 0, 121]
abbrev dktX6_copies_10 : List UInt8 := dkwX6_copies_10 ++ dktX6_copies_11
def dkwX6_copies_9 : List UInt8 := [79, 132, 3, 1, 167, 255, 225, 3, 62, 29, 42, 180, 0, 115, 28, 46, 162, 0, 105, 42, 180, 0, 118]
abbrev dktX6_copies_9 : List UInt8 := dkwX6_copies_9 ++ dktX6_copies_10
def dkwX6_copies_8 : List UInt8 := [162, 0, 31, 42, 180, 0, 112, 16, 16, 27, 104, 29, 96, 42, 180, 0, 112, 16, 16, 28, 104, 29, 96, 46]
abbrev dktX6_copies_8 : List UInt8 := dkwX6_copies_8 ++ dktX6_copies_9
def dkwX6_copies_7 : List UInt8 := [180, 0, 99, 16, 28, 28, 104, 29, 96, 46, 79, 132, 3, 1, 167, 255, 181, 3, 62, 29, 16, 16]
abbrev dktX6_copies_7 : List UInt8 := dkwX6_copies_7 ++ dktX6_copies_8
def dkwX6_copies_6 : List UInt8 := [180, 0, 96, 16, 28, 28, 104, 29, 96, 46, 79, 42, 180, 0, 99, 16, 28, 27, 104, 29, 96, 42]
abbrev dktX6_copies_6 : List UInt8 := dkwX6_copies_6 ++ dktX6_copies_7
def dkwX6_copies_5 : List UInt8 := [180, 0, 93, 16, 28, 28, 104, 29, 96, 46, 79, 42, 180, 0, 96, 16, 28, 27, 104, 29, 96, 42]
abbrev dktX6_copies_5 : List UInt8 := dkwX6_copies_5 ++ dktX6_copies_6
def dkwX6_copies_4 : List UInt8 := [167, 255, 188, 3, 62, 29, 16, 28, 162, 0, 75, 42, 180, 0, 93, 16, 28, 27, 104, 29, 96, 42]
abbrev dktX6_copies_4 : List UInt8 := dkwX6_copies_4 ++ dktX6_copies_5
def dkwX6_copies_3 : List UInt8 := [180, 0, 105, 7, 27, 104, 29, 96, 42, 180, 0, 105, 7, 28, 104, 29, 96, 46, 79, 132, 3, 1]
abbrev dktX6_copies_3 : List UInt8 := dkwX6_copies_3 ++ dktX6_copies_4
def dkwX6_copies_2 : List UInt8 := [96, 46, 79, 42, 180, 0, 102, 7, 27, 104, 29, 96, 42, 180, 0, 102, 7, 28, 104, 29, 96, 46, 79, 42]
abbrev dktX6_copies_2 : List UInt8 := dkwX6_copies_2 ++ dktX6_copies_3
def dkwX6_copies_1 : List UInt8 := [3, 62, 29, 7, 162, 0, 69, 42, 180, 0, 90, 7, 27, 104, 29, 96, 42, 180, 0, 90, 7, 28, 104, 29]
abbrev dktX6_copies_1 : List UInt8 := dkwX6_copies_1 ++ dktX6_copies_2
def dkwX6_copies_0 : List UInt8 := [42, 180, 0, 87, 27, 42, 180, 0, 87, 28, 46, 79, 42, 180, 0, 115, 27, 42, 180, 0, 115, 28, 46, 79]
abbrev dktX6_copies_0 : List UInt8 := dkwX6_copies_0 ++ dktX6_copies_1
theorem dksX6_copies_0 : cX6_copies.data.toList.drop 0 = dktX6_copies_0 := by decide +kernel
theorem dksX6_copies_1 : cX6_copies.data.toList.drop 24 = dktX6_copies_1 := dk_seg dksX6_copies_0 24 rfl rfl
theorem dksX6_copies_2 : cX6_copies.data.toList.drop 48 = dktX6_copies_2 := dk_seg dksX6_copies_1 24 rfl rfl
theorem dksX6_copies_3 : cX6_copies.data.toList.drop 72 = dktX6_copies_3 := dk_seg dksX6_copies_2 24 rfl rfl
theorem dksX6_copies_4 : cX6_copies.data.toList.drop 94 = dktX6_copies_4 := dk_seg dksX6_copies_3 22 rfl rfl
theorem dksX6_copies_5 : cX6_copies.data.toList.drop 116 = dktX6_copies_5 := dk_seg dksX6_copies_4 22 rfl rfl
theorem dksX6_copies_6 : cX6_copies.data.toList.drop 138 = dktX6_copies_6 := dk_seg dksX6_copies_5 22 rfl rfl
theorem dksX6_copies_7 : cX6_copies.data.toList.drop 160 = dktX6_copies_7 := dk_seg dksX6_copies_6 22 rfl rfl
theorem dksX6_copies_8 : cX6_copies.data.toList.drop 182 = dktX6_copies_8 := dk_seg dksX6_copies_7 22 rfl rfl
theorem dksX6_copies_9 : cX6_copies.data.toList.drop 206 = dktX6_copies_9 := dk_seg dksX6_copies_8 24 rfl rfl
theorem dksX6_copies_10 : cX6_copies.data.toList.drop 229 = dktX6_copies_10 := dk_seg dksX6_copies_9 23 rfl rfl
theorem dksX6_copies_11 : cX6_copies.data.toList.drop 253 = dktX6_copies_11 := dk_seg dksX6_copies_10 24 rfl rfl
theorem dksX6_copies_12 : cX6_copies.data.toList.drop 277 = dktX6_copies_12 := dk_seg dksX6_copies_11 24 rfl rfl
theorem dksX6_copies_13 : cX6_copies.data.toList.drop 301 = dktX6_copies_13 := dk_seg dksX6_copies_12 24 rfl rfl
theorem dksX6_copies_14 : cX6_copies.data.toList.drop 324 = dktX6_copies_14 := dk_seg dksX6_copies_13 23 rfl rfl
theorem dX6_copies_0 : decode cX6_copies 0 = .ok (.aload_n 0, 1) := dk_42 (dk_at dksX6_copies_0 0 rfl rfl)
theorem dX6_copies_1 : decode cX6_copies 1 = .ok (.getfield 87, 3) := dk_180 0 87 (dk_at dksX6_copies_0 1 rfl rfl)
theorem dX6_copies_4 : decode cX6_copies 4 = .ok (.iload_n 1, 1) := dk_27 (dk_at dksX6_copies_0 4 rfl rfl)
theorem dX6_copies_5 : decode cX6_copies 5 = .ok (.aload_n 0, 1) := dk_42 (dk_at dksX6_copies_0 5 rfl rfl)
theorem dX6_copies_6 : decode cX6_copies 6 = .ok (.getfield 87, 3) := dk_180 0 87 (dk_at dksX6_copies_0 6 rfl rfl)
theorem dX6_copies_9 : decode cX6_copies 9 = .ok (.iload_n 2, 1) := dk_28 (dk_at dksX6_copies_0 9 rfl rfl)
theorem dX6_copies_10 : decode cX6_copies 10 = .ok (.iaload, 1) := dk_46 (dk_at dksX6_copies_0 10 rfl rfl)
theorem dX6_copies_11 : decode cX6_copies 11 = .ok (.iastore, 1) := dk_79 (dk_at dksX6_copies_0 11 rfl rfl)
theorem dX6_copies_12 : decode cX6_copies 12 = .ok (.aload_n 0, 1) := dk_42 (dk_at dksX6_copies_0 12 rfl rfl)
theorem dX6_copies_13 : decode cX6_copies 13 = .ok (.getfield 115, 3) := dk_180 0 115 (dk_at dksX6_copies_0 13 rfl rfl)
theorem dX6_copies_16 : decode cX6_copies 16 = .ok (.iload_n 1, 1) := dk_27 (dk_at dksX6_copies_0 16 rfl rfl)
theorem dX6_copies_17 : decode cX6_copies 17 = .ok (.aload_n 0, 1) := dk_42 (dk_at dksX6_copies_0 17 rfl rfl)
theorem dX6_copies_18 : decode cX6_copies 18 = .ok (.getfield 115, 3) := dk_180 0 115 (dk_at dksX6_copies_0 18 rfl rfl)
theorem dX6_copies_21 : decode cX6_copies 21 = .ok (.iload_n 2, 1) := dk_28 (dk_at dksX6_copies_0 21 rfl rfl)
theorem dX6_copies_22 : decode cX6_copies 22 = .ok (.iaload, 1) := dk_46 (dk_at dksX6_copies_0 22 rfl rfl)
theorem dX6_copies_23 : decode cX6_copies 23 = .ok (.iastore, 1) := dk_79 (dk_at dksX6_copies_0 23 rfl rfl)
theorem dX6_copies_24 : decode cX6_copies 24 = .ok (.iconst 0, 1) := dk_3 (dk_at dksX6_copies_1 0 rfl rfl)
theorem dX6_copies_25 : decode cX6_copies 25 = .ok (.istore_n 3, 1) := dk_62 (dk_at dksX6_copies_1 1 rfl rfl)
theorem dX6_copies_26 : decode cX6_copies 26 = .ok (.iload_n 3, 1) := dk_29 (dk_at dksX6_copies_1 2 rfl rfl)
theorem dX6_copies_27 : decode cX6_copies 27 = .ok (.iconst 4, 1) := dk_7 (dk_at dksX6_copies_1 3 rfl rfl)
theorem dX6_copies_28 : decode cX6_copies 28 = .ok (.if_icmp .ge 69, 3) := dk_162 0 69 (dk_at dksX6_copies_1 4 rfl rfl)
theorem dX6_copies_31 : decode cX6_copies 31 = .ok (.aload_n 0, 1) := dk_42 (dk_at dksX6_copies_1 7 rfl rfl)
theorem dX6_copies_32 : decode cX6_copies 32 = .ok (.getfield 90, 3) := dk_180 0 90 (dk_at dksX6_copies_1 8 rfl rfl)
theorem dX6_copies_35 : decode cX6_copies 35 = .ok (.iconst 4, 1) := dk_7 (dk_at dksX6_copies_1 11 rfl rfl)
theorem dX6_copies_36 : decode cX6_copies 36 = .ok (.iload_n 1, 1) := dk_27 (dk_at dksX6_copies_1 12 rfl rfl)
theorem dX6_copies_37 : decode cX6_copies 37 = .ok (.imul, 1) := dk_104 (dk_at dksX6_copies_1 13 rfl rfl)
theorem dX6_copies_38 : decode cX6_copies 38 = .ok (.iload_n 3, 1) := dk_29 (dk_at dksX6_copies_1 14 rfl rfl)
theorem dX6_copies_39 : decode cX6_copies 39 = .ok (.iadd, 1) := dk_96 (dk_at dksX6_copies_1 15 rfl rfl)
theorem dX6_copies_40 : decode cX6_copies 40 = .ok (.aload_n 0, 1) := dk_42 (dk_at dksX6_copies_1 16 rfl rfl)
theorem dX6_copies_41 : decode cX6_copies 41 = .ok (.getfield 90, 3) := dk_180 0 90 (dk_at dksX6_copies_1 17 rfl rfl)
theorem dX6_copies_44 : decode cX6_copies 44 = .ok (.iconst 4, 1) := dk_7 (dk_at dksX6_copies_1 20 rfl rfl)
theorem dX6_copies_45 : decode cX6_copies 45 = .ok (.iload_n 2, 1) := dk_28 (dk_at dksX6_copies_1 21 rfl rfl)
theorem dX6_copies_46 : decode cX6_copies 46 = .ok (.imul, 1) := dk_104 (dk_at dksX6_copies_1 22 rfl rfl)
theorem dX6_copies_47 : decode cX6_copies 47 = .ok (.iload_n 3, 1) := dk_29 (dk_at dksX6_copies_1 23 rfl rfl)
theorem dX6_copies_48 : decode cX6_copies 48 = .ok (.iadd, 1) := dk_96 (dk_at dksX6_copies_2 0 rfl rfl)
theorem dX6_copies_49 : decode cX6_copies 49 = .ok (.iaload, 1) := dk_46 (dk_at dksX6_copies_2 1 rfl rfl)
theorem dX6_copies_50 : decode cX6_copies 50 = .ok (.iastore, 1) := dk_79 (dk_at dksX6_copies_2 2 rfl rfl)
theorem dX6_copies_51 : decode cX6_copies 51 = .ok (.aload_n 0, 1) := dk_42 (dk_at dksX6_copies_2 3 rfl rfl)
theorem dX6_copies_52 : decode cX6_copies 52 = .ok (.getfield 102, 3) := dk_180 0 102 (dk_at dksX6_copies_2 4 rfl rfl)
theorem dX6_copies_55 : decode cX6_copies 55 = .ok (.iconst 4, 1) := dk_7 (dk_at dksX6_copies_2 7 rfl rfl)
theorem dX6_copies_56 : decode cX6_copies 56 = .ok (.iload_n 1, 1) := dk_27 (dk_at dksX6_copies_2 8 rfl rfl)
theorem dX6_copies_57 : decode cX6_copies 57 = .ok (.imul, 1) := dk_104 (dk_at dksX6_copies_2 9 rfl rfl)
theorem dX6_copies_58 : decode cX6_copies 58 = .ok (.iload_n 3, 1) := dk_29 (dk_at dksX6_copies_2 10 rfl rfl)
theorem dX6_copies_59 : decode cX6_copies 59 = .ok (.iadd, 1) := dk_96 (dk_at dksX6_copies_2 11 rfl rfl)
theorem dX6_copies_60 : decode cX6_copies 60 = .ok (.aload_n 0, 1) := dk_42 (dk_at dksX6_copies_2 12 rfl rfl)
theorem dX6_copies_61 : decode cX6_copies 61 = .ok (.getfield 102, 3) := dk_180 0 102 (dk_at dksX6_copies_2 13 rfl rfl)
theorem dX6_copies_64 : decode cX6_copies 64 = .ok (.iconst 4, 1) := dk_7 (dk_at dksX6_copies_2 16 rfl rfl)
theorem dX6_copies_65 : decode cX6_copies 65 = .ok (.iload_n 2, 1) := dk_28 (dk_at dksX6_copies_2 17 rfl rfl)
theorem dX6_copies_66 : decode cX6_copies 66 = .ok (.imul, 1) := dk_104 (dk_at dksX6_copies_2 18 rfl rfl)
theorem dX6_copies_67 : decode cX6_copies 67 = .ok (.iload_n 3, 1) := dk_29 (dk_at dksX6_copies_2 19 rfl rfl)
theorem dX6_copies_68 : decode cX6_copies 68 = .ok (.iadd, 1) := dk_96 (dk_at dksX6_copies_2 20 rfl rfl)
theorem dX6_copies_69 : decode cX6_copies 69 = .ok (.iaload, 1) := dk_46 (dk_at dksX6_copies_2 21 rfl rfl)
theorem dX6_copies_70 : decode cX6_copies 70 = .ok (.iastore, 1) := dk_79 (dk_at dksX6_copies_2 22 rfl rfl)
theorem dX6_copies_71 : decode cX6_copies 71 = .ok (.aload_n 0, 1) := dk_42 (dk_at dksX6_copies_2 23 rfl rfl)
theorem dX6_copies_72 : decode cX6_copies 72 = .ok (.getfield 105, 3) := dk_180 0 105 (dk_at dksX6_copies_3 0 rfl rfl)
theorem dX6_copies_75 : decode cX6_copies 75 = .ok (.iconst 4, 1) := dk_7 (dk_at dksX6_copies_3 3 rfl rfl)
theorem dX6_copies_76 : decode cX6_copies 76 = .ok (.iload_n 1, 1) := dk_27 (dk_at dksX6_copies_3 4 rfl rfl)
theorem dX6_copies_77 : decode cX6_copies 77 = .ok (.imul, 1) := dk_104 (dk_at dksX6_copies_3 5 rfl rfl)
theorem dX6_copies_78 : decode cX6_copies 78 = .ok (.iload_n 3, 1) := dk_29 (dk_at dksX6_copies_3 6 rfl rfl)
theorem dX6_copies_79 : decode cX6_copies 79 = .ok (.iadd, 1) := dk_96 (dk_at dksX6_copies_3 7 rfl rfl)
theorem dX6_copies_80 : decode cX6_copies 80 = .ok (.aload_n 0, 1) := dk_42 (dk_at dksX6_copies_3 8 rfl rfl)
theorem dX6_copies_81 : decode cX6_copies 81 = .ok (.getfield 105, 3) := dk_180 0 105 (dk_at dksX6_copies_3 9 rfl rfl)
theorem dX6_copies_84 : decode cX6_copies 84 = .ok (.iconst 4, 1) := dk_7 (dk_at dksX6_copies_3 12 rfl rfl)
theorem dX6_copies_85 : decode cX6_copies 85 = .ok (.iload_n 2, 1) := dk_28 (dk_at dksX6_copies_3 13 rfl rfl)
theorem dX6_copies_86 : decode cX6_copies 86 = .ok (.imul, 1) := dk_104 (dk_at dksX6_copies_3 14 rfl rfl)
theorem dX6_copies_87 : decode cX6_copies 87 = .ok (.iload_n 3, 1) := dk_29 (dk_at dksX6_copies_3 15 rfl rfl)
theorem dX6_copies_88 : decode cX6_copies 88 = .ok (.iadd, 1) := dk_96 (dk_at dksX6_copies_3 16 rfl rfl)
theorem dX6_copies_89 : decode cX6_copies 89 = .ok (.iaload, 1) := dk_46 (dk_at dksX6_copies_3 17 rfl rfl)
theorem dX6_copies_90 : decode cX6_copies 90 = .ok (.iastore, 1) := dk_79 (dk_at dksX6_copies_3 18 rfl rfl)
theorem dX6_copies_91 : decode cX6_copies 91 = .ok (.iinc 3 1, 3) := dk_132 3 1 (dk_at dksX6_copies_3 19 rfl rfl)
theorem dX6_copies_94 : decode cX6_copies 94 = .ok (.goto (-68), 3) := dk_167 255 188 (dk_at dksX6_copies_4 0 rfl rfl)
theorem dX6_copies_97 : decode cX6_copies 97 = .ok (.iconst 0, 1) := dk_3 (dk_at dksX6_copies_4 3 rfl rfl)
theorem dX6_copies_98 : decode cX6_copies 98 = .ok (.istore_n 3, 1) := dk_62 (dk_at dksX6_copies_4 4 rfl rfl)
theorem dX6_copies_99 : decode cX6_copies 99 = .ok (.iload_n 3, 1) := dk_29 (dk_at dksX6_copies_4 5 rfl rfl)
theorem dX6_copies_100 : decode cX6_copies 100 = .ok (.bipush 28, 2) := dk_16 28 (dk_at dksX6_copies_4 6 rfl rfl)
theorem dX6_copies_102 : decode cX6_copies 102 = .ok (.if_icmp .ge 75, 3) := dk_162 0 75 (dk_at dksX6_copies_4 8 rfl rfl)
theorem dX6_copies_105 : decode cX6_copies 105 = .ok (.aload_n 0, 1) := dk_42 (dk_at dksX6_copies_4 11 rfl rfl)
theorem dX6_copies_106 : decode cX6_copies 106 = .ok (.getfield 93, 3) := dk_180 0 93 (dk_at dksX6_copies_4 12 rfl rfl)
theorem dX6_copies_109 : decode cX6_copies 109 = .ok (.bipush 28, 2) := dk_16 28 (dk_at dksX6_copies_4 15 rfl rfl)
theorem dX6_copies_111 : decode cX6_copies 111 = .ok (.iload_n 1, 1) := dk_27 (dk_at dksX6_copies_4 17 rfl rfl)
theorem dX6_copies_112 : decode cX6_copies 112 = .ok (.imul, 1) := dk_104 (dk_at dksX6_copies_4 18 rfl rfl)
theorem dX6_copies_113 : decode cX6_copies 113 = .ok (.iload_n 3, 1) := dk_29 (dk_at dksX6_copies_4 19 rfl rfl)
theorem dX6_copies_114 : decode cX6_copies 114 = .ok (.iadd, 1) := dk_96 (dk_at dksX6_copies_4 20 rfl rfl)
theorem dX6_copies_115 : decode cX6_copies 115 = .ok (.aload_n 0, 1) := dk_42 (dk_at dksX6_copies_4 21 rfl rfl)
theorem dX6_copies_116 : decode cX6_copies 116 = .ok (.getfield 93, 3) := dk_180 0 93 (dk_at dksX6_copies_5 0 rfl rfl)
theorem dX6_copies_119 : decode cX6_copies 119 = .ok (.bipush 28, 2) := dk_16 28 (dk_at dksX6_copies_5 3 rfl rfl)
theorem dX6_copies_121 : decode cX6_copies 121 = .ok (.iload_n 2, 1) := dk_28 (dk_at dksX6_copies_5 5 rfl rfl)
theorem dX6_copies_122 : decode cX6_copies 122 = .ok (.imul, 1) := dk_104 (dk_at dksX6_copies_5 6 rfl rfl)
theorem dX6_copies_123 : decode cX6_copies 123 = .ok (.iload_n 3, 1) := dk_29 (dk_at dksX6_copies_5 7 rfl rfl)
theorem dX6_copies_124 : decode cX6_copies 124 = .ok (.iadd, 1) := dk_96 (dk_at dksX6_copies_5 8 rfl rfl)
theorem dX6_copies_125 : decode cX6_copies 125 = .ok (.iaload, 1) := dk_46 (dk_at dksX6_copies_5 9 rfl rfl)
theorem dX6_copies_126 : decode cX6_copies 126 = .ok (.iastore, 1) := dk_79 (dk_at dksX6_copies_5 10 rfl rfl)
theorem dX6_copies_127 : decode cX6_copies 127 = .ok (.aload_n 0, 1) := dk_42 (dk_at dksX6_copies_5 11 rfl rfl)
theorem dX6_copies_128 : decode cX6_copies 128 = .ok (.getfield 96, 3) := dk_180 0 96 (dk_at dksX6_copies_5 12 rfl rfl)
theorem dX6_copies_131 : decode cX6_copies 131 = .ok (.bipush 28, 2) := dk_16 28 (dk_at dksX6_copies_5 15 rfl rfl)
theorem dX6_copies_133 : decode cX6_copies 133 = .ok (.iload_n 1, 1) := dk_27 (dk_at dksX6_copies_5 17 rfl rfl)
theorem dX6_copies_134 : decode cX6_copies 134 = .ok (.imul, 1) := dk_104 (dk_at dksX6_copies_5 18 rfl rfl)
theorem dX6_copies_135 : decode cX6_copies 135 = .ok (.iload_n 3, 1) := dk_29 (dk_at dksX6_copies_5 19 rfl rfl)
theorem dX6_copies_136 : decode cX6_copies 136 = .ok (.iadd, 1) := dk_96 (dk_at dksX6_copies_5 20 rfl rfl)
theorem dX6_copies_137 : decode cX6_copies 137 = .ok (.aload_n 0, 1) := dk_42 (dk_at dksX6_copies_5 21 rfl rfl)
theorem dX6_copies_138 : decode cX6_copies 138 = .ok (.getfield 96, 3) := dk_180 0 96 (dk_at dksX6_copies_6 0 rfl rfl)
theorem dX6_copies_141 : decode cX6_copies 141 = .ok (.bipush 28, 2) := dk_16 28 (dk_at dksX6_copies_6 3 rfl rfl)
theorem dX6_copies_143 : decode cX6_copies 143 = .ok (.iload_n 2, 1) := dk_28 (dk_at dksX6_copies_6 5 rfl rfl)
theorem dX6_copies_144 : decode cX6_copies 144 = .ok (.imul, 1) := dk_104 (dk_at dksX6_copies_6 6 rfl rfl)
theorem dX6_copies_145 : decode cX6_copies 145 = .ok (.iload_n 3, 1) := dk_29 (dk_at dksX6_copies_6 7 rfl rfl)
theorem dX6_copies_146 : decode cX6_copies 146 = .ok (.iadd, 1) := dk_96 (dk_at dksX6_copies_6 8 rfl rfl)
theorem dX6_copies_147 : decode cX6_copies 147 = .ok (.iaload, 1) := dk_46 (dk_at dksX6_copies_6 9 rfl rfl)
theorem dX6_copies_148 : decode cX6_copies 148 = .ok (.iastore, 1) := dk_79 (dk_at dksX6_copies_6 10 rfl rfl)
theorem dX6_copies_149 : decode cX6_copies 149 = .ok (.aload_n 0, 1) := dk_42 (dk_at dksX6_copies_6 11 rfl rfl)
theorem dX6_copies_150 : decode cX6_copies 150 = .ok (.getfield 99, 3) := dk_180 0 99 (dk_at dksX6_copies_6 12 rfl rfl)
theorem dX6_copies_153 : decode cX6_copies 153 = .ok (.bipush 28, 2) := dk_16 28 (dk_at dksX6_copies_6 15 rfl rfl)
theorem dX6_copies_155 : decode cX6_copies 155 = .ok (.iload_n 1, 1) := dk_27 (dk_at dksX6_copies_6 17 rfl rfl)
theorem dX6_copies_156 : decode cX6_copies 156 = .ok (.imul, 1) := dk_104 (dk_at dksX6_copies_6 18 rfl rfl)
theorem dX6_copies_157 : decode cX6_copies 157 = .ok (.iload_n 3, 1) := dk_29 (dk_at dksX6_copies_6 19 rfl rfl)
theorem dX6_copies_158 : decode cX6_copies 158 = .ok (.iadd, 1) := dk_96 (dk_at dksX6_copies_6 20 rfl rfl)
theorem dX6_copies_159 : decode cX6_copies 159 = .ok (.aload_n 0, 1) := dk_42 (dk_at dksX6_copies_6 21 rfl rfl)
theorem dX6_copies_160 : decode cX6_copies 160 = .ok (.getfield 99, 3) := dk_180 0 99 (dk_at dksX6_copies_7 0 rfl rfl)
theorem dX6_copies_163 : decode cX6_copies 163 = .ok (.bipush 28, 2) := dk_16 28 (dk_at dksX6_copies_7 3 rfl rfl)
theorem dX6_copies_165 : decode cX6_copies 165 = .ok (.iload_n 2, 1) := dk_28 (dk_at dksX6_copies_7 5 rfl rfl)
theorem dX6_copies_166 : decode cX6_copies 166 = .ok (.imul, 1) := dk_104 (dk_at dksX6_copies_7 6 rfl rfl)
theorem dX6_copies_167 : decode cX6_copies 167 = .ok (.iload_n 3, 1) := dk_29 (dk_at dksX6_copies_7 7 rfl rfl)
theorem dX6_copies_168 : decode cX6_copies 168 = .ok (.iadd, 1) := dk_96 (dk_at dksX6_copies_7 8 rfl rfl)
theorem dX6_copies_169 : decode cX6_copies 169 = .ok (.iaload, 1) := dk_46 (dk_at dksX6_copies_7 9 rfl rfl)
theorem dX6_copies_170 : decode cX6_copies 170 = .ok (.iastore, 1) := dk_79 (dk_at dksX6_copies_7 10 rfl rfl)
theorem dX6_copies_171 : decode cX6_copies 171 = .ok (.iinc 3 1, 3) := dk_132 3 1 (dk_at dksX6_copies_7 11 rfl rfl)
theorem dX6_copies_174 : decode cX6_copies 174 = .ok (.goto (-75), 3) := dk_167 255 181 (dk_at dksX6_copies_7 14 rfl rfl)
theorem dX6_copies_177 : decode cX6_copies 177 = .ok (.iconst 0, 1) := dk_3 (dk_at dksX6_copies_7 17 rfl rfl)
theorem dX6_copies_178 : decode cX6_copies 178 = .ok (.istore_n 3, 1) := dk_62 (dk_at dksX6_copies_7 18 rfl rfl)
theorem dX6_copies_179 : decode cX6_copies 179 = .ok (.iload_n 3, 1) := dk_29 (dk_at dksX6_copies_7 19 rfl rfl)
theorem dX6_copies_180 : decode cX6_copies 180 = .ok (.bipush 16, 2) := dk_16 16 (dk_at dksX6_copies_7 20 rfl rfl)
theorem dX6_copies_182 : decode cX6_copies 182 = .ok (.if_icmp .ge 31, 3) := dk_162 0 31 (dk_at dksX6_copies_8 0 rfl rfl)
theorem dX6_copies_185 : decode cX6_copies 185 = .ok (.aload_n 0, 1) := dk_42 (dk_at dksX6_copies_8 3 rfl rfl)
theorem dX6_copies_186 : decode cX6_copies 186 = .ok (.getfield 112, 3) := dk_180 0 112 (dk_at dksX6_copies_8 4 rfl rfl)
theorem dX6_copies_189 : decode cX6_copies 189 = .ok (.bipush 16, 2) := dk_16 16 (dk_at dksX6_copies_8 7 rfl rfl)
theorem dX6_copies_191 : decode cX6_copies 191 = .ok (.iload_n 1, 1) := dk_27 (dk_at dksX6_copies_8 9 rfl rfl)
theorem dX6_copies_192 : decode cX6_copies 192 = .ok (.imul, 1) := dk_104 (dk_at dksX6_copies_8 10 rfl rfl)
theorem dX6_copies_193 : decode cX6_copies 193 = .ok (.iload_n 3, 1) := dk_29 (dk_at dksX6_copies_8 11 rfl rfl)
theorem dX6_copies_194 : decode cX6_copies 194 = .ok (.iadd, 1) := dk_96 (dk_at dksX6_copies_8 12 rfl rfl)
theorem dX6_copies_195 : decode cX6_copies 195 = .ok (.aload_n 0, 1) := dk_42 (dk_at dksX6_copies_8 13 rfl rfl)
theorem dX6_copies_196 : decode cX6_copies 196 = .ok (.getfield 112, 3) := dk_180 0 112 (dk_at dksX6_copies_8 14 rfl rfl)
theorem dX6_copies_199 : decode cX6_copies 199 = .ok (.bipush 16, 2) := dk_16 16 (dk_at dksX6_copies_8 17 rfl rfl)
theorem dX6_copies_201 : decode cX6_copies 201 = .ok (.iload_n 2, 1) := dk_28 (dk_at dksX6_copies_8 19 rfl rfl)
theorem dX6_copies_202 : decode cX6_copies 202 = .ok (.imul, 1) := dk_104 (dk_at dksX6_copies_8 20 rfl rfl)
theorem dX6_copies_203 : decode cX6_copies 203 = .ok (.iload_n 3, 1) := dk_29 (dk_at dksX6_copies_8 21 rfl rfl)
theorem dX6_copies_204 : decode cX6_copies 204 = .ok (.iadd, 1) := dk_96 (dk_at dksX6_copies_8 22 rfl rfl)
theorem dX6_copies_205 : decode cX6_copies 205 = .ok (.iaload, 1) := dk_46 (dk_at dksX6_copies_8 23 rfl rfl)
theorem dX6_copies_206 : decode cX6_copies 206 = .ok (.iastore, 1) := dk_79 (dk_at dksX6_copies_9 0 rfl rfl)
theorem dX6_copies_207 : decode cX6_copies 207 = .ok (.iinc 3 1, 3) := dk_132 3 1 (dk_at dksX6_copies_9 1 rfl rfl)
theorem dX6_copies_210 : decode cX6_copies 210 = .ok (.goto (-31), 3) := dk_167 255 225 (dk_at dksX6_copies_9 4 rfl rfl)
theorem dX6_copies_213 : decode cX6_copies 213 = .ok (.iconst 0, 1) := dk_3 (dk_at dksX6_copies_9 7 rfl rfl)
theorem dX6_copies_214 : decode cX6_copies 214 = .ok (.istore_n 3, 1) := dk_62 (dk_at dksX6_copies_9 8 rfl rfl)
theorem dX6_copies_215 : decode cX6_copies 215 = .ok (.iload_n 3, 1) := dk_29 (dk_at dksX6_copies_9 9 rfl rfl)
theorem dX6_copies_216 : decode cX6_copies 216 = .ok (.aload_n 0, 1) := dk_42 (dk_at dksX6_copies_9 10 rfl rfl)
theorem dX6_copies_217 : decode cX6_copies 217 = .ok (.getfield 115, 3) := dk_180 0 115 (dk_at dksX6_copies_9 11 rfl rfl)
theorem dX6_copies_220 : decode cX6_copies 220 = .ok (.iload_n 2, 1) := dk_28 (dk_at dksX6_copies_9 14 rfl rfl)
theorem dX6_copies_221 : decode cX6_copies 221 = .ok (.iaload, 1) := dk_46 (dk_at dksX6_copies_9 15 rfl rfl)
theorem dX6_copies_222 : decode cX6_copies 222 = .ok (.if_icmp .ge 105, 3) := dk_162 0 105 (dk_at dksX6_copies_9 16 rfl rfl)
theorem dX6_copies_225 : decode cX6_copies 225 = .ok (.aload_n 0, 1) := dk_42 (dk_at dksX6_copies_9 19 rfl rfl)
theorem dX6_copies_226 : decode cX6_copies 226 = .ok (.getfield 118, 3) := dk_180 0 118 (dk_at dksX6_copies_9 20 rfl rfl)
theorem dX6_copies_229 : decode cX6_copies 229 = .ok (.sipush 640, 3) := dk_17 2 128 (dk_at dksX6_copies_10 0 rfl rfl)
theorem dX6_copies_232 : decode cX6_copies 232 = .ok (.iload_n 1, 1) := dk_27 (dk_at dksX6_copies_10 3 rfl rfl)
theorem dX6_copies_233 : decode cX6_copies 233 = .ok (.imul, 1) := dk_104 (dk_at dksX6_copies_10 4 rfl rfl)
theorem dX6_copies_234 : decode cX6_copies 234 = .ok (.iload_n 3, 1) := dk_29 (dk_at dksX6_copies_10 5 rfl rfl)
theorem dX6_copies_235 : decode cX6_copies 235 = .ok (.iadd, 1) := dk_96 (dk_at dksX6_copies_10 6 rfl rfl)
theorem dX6_copies_236 : decode cX6_copies 236 = .ok (.aload_n 0, 1) := dk_42 (dk_at dksX6_copies_10 7 rfl rfl)
theorem dX6_copies_237 : decode cX6_copies 237 = .ok (.getfield 118, 3) := dk_180 0 118 (dk_at dksX6_copies_10 8 rfl rfl)
theorem dX6_copies_240 : decode cX6_copies 240 = .ok (.sipush 640, 3) := dk_17 2 128 (dk_at dksX6_copies_10 11 rfl rfl)
theorem dX6_copies_243 : decode cX6_copies 243 = .ok (.iload_n 2, 1) := dk_28 (dk_at dksX6_copies_10 14 rfl rfl)
theorem dX6_copies_244 : decode cX6_copies 244 = .ok (.imul, 1) := dk_104 (dk_at dksX6_copies_10 15 rfl rfl)
theorem dX6_copies_245 : decode cX6_copies 245 = .ok (.iload_n 3, 1) := dk_29 (dk_at dksX6_copies_10 16 rfl rfl)
theorem dX6_copies_246 : decode cX6_copies 246 = .ok (.iadd, 1) := dk_96 (dk_at dksX6_copies_10 17 rfl rfl)
theorem dX6_copies_247 : decode cX6_copies 247 = .ok (.iaload, 1) := dk_46 (dk_at dksX6_copies_10 18 rfl rfl)
theorem dX6_copies_248 : decode cX6_copies 248 = .ok (.iastore, 1) := dk_79 (dk_at dksX6_copies_10 19 rfl rfl)
theorem dX6_copies_249 : decode cX6_copies 249 = .ok (.aload_n 0, 1) := dk_42 (dk_at dksX6_copies_10 20 rfl rfl)
theorem dX6_copies_250 : decode cX6_copies 250 = .ok (.getfield 121, 3) := dk_180 0 121 (dk_at dksX6_copies_10 21 rfl rfl)
theorem dX6_copies_253 : decode cX6_copies 253 = .ok (.sipush 640, 3) := dk_17 2 128 (dk_at dksX6_copies_11 0 rfl rfl)
theorem dX6_copies_256 : decode cX6_copies 256 = .ok (.iload_n 1, 1) := dk_27 (dk_at dksX6_copies_11 3 rfl rfl)
theorem dX6_copies_257 : decode cX6_copies 257 = .ok (.imul, 1) := dk_104 (dk_at dksX6_copies_11 4 rfl rfl)
theorem dX6_copies_258 : decode cX6_copies 258 = .ok (.iload_n 3, 1) := dk_29 (dk_at dksX6_copies_11 5 rfl rfl)
theorem dX6_copies_259 : decode cX6_copies 259 = .ok (.iadd, 1) := dk_96 (dk_at dksX6_copies_11 6 rfl rfl)
theorem dX6_copies_260 : decode cX6_copies 260 = .ok (.aload_n 0, 1) := dk_42 (dk_at dksX6_copies_11 7 rfl rfl)
theorem dX6_copies_261 : decode cX6_copies 261 = .ok (.getfield 121, 3) := dk_180 0 121 (dk_at dksX6_copies_11 8 rfl rfl)
theorem dX6_copies_264 : decode cX6_copies 264 = .ok (.sipush 640, 3) := dk_17 2 128 (dk_at dksX6_copies_11 11 rfl rfl)
theorem dX6_copies_267 : decode cX6_copies 267 = .ok (.iload_n 2, 1) := dk_28 (dk_at dksX6_copies_11 14 rfl rfl)
theorem dX6_copies_268 : decode cX6_copies 268 = .ok (.imul, 1) := dk_104 (dk_at dksX6_copies_11 15 rfl rfl)
theorem dX6_copies_269 : decode cX6_copies 269 = .ok (.iload_n 3, 1) := dk_29 (dk_at dksX6_copies_11 16 rfl rfl)
theorem dX6_copies_270 : decode cX6_copies 270 = .ok (.iadd, 1) := dk_96 (dk_at dksX6_copies_11 17 rfl rfl)
theorem dX6_copies_271 : decode cX6_copies 271 = .ok (.iaload, 1) := dk_46 (dk_at dksX6_copies_11 18 rfl rfl)
theorem dX6_copies_272 : decode cX6_copies 272 = .ok (.iastore, 1) := dk_79 (dk_at dksX6_copies_11 19 rfl rfl)
theorem dX6_copies_273 : decode cX6_copies 273 = .ok (.aload_n 0, 1) := dk_42 (dk_at dksX6_copies_11 20 rfl rfl)
theorem dX6_copies_274 : decode cX6_copies 274 = .ok (.getfield 124, 3) := dk_180 0 124 (dk_at dksX6_copies_11 21 rfl rfl)
theorem dX6_copies_277 : decode cX6_copies 277 = .ok (.sipush 640, 3) := dk_17 2 128 (dk_at dksX6_copies_12 0 rfl rfl)
theorem dX6_copies_280 : decode cX6_copies 280 = .ok (.iload_n 1, 1) := dk_27 (dk_at dksX6_copies_12 3 rfl rfl)
theorem dX6_copies_281 : decode cX6_copies 281 = .ok (.imul, 1) := dk_104 (dk_at dksX6_copies_12 4 rfl rfl)
theorem dX6_copies_282 : decode cX6_copies 282 = .ok (.iload_n 3, 1) := dk_29 (dk_at dksX6_copies_12 5 rfl rfl)
theorem dX6_copies_283 : decode cX6_copies 283 = .ok (.iadd, 1) := dk_96 (dk_at dksX6_copies_12 6 rfl rfl)
theorem dX6_copies_284 : decode cX6_copies 284 = .ok (.aload_n 0, 1) := dk_42 (dk_at dksX6_copies_12 7 rfl rfl)
theorem dX6_copies_285 : decode cX6_copies 285 = .ok (.getfield 124, 3) := dk_180 0 124 (dk_at dksX6_copies_12 8 rfl rfl)
theorem dX6_copies_288 : decode cX6_copies 288 = .ok (.sipush 640, 3) := dk_17 2 128 (dk_at dksX6_copies_12 11 rfl rfl)
theorem dX6_copies_291 : decode cX6_copies 291 = .ok (.iload_n 2, 1) := dk_28 (dk_at dksX6_copies_12 14 rfl rfl)
theorem dX6_copies_292 : decode cX6_copies 292 = .ok (.imul, 1) := dk_104 (dk_at dksX6_copies_12 15 rfl rfl)
theorem dX6_copies_293 : decode cX6_copies 293 = .ok (.iload_n 3, 1) := dk_29 (dk_at dksX6_copies_12 16 rfl rfl)
theorem dX6_copies_294 : decode cX6_copies 294 = .ok (.iadd, 1) := dk_96 (dk_at dksX6_copies_12 17 rfl rfl)
theorem dX6_copies_295 : decode cX6_copies 295 = .ok (.iaload, 1) := dk_46 (dk_at dksX6_copies_12 18 rfl rfl)
theorem dX6_copies_296 : decode cX6_copies 296 = .ok (.iastore, 1) := dk_79 (dk_at dksX6_copies_12 19 rfl rfl)
theorem dX6_copies_297 : decode cX6_copies 297 = .ok (.aload_n 0, 1) := dk_42 (dk_at dksX6_copies_12 20 rfl rfl)
theorem dX6_copies_298 : decode cX6_copies 298 = .ok (.getfield 127, 3) := dk_180 0 127 (dk_at dksX6_copies_12 21 rfl rfl)
theorem dX6_copies_301 : decode cX6_copies 301 = .ok (.sipush 640, 3) := dk_17 2 128 (dk_at dksX6_copies_13 0 rfl rfl)
theorem dX6_copies_304 : decode cX6_copies 304 = .ok (.iload_n 1, 1) := dk_27 (dk_at dksX6_copies_13 3 rfl rfl)
theorem dX6_copies_305 : decode cX6_copies 305 = .ok (.imul, 1) := dk_104 (dk_at dksX6_copies_13 4 rfl rfl)
theorem dX6_copies_306 : decode cX6_copies 306 = .ok (.iload_n 3, 1) := dk_29 (dk_at dksX6_copies_13 5 rfl rfl)
theorem dX6_copies_307 : decode cX6_copies 307 = .ok (.iadd, 1) := dk_96 (dk_at dksX6_copies_13 6 rfl rfl)
theorem dX6_copies_308 : decode cX6_copies 308 = .ok (.aload_n 0, 1) := dk_42 (dk_at dksX6_copies_13 7 rfl rfl)
theorem dX6_copies_309 : decode cX6_copies 309 = .ok (.getfield 127, 3) := dk_180 0 127 (dk_at dksX6_copies_13 8 rfl rfl)
theorem dX6_copies_312 : decode cX6_copies 312 = .ok (.sipush 640, 3) := dk_17 2 128 (dk_at dksX6_copies_13 11 rfl rfl)
theorem dX6_copies_315 : decode cX6_copies 315 = .ok (.iload_n 2, 1) := dk_28 (dk_at dksX6_copies_13 14 rfl rfl)
theorem dX6_copies_316 : decode cX6_copies 316 = .ok (.imul, 1) := dk_104 (dk_at dksX6_copies_13 15 rfl rfl)
theorem dX6_copies_317 : decode cX6_copies 317 = .ok (.iload_n 3, 1) := dk_29 (dk_at dksX6_copies_13 16 rfl rfl)
theorem dX6_copies_318 : decode cX6_copies 318 = .ok (.iadd, 1) := dk_96 (dk_at dksX6_copies_13 17 rfl rfl)
theorem dX6_copies_319 : decode cX6_copies 319 = .ok (.iaload, 1) := dk_46 (dk_at dksX6_copies_13 18 rfl rfl)
theorem dX6_copies_320 : decode cX6_copies 320 = .ok (.iastore, 1) := dk_79 (dk_at dksX6_copies_13 19 rfl rfl)
theorem dX6_copies_321 : decode cX6_copies 321 = .ok (.iinc 3 1, 3) := dk_132 3 1 (dk_at dksX6_copies_13 20 rfl rfl)
theorem dX6_copies_324 : decode cX6_copies 324 = .ok (.goto (-109), 3) := dk_167 255 147 (dk_at dksX6_copies_14 0 rfl rfl)
theorem dX6_copies_327 : decode cX6_copies 327 = .ok (.return_, 1) := dk_177 (dk_at dksX6_copies_14 3 rfl rfl)
abbrev cX6_back : ByteArray := prog_23_method_121_code
def yX6_back : MethodName := ⟨RX6, "back", "()I"⟩
def dkwX6_back_1 : List UInt8 := [3, 46, 172]
abbrev dktX6_back_1 : List UInt8 := dkwX6_back_1 ++ []
def dkwX6_back_0 : List UInt8 := [42, 3, 181, 0, 166, 42, 180, 1, 80, 154, 0, 5, 2, 172, 42, 3, 5, 182, 2, 66, 42, 180, 0, 87]
abbrev dktX6_back_0 : List UInt8 := dkwX6_back_0 ++ dktX6_back_1
theorem dksX6_back_0 : cX6_back.data.toList.drop 0 = dktX6_back_0 := by decide +kernel
theorem dksX6_back_1 : cX6_back.data.toList.drop 24 = dktX6_back_1 := dk_seg dksX6_back_0 24 rfl rfl
theorem dX6_back_0 : decode cX6_back 0 = .ok (.aload_n 0, 1) := dk_42 (dk_at dksX6_back_0 0 rfl rfl)
theorem dX6_back_1 : decode cX6_back 1 = .ok (.iconst 0, 1) := dk_3 (dk_at dksX6_back_0 1 rfl rfl)
theorem dX6_back_2 : decode cX6_back 2 = .ok (.putfield 166, 3) := dk_181 0 166 (dk_at dksX6_back_0 2 rfl rfl)
theorem dX6_back_5 : decode cX6_back 5 = .ok (.aload_n 0, 1) := dk_42 (dk_at dksX6_back_0 5 rfl rfl)
theorem dX6_back_6 : decode cX6_back 6 = .ok (.getfield 336, 3) := dk_180 1 80 (dk_at dksX6_back_0 6 rfl rfl)
theorem dX6_back_9 : decode cX6_back 9 = .ok (.ifCond .ne 5, 3) := dk_154 0 5 (dk_at dksX6_back_0 9 rfl rfl)
theorem dX6_back_12 : decode cX6_back 12 = .ok (.iconst (-1), 1) := dk_2 (dk_at dksX6_back_0 12 rfl rfl)
theorem dX6_back_13 : decode cX6_back 13 = .ok (.ireturn, 1) := dk_172 (dk_at dksX6_back_0 13 rfl rfl)
theorem dX6_back_14 : decode cX6_back 14 = .ok (.aload_n 0, 1) := dk_42 (dk_at dksX6_back_0 14 rfl rfl)
theorem dX6_back_15 : decode cX6_back 15 = .ok (.iconst 0, 1) := dk_3 (dk_at dksX6_back_0 15 rfl rfl)
theorem dX6_back_16 : decode cX6_back 16 = .ok (.iconst 2, 1) := dk_5 (dk_at dksX6_back_0 16 rfl rfl)
theorem dX6_back_17 : decode cX6_back 17 = .ok (.invokevirtual 578, 3) := dk_182 2 66 (dk_at dksX6_back_0 17 rfl rfl)
theorem dX6_back_20 : decode cX6_back 20 = .ok (.aload_n 0, 1) := dk_42 (dk_at dksX6_back_0 20 rfl rfl)
theorem dX6_back_21 : decode cX6_back 21 = .ok (.getfield 87, 3) := dk_180 0 87 (dk_at dksX6_back_0 21 rfl rfl)
theorem dX6_back_24 : decode cX6_back 24 = .ok (.iconst 0, 1) := dk_3 (dk_at dksX6_back_1 0 rfl rfl)
theorem dX6_back_25 : decode cX6_back 25 = .ok (.iaload, 1) := dk_46 (dk_at dksX6_back_1 1 rfl rfl)
theorem dX6_back_26 : decode cX6_back 26 = .ok (.ireturn, 1) := dk_172 (dk_at dksX6_back_1 2 rfl rfl)
abbrev cX6_count : ByteArray := prog_23_method_122_code
def yX6_count : MethodName := ⟨RX6, "count", "(I)I"⟩
def dkwX6_count_5 : List UInt8 := [46, 162, 0, 18, 28, 42, 180, 0, 102, 29, 46, 96, 61, 132, 3, 1, 167, 255, 234, 28, 172, 2, 172]
abbrev dktX6_count_5 : List UInt8 := dkwX6_count_5 ++ []
def dkwX6_count_4 : List UInt8 := [180, 0, 87, 3, 46, 172, 42, 180, 1, 77, 172, 42, 182, 2, 59, 172, 3, 62, 29, 42, 180, 0, 13, 3]
abbrev dktX6_count_4 : List UInt8 := dkwX6_count_4 ++ dktX6_count_5
def dkwX6_count_3 : List UInt8 := [180, 0, 13, 6, 46, 172, 42, 180, 0, 13, 8, 46, 172, 42, 180, 0, 13, 16, 7, 46, 172, 42]
abbrev dktX6_count_3 : List UInt8 := dkwX6_count_3 ++ dktX6_count_4
def dkwX6_count_2 : List UInt8 := [42, 180, 0, 13, 3, 46, 172, 42, 180, 0, 13, 4, 46, 172, 42, 180, 0, 13, 5, 46, 172, 42]
abbrev dktX6_count_2 : List UInt8 := dkwX6_count_2 ++ dktX6_count_3
def dkwX6_count_1 : List UInt8 := [170, 0, 0, 0, 0, 0, 0, 145, 0, 0, 0, 0, 0, 0, 0, 9, 0, 0, 0, 56, 0, 0, 0, 63, 0, 0, 0, 70, 0, 0, 0, 77, 0, 0, 0, 84, 0, 0, 0, 91, 0, 0, 0, 99, 0, 0, 0, 106, 0, 0, 0, 111, 0, 0, 0, 116]
abbrev dktX6_count_1 : List UInt8 := dkwX6_count_1 ++ dktX6_count_2
def dkwX6_count_0 : List UInt8 := [42, 3, 181, 0, 166, 3, 61, 27]
abbrev dktX6_count_0 : List UInt8 := dkwX6_count_0 ++ dktX6_count_1
theorem dksX6_count_0 : cX6_count.data.toList.drop 0 = dktX6_count_0 := by decide +kernel
theorem dksX6_count_1 : cX6_count.data.toList.drop 8 = dktX6_count_1 := dk_seg dksX6_count_0 8 rfl rfl
theorem dksX6_count_2 : cX6_count.data.toList.drop 64 = dktX6_count_2 := dk_seg dksX6_count_1 56 rfl rfl
theorem dksX6_count_3 : cX6_count.data.toList.drop 86 = dktX6_count_3 := dk_seg dksX6_count_2 22 rfl rfl
theorem dksX6_count_4 : cX6_count.data.toList.drop 108 = dktX6_count_4 := dk_seg dksX6_count_3 22 rfl rfl
theorem dksX6_count_5 : cX6_count.data.toList.drop 132 = dktX6_count_5 := dk_seg dksX6_count_4 24 rfl rfl
theorem dX6_count_0 : decode cX6_count 0 = .ok (.aload_n 0, 1) := dk_42 (dk_at dksX6_count_0 0 rfl rfl)
theorem dX6_count_1 : decode cX6_count 1 = .ok (.iconst 0, 1) := dk_3 (dk_at dksX6_count_0 1 rfl rfl)
theorem dX6_count_2 : decode cX6_count 2 = .ok (.putfield 166, 3) := dk_181 0 166 (dk_at dksX6_count_0 2 rfl rfl)
theorem dX6_count_5 : decode cX6_count 5 = .ok (.iconst 0, 1) := dk_3 (dk_at dksX6_count_0 5 rfl rfl)
theorem dX6_count_6 : decode cX6_count 6 = .ok (.istore_n 2, 1) := dk_61 (dk_at dksX6_count_0 6 rfl rfl)
theorem dX6_count_7 : decode cX6_count 7 = .ok (.iload_n 1, 1) := dk_27 (dk_at dksX6_count_0 7 rfl rfl)
theorem dX6_count_8 : decode cX6_count 8 = .ok (.tableswitch 145 0 9 #[56, 63, 70, 77, 84, 91, 99, 106, 111, 116], 56) := by decide +kernel
theorem dX6_count_64 : decode cX6_count 64 = .ok (.aload_n 0, 1) := dk_42 (dk_at dksX6_count_2 0 rfl rfl)
theorem dX6_count_65 : decode cX6_count 65 = .ok (.getfield 13, 3) := dk_180 0 13 (dk_at dksX6_count_2 1 rfl rfl)
theorem dX6_count_68 : decode cX6_count 68 = .ok (.iconst 0, 1) := dk_3 (dk_at dksX6_count_2 4 rfl rfl)
theorem dX6_count_69 : decode cX6_count 69 = .ok (.iaload, 1) := dk_46 (dk_at dksX6_count_2 5 rfl rfl)
theorem dX6_count_70 : decode cX6_count 70 = .ok (.ireturn, 1) := dk_172 (dk_at dksX6_count_2 6 rfl rfl)
theorem dX6_count_71 : decode cX6_count 71 = .ok (.aload_n 0, 1) := dk_42 (dk_at dksX6_count_2 7 rfl rfl)
theorem dX6_count_72 : decode cX6_count 72 = .ok (.getfield 13, 3) := dk_180 0 13 (dk_at dksX6_count_2 8 rfl rfl)
theorem dX6_count_75 : decode cX6_count 75 = .ok (.iconst 1, 1) := dk_4 (dk_at dksX6_count_2 11 rfl rfl)
theorem dX6_count_76 : decode cX6_count 76 = .ok (.iaload, 1) := dk_46 (dk_at dksX6_count_2 12 rfl rfl)
theorem dX6_count_77 : decode cX6_count 77 = .ok (.ireturn, 1) := dk_172 (dk_at dksX6_count_2 13 rfl rfl)
theorem dX6_count_78 : decode cX6_count 78 = .ok (.aload_n 0, 1) := dk_42 (dk_at dksX6_count_2 14 rfl rfl)
theorem dX6_count_79 : decode cX6_count 79 = .ok (.getfield 13, 3) := dk_180 0 13 (dk_at dksX6_count_2 15 rfl rfl)
theorem dX6_count_82 : decode cX6_count 82 = .ok (.iconst 2, 1) := dk_5 (dk_at dksX6_count_2 18 rfl rfl)
theorem dX6_count_83 : decode cX6_count 83 = .ok (.iaload, 1) := dk_46 (dk_at dksX6_count_2 19 rfl rfl)
theorem dX6_count_84 : decode cX6_count 84 = .ok (.ireturn, 1) := dk_172 (dk_at dksX6_count_2 20 rfl rfl)
theorem dX6_count_85 : decode cX6_count 85 = .ok (.aload_n 0, 1) := dk_42 (dk_at dksX6_count_2 21 rfl rfl)
theorem dX6_count_86 : decode cX6_count 86 = .ok (.getfield 13, 3) := dk_180 0 13 (dk_at dksX6_count_3 0 rfl rfl)
theorem dX6_count_89 : decode cX6_count 89 = .ok (.iconst 3, 1) := dk_6 (dk_at dksX6_count_3 3 rfl rfl)
theorem dX6_count_90 : decode cX6_count 90 = .ok (.iaload, 1) := dk_46 (dk_at dksX6_count_3 4 rfl rfl)
theorem dX6_count_91 : decode cX6_count 91 = .ok (.ireturn, 1) := dk_172 (dk_at dksX6_count_3 5 rfl rfl)
theorem dX6_count_92 : decode cX6_count 92 = .ok (.aload_n 0, 1) := dk_42 (dk_at dksX6_count_3 6 rfl rfl)
theorem dX6_count_93 : decode cX6_count 93 = .ok (.getfield 13, 3) := dk_180 0 13 (dk_at dksX6_count_3 7 rfl rfl)
theorem dX6_count_96 : decode cX6_count 96 = .ok (.iconst 5, 1) := dk_8 (dk_at dksX6_count_3 10 rfl rfl)
theorem dX6_count_97 : decode cX6_count 97 = .ok (.iaload, 1) := dk_46 (dk_at dksX6_count_3 11 rfl rfl)
theorem dX6_count_98 : decode cX6_count 98 = .ok (.ireturn, 1) := dk_172 (dk_at dksX6_count_3 12 rfl rfl)
theorem dX6_count_99 : decode cX6_count 99 = .ok (.aload_n 0, 1) := dk_42 (dk_at dksX6_count_3 13 rfl rfl)
theorem dX6_count_100 : decode cX6_count 100 = .ok (.getfield 13, 3) := dk_180 0 13 (dk_at dksX6_count_3 14 rfl rfl)
theorem dX6_count_103 : decode cX6_count 103 = .ok (.bipush 7, 2) := dk_16 7 (dk_at dksX6_count_3 17 rfl rfl)
theorem dX6_count_105 : decode cX6_count 105 = .ok (.iaload, 1) := dk_46 (dk_at dksX6_count_3 19 rfl rfl)
theorem dX6_count_106 : decode cX6_count 106 = .ok (.ireturn, 1) := dk_172 (dk_at dksX6_count_3 20 rfl rfl)
theorem dX6_count_107 : decode cX6_count 107 = .ok (.aload_n 0, 1) := dk_42 (dk_at dksX6_count_3 21 rfl rfl)
theorem dX6_count_108 : decode cX6_count 108 = .ok (.getfield 87, 3) := dk_180 0 87 (dk_at dksX6_count_4 0 rfl rfl)
theorem dX6_count_111 : decode cX6_count 111 = .ok (.iconst 0, 1) := dk_3 (dk_at dksX6_count_4 3 rfl rfl)
theorem dX6_count_112 : decode cX6_count 112 = .ok (.iaload, 1) := dk_46 (dk_at dksX6_count_4 4 rfl rfl)
theorem dX6_count_113 : decode cX6_count 113 = .ok (.ireturn, 1) := dk_172 (dk_at dksX6_count_4 5 rfl rfl)
theorem dX6_count_114 : decode cX6_count 114 = .ok (.aload_n 0, 1) := dk_42 (dk_at dksX6_count_4 6 rfl rfl)
theorem dX6_count_115 : decode cX6_count 115 = .ok (.getfield 333, 3) := dk_180 1 77 (dk_at dksX6_count_4 7 rfl rfl)
theorem dX6_count_118 : decode cX6_count 118 = .ok (.ireturn, 1) := dk_172 (dk_at dksX6_count_4 10 rfl rfl)
theorem dX6_count_119 : decode cX6_count 119 = .ok (.aload_n 0, 1) := dk_42 (dk_at dksX6_count_4 11 rfl rfl)
theorem dX6_count_120 : decode cX6_count 120 = .ok (.invokevirtual 571, 3) := dk_182 2 59 (dk_at dksX6_count_4 12 rfl rfl)
theorem dX6_count_123 : decode cX6_count 123 = .ok (.ireturn, 1) := dk_172 (dk_at dksX6_count_4 15 rfl rfl)
theorem dX6_count_124 : decode cX6_count 124 = .ok (.iconst 0, 1) := dk_3 (dk_at dksX6_count_4 16 rfl rfl)
theorem dX6_count_125 : decode cX6_count 125 = .ok (.istore_n 3, 1) := dk_62 (dk_at dksX6_count_4 17 rfl rfl)
theorem dX6_count_126 : decode cX6_count 126 = .ok (.iload_n 3, 1) := dk_29 (dk_at dksX6_count_4 18 rfl rfl)
theorem dX6_count_127 : decode cX6_count 127 = .ok (.aload_n 0, 1) := dk_42 (dk_at dksX6_count_4 19 rfl rfl)
theorem dX6_count_128 : decode cX6_count 128 = .ok (.getfield 13, 3) := dk_180 0 13 (dk_at dksX6_count_4 20 rfl rfl)
theorem dX6_count_131 : decode cX6_count 131 = .ok (.iconst 0, 1) := dk_3 (dk_at dksX6_count_4 23 rfl rfl)
theorem dX6_count_132 : decode cX6_count 132 = .ok (.iaload, 1) := dk_46 (dk_at dksX6_count_5 0 rfl rfl)
theorem dX6_count_133 : decode cX6_count 133 = .ok (.if_icmp .ge 18, 3) := dk_162 0 18 (dk_at dksX6_count_5 1 rfl rfl)
theorem dX6_count_136 : decode cX6_count 136 = .ok (.iload_n 2, 1) := dk_28 (dk_at dksX6_count_5 4 rfl rfl)
theorem dX6_count_137 : decode cX6_count 137 = .ok (.aload_n 0, 1) := dk_42 (dk_at dksX6_count_5 5 rfl rfl)
theorem dX6_count_138 : decode cX6_count 138 = .ok (.getfield 102, 3) := dk_180 0 102 (dk_at dksX6_count_5 6 rfl rfl)
theorem dX6_count_141 : decode cX6_count 141 = .ok (.iload_n 3, 1) := dk_29 (dk_at dksX6_count_5 9 rfl rfl)
theorem dX6_count_142 : decode cX6_count 142 = .ok (.iaload, 1) := dk_46 (dk_at dksX6_count_5 10 rfl rfl)
theorem dX6_count_143 : decode cX6_count 143 = .ok (.iadd, 1) := dk_96 (dk_at dksX6_count_5 11 rfl rfl)
theorem dX6_count_144 : decode cX6_count 144 = .ok (.istore_n 2, 1) := dk_61 (dk_at dksX6_count_5 12 rfl rfl)
theorem dX6_count_145 : decode cX6_count 145 = .ok (.iinc 3 1, 3) := dk_132 3 1 (dk_at dksX6_count_5 13 rfl rfl)
theorem dX6_count_148 : decode cX6_count 148 = .ok (.goto (-22), 3) := dk_167 255 234 (dk_at dksX6_count_5 16 rfl rfl)
theorem dX6_count_151 : decode cX6_count 151 = .ok (.iload_n 2, 1) := dk_28 (dk_at dksX6_count_5 19 rfl rfl)
theorem dX6_count_152 : decode cX6_count 152 = .ok (.ireturn, 1) := dk_172 (dk_at dksX6_count_5 20 rfl rfl)
theorem dX6_count_153 : decode cX6_count 153 = .ok (.iconst (-1), 1) := dk_2 (dk_at dksX6_count_5 21 rfl rfl)
theorem dX6_count_154 : decode cX6_count 154 = .ok (.ireturn, 1) := dk_172 (dk_at dksX6_count_5 22 rfl rfl)
theorem q169 : (Jvm.Cond.initialized "MinistryDesksModel") ∈ lw_all := lw_g (lw_at lw_m1 9 rfl) rfl
theorem q915 : (Jvm.Cond.selects "MinistryDesksModel" ({ cls := "java/lang/Object", name := "getClass", desc := "()Ljava/lang/Class;" } : Jvm.MethodName) ({ cls := "java/lang/Object", name := "getClass", desc := "()Ljava/lang/Class;" } : Jvm.MethodName)) ∈ lw_all := lw_g (lw_at lw_m4 35 rfl) rfl
theorem q1675 : (Jvm.Cond.instantiable "MinistryDesksModel" (76 : Nat)) ∈ lw_all := lw_g (lw_at lw_m7 75 rfl) rfl
theorem q1677 : (Jvm.Cond.instanceMethod ({ cls := "MinistryDesksModel", name := "<init>", desc := "()V" } : Jvm.MethodName)) ∈ lw_all := lw_g (lw_at lw_m7 77 rfl) rfl
theorem q1678 : (Jvm.Cond.code ({ cls := "MinistryDesksModel", name := "<init>", desc := "()V" } : Jvm.MethodName) prog_23_method_1_code (1 : Nat) (Option.none : Option Jvm.ClassFile.FieldType)) ∈ lw_all := lw_g (lw_at lw_m7 78 rfl) rfl
theorem q1679 : (Jvm.Cond.methodLink "MinistryDesksModel" (3 : Nat) ({ cls := "java/lang/Object", name := "<init>", desc := "()V" } : Jvm.MethodName)) ∈ lw_all := lw_g (lw_at lw_m7 79 rfl) rfl
theorem q1680 : (Jvm.Cond.fieldLink "MinistryDesksModel" (166 : Nat) "MinistryDesksModel" "thrown" "I") ∈ lw_all := lw_g (lw_at lw_m7 80 rfl) rfl
theorem q1681 : (Jvm.Cond.fieldLink "MinistryDesksModel" (9 : Nat) "MinistryDesksModel" "tape" "[I") ∈ lw_all := lw_g (lw_at lw_m7 81 rfl) rfl
theorem q1682 : (Jvm.Cond.fieldLink "MinistryDesksModel" (169 : Nat) "MinistryDesksModel" "taped" "I") ∈ lw_all := lw_g (lw_at lw_m7 82 rfl) rfl
theorem q1683 : (Jvm.Cond.fieldLink "MinistryDesksModel" (13 : Nat) "MinistryDesksModel" "number" "[I") ∈ lw_all := lw_g (lw_at lw_m7 83 rfl) rfl
theorem q1684 : (Jvm.Cond.fieldLink "MinistryDesksModel" (16 : Nat) "MinistryDesksModel" "deskName" "[I") ∈ lw_all := lw_g (lw_at lw_m7 84 rfl) rfl
theorem q1685 : (Jvm.Cond.fieldLink "MinistryDesksModel" (19 : Nat) "MinistryDesksModel" "deskLines" "[I") ∈ lw_all := lw_g (lw_at lw_m7 85 rfl) rfl
theorem q1686 : (Jvm.Cond.fieldLink "MinistryDesksModel" (22 : Nat) "MinistryDesksModel" "asksWhom" "[I") ∈ lw_all := lw_g (lw_at lw_m7 86 rfl) rfl
theorem q1687 : (Jvm.Cond.fieldLink "MinistryDesksModel" (25 : Nat) "MinistryDesksModel" "factName" "[I") ∈ lw_all := lw_g (lw_at lw_m7 87 rfl) rfl
theorem q1688 : (Jvm.Cond.fieldLink "MinistryDesksModel" (28 : Nat) "MinistryDesksModel" "factWorth" "[I") ∈ lw_all := lw_g (lw_at lw_m7 88 rfl) rfl
theorem q1689 : (Jvm.Cond.fieldLink "MinistryDesksModel" (31 : Nat) "MinistryDesksModel" "comesDay" "[I") ∈ lw_all := lw_g (lw_at lw_m7 89 rfl) rfl
theorem q1690 : (Jvm.Cond.fieldLink "MinistryDesksModel" (34 : Nat) "MinistryDesksModel" "comesDesk" "[I") ∈ lw_all := lw_g (lw_at lw_m7 90 rfl) rfl
theorem q1691 : (Jvm.Cond.fieldLink "MinistryDesksModel" (37 : Nat) "MinistryDesksModel" "comesFact" "[I") ∈ lw_all := lw_g (lw_at lw_m7 91 rfl) rfl
theorem q1692 : (Jvm.Cond.fieldLink "MinistryDesksModel" (40 : Nat) "MinistryDesksModel" "comesTill" "[I") ∈ lw_all := lw_g (lw_at lw_m7 92 rfl) rfl
theorem q1693 : (Jvm.Cond.fieldLink "MinistryDesksModel" (43 : Nat) "MinistryDesksModel" "questionDay" "[I") ∈ lw_all := lw_g (lw_at lw_m7 93 rfl) rfl
theorem q1694 : (Jvm.Cond.fieldLink "MinistryDesksModel" (46 : Nat) "MinistryDesksModel" "questionDesk" "[I") ∈ lw_all := lw_g (lw_at lw_m7 94 rfl) rfl
theorem q1695 : (Jvm.Cond.fieldLink "MinistryDesksModel" (49 : Nat) "MinistryDesksModel" "questionFact" "[I") ∈ lw_all := lw_g (lw_at lw_m7 95 rfl) rfl
theorem q1696 : (Jvm.Cond.fieldLink "MinistryDesksModel" (52 : Nat) "MinistryDesksModel" "questionOdds" "[I") ∈ lw_all := lw_g (lw_at lw_m7 96 rfl) rfl
theorem q1697 : (Jvm.Cond.fieldLink "MinistryDesksModel" (55 : Nat) "MinistryDesksModel" "fireDay" "[I") ∈ lw_all := lw_g (lw_at lw_m7 97 rfl) rfl
theorem q1698 : (Jvm.Cond.fieldLink "MinistryDesksModel" (58 : Nat) "MinistryDesksModel" "fireDesk" "[I") ∈ lw_all := lw_g (lw_at lw_m7 98 rfl) rfl
theorem q1699 : (Jvm.Cond.fieldLink "MinistryDesksModel" (61 : Nat) "MinistryDesksModel" "mayName" "[I") ∈ lw_all := lw_g (lw_at lw_m7 99 rfl) rfl
theorem q1700 : (Jvm.Cond.fieldLink "MinistryDesksModel" (64 : Nat) "MinistryDesksModel" "sumFrom" "[I") ∈ lw_all := lw_g (lw_at lw_m7 100 rfl) rfl
theorem q1701 : (Jvm.Cond.fieldLink "MinistryDesksModel" (67 : Nat) "MinistryDesksModel" "sumTo" "[I") ∈ lw_all := lw_g (lw_at lw_m7 101 rfl) rfl
theorem q1702 : (Jvm.Cond.fieldLink "MinistryDesksModel" (70 : Nat) "MinistryDesksModel" "knotSort" "[I") ∈ lw_all := lw_g (lw_at lw_m7 102 rfl) rfl
theorem q1703 : (Jvm.Cond.fieldLink "MinistryDesksModel" (73 : Nat) "MinistryDesksModel" "knotValue" "[I") ∈ lw_all := lw_g (lw_at lw_m7 103 rfl) rfl
theorem q1704 : (Jvm.Cond.fieldLink "MinistryDesksModel" (249 : Nat) "MinistryDesksModel" "told" "I") ∈ lw_all := lw_g (lw_at lw_m7 104 rfl) rfl
theorem q1705 : (Jvm.Cond.fieldLink "MinistryDesksModel" (283 : Nat) "MinistryDesksModel" "lines" "I") ∈ lw_all := lw_g (lw_at lw_m7 105 rfl) rfl
theorem q1706 : (Jvm.Cond.fieldLink "MinistryDesksModel" (175 : Nat) "MinistryDesksModel" "size" "I") ∈ lw_all := lw_g (lw_at lw_m7 106 rfl) rfl
theorem q1707 : (Jvm.Cond.fieldLink "MinistryDesksModel" (172 : Nat) "MinistryDesksModel" "at" "I") ∈ lw_all := lw_g (lw_at lw_m7 107 rfl) rfl
theorem q1708 : (Jvm.Cond.fieldLink "MinistryDesksModel" (182 : Nat) "MinistryDesksModel" "place" "I") ∈ lw_all := lw_g (lw_at lw_m7 108 rfl) rfl
theorem q1709 : (Jvm.Cond.fieldLink "MinistryDesksModel" (185 : Nat) "MinistryDesksModel" "sort" "I") ∈ lw_all := lw_g (lw_at lw_m7 109 rfl) rfl
theorem q1710 : (Jvm.Cond.fieldLink "MinistryDesksModel" (195 : Nat) "MinistryDesksModel" "value" "I") ∈ lw_all := lw_g (lw_at lw_m7 110 rfl) rfl
theorem q1711 : (Jvm.Cond.fieldLink "MinistryDesksModel" (219 : Nat) "MinistryDesksModel" "fault" "I") ∈ lw_all := lw_g (lw_at lw_m7 111 rfl) rfl
theorem q1712 : (Jvm.Cond.fieldLink "MinistryDesksModel" (222 : Nat) "MinistryDesksModel" "faultPlace" "I") ∈ lw_all := lw_g (lw_at lw_m7 112 rfl) rfl
theorem q1713 : (Jvm.Cond.fieldLink "MinistryDesksModel" (326 : Nat) "MinistryDesksModel" "lastFault" "I") ∈ lw_all := lw_g (lw_at lw_m7 113 rfl) rfl
theorem q1714 : (Jvm.Cond.fieldLink "MinistryDesksModel" (76 : Nat) "MinistryDesksModel" "lastPlace" "I") ∈ lw_all := lw_g (lw_at lw_m7 114 rfl) rfl
theorem q1715 : (Jvm.Cond.fieldLink "MinistryDesksModel" (320 : Nat) "MinistryDesksModel" "open" "I") ∈ lw_all := lw_g (lw_at lw_m7 115 rfl) rfl
theorem q1716 : (Jvm.Cond.fieldLink "MinistryDesksModel" (292 : Nat) "MinistryDesksModel" "counted" "I") ∈ lw_all := lw_g (lw_at lw_m7 116 rfl) rfl
theorem q1717 : (Jvm.Cond.fieldLink "MinistryDesksModel" (346 : Nat) "MinistryDesksModel" "tryWhat" "I") ∈ lw_all := lw_g (lw_at lw_m7 117 rfl) rfl
theorem q1718 : (Jvm.Cond.fieldLink "MinistryDesksModel" (349 : Nat) "MinistryDesksModel" "tryAt" "I") ∈ lw_all := lw_g (lw_at lw_m7 118 rfl) rfl
theorem q1719 : (Jvm.Cond.fieldLink "MinistryDesksModel" (352 : Nat) "MinistryDesksModel" "keepBy" "I") ∈ lw_all := lw_g (lw_at lw_m7 119 rfl) rfl
theorem q1720 : (Jvm.Cond.fieldLink "MinistryDesksModel" (80 : Nat) "MinistryDesksModel" "names" "[J") ∈ lw_all := lw_g (lw_at lw_m7 120 rfl) rfl
theorem q1721 : (Jvm.Cond.fieldLink "MinistryDesksModel" (84 : Nat) "MinistryDesksModel" "worked" "[J") ∈ lw_all := lw_g (lw_at lw_m7 121 rfl) rfl
theorem q1722 : (Jvm.Cond.fieldLink "MinistryDesksModel" (355 : Nat) "MinistryDesksModel" "workedMany" "I") ∈ lw_all := lw_g (lw_at lw_m7 122 rfl) rfl
theorem q1723 : (Jvm.Cond.fieldLink "MinistryDesksModel" (87 : Nat) "MinistryDesksModel" "day" "[I") ∈ lw_all := lw_g (lw_at lw_m7 123 rfl) rfl
theorem q1724 : (Jvm.Cond.fieldLink "MinistryDesksModel" (90 : Nat) "MinistryDesksModel" "many" "[I") ∈ lw_all := lw_g (lw_at lw_m7 124 rfl) rfl
theorem q1725 : (Jvm.Cond.fieldLink "MinistryDesksModel" (93 : Nat) "MinistryDesksModel" "lineFact" "[I") ∈ lw_all := lw_g (lw_at lw_m7 125 rfl) rfl
theorem q1726 : (Jvm.Cond.fieldLink "MinistryDesksModel" (96 : Nat) "MinistryDesksModel" "lineTill" "[I") ∈ lw_all := lw_g (lw_at lw_m7 126 rfl) rfl
theorem q1727 : (Jvm.Cond.fieldLink "MinistryDesksModel" (99 : Nat) "MinistryDesksModel" "lineCame" "[I") ∈ lw_all := lw_g (lw_at lw_m7 127 rfl) rfl
theorem q1728 : (Jvm.Cond.fieldLink "MinistryDesksModel" (102 : Nat) "MinistryDesksModel" "loss" "[I") ∈ lw_all := lw_g (lw_at lw_m7 128 rfl) rfl
theorem q1729 : (Jvm.Cond.fieldLink "MinistryDesksModel" (105 : Nat) "MinistryDesksModel" "fell" "[I") ∈ lw_all := lw_g (lw_at lw_m7 129 rfl) rfl
theorem q1730 : (Jvm.Cond.fieldLink "MinistryDesksModel" (108 : Nat) "MinistryDesksModel" "hasLet" "[Z") ∈ lw_all := lw_g (lw_at lw_m7 130 rfl) rfl
theorem q1731 : (Jvm.Cond.fieldLink "MinistryDesksModel" (112 : Nat) "MinistryDesksModel" "answers" "[I") ∈ lw_all := lw_g (lw_at lw_m7 131 rfl) rfl
theorem q1732 : (Jvm.Cond.fieldLink "MinistryDesksModel" (115 : Nat) "MinistryDesksModel" "goneMany" "[I") ∈ lw_all := lw_g (lw_at lw_m7 132 rfl) rfl
theorem q1733 : (Jvm.Cond.fieldLink "MinistryDesksModel" (118 : Nat) "MinistryDesksModel" "goneDay" "[I") ∈ lw_all := lw_g (lw_at lw_m7 133 rfl) rfl
theorem q1734 : (Jvm.Cond.fieldLink "MinistryDesksModel" (121 : Nat) "MinistryDesksModel" "goneDesk" "[I") ∈ lw_all := lw_g (lw_at lw_m7 134 rfl) rfl
theorem q1735 : (Jvm.Cond.fieldLink "MinistryDesksModel" (124 : Nat) "MinistryDesksModel" "goneFact" "[I") ∈ lw_all := lw_g (lw_at lw_m7 135 rfl) rfl
theorem q1736 : (Jvm.Cond.fieldLink "MinistryDesksModel" (127 : Nat) "MinistryDesksModel" "goneWhy" "[I") ∈ lw_all := lw_g (lw_at lw_m7 136 rfl) rfl
theorem q1737 : (Jvm.Cond.fieldLink "MinistryDesksModel" (336 : Nat) "MinistryDesksModel" "hasImage" "Z") ∈ lw_all := lw_g (lw_at lw_m7 137 rfl) rfl
theorem q1738 : (Jvm.Cond.fieldLink "MinistryDesksModel" (130 : Nat) "MinistryDesksModel" "heldThen" "[I") ∈ lw_all := lw_g (lw_at lw_m7 138 rfl) rfl
theorem q1739 : (Jvm.Cond.fieldLink "MinistryDesksModel" (379 : Nat) "MinistryDesksModel" "isNoon" "Z") ∈ lw_all := lw_g (lw_at lw_m7 139 rfl) rfl
theorem q1740 : (Jvm.Cond.fieldLink "MinistryDesksModel" (133 : Nat) "MinistryDesksModel" "getsFact" "[I") ∈ lw_all := lw_g (lw_at lw_m7 140 rfl) rfl
theorem q1741 : (Jvm.Cond.fieldLink "MinistryDesksModel" (136 : Nat) "MinistryDesksModel" "getsTill" "[I") ∈ lw_all := lw_g (lw_at lw_m7 141 rfl) rfl
theorem q1742 : (Jvm.Cond.fieldLink "MinistryDesksModel" (139 : Nat) "MinistryDesksModel" "yet" "[J") ∈ lw_all := lw_g (lw_at lw_m7 142 rfl) rfl
theorem q1743 : (Jvm.Cond.fieldLink "MinistryDesksModel" (142 : Nat) "MinistryDesksModel" "stepOf" "[I") ∈ lw_all := lw_g (lw_at lw_m7 143 rfl) rfl
theorem q1744 : (Jvm.Cond.fieldLink "MinistryDesksModel" (461 : Nat) "MinistryDesksModel" "steps" "I") ∈ lw_all := lw_g (lw_at lw_m7 144 rfl) rfl
theorem q1745 : (Jvm.Cond.fieldLink "MinistryDesksModel" (145 : Nat) "MinistryDesksModel" "weight" "[I") ∈ lw_all := lw_g (lw_at lw_m7 145 rfl) rfl
theorem q1746 : (Jvm.Cond.fieldLink "MinistryDesksModel" (503 : Nat) "MinistryDesksModel" "walkSet" "I") ∈ lw_all := lw_g (lw_at lw_m7 146 rfl) rfl
theorem q1747 : (Jvm.Cond.fieldLink "MinistryDesksModel" (506 : Nat) "MinistryDesksModel" "walkLet" "I") ∈ lw_all := lw_g (lw_at lw_m7 147 rfl) rfl
theorem q1748 : (Jvm.Cond.fieldLink "MinistryDesksModel" (519 : Nat) "MinistryDesksModel" "drawn" "I") ∈ lw_all := lw_g (lw_at lw_m7 148 rfl) rfl
theorem q1749 : (Jvm.Cond.fieldLink "MinistryDesksModel" (148 : Nat) "MinistryDesksModel" "real" "[I") ∈ lw_all := lw_g (lw_at lw_m7 149 rfl) rfl
theorem q1750 : (Jvm.Cond.fieldLink "MinistryDesksModel" (151 : Nat) "MinistryDesksModel" "shares" "[I") ∈ lw_all := lw_g (lw_at lw_m7 150 rfl) rfl
theorem q1751 : (Jvm.Cond.fieldLink "MinistryDesksModel" (333 : Nat) "MinistryDesksModel" "heard" "I") ∈ lw_all := lw_g (lw_at lw_m7 151 rfl) rfl
theorem q1752 : (Jvm.Cond.fieldLink "MinistryDesksModel" (154 : Nat) "MinistryDesksModel" "knownBy" "I") ∈ lw_all := lw_g (lw_at lw_m7 152 rfl) rfl
theorem q1753 : (Jvm.Cond.fieldLink "MinistryDesksModel" (157 : Nat) "MinistryDesksModel" "heardQuestion" "[I") ∈ lw_all := lw_g (lw_at lw_m7 153 rfl) rfl
theorem q1754 : (Jvm.Cond.fieldLink "MinistryDesksModel" (160 : Nat) "MinistryDesksModel" "heardAnswer" "[I") ∈ lw_all := lw_g (lw_at lw_m7 154 rfl) rfl
theorem q1755 : (Jvm.Cond.fieldLink "MinistryDesksModel" (163 : Nat) "MinistryDesksModel" "isStruck" "[Z") ∈ lw_all := lw_g (lw_at lw_m7 155 rfl) rfl
theorem q1756 : (Jvm.Cond.lays "MinistryDesksModel" "MinistryDesksModel" "thrown" "I") ∈ lw_all := lw_g (lw_at lw_m7 156 rfl) rfl
theorem q1757 : (Jvm.Cond.soleField "MinistryDesksModel" "thrown") ∈ lw_all := lw_g (lw_at lw_m7 157 rfl) rfl
theorem q1758 : (Jvm.Cond.laysFinal "MinistryDesksModel" "MinistryDesksModel" "tape" "[I") ∈ lw_all := lw_g (lw_at lw_m7 158 rfl) rfl
theorem q1759 : (Jvm.Cond.soleField "MinistryDesksModel" "tape") ∈ lw_all := lw_g (lw_at lw_m7 159 rfl) rfl
theorem q1760 : (Jvm.Cond.lays "MinistryDesksModel" "MinistryDesksModel" "taped" "I") ∈ lw_all := lw_g (lw_at lw_m7 160 rfl) rfl
theorem q1761 : (Jvm.Cond.soleField "MinistryDesksModel" "taped") ∈ lw_all := lw_g (lw_at lw_m7 161 rfl) rfl
theorem q1762 : (Jvm.Cond.laysFinal "MinistryDesksModel" "MinistryDesksModel" "number" "[I") ∈ lw_all := lw_g (lw_at lw_m7 162 rfl) rfl
theorem q1763 : (Jvm.Cond.soleField "MinistryDesksModel" "number") ∈ lw_all := lw_g (lw_at lw_m7 163 rfl) rfl
theorem q1764 : (Jvm.Cond.laysFinal "MinistryDesksModel" "MinistryDesksModel" "deskName" "[I") ∈ lw_all := lw_g (lw_at lw_m7 164 rfl) rfl
theorem q1765 : (Jvm.Cond.soleField "MinistryDesksModel" "deskName") ∈ lw_all := lw_g (lw_at lw_m7 165 rfl) rfl
theorem q1766 : (Jvm.Cond.laysFinal "MinistryDesksModel" "MinistryDesksModel" "deskLines" "[I") ∈ lw_all := lw_g (lw_at lw_m7 166 rfl) rfl
theorem q1767 : (Jvm.Cond.soleField "MinistryDesksModel" "deskLines") ∈ lw_all := lw_g (lw_at lw_m7 167 rfl) rfl
theorem q1768 : (Jvm.Cond.laysFinal "MinistryDesksModel" "MinistryDesksModel" "asksWhom" "[I") ∈ lw_all := lw_g (lw_at lw_m7 168 rfl) rfl
theorem q1769 : (Jvm.Cond.soleField "MinistryDesksModel" "asksWhom") ∈ lw_all := lw_g (lw_at lw_m7 169 rfl) rfl
theorem q1770 : (Jvm.Cond.laysFinal "MinistryDesksModel" "MinistryDesksModel" "factName" "[I") ∈ lw_all := lw_g (lw_at lw_m7 170 rfl) rfl
theorem q1771 : (Jvm.Cond.soleField "MinistryDesksModel" "factName") ∈ lw_all := lw_g (lw_at lw_m7 171 rfl) rfl
theorem q1772 : (Jvm.Cond.laysFinal "MinistryDesksModel" "MinistryDesksModel" "factWorth" "[I") ∈ lw_all := lw_g (lw_at lw_m7 172 rfl) rfl
theorem q1773 : (Jvm.Cond.soleField "MinistryDesksModel" "factWorth") ∈ lw_all := lw_g (lw_at lw_m7 173 rfl) rfl
theorem q1774 : (Jvm.Cond.laysFinal "MinistryDesksModel" "MinistryDesksModel" "comesDay" "[I") ∈ lw_all := lw_g (lw_at lw_m7 174 rfl) rfl
theorem q1775 : (Jvm.Cond.soleField "MinistryDesksModel" "comesDay") ∈ lw_all := lw_g (lw_at lw_m7 175 rfl) rfl
theorem q1776 : (Jvm.Cond.laysFinal "MinistryDesksModel" "MinistryDesksModel" "comesDesk" "[I") ∈ lw_all := lw_g (lw_at lw_m7 176 rfl) rfl
theorem q1777 : (Jvm.Cond.soleField "MinistryDesksModel" "comesDesk") ∈ lw_all := lw_g (lw_at lw_m7 177 rfl) rfl
theorem q1778 : (Jvm.Cond.laysFinal "MinistryDesksModel" "MinistryDesksModel" "comesFact" "[I") ∈ lw_all := lw_g (lw_at lw_m7 178 rfl) rfl
theorem q1779 : (Jvm.Cond.soleField "MinistryDesksModel" "comesFact") ∈ lw_all := lw_g (lw_at lw_m7 179 rfl) rfl
theorem q1780 : (Jvm.Cond.laysFinal "MinistryDesksModel" "MinistryDesksModel" "comesTill" "[I") ∈ lw_all := lw_g (lw_at lw_m7 180 rfl) rfl
theorem q1781 : (Jvm.Cond.soleField "MinistryDesksModel" "comesTill") ∈ lw_all := lw_g (lw_at lw_m7 181 rfl) rfl
theorem q1782 : (Jvm.Cond.laysFinal "MinistryDesksModel" "MinistryDesksModel" "questionDay" "[I") ∈ lw_all := lw_g (lw_at lw_m7 182 rfl) rfl
theorem q1783 : (Jvm.Cond.soleField "MinistryDesksModel" "questionDay") ∈ lw_all := lw_g (lw_at lw_m7 183 rfl) rfl
theorem q1784 : (Jvm.Cond.laysFinal "MinistryDesksModel" "MinistryDesksModel" "questionDesk" "[I") ∈ lw_all := lw_g (lw_at lw_m7 184 rfl) rfl
theorem q1785 : (Jvm.Cond.soleField "MinistryDesksModel" "questionDesk") ∈ lw_all := lw_g (lw_at lw_m7 185 rfl) rfl
theorem q1786 : (Jvm.Cond.laysFinal "MinistryDesksModel" "MinistryDesksModel" "questionFact" "[I") ∈ lw_all := lw_g (lw_at lw_m7 186 rfl) rfl
theorem q1787 : (Jvm.Cond.soleField "MinistryDesksModel" "questionFact") ∈ lw_all := lw_g (lw_at lw_m7 187 rfl) rfl
theorem q1788 : (Jvm.Cond.laysFinal "MinistryDesksModel" "MinistryDesksModel" "questionOdds" "[I") ∈ lw_all := lw_g (lw_at lw_m7 188 rfl) rfl
theorem q1789 : (Jvm.Cond.soleField "MinistryDesksModel" "questionOdds") ∈ lw_all := lw_g (lw_at lw_m7 189 rfl) rfl
theorem q1790 : (Jvm.Cond.laysFinal "MinistryDesksModel" "MinistryDesksModel" "fireDay" "[I") ∈ lw_all := lw_g (lw_at lw_m7 190 rfl) rfl
theorem q1791 : (Jvm.Cond.soleField "MinistryDesksModel" "fireDay") ∈ lw_all := lw_g (lw_at lw_m7 191 rfl) rfl
theorem q1792 : (Jvm.Cond.laysFinal "MinistryDesksModel" "MinistryDesksModel" "fireDesk" "[I") ∈ lw_all := lw_g (lw_at lw_m7 192 rfl) rfl
theorem q1793 : (Jvm.Cond.soleField "MinistryDesksModel" "fireDesk") ∈ lw_all := lw_g (lw_at lw_m7 193 rfl) rfl
theorem q1794 : (Jvm.Cond.laysFinal "MinistryDesksModel" "MinistryDesksModel" "mayName" "[I") ∈ lw_all := lw_g (lw_at lw_m7 194 rfl) rfl
theorem q1795 : (Jvm.Cond.soleField "MinistryDesksModel" "mayName") ∈ lw_all := lw_g (lw_at lw_m7 195 rfl) rfl
theorem q1796 : (Jvm.Cond.laysFinal "MinistryDesksModel" "MinistryDesksModel" "sumFrom" "[I") ∈ lw_all := lw_g (lw_at lw_m7 196 rfl) rfl
theorem q1797 : (Jvm.Cond.soleField "MinistryDesksModel" "sumFrom") ∈ lw_all := lw_g (lw_at lw_m7 197 rfl) rfl
theorem q1798 : (Jvm.Cond.laysFinal "MinistryDesksModel" "MinistryDesksModel" "sumTo" "[I") ∈ lw_all := lw_g (lw_at lw_m7 198 rfl) rfl
theorem q1799 : (Jvm.Cond.soleField "MinistryDesksModel" "sumTo") ∈ lw_all := lw_g (lw_at lw_m7 199 rfl) rfl
theorem q1800 : (Jvm.Cond.laysFinal "MinistryDesksModel" "MinistryDesksModel" "knotSort" "[I") ∈ lw_all := lw_g (lw_at lw_m7 200 rfl) rfl
theorem q1801 : (Jvm.Cond.soleField "MinistryDesksModel" "knotSort") ∈ lw_all := lw_g (lw_at lw_m7 201 rfl) rfl
theorem q1802 : (Jvm.Cond.laysFinal "MinistryDesksModel" "MinistryDesksModel" "knotValue" "[I") ∈ lw_all := lw_g (lw_at lw_m7 202 rfl) rfl
theorem q1803 : (Jvm.Cond.soleField "MinistryDesksModel" "knotValue") ∈ lw_all := lw_g (lw_at lw_m7 203 rfl) rfl
theorem q1804 : (Jvm.Cond.lays "MinistryDesksModel" "MinistryDesksModel" "told" "I") ∈ lw_all := lw_g (lw_at lw_m7 204 rfl) rfl
theorem q1805 : (Jvm.Cond.soleField "MinistryDesksModel" "told") ∈ lw_all := lw_g (lw_at lw_m7 205 rfl) rfl
theorem q1806 : (Jvm.Cond.lays "MinistryDesksModel" "MinistryDesksModel" "lines" "I") ∈ lw_all := lw_g (lw_at lw_m7 206 rfl) rfl
theorem q1807 : (Jvm.Cond.soleField "MinistryDesksModel" "lines") ∈ lw_all := lw_g (lw_at lw_m7 207 rfl) rfl
theorem q1808 : (Jvm.Cond.lays "MinistryDesksModel" "MinistryDesksModel" "size" "I") ∈ lw_all := lw_g (lw_at lw_m7 208 rfl) rfl
theorem q1809 : (Jvm.Cond.soleField "MinistryDesksModel" "size") ∈ lw_all := lw_g (lw_at lw_m7 209 rfl) rfl
theorem q1810 : (Jvm.Cond.lays "MinistryDesksModel" "MinistryDesksModel" "at" "I") ∈ lw_all := lw_g (lw_at lw_m7 210 rfl) rfl
theorem q1811 : (Jvm.Cond.soleField "MinistryDesksModel" "at") ∈ lw_all := lw_g (lw_at lw_m7 211 rfl) rfl
theorem q1812 : (Jvm.Cond.lays "MinistryDesksModel" "MinistryDesksModel" "place" "I") ∈ lw_all := lw_g (lw_at lw_m7 212 rfl) rfl
theorem q1813 : (Jvm.Cond.soleField "MinistryDesksModel" "place") ∈ lw_all := lw_g (lw_at lw_m7 213 rfl) rfl
theorem q1814 : (Jvm.Cond.lays "MinistryDesksModel" "MinistryDesksModel" "sort" "I") ∈ lw_all := lw_g (lw_at lw_m7 214 rfl) rfl
theorem q1815 : (Jvm.Cond.soleField "MinistryDesksModel" "sort") ∈ lw_all := lw_g (lw_at lw_m7 215 rfl) rfl
theorem q1816 : (Jvm.Cond.lays "MinistryDesksModel" "MinistryDesksModel" "value" "I") ∈ lw_all := lw_g (lw_at lw_m7 216 rfl) rfl
theorem q1817 : (Jvm.Cond.soleField "MinistryDesksModel" "value") ∈ lw_all := lw_g (lw_at lw_m7 217 rfl) rfl
theorem q1818 : (Jvm.Cond.lays "MinistryDesksModel" "MinistryDesksModel" "fault" "I") ∈ lw_all := lw_g (lw_at lw_m7 218 rfl) rfl
theorem q1819 : (Jvm.Cond.soleField "MinistryDesksModel" "fault") ∈ lw_all := lw_g (lw_at lw_m7 219 rfl) rfl
theorem q1820 : (Jvm.Cond.lays "MinistryDesksModel" "MinistryDesksModel" "faultPlace" "I") ∈ lw_all := lw_g (lw_at lw_m7 220 rfl) rfl
theorem q1821 : (Jvm.Cond.soleField "MinistryDesksModel" "faultPlace") ∈ lw_all := lw_g (lw_at lw_m7 221 rfl) rfl
theorem q1822 : (Jvm.Cond.lays "MinistryDesksModel" "MinistryDesksModel" "lastFault" "I") ∈ lw_all := lw_g (lw_at lw_m7 222 rfl) rfl
theorem q1823 : (Jvm.Cond.soleField "MinistryDesksModel" "lastFault") ∈ lw_all := lw_g (lw_at lw_m7 223 rfl) rfl
theorem q1824 : (Jvm.Cond.lays "MinistryDesksModel" "MinistryDesksModel" "lastPlace" "I") ∈ lw_all := lw_g (lw_at lw_m7 224 rfl) rfl
theorem q1825 : (Jvm.Cond.soleField "MinistryDesksModel" "lastPlace") ∈ lw_all := lw_g (lw_at lw_m7 225 rfl) rfl
theorem q1826 : (Jvm.Cond.lays "MinistryDesksModel" "MinistryDesksModel" "open" "I") ∈ lw_all := lw_g (lw_at lw_m7 226 rfl) rfl
theorem q1827 : (Jvm.Cond.soleField "MinistryDesksModel" "open") ∈ lw_all := lw_g (lw_at lw_m7 227 rfl) rfl
theorem q1828 : (Jvm.Cond.lays "MinistryDesksModel" "MinistryDesksModel" "counted" "I") ∈ lw_all := lw_g (lw_at lw_m7 228 rfl) rfl
theorem q1829 : (Jvm.Cond.soleField "MinistryDesksModel" "counted") ∈ lw_all := lw_g (lw_at lw_m7 229 rfl) rfl
theorem q1830 : (Jvm.Cond.lays "MinistryDesksModel" "MinistryDesksModel" "tryWhat" "I") ∈ lw_all := lw_g (lw_at lw_m7 230 rfl) rfl
theorem q1831 : (Jvm.Cond.soleField "MinistryDesksModel" "tryWhat") ∈ lw_all := lw_g (lw_at lw_m7 231 rfl) rfl
theorem q1832 : (Jvm.Cond.lays "MinistryDesksModel" "MinistryDesksModel" "tryAt" "I") ∈ lw_all := lw_g (lw_at lw_m7 232 rfl) rfl
theorem q1833 : (Jvm.Cond.soleField "MinistryDesksModel" "tryAt") ∈ lw_all := lw_g (lw_at lw_m7 233 rfl) rfl
theorem q1834 : (Jvm.Cond.lays "MinistryDesksModel" "MinistryDesksModel" "keepBy" "I") ∈ lw_all := lw_g (lw_at lw_m7 234 rfl) rfl
theorem q1835 : (Jvm.Cond.soleField "MinistryDesksModel" "keepBy") ∈ lw_all := lw_g (lw_at lw_m7 235 rfl) rfl
theorem q1836 : (Jvm.Cond.laysFinal "MinistryDesksModel" "MinistryDesksModel" "names" "[J") ∈ lw_all := lw_g (lw_at lw_m7 236 rfl) rfl
theorem q1837 : (Jvm.Cond.soleField "MinistryDesksModel" "names") ∈ lw_all := lw_g (lw_at lw_m7 237 rfl) rfl
theorem q1838 : (Jvm.Cond.laysFinal "MinistryDesksModel" "MinistryDesksModel" "worked" "[J") ∈ lw_all := lw_g (lw_at lw_m7 238 rfl) rfl
theorem q1839 : (Jvm.Cond.soleField "MinistryDesksModel" "worked") ∈ lw_all := lw_g (lw_at lw_m7 239 rfl) rfl
theorem q1840 : (Jvm.Cond.lays "MinistryDesksModel" "MinistryDesksModel" "workedMany" "I") ∈ lw_all := lw_g (lw_at lw_m8 0 rfl) rfl
theorem q1841 : (Jvm.Cond.soleField "MinistryDesksModel" "workedMany") ∈ lw_all := lw_g (lw_at lw_m8 1 rfl) rfl
theorem q1842 : (Jvm.Cond.laysFinal "MinistryDesksModel" "MinistryDesksModel" "day" "[I") ∈ lw_all := lw_g (lw_at lw_m8 2 rfl) rfl
theorem q1843 : (Jvm.Cond.soleField "MinistryDesksModel" "day") ∈ lw_all := lw_g (lw_at lw_m8 3 rfl) rfl
theorem q1844 : (Jvm.Cond.laysFinal "MinistryDesksModel" "MinistryDesksModel" "many" "[I") ∈ lw_all := lw_g (lw_at lw_m8 4 rfl) rfl
theorem q1845 : (Jvm.Cond.soleField "MinistryDesksModel" "many") ∈ lw_all := lw_g (lw_at lw_m8 5 rfl) rfl
theorem q1846 : (Jvm.Cond.laysFinal "MinistryDesksModel" "MinistryDesksModel" "lineFact" "[I") ∈ lw_all := lw_g (lw_at lw_m8 6 rfl) rfl
theorem q1847 : (Jvm.Cond.soleField "MinistryDesksModel" "lineFact") ∈ lw_all := lw_g (lw_at lw_m8 7 rfl) rfl
theorem q1848 : (Jvm.Cond.laysFinal "MinistryDesksModel" "MinistryDesksModel" "lineTill" "[I") ∈ lw_all := lw_g (lw_at lw_m8 8 rfl) rfl
theorem q1849 : (Jvm.Cond.soleField "MinistryDesksModel" "lineTill") ∈ lw_all := lw_g (lw_at lw_m8 9 rfl) rfl
theorem q1850 : (Jvm.Cond.laysFinal "MinistryDesksModel" "MinistryDesksModel" "lineCame" "[I") ∈ lw_all := lw_g (lw_at lw_m8 10 rfl) rfl
theorem q1851 : (Jvm.Cond.soleField "MinistryDesksModel" "lineCame") ∈ lw_all := lw_g (lw_at lw_m8 11 rfl) rfl
theorem q1852 : (Jvm.Cond.laysFinal "MinistryDesksModel" "MinistryDesksModel" "loss" "[I") ∈ lw_all := lw_g (lw_at lw_m8 12 rfl) rfl
theorem q1853 : (Jvm.Cond.soleField "MinistryDesksModel" "loss") ∈ lw_all := lw_g (lw_at lw_m8 13 rfl) rfl
theorem q1854 : (Jvm.Cond.laysFinal "MinistryDesksModel" "MinistryDesksModel" "fell" "[I") ∈ lw_all := lw_g (lw_at lw_m8 14 rfl) rfl
theorem q1855 : (Jvm.Cond.soleField "MinistryDesksModel" "fell") ∈ lw_all := lw_g (lw_at lw_m8 15 rfl) rfl
theorem q1856 : (Jvm.Cond.laysFinal "MinistryDesksModel" "MinistryDesksModel" "hasLet" "[Z") ∈ lw_all := lw_g (lw_at lw_m8 16 rfl) rfl
theorem q1857 : (Jvm.Cond.soleField "MinistryDesksModel" "hasLet") ∈ lw_all := lw_g (lw_at lw_m8 17 rfl) rfl
theorem q1858 : (Jvm.Cond.laysFinal "MinistryDesksModel" "MinistryDesksModel" "answers" "[I") ∈ lw_all := lw_g (lw_at lw_m8 18 rfl) rfl
theorem q1859 : (Jvm.Cond.soleField "MinistryDesksModel" "answers") ∈ lw_all := lw_g (lw_at lw_m8 19 rfl) rfl
theorem q1860 : (Jvm.Cond.laysFinal "MinistryDesksModel" "MinistryDesksModel" "goneMany" "[I") ∈ lw_all := lw_g (lw_at lw_m8 20 rfl) rfl
theorem q1861 : (Jvm.Cond.soleField "MinistryDesksModel" "goneMany") ∈ lw_all := lw_g (lw_at lw_m8 21 rfl) rfl
theorem q1862 : (Jvm.Cond.laysFinal "MinistryDesksModel" "MinistryDesksModel" "goneDay" "[I") ∈ lw_all := lw_g (lw_at lw_m8 22 rfl) rfl
theorem q1863 : (Jvm.Cond.soleField "MinistryDesksModel" "goneDay") ∈ lw_all := lw_g (lw_at lw_m8 23 rfl) rfl
theorem q1864 : (Jvm.Cond.laysFinal "MinistryDesksModel" "MinistryDesksModel" "goneDesk" "[I") ∈ lw_all := lw_g (lw_at lw_m8 24 rfl) rfl
theorem q1865 : (Jvm.Cond.soleField "MinistryDesksModel" "goneDesk") ∈ lw_all := lw_g (lw_at lw_m8 25 rfl) rfl
theorem q1866 : (Jvm.Cond.laysFinal "MinistryDesksModel" "MinistryDesksModel" "goneFact" "[I") ∈ lw_all := lw_g (lw_at lw_m8 26 rfl) rfl
theorem q1867 : (Jvm.Cond.soleField "MinistryDesksModel" "goneFact") ∈ lw_all := lw_g (lw_at lw_m8 27 rfl) rfl
theorem q1868 : (Jvm.Cond.laysFinal "MinistryDesksModel" "MinistryDesksModel" "goneWhy" "[I") ∈ lw_all := lw_g (lw_at lw_m8 28 rfl) rfl
theorem q1869 : (Jvm.Cond.soleField "MinistryDesksModel" "goneWhy") ∈ lw_all := lw_g (lw_at lw_m8 29 rfl) rfl
theorem q1870 : (Jvm.Cond.lays "MinistryDesksModel" "MinistryDesksModel" "hasImage" "Z") ∈ lw_all := lw_g (lw_at lw_m8 30 rfl) rfl
theorem q1871 : (Jvm.Cond.soleField "MinistryDesksModel" "hasImage") ∈ lw_all := lw_g (lw_at lw_m8 31 rfl) rfl
theorem q1872 : (Jvm.Cond.laysFinal "MinistryDesksModel" "MinistryDesksModel" "heldThen" "[I") ∈ lw_all := lw_g (lw_at lw_m8 32 rfl) rfl
theorem q1873 : (Jvm.Cond.soleField "MinistryDesksModel" "heldThen") ∈ lw_all := lw_g (lw_at lw_m8 33 rfl) rfl
theorem q1874 : (Jvm.Cond.lays "MinistryDesksModel" "MinistryDesksModel" "isNoon" "Z") ∈ lw_all := lw_g (lw_at lw_m8 34 rfl) rfl
theorem q1875 : (Jvm.Cond.soleField "MinistryDesksModel" "isNoon") ∈ lw_all := lw_g (lw_at lw_m8 35 rfl) rfl
theorem q1876 : (Jvm.Cond.laysFinal "MinistryDesksModel" "MinistryDesksModel" "getsFact" "[I") ∈ lw_all := lw_g (lw_at lw_m8 36 rfl) rfl
theorem q1877 : (Jvm.Cond.soleField "MinistryDesksModel" "getsFact") ∈ lw_all := lw_g (lw_at lw_m8 37 rfl) rfl
theorem q1878 : (Jvm.Cond.laysFinal "MinistryDesksModel" "MinistryDesksModel" "getsTill" "[I") ∈ lw_all := lw_g (lw_at lw_m8 38 rfl) rfl
theorem q1879 : (Jvm.Cond.soleField "MinistryDesksModel" "getsTill") ∈ lw_all := lw_g (lw_at lw_m8 39 rfl) rfl
theorem q1880 : (Jvm.Cond.laysFinal "MinistryDesksModel" "MinistryDesksModel" "yet" "[J") ∈ lw_all := lw_g (lw_at lw_m8 40 rfl) rfl
theorem q1881 : (Jvm.Cond.soleField "MinistryDesksModel" "yet") ∈ lw_all := lw_g (lw_at lw_m8 41 rfl) rfl
theorem q1882 : (Jvm.Cond.laysFinal "MinistryDesksModel" "MinistryDesksModel" "stepOf" "[I") ∈ lw_all := lw_g (lw_at lw_m8 42 rfl) rfl
theorem q1883 : (Jvm.Cond.soleField "MinistryDesksModel" "stepOf") ∈ lw_all := lw_g (lw_at lw_m8 43 rfl) rfl
theorem q1884 : (Jvm.Cond.lays "MinistryDesksModel" "MinistryDesksModel" "steps" "I") ∈ lw_all := lw_g (lw_at lw_m8 44 rfl) rfl
theorem q1885 : (Jvm.Cond.soleField "MinistryDesksModel" "steps") ∈ lw_all := lw_g (lw_at lw_m8 45 rfl) rfl
theorem q1886 : (Jvm.Cond.laysFinal "MinistryDesksModel" "MinistryDesksModel" "weight" "[I") ∈ lw_all := lw_g (lw_at lw_m8 46 rfl) rfl
theorem q1887 : (Jvm.Cond.soleField "MinistryDesksModel" "weight") ∈ lw_all := lw_g (lw_at lw_m8 47 rfl) rfl
theorem q1888 : (Jvm.Cond.lays "MinistryDesksModel" "MinistryDesksModel" "walkSet" "I") ∈ lw_all := lw_g (lw_at lw_m8 48 rfl) rfl
theorem q1889 : (Jvm.Cond.soleField "MinistryDesksModel" "walkSet") ∈ lw_all := lw_g (lw_at lw_m8 49 rfl) rfl
theorem q1890 : (Jvm.Cond.lays "MinistryDesksModel" "MinistryDesksModel" "walkLet" "I") ∈ lw_all := lw_g (lw_at lw_m8 50 rfl) rfl
theorem q1891 : (Jvm.Cond.soleField "MinistryDesksModel" "walkLet") ∈ lw_all := lw_g (lw_at lw_m8 51 rfl) rfl
theorem q1892 : (Jvm.Cond.lays "MinistryDesksModel" "MinistryDesksModel" "drawn" "I") ∈ lw_all := lw_g (lw_at lw_m8 52 rfl) rfl
theorem q1893 : (Jvm.Cond.soleField "MinistryDesksModel" "drawn") ∈ lw_all := lw_g (lw_at lw_m8 53 rfl) rfl
theorem q1894 : (Jvm.Cond.laysFinal "MinistryDesksModel" "MinistryDesksModel" "real" "[I") ∈ lw_all := lw_g (lw_at lw_m8 54 rfl) rfl
theorem q1895 : (Jvm.Cond.soleField "MinistryDesksModel" "real") ∈ lw_all := lw_g (lw_at lw_m8 55 rfl) rfl
theorem q1896 : (Jvm.Cond.laysFinal "MinistryDesksModel" "MinistryDesksModel" "shares" "[I") ∈ lw_all := lw_g (lw_at lw_m8 56 rfl) rfl
theorem q1897 : (Jvm.Cond.soleField "MinistryDesksModel" "shares") ∈ lw_all := lw_g (lw_at lw_m8 57 rfl) rfl
theorem q1898 : (Jvm.Cond.lays "MinistryDesksModel" "MinistryDesksModel" "heard" "I") ∈ lw_all := lw_g (lw_at lw_m8 58 rfl) rfl
theorem q1899 : (Jvm.Cond.soleField "MinistryDesksModel" "heard") ∈ lw_all := lw_g (lw_at lw_m8 59 rfl) rfl
theorem q1900 : (Jvm.Cond.lays "MinistryDesksModel" "MinistryDesksModel" "knownBy" "I") ∈ lw_all := lw_g (lw_at lw_m8 60 rfl) rfl
theorem q1901 : (Jvm.Cond.soleField "MinistryDesksModel" "knownBy") ∈ lw_all := lw_g (lw_at lw_m8 61 rfl) rfl
theorem q1902 : (Jvm.Cond.laysFinal "MinistryDesksModel" "MinistryDesksModel" "heardQuestion" "[I") ∈ lw_all := lw_g (lw_at lw_m8 62 rfl) rfl
theorem q1903 : (Jvm.Cond.soleField "MinistryDesksModel" "heardQuestion") ∈ lw_all := lw_g (lw_at lw_m8 63 rfl) rfl
theorem q1904 : (Jvm.Cond.laysFinal "MinistryDesksModel" "MinistryDesksModel" "heardAnswer" "[I") ∈ lw_all := lw_g (lw_at lw_m8 64 rfl) rfl
theorem q1905 : (Jvm.Cond.soleField "MinistryDesksModel" "heardAnswer") ∈ lw_all := lw_g (lw_at lw_m8 65 rfl) rfl
theorem q1906 : (Jvm.Cond.laysFinal "MinistryDesksModel" "MinistryDesksModel" "isStruck" "[Z") ∈ lw_all := lw_g (lw_at lw_m8 66 rfl) rfl
theorem q1907 : (Jvm.Cond.soleField "MinistryDesksModel" "isStruck") ∈ lw_all := lw_g (lw_at lw_m8 67 rfl) rfl
theorem q1908 : (Jvm.Cond.superclass "MinistryDesksModel" "java/lang/Object") ∈ lw_all := lw_g (lw_at lw_m8 68 rfl) rfl
theorem q1910 : (Jvm.Cond.instanceMethod ({ cls := "MinistryDesksModel", name := "thrown", desc := "()I" } : Jvm.MethodName)) ∈ lw_all := lw_g (lw_at lw_m8 70 rfl) rfl
theorem q1911 : (Jvm.Cond.selects "MinistryDesksModel" ({ cls := "MinistryDesksModel", name := "thrown", desc := "()I" } : Jvm.MethodName) ({ cls := "MinistryDesksModel", name := "thrown", desc := "()I" } : Jvm.MethodName)) ∈ lw_all := lw_g (lw_at lw_m8 71 rfl) rfl
theorem q1912 : (Jvm.Cond.code ({ cls := "MinistryDesksModel", name := "thrown", desc := "()I" } : Jvm.MethodName) prog_23_method_2_code (1 : Nat) (Option.some Jvm.ClassFile.FieldType.int)) ∈ lw_all := lw_g (lw_at lw_m8 72 rfl) rfl
theorem q1914 : (Jvm.Cond.instanceMethod ({ cls := "MinistryDesksModel", name := "feed", desc := "(IIIII)I" } : Jvm.MethodName)) ∈ lw_all := lw_g (lw_at lw_m8 74 rfl) rfl
theorem q1915 : (Jvm.Cond.selects "MinistryDesksModel" ({ cls := "MinistryDesksModel", name := "feed", desc := "(IIIII)I" } : Jvm.MethodName) ({ cls := "MinistryDesksModel", name := "feed", desc := "(IIIII)I" } : Jvm.MethodName)) ∈ lw_all := lw_g (lw_at lw_m8 75 rfl) rfl
theorem q1916 : (Jvm.Cond.code ({ cls := "MinistryDesksModel", name := "feed", desc := "(IIIII)I" } : Jvm.MethodName) prog_23_method_3_code (8 : Nat) (Option.some Jvm.ClassFile.FieldType.int)) ∈ lw_all := lw_g (lw_at lw_m8 76 rfl) rfl
theorem q1918 : (Jvm.Cond.instanceMethod ({ cls := "MinistryDesksModel", name := "text", desc := "(I)I" } : Jvm.MethodName)) ∈ lw_all := lw_g (lw_at lw_m8 78 rfl) rfl
theorem q1919 : (Jvm.Cond.selects "MinistryDesksModel" ({ cls := "MinistryDesksModel", name := "text", desc := "(I)I" } : Jvm.MethodName) ({ cls := "MinistryDesksModel", name := "text", desc := "(I)I" } : Jvm.MethodName)) ∈ lw_all := lw_g (lw_at lw_m8 79 rfl) rfl
theorem q1920 : (Jvm.Cond.code ({ cls := "MinistryDesksModel", name := "text", desc := "(I)I" } : Jvm.MethodName) prog_23_method_39_code (3 : Nat) (Option.some Jvm.ClassFile.FieldType.int)) ∈ lw_all := lw_g (lw_at lw_m8 80 rfl) rfl
theorem q1921 : (Jvm.Cond.methodLink "MinistryDesksModel" (225 : Nat) ({ cls := "MinistryDesksModel", name := "token", desc := "()V" } : Jvm.MethodName)) ∈ lw_all := lw_g (lw_at lw_m8 81 rfl) rfl
theorem q1922 : (Jvm.Cond.privateMethod ({ cls := "MinistryDesksModel", name := "token", desc := "()V" } : Jvm.MethodName)) ∈ lw_tbl := lw_at lw_m8 82 rfl
theorem q1923 : (Jvm.Cond.instanceMethod ({ cls := "MinistryDesksModel", name := "token", desc := "()V" } : Jvm.MethodName)) ∈ lw_all := lw_g (lw_at lw_m8 83 rfl) rfl
theorem q1924 : (Jvm.Cond.code ({ cls := "MinistryDesksModel", name := "token", desc := "()V" } : Jvm.MethodName) prog_23_method_7_code (2 : Nat) (Option.none : Option Jvm.ClassFile.FieldType)) ∈ lw_all := lw_g (lw_at lw_m8 84 rfl) rfl
theorem q1925 : (Jvm.Cond.methodLink "MinistryDesksModel" (178 : Nat) ({ cls := "MinistryDesksModel", name := "here", desc := "()I" } : Jvm.MethodName)) ∈ lw_all := lw_g (lw_at lw_m8 85 rfl) rfl
theorem q1926 : (Jvm.Cond.privateMethod ({ cls := "MinistryDesksModel", name := "here", desc := "()I" } : Jvm.MethodName)) ∈ lw_tbl := lw_at lw_m8 86 rfl
theorem q1927 : (Jvm.Cond.instanceMethod ({ cls := "MinistryDesksModel", name := "here", desc := "()I" } : Jvm.MethodName)) ∈ lw_all := lw_g (lw_at lw_m8 87 rfl) rfl
theorem q1928 : (Jvm.Cond.code ({ cls := "MinistryDesksModel", name := "here", desc := "()I" } : Jvm.MethodName) prog_23_method_4_code (1 : Nat) (Option.some Jvm.ClassFile.FieldType.int)) ∈ lw_all := lw_g (lw_at lw_m8 88 rfl) rfl
theorem q1929 : (Jvm.Cond.methodLink "MinistryDesksModel" (188 : Nat) ({ cls := "MinistryDesksModel", name := "isSmall", desc := "(I)Z" } : Jvm.MethodName)) ∈ lw_all := lw_g (lw_at lw_m8 89 rfl) rfl
theorem q1930 : (Jvm.Cond.static ({ cls := "MinistryDesksModel", name := "isSmall", desc := "(I)Z" } : Jvm.MethodName)) ∈ lw_all := lw_g (lw_at lw_m8 90 rfl) rfl
theorem q1931 : (Jvm.Cond.code ({ cls := "MinistryDesksModel", name := "isSmall", desc := "(I)Z" } : Jvm.MethodName) prog_23_method_5_code (1 : Nat) (Option.some Jvm.ClassFile.FieldType.boolean)) ∈ lw_all := lw_g (lw_at lw_m8 91 rfl) rfl
theorem q1932 : (Jvm.Cond.methodLink "MinistryDesksModel" (192 : Nat) ({ cls := "MinistryDesksModel", name := "word", desc := "()I" } : Jvm.MethodName)) ∈ lw_all := lw_g (lw_at lw_m8 92 rfl) rfl
theorem q1933 : (Jvm.Cond.privateMethod ({ cls := "MinistryDesksModel", name := "word", desc := "()I" } : Jvm.MethodName)) ∈ lw_tbl := lw_at lw_m8 93 rfl
theorem q1934 : (Jvm.Cond.instanceMethod ({ cls := "MinistryDesksModel", name := "word", desc := "()I" } : Jvm.MethodName)) ∈ lw_all := lw_g (lw_at lw_m8 94 rfl) rfl
theorem q1935 : (Jvm.Cond.code ({ cls := "MinistryDesksModel", name := "word", desc := "()I" } : Jvm.MethodName) prog_23_method_9_code (4 : Nat) (Option.some Jvm.ClassFile.FieldType.int)) ∈ lw_all := lw_g (lw_at lw_m8 95 rfl) rfl
theorem q1936 : (Jvm.Cond.stringRef "MinistryDesksModel" (208 : Nat) "desk asks fact comes question fire patience law may keep want or and not held left worth others asked fresh ") ∈ lw_tbl := lw_at lw_m8 96 rfl
theorem q1937 : (Jvm.Cond.methodLink "MinistryDesksModel" (210 : Nat) ({ cls := "java/lang/String", name := "length", desc := "()I" } : Jvm.MethodName)) ∈ lw_all := lw_g (lw_at lw_m8 97 rfl) rfl
theorem q1938 : (Jvm.Cond.methodLink "MinistryDesksModel" (215 : Nat) ({ cls := "java/lang/String", name := "charAt", desc := "(I)C" } : Jvm.MethodName)) ∈ lw_all := lw_g (lw_at lw_m8 98 rfl) rfl
theorem q1939 : (Jvm.Cond.methodLink "MinistryDesksModel" (198 : Nat) ({ cls := "MinistryDesksModel", name := "name", desc := "()V" } : Jvm.MethodName)) ∈ lw_all := lw_g (lw_at lw_m8 99 rfl) rfl
theorem q1940 : (Jvm.Cond.privateMethod ({ cls := "MinistryDesksModel", name := "name", desc := "()V" } : Jvm.MethodName)) ∈ lw_tbl := lw_at lw_m8 100 rfl
theorem q1941 : (Jvm.Cond.instanceMethod ({ cls := "MinistryDesksModel", name := "name", desc := "()V" } : Jvm.MethodName)) ∈ lw_all := lw_g (lw_at lw_m8 101 rfl) rfl
theorem q1942 : (Jvm.Cond.code ({ cls := "MinistryDesksModel", name := "name", desc := "()V" } : Jvm.MethodName) prog_23_method_10_code (2 : Nat) (Option.none : Option Jvm.ClassFile.FieldType)) ∈ lw_all := lw_g (lw_at lw_m8 102 rfl) rfl
theorem q1943 : (Jvm.Cond.methodLink "MinistryDesksModel" (201 : Nat) ({ cls := "MinistryDesksModel", name := "isDigit", desc := "(I)Z" } : Jvm.MethodName)) ∈ lw_all := lw_g (lw_at lw_m8 103 rfl) rfl
theorem q1944 : (Jvm.Cond.static ({ cls := "MinistryDesksModel", name := "isDigit", desc := "(I)Z" } : Jvm.MethodName)) ∈ lw_all := lw_g (lw_at lw_m8 104 rfl) rfl
theorem q1945 : (Jvm.Cond.code ({ cls := "MinistryDesksModel", name := "isDigit", desc := "(I)Z" } : Jvm.MethodName) prog_23_method_6_code (1 : Nat) (Option.some Jvm.ClassFile.FieldType.boolean)) ∈ lw_all := lw_g (lw_at lw_m8 105 rfl) rfl
theorem q1946 : (Jvm.Cond.methodLink "MinistryDesksModel" (204 : Nat) ({ cls := "MinistryDesksModel", name := "sign", desc := "(I)V" } : Jvm.MethodName)) ∈ lw_all := lw_g (lw_at lw_m8 106 rfl) rfl
theorem q1947 : (Jvm.Cond.privateMethod ({ cls := "MinistryDesksModel", name := "sign", desc := "(I)V" } : Jvm.MethodName)) ∈ lw_tbl := lw_at lw_m8 107 rfl
theorem q1948 : (Jvm.Cond.instanceMethod ({ cls := "MinistryDesksModel", name := "sign", desc := "(I)V" } : Jvm.MethodName)) ∈ lw_all := lw_g (lw_at lw_m8 108 rfl) rfl
theorem q1949 : (Jvm.Cond.code ({ cls := "MinistryDesksModel", name := "sign", desc := "(I)V" } : Jvm.MethodName) prog_23_method_8_code (2 : Nat) (Option.none : Option Jvm.ClassFile.FieldType)) ∈ lw_all := lw_g (lw_at lw_m8 109 rfl) rfl
theorem q1950 : (Jvm.Cond.methodLink "MinistryDesksModel" (323 : Nat) ({ cls := "MinistryDesksModel", name := "line", desc := "()V" } : Jvm.MethodName)) ∈ lw_all := lw_g (lw_at lw_m8 110 rfl) rfl
theorem q1951 : (Jvm.Cond.privateMethod ({ cls := "MinistryDesksModel", name := "line", desc := "()V" } : Jvm.MethodName)) ∈ lw_tbl := lw_at lw_m8 111 rfl
theorem q1952 : (Jvm.Cond.instanceMethod ({ cls := "MinistryDesksModel", name := "line", desc := "()V" } : Jvm.MethodName)) ∈ lw_all := lw_g (lw_at lw_m8 112 rfl) rfl
theorem q1953 : (Jvm.Cond.code ({ cls := "MinistryDesksModel", name := "line", desc := "()V" } : Jvm.MethodName) prog_23_method_23_code (3 : Nat) (Option.none : Option Jvm.ClassFile.FieldType)) ∈ lw_all := lw_g (lw_at lw_m8 113 rfl) rfl
theorem q1954 : (Jvm.Cond.methodLink "MinistryDesksModel" (228 : Nat) ({ cls := "MinistryDesksModel", name := "wrong", desc := "(I)V" } : Jvm.MethodName)) ∈ lw_all := lw_g (lw_at lw_m8 114 rfl) rfl
theorem q1955 : (Jvm.Cond.privateMethod ({ cls := "MinistryDesksModel", name := "wrong", desc := "(I)V" } : Jvm.MethodName)) ∈ lw_tbl := lw_at lw_m8 115 rfl
theorem q1956 : (Jvm.Cond.instanceMethod ({ cls := "MinistryDesksModel", name := "wrong", desc := "(I)V" } : Jvm.MethodName)) ∈ lw_all := lw_g (lw_at lw_m8 116 rfl) rfl
theorem q1957 : (Jvm.Cond.code ({ cls := "MinistryDesksModel", name := "wrong", desc := "(I)V" } : Jvm.MethodName) prog_23_method_11_code (2 : Nat) (Option.none : Option Jvm.ClassFile.FieldType)) ∈ lw_all := lw_g (lw_at lw_m8 117 rfl) rfl
theorem q1958 : (Jvm.Cond.methodLink "MinistryDesksModel" (246 : Nat) ({ cls := "MinistryDesksModel", name := "isFull", desc := "(I)Z" } : Jvm.MethodName)) ∈ lw_all := lw_g (lw_at lw_m8 118 rfl) rfl
theorem q1959 : (Jvm.Cond.privateMethod ({ cls := "MinistryDesksModel", name := "isFull", desc := "(I)Z" } : Jvm.MethodName)) ∈ lw_tbl := lw_at lw_m8 119 rfl
theorem q1960 : (Jvm.Cond.instanceMethod ({ cls := "MinistryDesksModel", name := "isFull", desc := "(I)Z" } : Jvm.MethodName)) ∈ lw_all := lw_g (lw_at lw_m8 120 rfl) rfl
theorem q1961 : (Jvm.Cond.code ({ cls := "MinistryDesksModel", name := "isFull", desc := "(I)Z" } : Jvm.MethodName) prog_23_method_22_code (2 : Nat) (Option.some Jvm.ClassFile.FieldType.boolean)) ∈ lw_all := lw_g (lw_at lw_m8 121 rfl) rfl
theorem q1962 : (Jvm.Cond.methodLink "MinistryDesksModel" (242 : Nat) ({ cls := "MinistryDesksModel", name := "fresher", desc := "(I)I" } : Jvm.MethodName)) ∈ lw_all := lw_g (lw_at lw_m8 122 rfl) rfl
theorem q1963 : (Jvm.Cond.privateMethod ({ cls := "MinistryDesksModel", name := "fresher", desc := "(I)I" } : Jvm.MethodName)) ∈ lw_tbl := lw_at lw_m8 123 rfl
theorem q1964 : (Jvm.Cond.instanceMethod ({ cls := "MinistryDesksModel", name := "fresher", desc := "(I)I" } : Jvm.MethodName)) ∈ lw_all := lw_g (lw_at lw_m8 124 rfl) rfl
theorem q1965 : (Jvm.Cond.code ({ cls := "MinistryDesksModel", name := "fresher", desc := "(I)I" } : Jvm.MethodName) prog_23_method_20_code (2 : Nat) (Option.some Jvm.ClassFile.FieldType.int)) ∈ lw_all := lw_g (lw_at lw_m8 125 rfl) rfl
theorem q1966 : (Jvm.Cond.methodLink "MinistryDesksModel" (252 : Nat) ({ cls := "MinistryDesksModel", name := "fresh", desc := "([III)I" } : Jvm.MethodName)) ∈ lw_all := lw_g (lw_at lw_m8 126 rfl) rfl
theorem q1967 : (Jvm.Cond.privateMethod ({ cls := "MinistryDesksModel", name := "fresh", desc := "([III)I" } : Jvm.MethodName)) ∈ lw_tbl := lw_at lw_m8 127 rfl
theorem q1968 : (Jvm.Cond.instanceMethod ({ cls := "MinistryDesksModel", name := "fresh", desc := "([III)I" } : Jvm.MethodName)) ∈ lw_all := lw_g (lw_at lw_m8 128 rfl) rfl
theorem q1969 : (Jvm.Cond.code ({ cls := "MinistryDesksModel", name := "fresh", desc := "([III)I" } : Jvm.MethodName) prog_23_method_17_code (5 : Nat) (Option.some Jvm.ClassFile.FieldType.int)) ∈ lw_all := lw_g (lw_at lw_m8 129 rfl) rfl
theorem q1970 : (Jvm.Cond.methodLink "MinistryDesksModel" (231 : Nat) ({ cls := "MinistryDesksModel", name := "found", desc := "([IIII)I" } : Jvm.MethodName)) ∈ lw_all := lw_g (lw_at lw_m8 130 rfl) rfl
theorem q1971 : (Jvm.Cond.static ({ cls := "MinistryDesksModel", name := "found", desc := "([IIII)I" } : Jvm.MethodName)) ∈ lw_all := lw_g (lw_at lw_m8 131 rfl) rfl
theorem q1972 : (Jvm.Cond.code ({ cls := "MinistryDesksModel", name := "found", desc := "([IIII)I" } : Jvm.MethodName) prog_23_method_16_code (5 : Nat) (Option.some Jvm.ClassFile.FieldType.int)) ∈ lw_all := lw_g (lw_at lw_m8 132 rfl) rfl
theorem q1973 : (Jvm.Cond.methodLink "MinistryDesksModel" (255 : Nat) ({ cls := "MinistryDesksModel", name := "numeral", desc := "(II)I" } : Jvm.MethodName)) ∈ lw_all := lw_g (lw_at lw_m8 133 rfl) rfl
theorem q1974 : (Jvm.Cond.privateMethod ({ cls := "MinistryDesksModel", name := "numeral", desc := "(II)I" } : Jvm.MethodName)) ∈ lw_tbl := lw_at lw_m8 134 rfl
theorem q1975 : (Jvm.Cond.instanceMethod ({ cls := "MinistryDesksModel", name := "numeral", desc := "(II)I" } : Jvm.MethodName)) ∈ lw_all := lw_g (lw_at lw_m8 135 rfl) rfl
theorem q1976 : (Jvm.Cond.code ({ cls := "MinistryDesksModel", name := "numeral", desc := "(II)I" } : Jvm.MethodName) prog_23_method_15_code (4 : Nat) (Option.some Jvm.ClassFile.FieldType.int)) ∈ lw_all := lw_g (lw_at lw_m8 136 rfl) rfl
theorem q1977 : (Jvm.Cond.methodLink "MinistryDesksModel" (259 : Nat) ({ cls := "MinistryDesksModel", name := "oneMore", desc := "(I)V" } : Jvm.MethodName)) ∈ lw_all := lw_g (lw_at lw_m8 137 rfl) rfl
theorem q1978 : (Jvm.Cond.privateMethod ({ cls := "MinistryDesksModel", name := "oneMore", desc := "(I)V" } : Jvm.MethodName)) ∈ lw_tbl := lw_at lw_m8 138 rfl
theorem q1979 : (Jvm.Cond.instanceMethod ({ cls := "MinistryDesksModel", name := "oneMore", desc := "(I)V" } : Jvm.MethodName)) ∈ lw_all := lw_g (lw_at lw_m8 139 rfl) rfl
theorem q1980 : (Jvm.Cond.code ({ cls := "MinistryDesksModel", name := "oneMore", desc := "(I)V" } : Jvm.MethodName) prog_23_method_21_code (2 : Nat) (Option.none : Option Jvm.ClassFile.FieldType)) ∈ lw_all := lw_g (lw_at lw_m8 140 rfl) rfl
theorem q1981 : (Jvm.Cond.methodLink "MinistryDesksModel" (262 : Nat) ({ cls := "MinistryDesksModel", name := "asksLine", desc := "()V" } : Jvm.MethodName)) ∈ lw_all := lw_g (lw_at lw_m8 141 rfl) rfl
theorem q1982 : (Jvm.Cond.privateMethod ({ cls := "MinistryDesksModel", name := "asksLine", desc := "()V" } : Jvm.MethodName)) ∈ lw_tbl := lw_at lw_m8 142 rfl
theorem q1983 : (Jvm.Cond.instanceMethod ({ cls := "MinistryDesksModel", name := "asksLine", desc := "()V" } : Jvm.MethodName)) ∈ lw_all := lw_g (lw_at lw_m8 143 rfl) rfl
theorem q1984 : (Jvm.Cond.code ({ cls := "MinistryDesksModel", name := "asksLine", desc := "()V" } : Jvm.MethodName) prog_23_method_26_code (3 : Nat) (Option.none : Option Jvm.ClassFile.FieldType)) ∈ lw_all := lw_g (lw_at lw_m8 144 rfl) rfl
theorem q1985 : (Jvm.Cond.methodLink "MinistryDesksModel" (235 : Nat) ({ cls := "MinistryDesksModel", name := "atHand", desc := "([III)I" } : Jvm.MethodName)) ∈ lw_all := lw_g (lw_at lw_m8 145 rfl) rfl
theorem q1986 : (Jvm.Cond.privateMethod ({ cls := "MinistryDesksModel", name := "atHand", desc := "([III)I" } : Jvm.MethodName)) ∈ lw_tbl := lw_at lw_m8 146 rfl
theorem q1987 : (Jvm.Cond.instanceMethod ({ cls := "MinistryDesksModel", name := "atHand", desc := "([III)I" } : Jvm.MethodName)) ∈ lw_all := lw_g (lw_at lw_m8 147 rfl) rfl
theorem q1988 : (Jvm.Cond.code ({ cls := "MinistryDesksModel", name := "atHand", desc := "([III)I" } : Jvm.MethodName) prog_23_method_18_code (4 : Nat) (Option.some Jvm.ClassFile.FieldType.int)) ∈ lw_all := lw_g (lw_at lw_m8 148 rfl) rfl
theorem q1989 : (Jvm.Cond.methodLink "MinistryDesksModel" (239 : Nat) ({ cls := "MinistryDesksModel", name := "goOn", desc := "()V" } : Jvm.MethodName)) ∈ lw_all := lw_g (lw_at lw_m8 149 rfl) rfl
theorem q1990 : (Jvm.Cond.privateMethod ({ cls := "MinistryDesksModel", name := "goOn", desc := "()V" } : Jvm.MethodName)) ∈ lw_tbl := lw_at lw_m8 150 rfl
theorem q1991 : (Jvm.Cond.instanceMethod ({ cls := "MinistryDesksModel", name := "goOn", desc := "()V" } : Jvm.MethodName)) ∈ lw_all := lw_g (lw_at lw_m8 151 rfl) rfl
theorem q1992 : (Jvm.Cond.code ({ cls := "MinistryDesksModel", name := "goOn", desc := "()V" } : Jvm.MethodName) prog_23_method_14_code (1 : Nat) (Option.none : Option Jvm.ClassFile.FieldType)) ∈ lw_all := lw_g (lw_at lw_m8 152 rfl) rfl
theorem q1993 : (Jvm.Cond.methodLink "MinistryDesksModel" (265 : Nat) ({ cls := "MinistryDesksModel", name := "comesLine", desc := "(I)V" } : Jvm.MethodName)) ∈ lw_all := lw_g (lw_at lw_m8 153 rfl) rfl
theorem q1994 : (Jvm.Cond.privateMethod ({ cls := "MinistryDesksModel", name := "comesLine", desc := "(I)V" } : Jvm.MethodName)) ∈ lw_tbl := lw_at lw_m8 154 rfl
theorem q1995 : (Jvm.Cond.instanceMethod ({ cls := "MinistryDesksModel", name := "comesLine", desc := "(I)V" } : Jvm.MethodName)) ∈ lw_all := lw_g (lw_at lw_m8 155 rfl) rfl
theorem q1996 : (Jvm.Cond.code ({ cls := "MinistryDesksModel", name := "comesLine", desc := "(I)V" } : Jvm.MethodName) prog_23_method_27_code (2 : Nat) (Option.none : Option Jvm.ClassFile.FieldType)) ∈ lw_all := lw_g (lw_at lw_m8 156 rfl) rfl
theorem q1997 : (Jvm.Cond.methodLink "MinistryDesksModel" (271 : Nat) ({ cls := "MinistryDesksModel", name := "desk", desc := "()I" } : Jvm.MethodName)) ∈ lw_all := lw_g (lw_at lw_m8 157 rfl) rfl
theorem q1998 : (Jvm.Cond.privateMethod ({ cls := "MinistryDesksModel", name := "desk", desc := "()I" } : Jvm.MethodName)) ∈ lw_tbl := lw_at lw_m8 158 rfl
theorem q1999 : (Jvm.Cond.instanceMethod ({ cls := "MinistryDesksModel", name := "desk", desc := "()I" } : Jvm.MethodName)) ∈ lw_all := lw_g (lw_at lw_m8 159 rfl) rfl
theorem q2000 : (Jvm.Cond.code ({ cls := "MinistryDesksModel", name := "desk", desc := "()I" } : Jvm.MethodName) prog_23_method_24_code (1 : Nat) (Option.some Jvm.ClassFile.FieldType.int)) ∈ lw_all := lw_g (lw_at lw_m8 160 rfl) rfl
theorem q2001 : (Jvm.Cond.methodLink "MinistryDesksModel" (286 : Nat) ({ cls := "MinistryDesksModel", name := "ahead", desc := "([III)I" } : Jvm.MethodName)) ∈ lw_all := lw_g (lw_at lw_m8 161 rfl) rfl
theorem q2002 : (Jvm.Cond.privateMethod ({ cls := "MinistryDesksModel", name := "ahead", desc := "([III)I" } : Jvm.MethodName)) ∈ lw_tbl := lw_at lw_m8 162 rfl
theorem q2003 : (Jvm.Cond.instanceMethod ({ cls := "MinistryDesksModel", name := "ahead", desc := "([III)I" } : Jvm.MethodName)) ∈ lw_all := lw_g (lw_at lw_m8 163 rfl) rfl
theorem q2004 : (Jvm.Cond.code ({ cls := "MinistryDesksModel", name := "ahead", desc := "([III)I" } : Jvm.MethodName) prog_23_method_19_code (5 : Nat) (Option.some Jvm.ClassFile.FieldType.int)) ∈ lw_all := lw_g (lw_at lw_m8 164 rfl) rfl
theorem q2005 : (Jvm.Cond.methodLink "MinistryDesksModel" (289 : Nat) ({ cls := "MinistryDesksModel", name := "fact", desc := "()I" } : Jvm.MethodName)) ∈ lw_all := lw_g (lw_at lw_m8 165 rfl) rfl
theorem q2006 : (Jvm.Cond.privateMethod ({ cls := "MinistryDesksModel", name := "fact", desc := "()I" } : Jvm.MethodName)) ∈ lw_tbl := lw_at lw_m8 166 rfl
theorem q2007 : (Jvm.Cond.instanceMethod ({ cls := "MinistryDesksModel", name := "fact", desc := "()I" } : Jvm.MethodName)) ∈ lw_all := lw_g (lw_at lw_m8 167 rfl) rfl
theorem q2008 : (Jvm.Cond.code ({ cls := "MinistryDesksModel", name := "fact", desc := "()I" } : Jvm.MethodName) prog_23_method_25_code (1 : Nat) (Option.some Jvm.ClassFile.FieldType.int)) ∈ lw_all := lw_g (lw_at lw_m8 168 rfl) rfl
theorem q2009 : (Jvm.Cond.methodLink "MinistryDesksModel" (268 : Nat) ({ cls := "MinistryDesksModel", name := "questionLine", desc := "(I)V" } : Jvm.MethodName)) ∈ lw_all := lw_g (lw_at lw_m8 169 rfl) rfl
theorem q2010 : (Jvm.Cond.privateMethod ({ cls := "MinistryDesksModel", name := "questionLine", desc := "(I)V" } : Jvm.MethodName)) ∈ lw_tbl := lw_at lw_m8 170 rfl
theorem q2011 : (Jvm.Cond.instanceMethod ({ cls := "MinistryDesksModel", name := "questionLine", desc := "(I)V" } : Jvm.MethodName)) ∈ lw_all := lw_g (lw_at lw_m8 171 rfl) rfl
theorem q2012 : (Jvm.Cond.code ({ cls := "MinistryDesksModel", name := "questionLine", desc := "(I)V" } : Jvm.MethodName) prog_23_method_28_code (2 : Nat) (Option.none : Option Jvm.ClassFile.FieldType)) ∈ lw_all := lw_g (lw_at lw_m8 172 rfl) rfl
theorem q2013 : (Jvm.Cond.methodLink "MinistryDesksModel" (274 : Nat) ({ cls := "MinistryDesksModel", name := "lawLine", desc := "()V" } : Jvm.MethodName)) ∈ lw_all := lw_g (lw_at lw_m8 173 rfl) rfl
theorem q2014 : (Jvm.Cond.privateMethod ({ cls := "MinistryDesksModel", name := "lawLine", desc := "()V" } : Jvm.MethodName)) ∈ lw_tbl := lw_at lw_m8 174 rfl
theorem q2015 : (Jvm.Cond.instanceMethod ({ cls := "MinistryDesksModel", name := "lawLine", desc := "()V" } : Jvm.MethodName)) ∈ lw_all := lw_g (lw_at lw_m8 175 rfl) rfl
theorem q2016 : (Jvm.Cond.code ({ cls := "MinistryDesksModel", name := "lawLine", desc := "()V" } : Jvm.MethodName) prog_23_method_29_code (2 : Nat) (Option.none : Option Jvm.ClassFile.FieldType)) ∈ lw_all := lw_g (lw_at lw_m8 176 rfl) rfl
theorem q2017 : (Jvm.Cond.methodLink "MinistryDesksModel" (277 : Nat) ({ cls := "MinistryDesksModel", name := "expression", desc := "()V" } : Jvm.MethodName)) ∈ lw_all := lw_g (lw_at lw_m8 177 rfl) rfl
theorem q2018 : (Jvm.Cond.privateMethod ({ cls := "MinistryDesksModel", name := "expression", desc := "()V" } : Jvm.MethodName)) ∈ lw_tbl := lw_at lw_m8 178 rfl
theorem q2019 : (Jvm.Cond.instanceMethod ({ cls := "MinistryDesksModel", name := "expression", desc := "()V" } : Jvm.MethodName)) ∈ lw_all := lw_g (lw_at lw_m8 179 rfl) rfl
theorem q2020 : (Jvm.Cond.code ({ cls := "MinistryDesksModel", name := "expression", desc := "()V" } : Jvm.MethodName) prog_23_method_32_code (1 : Nat) (Option.none : Option Jvm.ClassFile.FieldType)) ∈ lw_all := lw_g (lw_at lw_m8 180 rfl) rfl
theorem q2021 : (Jvm.Cond.methodLink "MinistryDesksModel" (295 : Nat) ({ cls := "MinistryDesksModel", name := "conjunction", desc := "()V" } : Jvm.MethodName)) ∈ lw_all := lw_g (lw_at lw_m8 181 rfl) rfl
theorem q2022 : (Jvm.Cond.privateMethod ({ cls := "MinistryDesksModel", name := "conjunction", desc := "()V" } : Jvm.MethodName)) ∈ lw_tbl := lw_at lw_m8 182 rfl
theorem q2023 : (Jvm.Cond.instanceMethod ({ cls := "MinistryDesksModel", name := "conjunction", desc := "()V" } : Jvm.MethodName)) ∈ lw_all := lw_g (lw_at lw_m8 183 rfl) rfl
theorem q2024 : (Jvm.Cond.code ({ cls := "MinistryDesksModel", name := "conjunction", desc := "()V" } : Jvm.MethodName) prog_23_method_33_code (1 : Nat) (Option.none : Option Jvm.ClassFile.FieldType)) ∈ lw_all := lw_g (lw_at lw_m8 184 rfl) rfl
theorem q2025 : (Jvm.Cond.methodLink "MinistryDesksModel" (308 : Nat) ({ cls := "MinistryDesksModel", name := "negation", desc := "()V" } : Jvm.MethodName)) ∈ lw_all := lw_g (lw_at lw_m8 185 rfl) rfl
theorem q2026 : (Jvm.Cond.privateMethod ({ cls := "MinistryDesksModel", name := "negation", desc := "()V" } : Jvm.MethodName)) ∈ lw_tbl := lw_at lw_m8 186 rfl
theorem q2027 : (Jvm.Cond.instanceMethod ({ cls := "MinistryDesksModel", name := "negation", desc := "()V" } : Jvm.MethodName)) ∈ lw_all := lw_g (lw_at lw_m8 187 rfl) rfl
theorem q2028 : (Jvm.Cond.code ({ cls := "MinistryDesksModel", name := "negation", desc := "()V" } : Jvm.MethodName) prog_23_method_34_code (2 : Nat) (Option.none : Option Jvm.ClassFile.FieldType)) ∈ lw_all := lw_g (lw_at lw_m8 188 rfl) rfl
theorem q2029 : (Jvm.Cond.methodLink "MinistryDesksModel" (298 : Nat) ({ cls := "MinistryDesksModel", name := "isWord", desc := "(I)Z" } : Jvm.MethodName)) ∈ lw_all := lw_g (lw_at lw_m8 189 rfl) rfl
theorem q2030 : (Jvm.Cond.privateMethod ({ cls := "MinistryDesksModel", name := "isWord", desc := "(I)Z" } : Jvm.MethodName)) ∈ lw_tbl := lw_at lw_m8 190 rfl
theorem q2031 : (Jvm.Cond.instanceMethod ({ cls := "MinistryDesksModel", name := "isWord", desc := "(I)Z" } : Jvm.MethodName)) ∈ lw_all := lw_g (lw_at lw_m8 191 rfl) rfl
theorem q2032 : (Jvm.Cond.code ({ cls := "MinistryDesksModel", name := "isWord", desc := "(I)Z" } : Jvm.MethodName) prog_23_method_12_code (2 : Nat) (Option.some Jvm.ClassFile.FieldType.boolean)) ∈ lw_all := lw_g (lw_at lw_m8 192 rfl) rfl
theorem q2033 : (Jvm.Cond.methodLink "MinistryDesksModel" (301 : Nat) ({ cls := "MinistryDesksModel", name := "knot", desc := "()V" } : Jvm.MethodName)) ∈ lw_all := lw_g (lw_at lw_m8 193 rfl) rfl
theorem q2034 : (Jvm.Cond.privateMethod ({ cls := "MinistryDesksModel", name := "knot", desc := "()V" } : Jvm.MethodName)) ∈ lw_tbl := lw_at lw_m8 194 rfl
theorem q2035 : (Jvm.Cond.instanceMethod ({ cls := "MinistryDesksModel", name := "knot", desc := "()V" } : Jvm.MethodName)) ∈ lw_all := lw_g (lw_at lw_m8 195 rfl) rfl
theorem q2036 : (Jvm.Cond.code ({ cls := "MinistryDesksModel", name := "knot", desc := "()V" } : Jvm.MethodName) prog_23_method_31_code (1 : Nat) (Option.none : Option Jvm.ClassFile.FieldType)) ∈ lw_all := lw_g (lw_at lw_m8 196 rfl) rfl
theorem q2037 : (Jvm.Cond.methodLink "MinistryDesksModel" (304 : Nat) ({ cls := "MinistryDesksModel", name := "puts", desc := "(II)V" } : Jvm.MethodName)) ∈ lw_all := lw_g (lw_at lw_m8 197 rfl) rfl
theorem q2038 : (Jvm.Cond.privateMethod ({ cls := "MinistryDesksModel", name := "puts", desc := "(II)V" } : Jvm.MethodName)) ∈ lw_tbl := lw_at lw_m8 198 rfl
theorem q2039 : (Jvm.Cond.instanceMethod ({ cls := "MinistryDesksModel", name := "puts", desc := "(II)V" } : Jvm.MethodName)) ∈ lw_all := lw_g (lw_at lw_m8 199 rfl) rfl
theorem q2040 : (Jvm.Cond.code ({ cls := "MinistryDesksModel", name := "puts", desc := "(II)V" } : Jvm.MethodName) prog_23_method_30_code (3 : Nat) (Option.none : Option Jvm.ClassFile.FieldType)) ∈ lw_all := lw_g (lw_at lw_m8 200 rfl) rfl
theorem q2041 : (Jvm.Cond.methodLink "MinistryDesksModel" (311 : Nat) ({ cls := "MinistryDesksModel", name := "sum", desc := "()V" } : Jvm.MethodName)) ∈ lw_all := lw_g (lw_at lw_m8 201 rfl) rfl
theorem q2042 : (Jvm.Cond.privateMethod ({ cls := "MinistryDesksModel", name := "sum", desc := "()V" } : Jvm.MethodName)) ∈ lw_tbl := lw_at lw_m8 202 rfl
theorem q2043 : (Jvm.Cond.instanceMethod ({ cls := "MinistryDesksModel", name := "sum", desc := "()V" } : Jvm.MethodName)) ∈ lw_all := lw_g (lw_at lw_m8 203 rfl) rfl
theorem q2044 : (Jvm.Cond.code ({ cls := "MinistryDesksModel", name := "sum", desc := "()V" } : Jvm.MethodName) prog_23_method_35_code (2 : Nat) (Option.none : Option Jvm.ClassFile.FieldType)) ∈ lw_all := lw_g (lw_at lw_m8 204 rfl) rfl
theorem q2045 : (Jvm.Cond.methodLink "MinistryDesksModel" (314 : Nat) ({ cls := "MinistryDesksModel", name := "product", desc := "()V" } : Jvm.MethodName)) ∈ lw_all := lw_g (lw_at lw_m8 205 rfl) rfl
theorem q2046 : (Jvm.Cond.privateMethod ({ cls := "MinistryDesksModel", name := "product", desc := "()V" } : Jvm.MethodName)) ∈ lw_tbl := lw_at lw_m8 206 rfl
theorem q2047 : (Jvm.Cond.instanceMethod ({ cls := "MinistryDesksModel", name := "product", desc := "()V" } : Jvm.MethodName)) ∈ lw_all := lw_g (lw_at lw_m8 207 rfl) rfl
theorem q2048 : (Jvm.Cond.code ({ cls := "MinistryDesksModel", name := "product", desc := "()V" } : Jvm.MethodName) prog_23_method_36_code (2 : Nat) (Option.none : Option Jvm.ClassFile.FieldType)) ∈ lw_all := lw_g (lw_at lw_m8 208 rfl) rfl
theorem q2049 : (Jvm.Cond.methodLink "MinistryDesksModel" (317 : Nat) ({ cls := "MinistryDesksModel", name := "primary", desc := "()V" } : Jvm.MethodName)) ∈ lw_all := lw_g (lw_at lw_m8 209 rfl) rfl
theorem q2050 : (Jvm.Cond.privateMethod ({ cls := "MinistryDesksModel", name := "primary", desc := "()V" } : Jvm.MethodName)) ∈ lw_tbl := lw_at lw_m8 210 rfl
theorem q2051 : (Jvm.Cond.instanceMethod ({ cls := "MinistryDesksModel", name := "primary", desc := "()V" } : Jvm.MethodName)) ∈ lw_all := lw_g (lw_at lw_m8 211 rfl) rfl
theorem q2052 : (Jvm.Cond.code ({ cls := "MinistryDesksModel", name := "primary", desc := "()V" } : Jvm.MethodName) prog_23_method_37_code (2 : Nat) (Option.none : Option Jvm.ClassFile.FieldType)) ∈ lw_all := lw_g (lw_at lw_m8 212 rfl) rfl
theorem q2053 : (Jvm.Cond.methodLink "MinistryDesksModel" (280 : Nat) ({ cls := "MinistryDesksModel", name := "isSign", desc := "(I)Z" } : Jvm.MethodName)) ∈ lw_all := lw_g (lw_at lw_m8 213 rfl) rfl
theorem q2054 : (Jvm.Cond.privateMethod ({ cls := "MinistryDesksModel", name := "isSign", desc := "(I)Z" } : Jvm.MethodName)) ∈ lw_tbl := lw_at lw_m8 214 rfl
theorem q2055 : (Jvm.Cond.instanceMethod ({ cls := "MinistryDesksModel", name := "isSign", desc := "(I)Z" } : Jvm.MethodName)) ∈ lw_all := lw_g (lw_at lw_m8 215 rfl) rfl
theorem q2056 : (Jvm.Cond.code ({ cls := "MinistryDesksModel", name := "isSign", desc := "(I)Z" } : Jvm.MethodName) prog_23_method_13_code (2 : Nat) (Option.some Jvm.ClassFile.FieldType.boolean)) ∈ lw_all := lw_g (lw_at lw_m8 216 rfl) rfl
theorem q2057 : (Jvm.Cond.methodLink "MinistryDesksModel" (329 : Nat) ({ cls := "MinistryDesksModel", name := "half", desc := "([I)V" } : Jvm.MethodName)) ∈ lw_all := lw_g (lw_at lw_m8 217 rfl) rfl
theorem q2058 : (Jvm.Cond.static ({ cls := "MinistryDesksModel", name := "half", desc := "([I)V" } : Jvm.MethodName)) ∈ lw_all := lw_g (lw_at lw_m8 218 rfl) rfl
theorem q2059 : (Jvm.Cond.code ({ cls := "MinistryDesksModel", name := "half", desc := "([I)V" } : Jvm.MethodName) prog_23_method_38_code (3 : Nat) (Option.none : Option Jvm.ClassFile.FieldType)) ∈ lw_all := lw_g (lw_at lw_m8 219 rfl) rfl
theorem q2060 : (Jvm.Cond.methodLink "MinistryDesksModel" (340 : Nat) ({ cls := "MinistryDesksModel", name := "plain", desc := "()V" } : Jvm.MethodName)) ∈ lw_all := lw_g (lw_at lw_m8 220 rfl) rfl
theorem q2061 : (Jvm.Cond.privateMethod ({ cls := "MinistryDesksModel", name := "plain", desc := "()V" } : Jvm.MethodName)) ∈ lw_tbl := lw_at lw_m8 221 rfl
theorem q2062 : (Jvm.Cond.instanceMethod ({ cls := "MinistryDesksModel", name := "plain", desc := "()V" } : Jvm.MethodName)) ∈ lw_all := lw_g (lw_at lw_m8 222 rfl) rfl
theorem q2063 : (Jvm.Cond.code ({ cls := "MinistryDesksModel", name := "plain", desc := "()V" } : Jvm.MethodName) prog_23_method_45_code (1 : Nat) (Option.none : Option Jvm.ClassFile.FieldType)) ∈ lw_all := lw_g (lw_at lw_m8 223 rfl) rfl
theorem q2064 : (Jvm.Cond.methodLink "MinistryDesksModel" (343 : Nat) ({ cls := "MinistryDesksModel", name := "begins", desc := "(I)V" } : Jvm.MethodName)) ∈ lw_all := lw_g (lw_at lw_m8 224 rfl) rfl
theorem q2065 : (Jvm.Cond.privateMethod ({ cls := "MinistryDesksModel", name := "begins", desc := "(I)V" } : Jvm.MethodName)) ∈ lw_tbl := lw_at lw_m8 225 rfl
theorem q2066 : (Jvm.Cond.instanceMethod ({ cls := "MinistryDesksModel", name := "begins", desc := "(I)V" } : Jvm.MethodName)) ∈ lw_all := lw_g (lw_at lw_m8 226 rfl) rfl
theorem q2067 : (Jvm.Cond.code ({ cls := "MinistryDesksModel", name := "begins", desc := "(I)V" } : Jvm.MethodName) prog_23_method_53_code (4 : Nat) (Option.none : Option Jvm.ClassFile.FieldType)) ∈ lw_all := lw_g (lw_at lw_m8 227 rfl) rfl
theorem q2069 : (Jvm.Cond.instanceMethod ({ cls := "MinistryDesksModel", name := "fault", desc := "(I)I" } : Jvm.MethodName)) ∈ lw_all := lw_g (lw_at lw_m8 229 rfl) rfl
theorem q2070 : (Jvm.Cond.selects "MinistryDesksModel" ({ cls := "MinistryDesksModel", name := "fault", desc := "(I)I" } : Jvm.MethodName) ({ cls := "MinistryDesksModel", name := "fault", desc := "(I)I" } : Jvm.MethodName)) ∈ lw_all := lw_g (lw_at lw_m8 230 rfl) rfl
theorem q2071 : (Jvm.Cond.code ({ cls := "MinistryDesksModel", name := "fault", desc := "(I)I" } : Jvm.MethodName) prog_23_method_40_code (2 : Nat) (Option.some Jvm.ClassFile.FieldType.int)) ∈ lw_all := lw_g (lw_at lw_m8 231 rfl) rfl
theorem q2073 : (Jvm.Cond.instanceMethod ({ cls := "MinistryDesksModel", name := "named", desc := "(II)I" } : Jvm.MethodName)) ∈ lw_all := lw_g (lw_at lw_m8 233 rfl) rfl
theorem q2074 : (Jvm.Cond.selects "MinistryDesksModel" ({ cls := "MinistryDesksModel", name := "named", desc := "(II)I" } : Jvm.MethodName) ({ cls := "MinistryDesksModel", name := "named", desc := "(II)I" } : Jvm.MethodName)) ∈ lw_all := lw_g (lw_at lw_m8 234 rfl) rfl
theorem q2075 : (Jvm.Cond.code ({ cls := "MinistryDesksModel", name := "named", desc := "(II)I" } : Jvm.MethodName) prog_23_method_41_code (3 : Nat) (Option.some Jvm.ClassFile.FieldType.int)) ∈ lw_all := lw_g (lw_at lw_m8 235 rfl) rfl
theorem q2077 : (Jvm.Cond.instanceMethod ({ cls := "MinistryDesksModel", name := "look", desc := "(II)I" } : Jvm.MethodName)) ∈ lw_all := lw_g (lw_at lw_m8 237 rfl) rfl
theorem q2078 : (Jvm.Cond.selects "MinistryDesksModel" ({ cls := "MinistryDesksModel", name := "look", desc := "(II)I" } : Jvm.MethodName) ({ cls := "MinistryDesksModel", name := "look", desc := "(II)I" } : Jvm.MethodName)) ∈ lw_all := lw_g (lw_at lw_m8 238 rfl) rfl
theorem q2079 : (Jvm.Cond.code ({ cls := "MinistryDesksModel", name := "look", desc := "(II)I" } : Jvm.MethodName) prog_23_method_73_code (3 : Nat) (Option.some Jvm.ClassFile.FieldType.int)) ∈ lw_all := lw_g (lw_at lw_m8 239 rfl) rfl
theorem q2080 : (Jvm.Cond.methodLink "MinistryDesksModel" (452 : Nat) ({ cls := "MinistryDesksModel", name := "isDesk", desc := "(I)Z" } : Jvm.MethodName)) ∈ lw_all := lw_g (lw_at lw_m9 0 rfl) rfl
theorem q2081 : (Jvm.Cond.privateMethod ({ cls := "MinistryDesksModel", name := "isDesk", desc := "(I)Z" } : Jvm.MethodName)) ∈ lw_tbl := lw_at lw_m9 1 rfl
theorem q2082 : (Jvm.Cond.instanceMethod ({ cls := "MinistryDesksModel", name := "isDesk", desc := "(I)Z" } : Jvm.MethodName)) ∈ lw_all := lw_g (lw_at lw_m9 2 rfl) rfl
theorem q2083 : (Jvm.Cond.code ({ cls := "MinistryDesksModel", name := "isDesk", desc := "(I)Z" } : Jvm.MethodName) prog_23_method_42_code (2 : Nat) (Option.some Jvm.ClassFile.FieldType.boolean)) ∈ lw_all := lw_g (lw_at lw_m9 3 rfl) rfl
theorem q2084 : (Jvm.Cond.methodLink "MinistryDesksModel" (382 : Nat) ({ cls := "MinistryDesksModel", name := "setOf", desc := "(II)I" } : Jvm.MethodName)) ∈ lw_all := lw_g (lw_at lw_m9 4 rfl) rfl
theorem q2085 : (Jvm.Cond.privateMethod ({ cls := "MinistryDesksModel", name := "setOf", desc := "(II)I" } : Jvm.MethodName)) ∈ lw_tbl := lw_at lw_m9 5 rfl
theorem q2086 : (Jvm.Cond.instanceMethod ({ cls := "MinistryDesksModel", name := "setOf", desc := "(II)I" } : Jvm.MethodName)) ∈ lw_all := lw_g (lw_at lw_m9 6 rfl) rfl
theorem q2087 : (Jvm.Cond.code ({ cls := "MinistryDesksModel", name := "setOf", desc := "(II)I" } : Jvm.MethodName) prog_23_method_60_code (5 : Nat) (Option.some Jvm.ClassFile.FieldType.int)) ∈ lw_all := lw_g (lw_at lw_m9 7 rfl) rfl
theorem q2088 : (Jvm.Cond.methodLink "MinistryDesksModel" (375 : Nat) ({ cls := "MinistryDesksModel", name := "slot", desc := "(III)I" } : Jvm.MethodName)) ∈ lw_all := lw_g (lw_at lw_m9 8 rfl) rfl
theorem q2089 : (Jvm.Cond.static ({ cls := "MinistryDesksModel", name := "slot", desc := "(III)I" } : Jvm.MethodName)) ∈ lw_all := lw_g (lw_at lw_m9 9 rfl) rfl
theorem q2090 : (Jvm.Cond.code ({ cls := "MinistryDesksModel", name := "slot", desc := "(III)I" } : Jvm.MethodName) prog_23_method_55_code (3 : Nat) (Option.some Jvm.ClassFile.FieldType.int)) ∈ lw_all := lw_g (lw_at lw_m9 10 rfl) rfl
theorem q2092 : (Jvm.Cond.instanceMethod ({ cls := "MinistryDesksModel", name := "line", desc := "(III)I" } : Jvm.MethodName)) ∈ lw_all := lw_g (lw_at lw_m9 12 rfl) rfl
theorem q2093 : (Jvm.Cond.selects "MinistryDesksModel" ({ cls := "MinistryDesksModel", name := "line", desc := "(III)I" } : Jvm.MethodName) ({ cls := "MinistryDesksModel", name := "line", desc := "(III)I" } : Jvm.MethodName)) ∈ lw_all := lw_g (lw_at lw_m9 13 rfl) rfl
theorem q2094 : (Jvm.Cond.code ({ cls := "MinistryDesksModel", name := "line", desc := "(III)I" } : Jvm.MethodName) prog_23_method_74_code (5 : Nat) (Option.some Jvm.ClassFile.FieldType.int)) ∈ lw_all := lw_g (lw_at lw_m9 14 rfl) rfl
theorem q2096 : (Jvm.Cond.instanceMethod ({ cls := "MinistryDesksModel", name := "days", desc := "(I)I" } : Jvm.MethodName)) ∈ lw_all := lw_g (lw_at lw_m9 16 rfl) rfl
theorem q2097 : (Jvm.Cond.selects "MinistryDesksModel" ({ cls := "MinistryDesksModel", name := "days", desc := "(I)I" } : Jvm.MethodName) ({ cls := "MinistryDesksModel", name := "days", desc := "(I)I" } : Jvm.MethodName)) ∈ lw_all := lw_g (lw_at lw_m9 17 rfl) rfl
theorem q2098 : (Jvm.Cond.code ({ cls := "MinistryDesksModel", name := "days", desc := "(I)I" } : Jvm.MethodName) prog_23_method_75_code (3 : Nat) (Option.some Jvm.ClassFile.FieldType.int)) ∈ lw_all := lw_g (lw_at lw_m9 18 rfl) rfl
theorem q2099 : (Jvm.Cond.methodLink "MinistryDesksModel" (455 : Nat) ({ cls := "MinistryDesksModel", name := "passes", desc := "(I)V" } : Jvm.MethodName)) ∈ lw_all := lw_g (lw_at lw_m9 19 rfl) rfl
theorem q2100 : (Jvm.Cond.privateMethod ({ cls := "MinistryDesksModel", name := "passes", desc := "(I)V" } : Jvm.MethodName)) ∈ lw_tbl := lw_at lw_m9 20 rfl
theorem q2101 : (Jvm.Cond.instanceMethod ({ cls := "MinistryDesksModel", name := "passes", desc := "(I)V" } : Jvm.MethodName)) ∈ lw_all := lw_g (lw_at lw_m9 21 rfl) rfl
theorem q2102 : (Jvm.Cond.code ({ cls := "MinistryDesksModel", name := "passes", desc := "(I)V" } : Jvm.MethodName) prog_23_method_70_code (5 : Nat) (Option.none : Option Jvm.ClassFile.FieldType)) ∈ lw_all := lw_g (lw_at lw_m9 22 rfl) rfl
theorem q2103 : (Jvm.Cond.methodLink "MinistryDesksModel" (415 : Nat) ({ cls := "MinistryDesksModel", name := "notes", desc := "(IIII)V" } : Jvm.MethodName)) ∈ lw_all := lw_g (lw_at lw_m9 23 rfl) rfl
theorem q2104 : (Jvm.Cond.privateMethod ({ cls := "MinistryDesksModel", name := "notes", desc := "(IIII)V" } : Jvm.MethodName)) ∈ lw_tbl := lw_at lw_m9 24 rfl
theorem q2105 : (Jvm.Cond.instanceMethod ({ cls := "MinistryDesksModel", name := "notes", desc := "(IIII)V" } : Jvm.MethodName)) ∈ lw_all := lw_g (lw_at lw_m9 25 rfl) rfl
theorem q2106 : (Jvm.Cond.code ({ cls := "MinistryDesksModel", name := "notes", desc := "(IIII)V" } : Jvm.MethodName) prog_23_method_57_code (6 : Nat) (Option.none : Option Jvm.ClassFile.FieldType)) ∈ lw_all := lw_g (lw_at lw_m9 26 rfl) rfl
theorem q2107 : (Jvm.Cond.methodLink "MinistryDesksModel" (419 : Nat) ({ cls := "MinistryDesksModel", name := "drops", desc := "(III)V" } : Jvm.MethodName)) ∈ lw_all := lw_g (lw_at lw_m9 27 rfl) rfl
theorem q2108 : (Jvm.Cond.privateMethod ({ cls := "MinistryDesksModel", name := "drops", desc := "(III)V" } : Jvm.MethodName)) ∈ lw_tbl := lw_at lw_m9 28 rfl
theorem q2109 : (Jvm.Cond.instanceMethod ({ cls := "MinistryDesksModel", name := "drops", desc := "(III)V" } : Jvm.MethodName)) ∈ lw_all := lw_g (lw_at lw_m9 29 rfl) rfl
theorem q2110 : (Jvm.Cond.code ({ cls := "MinistryDesksModel", name := "drops", desc := "(III)V" } : Jvm.MethodName) prog_23_method_58_code (5 : Nat) (Option.none : Option Jvm.ClassFile.FieldType)) ∈ lw_all := lw_g (lw_at lw_m9 30 rfl) rfl
theorem q2111 : (Jvm.Cond.methodLink "MinistryDesksModel" (436 : Nat) ({ cls := "MinistryDesksModel", name := "isComing", desc := "(I)Z" } : Jvm.MethodName)) ∈ lw_all := lw_g (lw_at lw_m9 31 rfl) rfl
theorem q2112 : (Jvm.Cond.privateMethod ({ cls := "MinistryDesksModel", name := "isComing", desc := "(I)Z" } : Jvm.MethodName)) ∈ lw_tbl := lw_at lw_m9 32 rfl
theorem q2113 : (Jvm.Cond.instanceMethod ({ cls := "MinistryDesksModel", name := "isComing", desc := "(I)Z" } : Jvm.MethodName)) ∈ lw_all := lw_g (lw_at lw_m9 33 rfl) rfl
theorem q2114 : (Jvm.Cond.code ({ cls := "MinistryDesksModel", name := "isComing", desc := "(I)Z" } : Jvm.MethodName) prog_23_method_48_code (2 : Nat) (Option.some Jvm.ClassFile.FieldType.boolean)) ∈ lw_all := lw_g (lw_at lw_m9 34 rfl) rfl
theorem q2115 : (Jvm.Cond.methodLink "MinistryDesksModel" (433 : Nat) ({ cls := "MinistryDesksModel", name := "arrives", desc := "(IIII)V" } : Jvm.MethodName)) ∈ lw_all := lw_g (lw_at lw_m9 35 rfl) rfl
theorem q2116 : (Jvm.Cond.privateMethod ({ cls := "MinistryDesksModel", name := "arrives", desc := "(IIII)V" } : Jvm.MethodName)) ∈ lw_tbl := lw_at lw_m9 36 rfl
theorem q2117 : (Jvm.Cond.instanceMethod ({ cls := "MinistryDesksModel", name := "arrives", desc := "(IIII)V" } : Jvm.MethodName)) ∈ lw_all := lw_g (lw_at lw_m9 37 rfl) rfl
theorem q2118 : (Jvm.Cond.code ({ cls := "MinistryDesksModel", name := "arrives", desc := "(IIII)V" } : Jvm.MethodName) prog_23_method_65_code (8 : Nat) (Option.none : Option Jvm.ClassFile.FieldType)) ∈ lw_all := lw_g (lw_at lw_m9 38 rfl) rfl
theorem q2119 : (Jvm.Cond.methodLink "MinistryDesksModel" (401 : Nat) ({ cls := "MinistryDesksModel", name := "lineOf", desc := "(III)I" } : Jvm.MethodName)) ∈ lw_all := lw_g (lw_at lw_m9 39 rfl) rfl
theorem q2120 : (Jvm.Cond.privateMethod ({ cls := "MinistryDesksModel", name := "lineOf", desc := "(III)I" } : Jvm.MethodName)) ∈ lw_tbl := lw_at lw_m9 40 rfl
theorem q2121 : (Jvm.Cond.instanceMethod ({ cls := "MinistryDesksModel", name := "lineOf", desc := "(III)I" } : Jvm.MethodName)) ∈ lw_all := lw_g (lw_at lw_m9 41 rfl) rfl
theorem q2122 : (Jvm.Cond.code ({ cls := "MinistryDesksModel", name := "lineOf", desc := "(III)I" } : Jvm.MethodName) prog_23_method_56_code (5 : Nat) (Option.some Jvm.ClassFile.FieldType.int)) ∈ lw_all := lw_g (lw_at lw_m9 42 rfl) rfl
theorem q2123 : (Jvm.Cond.methodLink "MinistryDesksModel" (404 : Nat) ({ cls := "MinistryDesksModel", name := "sets", desc := "(IIIII)V" } : Jvm.MethodName)) ∈ lw_all := lw_g (lw_at lw_m9 43 rfl) rfl
theorem q2124 : (Jvm.Cond.privateMethod ({ cls := "MinistryDesksModel", name := "sets", desc := "(IIIII)V" } : Jvm.MethodName)) ∈ lw_tbl := lw_at lw_m9 44 rfl
theorem q2125 : (Jvm.Cond.instanceMethod ({ cls := "MinistryDesksModel", name := "sets", desc := "(IIIII)V" } : Jvm.MethodName)) ∈ lw_all := lw_g (lw_at lw_m9 45 rfl) rfl
theorem q2126 : (Jvm.Cond.code ({ cls := "MinistryDesksModel", name := "sets", desc := "(IIIII)V" } : Jvm.MethodName) prog_23_method_59_code (6 : Nat) (Option.none : Option Jvm.ClassFile.FieldType)) ∈ lw_all := lw_g (lw_at lw_m9 46 rfl) rfl
theorem q2127 : (Jvm.Cond.methodLink "MinistryDesksModel" (408 : Nat) ({ cls := "MinistryDesksModel", name := "roomOf", desc := "(I)I" } : Jvm.MethodName)) ∈ lw_all := lw_g (lw_at lw_m9 47 rfl) rfl
theorem q2128 : (Jvm.Cond.privateMethod ({ cls := "MinistryDesksModel", name := "roomOf", desc := "(I)I" } : Jvm.MethodName)) ∈ lw_tbl := lw_at lw_m9 48 rfl
theorem q2129 : (Jvm.Cond.instanceMethod ({ cls := "MinistryDesksModel", name := "roomOf", desc := "(I)I" } : Jvm.MethodName)) ∈ lw_all := lw_g (lw_at lw_m9 49 rfl) rfl
theorem q2130 : (Jvm.Cond.code ({ cls := "MinistryDesksModel", name := "roomOf", desc := "(I)I" } : Jvm.MethodName) prog_23_method_46_code (2 : Nat) (Option.some Jvm.ClassFile.FieldType.int)) ∈ lw_all := lw_g (lw_at lw_m9 50 rfl) rfl
theorem q2131 : (Jvm.Cond.methodLink "MinistryDesksModel" (411 : Nat) ({ cls := "MinistryDesksModel", name := "leastOf", desc := "(IIII)I" } : Jvm.MethodName)) ∈ lw_all := lw_g (lw_at lw_m9 51 rfl) rfl
theorem q2132 : (Jvm.Cond.privateMethod ({ cls := "MinistryDesksModel", name := "leastOf", desc := "(IIII)I" } : Jvm.MethodName)) ∈ lw_tbl := lw_at lw_m9 52 rfl
theorem q2133 : (Jvm.Cond.instanceMethod ({ cls := "MinistryDesksModel", name := "leastOf", desc := "(IIII)I" } : Jvm.MethodName)) ∈ lw_all := lw_g (lw_at lw_m9 53 rfl) rfl
theorem q2134 : (Jvm.Cond.code ({ cls := "MinistryDesksModel", name := "leastOf", desc := "(IIII)I" } : Jvm.MethodName) prog_23_method_66_code (12 : Nat) (Option.some Jvm.ClassFile.FieldType.int)) ∈ lw_all := lw_g (lw_at lw_m9 54 rfl) rfl
theorem q2135 : (Jvm.Cond.methodLink "MinistryDesksModel" (423 : Nat) ({ cls := "MinistryDesksModel", name := "keepOf", desc := "(IIIII)J" } : Jvm.MethodName)) ∈ lw_all := lw_g (lw_at lw_m9 55 rfl) rfl
theorem q2136 : (Jvm.Cond.privateMethod ({ cls := "MinistryDesksModel", name := "keepOf", desc := "(IIIII)J" } : Jvm.MethodName)) ∈ lw_tbl := lw_at lw_m9 56 rfl
theorem q2137 : (Jvm.Cond.instanceMethod ({ cls := "MinistryDesksModel", name := "keepOf", desc := "(IIIII)J" } : Jvm.MethodName)) ∈ lw_all := lw_g (lw_at lw_m9 57 rfl) rfl
theorem q2138 : (Jvm.Cond.code ({ cls := "MinistryDesksModel", name := "keepOf", desc := "(IIIII)J" } : Jvm.MethodName) prog_23_method_64_code (6 : Nat) (Option.some Jvm.ClassFile.FieldType.long)) ∈ lw_all := lw_g (lw_at lw_m9 58 rfl) rfl
theorem q2139 : (Jvm.Cond.methodLink "MinistryDesksModel" (397 : Nat) ({ cls := "MinistryDesksModel", name := "lawOf", desc := "(IIIIIIJ)J" } : Jvm.MethodName)) ∈ lw_all := lw_g (lw_at lw_m9 59 rfl) rfl
theorem q2140 : (Jvm.Cond.privateMethod ({ cls := "MinistryDesksModel", name := "lawOf", desc := "(IIIIIIJ)J" } : Jvm.MethodName)) ∈ lw_tbl := lw_at lw_m9 60 rfl
theorem q2141 : (Jvm.Cond.instanceMethod ({ cls := "MinistryDesksModel", name := "lawOf", desc := "(IIIIIIJ)J" } : Jvm.MethodName)) ∈ lw_all := lw_g (lw_at lw_m9 61 rfl) rfl
theorem q2142 : (Jvm.Cond.code ({ cls := "MinistryDesksModel", name := "lawOf", desc := "(IIIIIIJ)J" } : Jvm.MethodName) prog_23_method_63_code (9 : Nat) (Option.some Jvm.ClassFile.FieldType.long)) ∈ lw_all := lw_g (lw_at lw_m9 62 rfl) rfl
theorem q2143 : (Jvm.Cond.methodLink "MinistryDesksModel" (385 : Nat) ({ cls := "MinistryDesksModel", name := "isTold", desc := "(I)Z" } : Jvm.MethodName)) ∈ lw_all := lw_g (lw_at lw_m9 63 rfl) rfl
theorem q2144 : (Jvm.Cond.privateMethod ({ cls := "MinistryDesksModel", name := "isTold", desc := "(I)Z" } : Jvm.MethodName)) ∈ lw_tbl := lw_at lw_m9 64 rfl
theorem q2145 : (Jvm.Cond.instanceMethod ({ cls := "MinistryDesksModel", name := "isTold", desc := "(I)Z" } : Jvm.MethodName)) ∈ lw_all := lw_g (lw_at lw_m9 65 rfl) rfl
theorem q2146 : (Jvm.Cond.code ({ cls := "MinistryDesksModel", name := "isTold", desc := "(I)Z" } : Jvm.MethodName) prog_23_method_52_code (2 : Nat) (Option.some Jvm.ClassFile.FieldType.boolean)) ∈ lw_all := lw_g (lw_at lw_m9 66 rfl) rfl
theorem q2147 : (Jvm.Cond.methodLink "MinistryDesksModel" (388 : Nat) ({ cls := "MinistryDesksModel", name := "othersOf", desc := "(III)I" } : Jvm.MethodName)) ∈ lw_all := lw_g (lw_at lw_m9 67 rfl) rfl
theorem q2148 : (Jvm.Cond.privateMethod ({ cls := "MinistryDesksModel", name := "othersOf", desc := "(III)I" } : Jvm.MethodName)) ∈ lw_tbl := lw_at lw_m9 68 rfl
theorem q2149 : (Jvm.Cond.instanceMethod ({ cls := "MinistryDesksModel", name := "othersOf", desc := "(III)I" } : Jvm.MethodName)) ∈ lw_all := lw_g (lw_at lw_m9 69 rfl) rfl
theorem q2150 : (Jvm.Cond.code ({ cls := "MinistryDesksModel", name := "othersOf", desc := "(III)I" } : Jvm.MethodName) prog_23_method_61_code (6 : Nat) (Option.some Jvm.ClassFile.FieldType.int)) ∈ lw_all := lw_g (lw_at lw_m9 70 rfl) rfl
theorem q2151 : (Jvm.Cond.methodLink "MinistryDesksModel" (391 : Nat) ({ cls := "MinistryDesksModel", name := "askedOf", desc := "(III)I" } : Jvm.MethodName)) ∈ lw_all := lw_g (lw_at lw_m9 71 rfl) rfl
theorem q2152 : (Jvm.Cond.privateMethod ({ cls := "MinistryDesksModel", name := "askedOf", desc := "(III)I" } : Jvm.MethodName)) ∈ lw_tbl := lw_at lw_m9 72 rfl
theorem q2153 : (Jvm.Cond.instanceMethod ({ cls := "MinistryDesksModel", name := "askedOf", desc := "(III)I" } : Jvm.MethodName)) ∈ lw_all := lw_g (lw_at lw_m9 73 rfl) rfl
theorem q2154 : (Jvm.Cond.code ({ cls := "MinistryDesksModel", name := "askedOf", desc := "(III)I" } : Jvm.MethodName) prog_23_method_62_code (6 : Nat) (Option.some Jvm.ClassFile.FieldType.int)) ∈ lw_all := lw_g (lw_at lw_m9 74 rfl) rfl
theorem q2155 : (Jvm.Cond.methodLink "MinistryDesksModel" (358 : Nat) ({ cls := "MinistryDesksModel", name := "is", desc := "(Z)J" } : Jvm.MethodName)) ∈ lw_all := lw_g (lw_at lw_m9 75 rfl) rfl
theorem q2156 : (Jvm.Cond.static ({ cls := "MinistryDesksModel", name := "is", desc := "(Z)J" } : Jvm.MethodName)) ∈ lw_all := lw_g (lw_at lw_m9 76 rfl) rfl
theorem q2157 : (Jvm.Cond.code ({ cls := "MinistryDesksModel", name := "is", desc := "(Z)J" } : Jvm.MethodName) prog_23_method_49_code (1 : Nat) (Option.some Jvm.ClassFile.FieldType.long)) ∈ lw_all := lw_g (lw_at lw_m9 77 rfl) rfl
theorem q2158 : (Jvm.Cond.methodLink "MinistryDesksModel" (394 : Nat) ({ cls := "MinistryDesksModel", name := "goes0", desc := "(I)Z" } : Jvm.MethodName)) ∈ lw_all := lw_g (lw_at lw_m9 78 rfl) rfl
theorem q2159 : (Jvm.Cond.privateMethod ({ cls := "MinistryDesksModel", name := "goes0", desc := "(I)Z" } : Jvm.MethodName)) ∈ lw_tbl := lw_at lw_m9 79 rfl
theorem q2160 : (Jvm.Cond.instanceMethod ({ cls := "MinistryDesksModel", name := "goes0", desc := "(I)Z" } : Jvm.MethodName)) ∈ lw_all := lw_g (lw_at lw_m9 80 rfl) rfl
theorem q2161 : (Jvm.Cond.code ({ cls := "MinistryDesksModel", name := "goes0", desc := "(I)Z" } : Jvm.MethodName) prog_23_method_51_code (3 : Nat) (Option.some Jvm.ClassFile.FieldType.boolean)) ∈ lw_all := lw_g (lw_at lw_m9 81 rfl) rfl
theorem q2162 : (Jvm.Cond.methodLink "MinistryDesksModel" (372 : Nat) ({ cls := "MinistryDesksModel", name := "works", desc := "(I)Z" } : Jvm.MethodName)) ∈ lw_all := lw_g (lw_at lw_m9 82 rfl) rfl
theorem q2163 : (Jvm.Cond.privateMethod ({ cls := "MinistryDesksModel", name := "works", desc := "(I)Z" } : Jvm.MethodName)) ∈ lw_tbl := lw_at lw_m9 83 rfl
theorem q2164 : (Jvm.Cond.instanceMethod ({ cls := "MinistryDesksModel", name := "works", desc := "(I)Z" } : Jvm.MethodName)) ∈ lw_all := lw_g (lw_at lw_m9 84 rfl) rfl
theorem q2165 : (Jvm.Cond.code ({ cls := "MinistryDesksModel", name := "works", desc := "(I)Z" } : Jvm.MethodName) prog_23_method_50_code (8 : Nat) (Option.some Jvm.ClassFile.FieldType.boolean)) ∈ lw_all := lw_g (lw_at lw_m9 85 rfl) rfl
theorem q2166 : (Jvm.Cond.methodLink "MinistryDesksModel" (362 : Nat) ({ cls := "java/lang/Math", name := "abs", desc := "(J)J" } : Jvm.MethodName)) ∈ lw_all := lw_g (lw_at lw_m9 86 rfl) rfl
theorem q2167 : (Jvm.Cond.constantLong "MinistryDesksModel" (368 : Nat) (1000000000000 : Int64)) ∈ lw_all := lw_g (lw_at lw_m9 87 rfl) rfl
theorem q2168 : (Jvm.Cond.constantLong "MinistryDesksModel" (370 : Nat) (-1000000000000 : Int64)) ∈ lw_all := lw_g (lw_at lw_m9 88 rfl) rfl
theorem q2169 : (Jvm.Cond.methodLink "MinistryDesksModel" (439 : Nat) ({ cls := "MinistryDesksModel", name := "noon", desc := "(I)V" } : Jvm.MethodName)) ∈ lw_all := lw_g (lw_at lw_m9 89 rfl) rfl
theorem q2170 : (Jvm.Cond.privateMethod ({ cls := "MinistryDesksModel", name := "noon", desc := "(I)V" } : Jvm.MethodName)) ∈ lw_tbl := lw_at lw_m9 90 rfl
theorem q2171 : (Jvm.Cond.instanceMethod ({ cls := "MinistryDesksModel", name := "noon", desc := "(I)V" } : Jvm.MethodName)) ∈ lw_all := lw_g (lw_at lw_m9 91 rfl) rfl
theorem q2172 : (Jvm.Cond.code ({ cls := "MinistryDesksModel", name := "noon", desc := "(I)V" } : Jvm.MethodName) prog_23_method_67_code (3 : Nat) (Option.none : Option Jvm.ClassFile.FieldType)) ∈ lw_all := lw_g (lw_at lw_m9 92 rfl) rfl
theorem q2173 : (Jvm.Cond.methodLink "MinistryDesksModel" (427 : Nat) ({ cls := "MinistryDesksModel", name := "whomOf", desc := "(I)I" } : Jvm.MethodName)) ∈ lw_all := lw_g (lw_at lw_m9 93 rfl) rfl
theorem q2174 : (Jvm.Cond.privateMethod ({ cls := "MinistryDesksModel", name := "whomOf", desc := "(I)I" } : Jvm.MethodName)) ∈ lw_tbl := lw_at lw_m9 94 rfl
theorem q2175 : (Jvm.Cond.instanceMethod ({ cls := "MinistryDesksModel", name := "whomOf", desc := "(I)I" } : Jvm.MethodName)) ∈ lw_all := lw_g (lw_at lw_m9 95 rfl) rfl
theorem q2176 : (Jvm.Cond.code ({ cls := "MinistryDesksModel", name := "whomOf", desc := "(I)I" } : Jvm.MethodName) prog_23_method_47_code (2 : Nat) (Option.some Jvm.ClassFile.FieldType.int)) ∈ lw_all := lw_g (lw_at lw_m9 96 rfl) rfl
theorem q2177 : (Jvm.Cond.methodLink "MinistryDesksModel" (430 : Nat) ({ cls := "MinistryDesksModel", name := "wants", desc := "(III)V" } : Jvm.MethodName)) ∈ lw_all := lw_g (lw_at lw_m9 97 rfl) rfl
theorem q2178 : (Jvm.Cond.privateMethod ({ cls := "MinistryDesksModel", name := "wants", desc := "(III)V" } : Jvm.MethodName)) ∈ lw_tbl := lw_at lw_m9 98 rfl
theorem q2179 : (Jvm.Cond.instanceMethod ({ cls := "MinistryDesksModel", name := "wants", desc := "(III)V" } : Jvm.MethodName)) ∈ lw_all := lw_g (lw_at lw_m9 99 rfl) rfl
theorem q2180 : (Jvm.Cond.code ({ cls := "MinistryDesksModel", name := "wants", desc := "(III)V" } : Jvm.MethodName) prog_23_method_68_code (10 : Nat) (Option.none : Option Jvm.ClassFile.FieldType)) ∈ lw_all := lw_g (lw_at lw_m9 100 rfl) rfl
theorem q2181 : (Jvm.Cond.methodLink "MinistryDesksModel" (442 : Nat) ({ cls := "MinistryDesksModel", name := "burns", desc := "(II)Z" } : Jvm.MethodName)) ∈ lw_all := lw_g (lw_at lw_m9 101 rfl) rfl
theorem q2182 : (Jvm.Cond.privateMethod ({ cls := "MinistryDesksModel", name := "burns", desc := "(II)Z" } : Jvm.MethodName)) ∈ lw_tbl := lw_at lw_m9 102 rfl
theorem q2183 : (Jvm.Cond.instanceMethod ({ cls := "MinistryDesksModel", name := "burns", desc := "(II)Z" } : Jvm.MethodName)) ∈ lw_all := lw_g (lw_at lw_m9 103 rfl) rfl
theorem q2184 : (Jvm.Cond.code ({ cls := "MinistryDesksModel", name := "burns", desc := "(II)Z" } : Jvm.MethodName) prog_23_method_71_code (4 : Nat) (Option.some Jvm.ClassFile.FieldType.boolean)) ∈ lw_all := lw_g (lw_at lw_m9 104 rfl) rfl
theorem q2185 : (Jvm.Cond.methodLink "MinistryDesksModel" (446 : Nat) ({ cls := "MinistryDesksModel", name := "asks", desc := "(II)V" } : Jvm.MethodName)) ∈ lw_all := lw_g (lw_at lw_m9 105 rfl) rfl
theorem q2186 : (Jvm.Cond.privateMethod ({ cls := "MinistryDesksModel", name := "asks", desc := "(II)V" } : Jvm.MethodName)) ∈ lw_tbl := lw_at lw_m9 106 rfl
theorem q2187 : (Jvm.Cond.instanceMethod ({ cls := "MinistryDesksModel", name := "asks", desc := "(II)V" } : Jvm.MethodName)) ∈ lw_all := lw_g (lw_at lw_m9 107 rfl) rfl
theorem q2188 : (Jvm.Cond.code ({ cls := "MinistryDesksModel", name := "asks", desc := "(II)V" } : Jvm.MethodName) prog_23_method_72_code (5 : Nat) (Option.none : Option Jvm.ClassFile.FieldType)) ∈ lw_all := lw_g (lw_at lw_m9 108 rfl) rfl
theorem q2189 : (Jvm.Cond.methodLink "MinistryDesksModel" (449 : Nat) ({ cls := "MinistryDesksModel", name := "hasCome", desc := "(II)Z" } : Jvm.MethodName)) ∈ lw_all := lw_g (lw_at lw_m9 109 rfl) rfl
theorem q2190 : (Jvm.Cond.privateMethod ({ cls := "MinistryDesksModel", name := "hasCome", desc := "(II)Z" } : Jvm.MethodName)) ∈ lw_tbl := lw_at lw_m9 110 rfl
theorem q2191 : (Jvm.Cond.instanceMethod ({ cls := "MinistryDesksModel", name := "hasCome", desc := "(II)Z" } : Jvm.MethodName)) ∈ lw_all := lw_g (lw_at lw_m9 111 rfl) rfl
theorem q2192 : (Jvm.Cond.code ({ cls := "MinistryDesksModel", name := "hasCome", desc := "(II)Z" } : Jvm.MethodName) prog_23_method_69_code (4 : Nat) (Option.some Jvm.ClassFile.FieldType.boolean)) ∈ lw_all := lw_g (lw_at lw_m9 112 rfl) rfl
theorem q2194 : (Jvm.Cond.instanceMethod ({ cls := "MinistryDesksModel", name := "went", desc := "(II)I" } : Jvm.MethodName)) ∈ lw_all := lw_g (lw_at lw_m9 114 rfl) rfl
theorem q2195 : (Jvm.Cond.selects "MinistryDesksModel" ({ cls := "MinistryDesksModel", name := "went", desc := "(II)I" } : Jvm.MethodName) ({ cls := "MinistryDesksModel", name := "went", desc := "(II)I" } : Jvm.MethodName)) ∈ lw_all := lw_g (lw_at lw_m9 115 rfl) rfl
theorem q2196 : (Jvm.Cond.code ({ cls := "MinistryDesksModel", name := "went", desc := "(II)I" } : Jvm.MethodName) prog_23_method_76_code (3 : Nat) (Option.some Jvm.ClassFile.FieldType.int)) ∈ lw_all := lw_g (lw_at lw_m9 116 rfl) rfl
theorem q2198 : (Jvm.Cond.instanceMethod ({ cls := "MinistryDesksModel", name := "answer", desc := "(I)I" } : Jvm.MethodName)) ∈ lw_all := lw_g (lw_at lw_m9 118 rfl) rfl
theorem q2199 : (Jvm.Cond.selects "MinistryDesksModel" ({ cls := "MinistryDesksModel", name := "answer", desc := "(I)I" } : Jvm.MethodName) ({ cls := "MinistryDesksModel", name := "answer", desc := "(I)I" } : Jvm.MethodName)) ∈ lw_all := lw_g (lw_at lw_m9 119 rfl) rfl
theorem q2200 : (Jvm.Cond.code ({ cls := "MinistryDesksModel", name := "answer", desc := "(I)I" } : Jvm.MethodName) prog_23_method_77_code (2 : Nat) (Option.some Jvm.ClassFile.FieldType.int)) ∈ lw_all := lw_g (lw_at lw_m9 120 rfl) rfl
theorem q2201 : (Jvm.Cond.methodLink "MinistryDesksModel" (458 : Nat) ({ cls := "MinistryDesksModel", name := "isQuestion", desc := "(I)Z" } : Jvm.MethodName)) ∈ lw_all := lw_g (lw_at lw_m9 121 rfl) rfl
theorem q2202 : (Jvm.Cond.privateMethod ({ cls := "MinistryDesksModel", name := "isQuestion", desc := "(I)Z" } : Jvm.MethodName)) ∈ lw_tbl := lw_at lw_m9 122 rfl
theorem q2203 : (Jvm.Cond.instanceMethod ({ cls := "MinistryDesksModel", name := "isQuestion", desc := "(I)Z" } : Jvm.MethodName)) ∈ lw_all := lw_g (lw_at lw_m9 123 rfl) rfl
theorem q2204 : (Jvm.Cond.code ({ cls := "MinistryDesksModel", name := "isQuestion", desc := "(I)Z" } : Jvm.MethodName) prog_23_method_44_code (2 : Nat) (Option.some Jvm.ClassFile.FieldType.boolean)) ∈ lw_all := lw_g (lw_at lw_m9 124 rfl) rfl
theorem q2206 : (Jvm.Cond.instanceMethod ({ cls := "MinistryDesksModel", name := "best", desc := "(I)I" } : Jvm.MethodName)) ∈ lw_all := lw_g (lw_at lw_m9 126 rfl) rfl
theorem q2207 : (Jvm.Cond.selects "MinistryDesksModel" ({ cls := "MinistryDesksModel", name := "best", desc := "(I)I" } : Jvm.MethodName) ({ cls := "MinistryDesksModel", name := "best", desc := "(I)I" } : Jvm.MethodName)) ∈ lw_all := lw_g (lw_at lw_m9 127 rfl) rfl
theorem q2208 : (Jvm.Cond.code ({ cls := "MinistryDesksModel", name := "best", desc := "(I)I" } : Jvm.MethodName) prog_23_method_90_code (2 : Nat) (Option.some Jvm.ClassFile.FieldType.int)) ∈ lw_all := lw_g (lw_at lw_m9 128 rfl) rfl
theorem q2209 : (Jvm.Cond.methodLink "MinistryDesksModel" (496 : Nat) ({ cls := "MinistryDesksModel", name := "byOdds", desc := "()V" } : Jvm.MethodName)) ∈ lw_all := lw_g (lw_at lw_m9 129 rfl) rfl
theorem q2210 : (Jvm.Cond.privateMethod ({ cls := "MinistryDesksModel", name := "byOdds", desc := "()V" } : Jvm.MethodName)) ∈ lw_tbl := lw_at lw_m9 130 rfl
theorem q2211 : (Jvm.Cond.instanceMethod ({ cls := "MinistryDesksModel", name := "byOdds", desc := "()V" } : Jvm.MethodName)) ∈ lw_all := lw_g (lw_at lw_m9 131 rfl) rfl
theorem q2212 : (Jvm.Cond.code ({ cls := "MinistryDesksModel", name := "byOdds", desc := "()V" } : Jvm.MethodName) prog_23_method_89_code (2 : Nat) (Option.none : Option Jvm.ClassFile.FieldType)) ∈ lw_all := lw_g (lw_at lw_m9 132 rfl) rfl
theorem q2213 : (Jvm.Cond.methodLink "MinistryDesksModel" (499 : Nat) ({ cls := "MinistryDesksModel", name := "most", desc := "(I)J" } : Jvm.MethodName)) ∈ lw_all := lw_g (lw_at lw_m9 133 rfl) rfl
theorem q2214 : (Jvm.Cond.privateMethod ({ cls := "MinistryDesksModel", name := "most", desc := "(I)J" } : Jvm.MethodName)) ∈ lw_tbl := lw_at lw_m9 134 rfl
theorem q2215 : (Jvm.Cond.instanceMethod ({ cls := "MinistryDesksModel", name := "most", desc := "(I)J" } : Jvm.MethodName)) ∈ lw_all := lw_g (lw_at lw_m9 135 rfl) rfl
theorem q2216 : (Jvm.Cond.code ({ cls := "MinistryDesksModel", name := "most", desc := "(I)J" } : Jvm.MethodName) prog_23_method_88_code (2 : Nat) (Option.some Jvm.ClassFile.FieldType.long)) ∈ lw_all := lw_g (lw_at lw_m9 136 rfl) rfl
theorem q2217 : (Jvm.Cond.methodLink "MinistryDesksModel" (493 : Nat) ({ cls := "MinistryDesksModel", name := "layYet", desc := "(I)V" } : Jvm.MethodName)) ∈ lw_all := lw_g (lw_at lw_m9 137 rfl) rfl
theorem q2218 : (Jvm.Cond.privateMethod ({ cls := "MinistryDesksModel", name := "layYet", desc := "(I)V" } : Jvm.MethodName)) ∈ lw_tbl := lw_at lw_m9 138 rfl
theorem q2219 : (Jvm.Cond.instanceMethod ({ cls := "MinistryDesksModel", name := "layYet", desc := "(I)V" } : Jvm.MethodName)) ∈ lw_all := lw_g (lw_at lw_m9 139 rfl) rfl
theorem q2220 : (Jvm.Cond.code ({ cls := "MinistryDesksModel", name := "layYet", desc := "(I)V" } : Jvm.MethodName) prog_23_method_87_code (9 : Nat) (Option.none : Option Jvm.ClassFile.FieldType)) ∈ lw_all := lw_g (lw_at lw_m9 140 rfl) rfl
theorem q2221 : (Jvm.Cond.methodLink "MinistryDesksModel" (482 : Nat) ({ cls := "MinistryDesksModel", name := "orders", desc := "(I)V" } : Jvm.MethodName)) ∈ lw_all := lw_g (lw_at lw_m9 141 rfl) rfl
theorem q2222 : (Jvm.Cond.privateMethod ({ cls := "MinistryDesksModel", name := "orders", desc := "(I)V" } : Jvm.MethodName)) ∈ lw_tbl := lw_at lw_m9 142 rfl
theorem q2223 : (Jvm.Cond.instanceMethod ({ cls := "MinistryDesksModel", name := "orders", desc := "(I)V" } : Jvm.MethodName)) ∈ lw_all := lw_g (lw_at lw_m9 143 rfl) rfl
theorem q2224 : (Jvm.Cond.code ({ cls := "MinistryDesksModel", name := "orders", desc := "(I)V" } : Jvm.MethodName) prog_23_method_78_code (4 : Nat) (Option.none : Option Jvm.ClassFile.FieldType)) ∈ lw_all := lw_g (lw_at lw_m9 144 rfl) rfl
theorem q2225 : (Jvm.Cond.methodLink "MinistryDesksModel" (479 : Nat) ({ cls := "MinistryDesksModel", name := "bitsOf", desc := "(I)I" } : Jvm.MethodName)) ∈ lw_all := lw_g (lw_at lw_m9 145 rfl) rfl
theorem q2226 : (Jvm.Cond.static ({ cls := "MinistryDesksModel", name := "bitsOf", desc := "(I)I" } : Jvm.MethodName)) ∈ lw_all := lw_g (lw_at lw_m9 146 rfl) rfl
theorem q2227 : (Jvm.Cond.code ({ cls := "MinistryDesksModel", name := "bitsOf", desc := "(I)I" } : Jvm.MethodName) prog_23_method_84_code (3 : Nat) (Option.some Jvm.ClassFile.FieldType.int)) ∈ lw_all := lw_g (lw_at lw_m9 147 rfl) rfl
theorem q2228 : (Jvm.Cond.methodLink "MinistryDesksModel" (485 : Nat) ({ cls := "MinistryDesksModel", name := "behind", desc := "(IIII)J" } : Jvm.MethodName)) ∈ lw_all := lw_g (lw_at lw_m9 148 rfl) rfl
theorem q2229 : (Jvm.Cond.privateMethod ({ cls := "MinistryDesksModel", name := "behind", desc := "(IIII)J" } : Jvm.MethodName)) ∈ lw_tbl := lw_at lw_m9 149 rfl
theorem q2230 : (Jvm.Cond.instanceMethod ({ cls := "MinistryDesksModel", name := "behind", desc := "(IIII)J" } : Jvm.MethodName)) ∈ lw_all := lw_g (lw_at lw_m9 150 rfl) rfl
theorem q2231 : (Jvm.Cond.code ({ cls := "MinistryDesksModel", name := "behind", desc := "(IIII)J" } : Jvm.MethodName) prog_23_method_85_code (9 : Nat) (Option.some Jvm.ClassFile.FieldType.long)) ∈ lw_all := lw_g (lw_at lw_m9 151 rfl) rfl
theorem q2232 : (Jvm.Cond.methodLink "MinistryDesksModel" (470 : Nat) ({ cls := "MinistryDesksModel", name := "dayOf", desc := "(I)I" } : Jvm.MethodName)) ∈ lw_all := lw_g (lw_at lw_m9 152 rfl) rfl
theorem q2233 : (Jvm.Cond.privateMethod ({ cls := "MinistryDesksModel", name := "dayOf", desc := "(I)I" } : Jvm.MethodName)) ∈ lw_tbl := lw_at lw_m9 153 rfl
theorem q2234 : (Jvm.Cond.instanceMethod ({ cls := "MinistryDesksModel", name := "dayOf", desc := "(I)I" } : Jvm.MethodName)) ∈ lw_all := lw_g (lw_at lw_m9 154 rfl) rfl
theorem q2235 : (Jvm.Cond.code ({ cls := "MinistryDesksModel", name := "dayOf", desc := "(I)I" } : Jvm.MethodName) prog_23_method_80_code (2 : Nat) (Option.some Jvm.ClassFile.FieldType.int)) ∈ lw_all := lw_g (lw_at lw_m9 155 rfl) rfl
theorem q2236 : (Jvm.Cond.methodLink "MinistryDesksModel" (473 : Nat) ({ cls := "MinistryDesksModel", name := "atYet", desc := "(III)I" } : Jvm.MethodName)) ∈ lw_all := lw_g (lw_at lw_m9 156 rfl) rfl
theorem q2237 : (Jvm.Cond.static ({ cls := "MinistryDesksModel", name := "atYet", desc := "(III)I" } : Jvm.MethodName)) ∈ lw_all := lw_g (lw_at lw_m9 157 rfl) rfl
theorem q2238 : (Jvm.Cond.code ({ cls := "MinistryDesksModel", name := "atYet", desc := "(III)I" } : Jvm.MethodName) prog_23_method_83_code (3 : Nat) (Option.some Jvm.ClassFile.FieldType.int)) ∈ lw_all := lw_g (lw_at lw_m9 158 rfl) rfl
theorem q2239 : (Jvm.Cond.methodLink "MinistryDesksModel" (476 : Nat) ({ cls := "MinistryDesksModel", name := "brings", desc := "(IIIII)J" } : Jvm.MethodName)) ∈ lw_all := lw_g (lw_at lw_m9 159 rfl) rfl
theorem q2240 : (Jvm.Cond.privateMethod ({ cls := "MinistryDesksModel", name := "brings", desc := "(IIIII)J" } : Jvm.MethodName)) ∈ lw_tbl := lw_at lw_m9 160 rfl
theorem q2241 : (Jvm.Cond.instanceMethod ({ cls := "MinistryDesksModel", name := "brings", desc := "(IIIII)J" } : Jvm.MethodName)) ∈ lw_all := lw_g (lw_at lw_m9 161 rfl) rfl
theorem q2242 : (Jvm.Cond.code ({ cls := "MinistryDesksModel", name := "brings", desc := "(IIIII)J" } : Jvm.MethodName) prog_23_method_82_code (9 : Nat) (Option.some Jvm.ClassFile.FieldType.long)) ∈ lw_all := lw_g (lw_at lw_m9 162 rfl) rfl
theorem q2243 : (Jvm.Cond.methodLink "MinistryDesksModel" (467 : Nat) ({ cls := "MinistryDesksModel", name := "living", desc := "(III)I" } : Jvm.MethodName)) ∈ lw_all := lw_g (lw_at lw_m9 163 rfl) rfl
theorem q2244 : (Jvm.Cond.privateMethod ({ cls := "MinistryDesksModel", name := "living", desc := "(III)I" } : Jvm.MethodName)) ∈ lw_tbl := lw_at lw_m9 164 rfl
theorem q2245 : (Jvm.Cond.instanceMethod ({ cls := "MinistryDesksModel", name := "living", desc := "(III)I" } : Jvm.MethodName)) ∈ lw_all := lw_g (lw_at lw_m9 165 rfl) rfl
theorem q2246 : (Jvm.Cond.code ({ cls := "MinistryDesksModel", name := "living", desc := "(III)I" } : Jvm.MethodName) prog_23_method_81_code (6 : Nat) (Option.some Jvm.ClassFile.FieldType.int)) ∈ lw_all := lw_g (lw_at lw_m9 166 rfl) rfl
theorem q2247 : (Jvm.Cond.methodLink "MinistryDesksModel" (464 : Nat) ({ cls := "MinistryDesksModel", name := "tillAt", desc := "(II)I" } : Jvm.MethodName)) ∈ lw_all := lw_g (lw_at lw_m9 167 rfl) rfl
theorem q2248 : (Jvm.Cond.privateMethod ({ cls := "MinistryDesksModel", name := "tillAt", desc := "(II)I" } : Jvm.MethodName)) ∈ lw_tbl := lw_at lw_m9 168 rfl
theorem q2249 : (Jvm.Cond.instanceMethod ({ cls := "MinistryDesksModel", name := "tillAt", desc := "(II)I" } : Jvm.MethodName)) ∈ lw_all := lw_g (lw_at lw_m9 169 rfl) rfl
theorem q2250 : (Jvm.Cond.code ({ cls := "MinistryDesksModel", name := "tillAt", desc := "(II)I" } : Jvm.MethodName) prog_23_method_79_code (5 : Nat) (Option.some Jvm.ClassFile.FieldType.int)) ∈ lw_all := lw_g (lw_at lw_m9 170 rfl) rfl
theorem q2251 : (Jvm.Cond.methodLink "MinistryDesksModel" (489 : Nat) ({ cls := "java/lang/Math", name := "max", desc := "(JJ)J" } : Jvm.MethodName)) ∈ lw_all := lw_g (lw_at lw_m9 171 rfl) rfl
theorem q2255 : (Jvm.Cond.instanceMethod ({ cls := "MinistryDesksModel", name := "goes", desc := "(II)I" } : Jvm.MethodName)) ∈ lw_all := lw_g (lw_at lw_m9 175 rfl) rfl
theorem q2256 : (Jvm.Cond.selects "MinistryDesksModel" ({ cls := "MinistryDesksModel", name := "goes", desc := "(II)I" } : Jvm.MethodName) ({ cls := "MinistryDesksModel", name := "goes", desc := "(II)I" } : Jvm.MethodName)) ∈ lw_all := lw_g (lw_at lw_m9 176 rfl) rfl
theorem q2257 : (Jvm.Cond.code ({ cls := "MinistryDesksModel", name := "goes", desc := "(II)I" } : Jvm.MethodName) prog_23_method_93_code (6 : Nat) (Option.some Jvm.ClassFile.FieldType.int)) ∈ lw_all := lw_g (lw_at lw_m9 177 rfl) rfl
theorem q2258 : (Jvm.Cond.methodLink "MinistryDesksModel" (513 : Nat) ({ cls := "MinistryDesksModel", name := "walk", desc := "(II)I" } : Jvm.MethodName)) ∈ lw_all := lw_g (lw_at lw_m9 178 rfl) rfl
theorem q2259 : (Jvm.Cond.privateMethod ({ cls := "MinistryDesksModel", name := "walk", desc := "(II)I" } : Jvm.MethodName)) ∈ lw_tbl := lw_at lw_m9 179 rfl
theorem q2260 : (Jvm.Cond.instanceMethod ({ cls := "MinistryDesksModel", name := "walk", desc := "(II)I" } : Jvm.MethodName)) ∈ lw_all := lw_g (lw_at lw_m9 180 rfl) rfl
theorem q2261 : (Jvm.Cond.code ({ cls := "MinistryDesksModel", name := "walk", desc := "(II)I" } : Jvm.MethodName) prog_23_method_91_code (7 : Nat) (Option.some Jvm.ClassFile.FieldType.int)) ∈ lw_all := lw_g (lw_at lw_m9 181 rfl) rfl
theorem q2262 : (Jvm.Cond.methodLink "MinistryDesksModel" (509 : Nat) ({ cls := "MinistryDesksModel", name := "isTime", desc := "(IIII)Z" } : Jvm.MethodName)) ∈ lw_all := lw_g (lw_at lw_m9 182 rfl) rfl
theorem q2263 : (Jvm.Cond.privateMethod ({ cls := "MinistryDesksModel", name := "isTime", desc := "(IIII)Z" } : Jvm.MethodName)) ∈ lw_tbl := lw_at lw_m9 183 rfl
theorem q2264 : (Jvm.Cond.instanceMethod ({ cls := "MinistryDesksModel", name := "isTime", desc := "(IIII)Z" } : Jvm.MethodName)) ∈ lw_all := lw_g (lw_at lw_m9 184 rfl) rfl
theorem q2265 : (Jvm.Cond.code ({ cls := "MinistryDesksModel", name := "isTime", desc := "(IIII)Z" } : Jvm.MethodName) prog_23_method_86_code (5 : Nat) (Option.some Jvm.ClassFile.FieldType.boolean)) ∈ lw_all := lw_g (lw_at lw_m9 185 rfl) rfl
theorem q2266 : (Jvm.Cond.methodLink "MinistryDesksModel" (516 : Nat) ({ cls := "MinistryDesksModel", name := "walksOn", desc := "(I)V" } : Jvm.MethodName)) ∈ lw_all := lw_g (lw_at lw_m9 186 rfl) rfl
theorem q2267 : (Jvm.Cond.privateMethod ({ cls := "MinistryDesksModel", name := "walksOn", desc := "(I)V" } : Jvm.MethodName)) ∈ lw_tbl := lw_at lw_m9 187 rfl
theorem q2268 : (Jvm.Cond.instanceMethod ({ cls := "MinistryDesksModel", name := "walksOn", desc := "(I)V" } : Jvm.MethodName)) ∈ lw_all := lw_g (lw_at lw_m9 188 rfl) rfl
theorem q2269 : (Jvm.Cond.code ({ cls := "MinistryDesksModel", name := "walksOn", desc := "(I)V" } : Jvm.MethodName) prog_23_method_92_code (2 : Nat) (Option.none : Option Jvm.ClassFile.FieldType)) ∈ lw_all := lw_g (lw_at lw_m9 189 rfl) rfl
theorem q2271 : (Jvm.Cond.instanceMethod ({ cls := "MinistryDesksModel", name := "knew", desc := "(III)I" } : Jvm.MethodName)) ∈ lw_all := lw_g (lw_at lw_m9 191 rfl) rfl
theorem q2272 : (Jvm.Cond.selects "MinistryDesksModel" ({ cls := "MinistryDesksModel", name := "knew", desc := "(III)I" } : Jvm.MethodName) ({ cls := "MinistryDesksModel", name := "knew", desc := "(III)I" } : Jvm.MethodName)) ∈ lw_all := lw_g (lw_at lw_m9 192 rfl) rfl
theorem q2273 : (Jvm.Cond.code ({ cls := "MinistryDesksModel", name := "knew", desc := "(III)I" } : Jvm.MethodName) prog_23_method_95_code (8 : Nat) (Option.some Jvm.ClassFile.FieldType.int)) ∈ lw_all := lw_g (lw_at lw_m9 193 rfl) rfl
theorem q2274 : (Jvm.Cond.methodLink "MinistryDesksModel" (526 : Nat) ({ cls := "MinistryDesksModel", name := "draw", desc := "()I" } : Jvm.MethodName)) ∈ lw_all := lw_g (lw_at lw_m9 194 rfl) rfl
theorem q2275 : (Jvm.Cond.privateMethod ({ cls := "MinistryDesksModel", name := "draw", desc := "()I" } : Jvm.MethodName)) ∈ lw_tbl := lw_at lw_m9 195 rfl
theorem q2276 : (Jvm.Cond.instanceMethod ({ cls := "MinistryDesksModel", name := "draw", desc := "()I" } : Jvm.MethodName)) ∈ lw_all := lw_g (lw_at lw_m9 196 rfl) rfl
theorem q2277 : (Jvm.Cond.code ({ cls := "MinistryDesksModel", name := "draw", desc := "()I" } : Jvm.MethodName) prog_23_method_94_code (1 : Nat) (Option.some Jvm.ClassFile.FieldType.int)) ∈ lw_all := lw_g (lw_at lw_m9 197 rfl) rfl
theorem q2278 : (Jvm.Cond.constant "MinistryDesksModel" (522 : Nat) (1103515245 : Int32)) ∈ lw_all := lw_g (lw_at lw_m9 198 rfl) rfl
theorem q2279 : (Jvm.Cond.constant "MinistryDesksModel" (525 : Nat) (2147483647 : Int32)) ∈ lw_all := lw_g (lw_at lw_m9 199 rfl) rfl
theorem q2281 : (Jvm.Cond.instanceMethod ({ cls := "MinistryDesksModel", name := "share", desc := "(ZI)I" } : Jvm.MethodName)) ∈ lw_all := lw_g (lw_at lw_m9 201 rfl) rfl
theorem q2282 : (Jvm.Cond.selects "MinistryDesksModel" ({ cls := "MinistryDesksModel", name := "share", desc := "(ZI)I" } : Jvm.MethodName) ({ cls := "MinistryDesksModel", name := "share", desc := "(ZI)I" } : Jvm.MethodName)) ∈ lw_all := lw_g (lw_at lw_m9 202 rfl) rfl
theorem q2283 : (Jvm.Cond.code ({ cls := "MinistryDesksModel", name := "share", desc := "(ZI)I" } : Jvm.MethodName) prog_23_method_99_code (7 : Nat) (Option.some Jvm.ClassFile.FieldType.int)) ∈ lw_all := lw_g (lw_at lw_m9 203 rfl) rfl
theorem q2284 : (Jvm.Cond.methodLink "MinistryDesksModel" (538 : Nat) ({ cls := "MinistryDesksModel", name := "layShares", desc := "(Z)V" } : Jvm.MethodName)) ∈ lw_all := lw_g (lw_at lw_m9 204 rfl) rfl
theorem q2285 : (Jvm.Cond.privateMethod ({ cls := "MinistryDesksModel", name := "layShares", desc := "(Z)V" } : Jvm.MethodName)) ∈ lw_tbl := lw_at lw_m9 205 rfl
theorem q2286 : (Jvm.Cond.instanceMethod ({ cls := "MinistryDesksModel", name := "layShares", desc := "(Z)V" } : Jvm.MethodName)) ∈ lw_all := lw_g (lw_at lw_m9 206 rfl) rfl
theorem q2287 : (Jvm.Cond.code ({ cls := "MinistryDesksModel", name := "layShares", desc := "(Z)V" } : Jvm.MethodName) prog_23_method_98_code (7 : Nat) (Option.none : Option Jvm.ClassFile.FieldType)) ∈ lw_all := lw_g (lw_at lw_m9 207 rfl) rfl
theorem q2288 : (Jvm.Cond.methodLink "MinistryDesksModel" (529 : Nat) ({ cls := "MinistryDesksModel", name := "worthBy", desc := "(IIZ)I" } : Jvm.MethodName)) ∈ lw_all := lw_g (lw_at lw_m9 208 rfl) rfl
theorem q2289 : (Jvm.Cond.privateMethod ({ cls := "MinistryDesksModel", name := "worthBy", desc := "(IIZ)I" } : Jvm.MethodName)) ∈ lw_tbl := lw_at lw_m9 209 rfl
theorem q2290 : (Jvm.Cond.instanceMethod ({ cls := "MinistryDesksModel", name := "worthBy", desc := "(IIZ)I" } : Jvm.MethodName)) ∈ lw_all := lw_g (lw_at lw_m9 210 rfl) rfl
theorem q2291 : (Jvm.Cond.code ({ cls := "MinistryDesksModel", name := "worthBy", desc := "(IIZ)I" } : Jvm.MethodName) prog_23_method_96_code (10 : Nat) (Option.some Jvm.ClassFile.FieldType.int)) ∈ lw_all := lw_g (lw_at lw_m9 211 rfl) rfl
theorem q2292 : (Jvm.Cond.methodLink "MinistryDesksModel" (533 : Nat) ({ cls := "MinistryDesksModel", name := "less", desc := "(II)I" } : Jvm.MethodName)) ∈ lw_all := lw_g (lw_at lw_m9 212 rfl) rfl
theorem q2293 : (Jvm.Cond.privateMethod ({ cls := "MinistryDesksModel", name := "less", desc := "(II)I" } : Jvm.MethodName)) ∈ lw_tbl := lw_at lw_m9 213 rfl
theorem q2294 : (Jvm.Cond.instanceMethod ({ cls := "MinistryDesksModel", name := "less", desc := "(II)I" } : Jvm.MethodName)) ∈ lw_all := lw_g (lw_at lw_m9 214 rfl) rfl
theorem q2295 : (Jvm.Cond.code ({ cls := "MinistryDesksModel", name := "less", desc := "(II)I" } : Jvm.MethodName) prog_23_method_97_code (7 : Nat) (Option.some Jvm.ClassFile.FieldType.int)) ∈ lw_all := lw_g (lw_at lw_m9 215 rfl) rfl
theorem q2296 : (Jvm.Cond.methodLink "MinistryDesksModel" (536 : Nat) ({ cls := "java/lang/Math", name := "max", desc := "(II)I" } : Jvm.MethodName)) ∈ lw_all := lw_g (lw_at lw_m9 216 rfl) rfl
theorem q2298 : (Jvm.Cond.instanceMethod ({ cls := "MinistryDesksModel", name := "fewest", desc := "()I" } : Jvm.MethodName)) ∈ lw_all := lw_g (lw_at lw_m9 218 rfl) rfl
theorem q2299 : (Jvm.Cond.selects "MinistryDesksModel" ({ cls := "MinistryDesksModel", name := "fewest", desc := "()I" } : Jvm.MethodName) ({ cls := "MinistryDesksModel", name := "fewest", desc := "()I" } : Jvm.MethodName)) ∈ lw_all := lw_g (lw_at lw_m9 219 rfl) rfl
theorem q2300 : (Jvm.Cond.code ({ cls := "MinistryDesksModel", name := "fewest", desc := "()I" } : Jvm.MethodName) prog_23_method_100_code (6 : Nat) (Option.some Jvm.ClassFile.FieldType.int)) ∈ lw_all := lw_g (lw_at lw_m9 220 rfl) rfl
theorem q2301 : (Jvm.Cond.methodLink "MinistryDesksModel" (542 : Nat) ({ cls := "java/lang/Math", name := "min", desc := "(II)I" } : Jvm.MethodName)) ∈ lw_all := lw_g (lw_at lw_m9 221 rfl) rfl
theorem q2303 : (Jvm.Cond.instanceMethod ({ cls := "MinistryDesksModel", name := "gives", desc := "(IJ)I" } : Jvm.MethodName)) ∈ lw_all := lw_g (lw_at lw_m9 223 rfl) rfl
theorem q2304 : (Jvm.Cond.selects "MinistryDesksModel" ({ cls := "MinistryDesksModel", name := "gives", desc := "(IJ)I" } : Jvm.MethodName) ({ cls := "MinistryDesksModel", name := "gives", desc := "(IJ)I" } : Jvm.MethodName)) ∈ lw_all := lw_g (lw_at lw_m9 224 rfl) rfl
theorem q2305 : (Jvm.Cond.code ({ cls := "MinistryDesksModel", name := "gives", desc := "(IJ)I" } : Jvm.MethodName) prog_23_method_103_code (6 : Nat) (Option.some Jvm.ClassFile.FieldType.int)) ∈ lw_all := lw_g (lw_at lw_m9 225 rfl) rfl
theorem q2306 : (Jvm.Cond.methodLink "MinistryDesksModel" (547 : Nat) ({ cls := "MinistryDesksModel", name := "areLines", desc := "(IJ)Z" } : Jvm.MethodName)) ∈ lw_all := lw_g (lw_at lw_m9 226 rfl) rfl
theorem q2307 : (Jvm.Cond.privateMethod ({ cls := "MinistryDesksModel", name := "areLines", desc := "(IJ)Z" } : Jvm.MethodName)) ∈ lw_tbl := lw_at lw_m9 227 rfl
theorem q2308 : (Jvm.Cond.instanceMethod ({ cls := "MinistryDesksModel", name := "areLines", desc := "(IJ)Z" } : Jvm.MethodName)) ∈ lw_all := lw_g (lw_at lw_m9 228 rfl) rfl
theorem q2309 : (Jvm.Cond.code ({ cls := "MinistryDesksModel", name := "areLines", desc := "(IJ)Z" } : Jvm.MethodName) prog_23_method_102_code (5 : Nat) (Option.some Jvm.ClassFile.FieldType.boolean)) ∈ lw_all := lw_g (lw_at lw_m9 229 rfl) rfl
theorem q2310 : (Jvm.Cond.constantLong "MinistryDesksModel" (545 : Nat) (255 : Int64)) ∈ lw_all := lw_g (lw_at lw_m9 230 rfl) rfl
theorem q2311 : (Jvm.Cond.methodLink "MinistryDesksModel" (551 : Nat) ({ cls := "MinistryDesksModel", name := "shownBy", desc := "(IJI)I" } : Jvm.MethodName)) ∈ lw_all := lw_g (lw_at lw_m9 231 rfl) rfl
theorem q2312 : (Jvm.Cond.privateMethod ({ cls := "MinistryDesksModel", name := "shownBy", desc := "(IJI)I" } : Jvm.MethodName)) ∈ lw_tbl := lw_at lw_m9 232 rfl
theorem q2313 : (Jvm.Cond.instanceMethod ({ cls := "MinistryDesksModel", name := "shownBy", desc := "(IJI)I" } : Jvm.MethodName)) ∈ lw_all := lw_g (lw_at lw_m9 233 rfl) rfl
theorem q2314 : (Jvm.Cond.code ({ cls := "MinistryDesksModel", name := "shownBy", desc := "(IJI)I" } : Jvm.MethodName) prog_23_method_101_code (8 : Nat) (Option.some Jvm.ClassFile.FieldType.int)) ∈ lw_all := lw_g (lw_at lw_m9 234 rfl) rfl
theorem q2316 : (Jvm.Cond.instanceMethod ({ cls := "MinistryDesksModel", name := "shows", desc := "(IJI)I" } : Jvm.MethodName)) ∈ lw_all := lw_g (lw_at lw_m9 236 rfl) rfl
theorem q2317 : (Jvm.Cond.selects "MinistryDesksModel" ({ cls := "MinistryDesksModel", name := "shows", desc := "(IJI)I" } : Jvm.MethodName) ({ cls := "MinistryDesksModel", name := "shows", desc := "(IJI)I" } : Jvm.MethodName)) ∈ lw_all := lw_g (lw_at lw_m9 237 rfl) rfl
theorem q2318 : (Jvm.Cond.code ({ cls := "MinistryDesksModel", name := "shows", desc := "(IJI)I" } : Jvm.MethodName) prog_23_method_104_code (6 : Nat) (Option.some Jvm.ClassFile.FieldType.int)) ∈ lw_all := lw_g (lw_at lw_m9 238 rfl) rfl
theorem q2319 : (Jvm.Cond.methodLink "MinistryDesksModel" (555 : Nat) ({ cls := "MinistryDesksModel", name := "isFact", desc := "(I)Z" } : Jvm.MethodName)) ∈ lw_all := lw_g (lw_at lw_m9 239 rfl) rfl
theorem q2320 : (Jvm.Cond.privateMethod ({ cls := "MinistryDesksModel", name := "isFact", desc := "(I)Z" } : Jvm.MethodName)) ∈ lw_tbl := lw_at lw_m10 0 rfl
theorem q2321 : (Jvm.Cond.instanceMethod ({ cls := "MinistryDesksModel", name := "isFact", desc := "(I)Z" } : Jvm.MethodName)) ∈ lw_all := lw_g (lw_at lw_m10 1 rfl) rfl
theorem q2322 : (Jvm.Cond.code ({ cls := "MinistryDesksModel", name := "isFact", desc := "(I)Z" } : Jvm.MethodName) prog_23_method_43_code (2 : Nat) (Option.some Jvm.ClassFile.FieldType.boolean)) ∈ lw_all := lw_g (lw_at lw_m10 2 rfl) rfl
theorem q2324 : (Jvm.Cond.instanceMethod ({ cls := "MinistryDesksModel", name := "rumour", desc := "(II)I" } : Jvm.MethodName)) ∈ lw_all := lw_g (lw_at lw_m10 4 rfl) rfl
theorem q2325 : (Jvm.Cond.selects "MinistryDesksModel" ({ cls := "MinistryDesksModel", name := "rumour", desc := "(II)I" } : Jvm.MethodName) ({ cls := "MinistryDesksModel", name := "rumour", desc := "(II)I" } : Jvm.MethodName)) ∈ lw_all := lw_g (lw_at lw_m10 5 rfl) rfl
theorem q2326 : (Jvm.Cond.code ({ cls := "MinistryDesksModel", name := "rumour", desc := "(II)I" } : Jvm.MethodName) prog_23_method_106_code (4 : Nat) (Option.some Jvm.ClassFile.FieldType.int)) ∈ lw_all := lw_g (lw_at lw_m10 6 rfl) rfl
theorem q2327 : (Jvm.Cond.methodLink "MinistryDesksModel" (558 : Nat) ({ cls := "MinistryDesksModel", name := "noonsTo", desc := "(III)I" } : Jvm.MethodName)) ∈ lw_all := lw_g (lw_at lw_m10 7 rfl) rfl
theorem q2328 : (Jvm.Cond.privateMethod ({ cls := "MinistryDesksModel", name := "noonsTo", desc := "(III)I" } : Jvm.MethodName)) ∈ lw_tbl := lw_at lw_m10 8 rfl
theorem q2329 : (Jvm.Cond.instanceMethod ({ cls := "MinistryDesksModel", name := "noonsTo", desc := "(III)I" } : Jvm.MethodName)) ∈ lw_all := lw_g (lw_at lw_m10 9 rfl) rfl
theorem q2330 : (Jvm.Cond.code ({ cls := "MinistryDesksModel", name := "noonsTo", desc := "(III)I" } : Jvm.MethodName) prog_23_method_105_code (6 : Nat) (Option.some Jvm.ClassFile.FieldType.int)) ∈ lw_all := lw_g (lw_at lw_m10 10 rfl) rfl
theorem q2332 : (Jvm.Cond.instanceMethod ({ cls := "MinistryDesksModel", name := "differ", desc := "(III)I" } : Jvm.MethodName)) ∈ lw_all := lw_g (lw_at lw_m10 12 rfl) rfl
theorem q2333 : (Jvm.Cond.selects "MinistryDesksModel" ({ cls := "MinistryDesksModel", name := "differ", desc := "(III)I" } : Jvm.MethodName) ({ cls := "MinistryDesksModel", name := "differ", desc := "(III)I" } : Jvm.MethodName)) ∈ lw_all := lw_g (lw_at lw_m10 13 rfl) rfl
theorem q2334 : (Jvm.Cond.code ({ cls := "MinistryDesksModel", name := "differ", desc := "(III)I" } : Jvm.MethodName) prog_23_method_108_code (7 : Nat) (Option.some Jvm.ClassFile.FieldType.int)) ∈ lw_all := lw_g (lw_at lw_m10 14 rfl) rfl
theorem q2335 : (Jvm.Cond.methodLink "MinistryDesksModel" (561 : Nat) ({ cls := "MinistryDesksModel", name := "endsWith", desc := "(III)I" } : Jvm.MethodName)) ∈ lw_all := lw_g (lw_at lw_m10 15 rfl) rfl
theorem q2336 : (Jvm.Cond.privateMethod ({ cls := "MinistryDesksModel", name := "endsWith", desc := "(III)I" } : Jvm.MethodName)) ∈ lw_tbl := lw_at lw_m10 16 rfl
theorem q2337 : (Jvm.Cond.instanceMethod ({ cls := "MinistryDesksModel", name := "endsWith", desc := "(III)I" } : Jvm.MethodName)) ∈ lw_all := lw_g (lw_at lw_m10 17 rfl) rfl
theorem q2338 : (Jvm.Cond.code ({ cls := "MinistryDesksModel", name := "endsWith", desc := "(III)I" } : Jvm.MethodName) prog_23_method_107_code (7 : Nat) (Option.some Jvm.ClassFile.FieldType.int)) ∈ lw_all := lw_g (lw_at lw_m10 18 rfl) rfl
theorem q2340 : (Jvm.Cond.instanceMethod ({ cls := "MinistryDesksModel", name := "ignorant", desc := "(I)I" } : Jvm.MethodName)) ∈ lw_all := lw_g (lw_at lw_m10 20 rfl) rfl
theorem q2341 : (Jvm.Cond.selects "MinistryDesksModel" ({ cls := "MinistryDesksModel", name := "ignorant", desc := "(I)I" } : Jvm.MethodName) ({ cls := "MinistryDesksModel", name := "ignorant", desc := "(I)I" } : Jvm.MethodName)) ∈ lw_all := lw_g (lw_at lw_m10 21 rfl) rfl
theorem q2342 : (Jvm.Cond.code ({ cls := "MinistryDesksModel", name := "ignorant", desc := "(I)I" } : Jvm.MethodName) prog_23_method_109_code (7 : Nat) (Option.some Jvm.ClassFile.FieldType.int)) ∈ lw_all := lw_g (lw_at lw_m10 22 rfl) rfl
theorem q2344 : (Jvm.Cond.instanceMethod ({ cls := "MinistryDesksModel", name := "spy", desc := "(II)I" } : Jvm.MethodName)) ∈ lw_all := lw_g (lw_at lw_m10 24 rfl) rfl
theorem q2345 : (Jvm.Cond.selects "MinistryDesksModel" ({ cls := "MinistryDesksModel", name := "spy", desc := "(II)I" } : Jvm.MethodName) ({ cls := "MinistryDesksModel", name := "spy", desc := "(II)I" } : Jvm.MethodName)) ∈ lw_all := lw_g (lw_at lw_m10 25 rfl) rfl
theorem q2346 : (Jvm.Cond.code ({ cls := "MinistryDesksModel", name := "spy", desc := "(II)I" } : Jvm.MethodName) prog_23_method_110_code (5 : Nat) (Option.some Jvm.ClassFile.FieldType.int)) ∈ lw_all := lw_g (lw_at lw_m10 26 rfl) rfl
theorem q2348 : (Jvm.Cond.instanceMethod ({ cls := "MinistryDesksModel", name := "law", desc := "(IIIII)J" } : Jvm.MethodName)) ∈ lw_all := lw_g (lw_at lw_m10 28 rfl) rfl
theorem q2349 : (Jvm.Cond.selects "MinistryDesksModel" ({ cls := "MinistryDesksModel", name := "law", desc := "(IIIII)J" } : Jvm.MethodName) ({ cls := "MinistryDesksModel", name := "law", desc := "(IIIII)J" } : Jvm.MethodName)) ∈ lw_all := lw_g (lw_at lw_m10 29 rfl) rfl
theorem q2350 : (Jvm.Cond.code ({ cls := "MinistryDesksModel", name := "law", desc := "(IIIII)J" } : Jvm.MethodName) prog_23_method_112_code (6 : Nat) (Option.some Jvm.ClassFile.FieldType.long)) ∈ lw_all := lw_g (lw_at lw_m10 30 rfl) rfl
theorem q2351 : (Jvm.Cond.methodLink "MinistryDesksModel" (564 : Nat) ({ cls := "MinistryDesksModel", name := "isName", desc := "(I)Z" } : Jvm.MethodName)) ∈ lw_all := lw_g (lw_at lw_m10 31 rfl) rfl
theorem q2352 : (Jvm.Cond.static ({ cls := "MinistryDesksModel", name := "isName", desc := "(I)Z" } : Jvm.MethodName)) ∈ lw_all := lw_g (lw_at lw_m10 32 rfl) rfl
theorem q2353 : (Jvm.Cond.code ({ cls := "MinistryDesksModel", name := "isName", desc := "(I)Z" } : Jvm.MethodName) prog_23_method_111_code (1 : Nat) (Option.some Jvm.ClassFile.FieldType.boolean)) ∈ lw_all := lw_g (lw_at lw_m10 33 rfl) rfl
theorem q2354 : (Jvm.Cond.constantLong "MinistryDesksModel" (569 : Nat) (-9223372036854775808 : Int64)) ∈ lw_all := lw_g (lw_at lw_m10 34 rfl) rfl
theorem q2356 : (Jvm.Cond.instanceMethod ({ cls := "MinistryDesksModel", name := "hear", desc := "(II)I" } : Jvm.MethodName)) ∈ lw_all := lw_g (lw_at lw_m10 36 rfl) rfl
theorem q2357 : (Jvm.Cond.selects "MinistryDesksModel" ({ cls := "MinistryDesksModel", name := "hear", desc := "(II)I" } : Jvm.MethodName) ({ cls := "MinistryDesksModel", name := "hear", desc := "(II)I" } : Jvm.MethodName)) ∈ lw_all := lw_g (lw_at lw_m10 37 rfl) rfl
theorem q2358 : (Jvm.Cond.code ({ cls := "MinistryDesksModel", name := "hear", desc := "(II)I" } : Jvm.MethodName) prog_23_method_113_code (3 : Nat) (Option.some Jvm.ClassFile.FieldType.int)) ∈ lw_all := lw_g (lw_at lw_m10 38 rfl) rfl
theorem q2360 : (Jvm.Cond.instanceMethod ({ cls := "MinistryDesksModel", name := "strike", desc := "(I)I" } : Jvm.MethodName)) ∈ lw_all := lw_g (lw_at lw_m10 40 rfl) rfl
theorem q2361 : (Jvm.Cond.selects "MinistryDesksModel" ({ cls := "MinistryDesksModel", name := "strike", desc := "(I)I" } : Jvm.MethodName) ({ cls := "MinistryDesksModel", name := "strike", desc := "(I)I" } : Jvm.MethodName)) ∈ lw_all := lw_g (lw_at lw_m10 41 rfl) rfl
theorem q2362 : (Jvm.Cond.code ({ cls := "MinistryDesksModel", name := "strike", desc := "(I)I" } : Jvm.MethodName) prog_23_method_114_code (2 : Nat) (Option.some Jvm.ClassFile.FieldType.int)) ∈ lw_all := lw_g (lw_at lw_m10 42 rfl) rfl
theorem q2364 : (Jvm.Cond.instanceMethod ({ cls := "MinistryDesksModel", name := "known", desc := "(I)Z" } : Jvm.MethodName)) ∈ lw_all := lw_g (lw_at lw_m10 44 rfl) rfl
theorem q2365 : (Jvm.Cond.selects "MinistryDesksModel" ({ cls := "MinistryDesksModel", name := "known", desc := "(I)Z" } : Jvm.MethodName) ({ cls := "MinistryDesksModel", name := "known", desc := "(I)Z" } : Jvm.MethodName)) ∈ lw_all := lw_g (lw_at lw_m10 45 rfl) rfl
theorem q2366 : (Jvm.Cond.code ({ cls := "MinistryDesksModel", name := "known", desc := "(I)Z" } : Jvm.MethodName) prog_23_method_115_code (2 : Nat) (Option.some Jvm.ClassFile.FieldType.boolean)) ∈ lw_all := lw_g (lw_at lw_m10 46 rfl) rfl
theorem q2368 : (Jvm.Cond.instanceMethod ({ cls := "MinistryDesksModel", name := "fits", desc := "()I" } : Jvm.MethodName)) ∈ lw_all := lw_g (lw_at lw_m10 48 rfl) rfl
theorem q2369 : (Jvm.Cond.selects "MinistryDesksModel" ({ cls := "MinistryDesksModel", name := "fits", desc := "()I" } : Jvm.MethodName) ({ cls := "MinistryDesksModel", name := "fits", desc := "()I" } : Jvm.MethodName)) ∈ lw_all := lw_g (lw_at lw_m10 49 rfl) rfl
theorem q2370 : (Jvm.Cond.code ({ cls := "MinistryDesksModel", name := "fits", desc := "()I" } : Jvm.MethodName) prog_23_method_118_code (3 : Nat) (Option.some Jvm.ClassFile.FieldType.int)) ∈ lw_all := lw_g (lw_at lw_m10 50 rfl) rfl
theorem q2371 : (Jvm.Cond.methodLink "MinistryDesksModel" (571 : Nat) ({ cls := "MinistryDesksModel", name := "knownMany", desc := "()I" } : Jvm.MethodName)) ∈ lw_all := lw_g (lw_at lw_m10 51 rfl) rfl
theorem q2372 : (Jvm.Cond.privateMethod ({ cls := "MinistryDesksModel", name := "knownMany", desc := "()I" } : Jvm.MethodName)) ∈ lw_tbl := lw_at lw_m10 52 rfl
theorem q2373 : (Jvm.Cond.instanceMethod ({ cls := "MinistryDesksModel", name := "knownMany", desc := "()I" } : Jvm.MethodName)) ∈ lw_all := lw_g (lw_at lw_m10 53 rfl) rfl
theorem q2374 : (Jvm.Cond.code ({ cls := "MinistryDesksModel", name := "knownMany", desc := "()I" } : Jvm.MethodName) prog_23_method_116_code (1 : Nat) (Option.some Jvm.ClassFile.FieldType.int)) ∈ lw_all := lw_g (lw_at lw_m10 54 rfl) rfl
theorem q2375 : (Jvm.Cond.methodLink "MinistryDesksModel" (574 : Nat) ({ cls := "MinistryDesksModel", name := "goesAsHeard", desc := "()Z" } : Jvm.MethodName)) ∈ lw_all := lw_g (lw_at lw_m10 55 rfl) rfl
theorem q2376 : (Jvm.Cond.privateMethod ({ cls := "MinistryDesksModel", name := "goesAsHeard", desc := "()Z" } : Jvm.MethodName)) ∈ lw_tbl := lw_at lw_m10 56 rfl
theorem q2377 : (Jvm.Cond.instanceMethod ({ cls := "MinistryDesksModel", name := "goesAsHeard", desc := "()Z" } : Jvm.MethodName)) ∈ lw_all := lw_g (lw_at lw_m10 57 rfl) rfl
theorem q2378 : (Jvm.Cond.code ({ cls := "MinistryDesksModel", name := "goesAsHeard", desc := "()Z" } : Jvm.MethodName) prog_23_method_117_code (2 : Nat) (Option.some Jvm.ClassFile.FieldType.boolean)) ∈ lw_all := lw_g (lw_at lw_m10 58 rfl) rfl
theorem q2380 : (Jvm.Cond.instanceMethod ({ cls := "MinistryDesksModel", name := "tried", desc := "(III)I" } : Jvm.MethodName)) ∈ lw_all := lw_g (lw_at lw_m10 60 rfl) rfl
theorem q2381 : (Jvm.Cond.selects "MinistryDesksModel" ({ cls := "MinistryDesksModel", name := "tried", desc := "(III)I" } : Jvm.MethodName) ({ cls := "MinistryDesksModel", name := "tried", desc := "(III)I" } : Jvm.MethodName)) ∈ lw_all := lw_g (lw_at lw_m10 61 rfl) rfl
theorem q2382 : (Jvm.Cond.code ({ cls := "MinistryDesksModel", name := "tried", desc := "(III)I" } : Jvm.MethodName) prog_23_method_119_code (6 : Nat) (Option.some Jvm.ClassFile.FieldType.int)) ∈ lw_all := lw_g (lw_at lw_m10 62 rfl) rfl
theorem q2384 : (Jvm.Cond.instanceMethod ({ cls := "MinistryDesksModel", name := "keep", desc := "()I" } : Jvm.MethodName)) ∈ lw_all := lw_g (lw_at lw_m10 64 rfl) rfl
theorem q2385 : (Jvm.Cond.selects "MinistryDesksModel" ({ cls := "MinistryDesksModel", name := "keep", desc := "()I" } : Jvm.MethodName) ({ cls := "MinistryDesksModel", name := "keep", desc := "()I" } : Jvm.MethodName)) ∈ lw_all := lw_g (lw_at lw_m10 65 rfl) rfl
theorem q2386 : (Jvm.Cond.code ({ cls := "MinistryDesksModel", name := "keep", desc := "()I" } : Jvm.MethodName) prog_23_method_120_code (1 : Nat) (Option.some Jvm.ClassFile.FieldType.int)) ∈ lw_all := lw_g (lw_at lw_m10 66 rfl) rfl
theorem q2387 : (Jvm.Cond.methodLink "MinistryDesksModel" (578 : Nat) ({ cls := "MinistryDesksModel", name := "copies", desc := "(II)V" } : Jvm.MethodName)) ∈ lw_all := lw_g (lw_at lw_m10 67 rfl) rfl
theorem q2388 : (Jvm.Cond.privateMethod ({ cls := "MinistryDesksModel", name := "copies", desc := "(II)V" } : Jvm.MethodName)) ∈ lw_tbl := lw_at lw_m10 68 rfl
theorem q2389 : (Jvm.Cond.instanceMethod ({ cls := "MinistryDesksModel", name := "copies", desc := "(II)V" } : Jvm.MethodName)) ∈ lw_all := lw_g (lw_at lw_m10 69 rfl) rfl
theorem q2390 : (Jvm.Cond.code ({ cls := "MinistryDesksModel", name := "copies", desc := "(II)V" } : Jvm.MethodName) prog_23_method_54_code (4 : Nat) (Option.none : Option Jvm.ClassFile.FieldType)) ∈ lw_all := lw_g (lw_at lw_m10 70 rfl) rfl
theorem q2392 : (Jvm.Cond.instanceMethod ({ cls := "MinistryDesksModel", name := "back", desc := "()I" } : Jvm.MethodName)) ∈ lw_all := lw_g (lw_at lw_m10 72 rfl) rfl
theorem q2393 : (Jvm.Cond.selects "MinistryDesksModel" ({ cls := "MinistryDesksModel", name := "back", desc := "()I" } : Jvm.MethodName) ({ cls := "MinistryDesksModel", name := "back", desc := "()I" } : Jvm.MethodName)) ∈ lw_all := lw_g (lw_at lw_m10 73 rfl) rfl
theorem q2394 : (Jvm.Cond.code ({ cls := "MinistryDesksModel", name := "back", desc := "()I" } : Jvm.MethodName) prog_23_method_121_code (1 : Nat) (Option.some Jvm.ClassFile.FieldType.int)) ∈ lw_all := lw_g (lw_at lw_m10 74 rfl) rfl
theorem q2396 : (Jvm.Cond.instanceMethod ({ cls := "MinistryDesksModel", name := "count", desc := "(I)I" } : Jvm.MethodName)) ∈ lw_all := lw_g (lw_at lw_m10 76 rfl) rfl
theorem q2397 : (Jvm.Cond.selects "MinistryDesksModel" ({ cls := "MinistryDesksModel", name := "count", desc := "(I)I" } : Jvm.MethodName) ({ cls := "MinistryDesksModel", name := "count", desc := "(I)I" } : Jvm.MethodName)) ∈ lw_all := lw_g (lw_at lw_m10 77 rfl) rfl
theorem q2398 : (Jvm.Cond.code ({ cls := "MinistryDesksModel", name := "count", desc := "(I)I" } : Jvm.MethodName) prog_23_method_122_code (4 : Nat) (Option.some Jvm.ClassFile.FieldType.int)) ∈ lw_all := lw_g (lw_at lw_m10 78 rfl) rfl
theorem q2409 : (Jvm.Cond.castable "MinistryDesksModel" "java/lang/Object") ∈ lw_tbl := lw_at lw_m10 89 rfl
theorem in_X6 : ∀ w ∈ wsX60, w ∈ lw_all := lw_in wsX60 [1756, 1758, 1760, 1762, 1764, 1766, 1768, 1770, 1772, 1774, 1776, 1778, 1780, 1782, 1784, 1786, 1788, 1790, 1792, 1794, 1796, 1798, 1800, 1802, 1804, 1806, 1808, 1810, 1812, 1814, 1816, 1818, 1820, 1822, 1824, 1826, 1828, 1830, 1832, 1834, 1836, 1838, 1840, 1842, 1844, 1846, 1848, 1850, 1852, 1854, 1856, 1858, 1860, 1862, 1864, 1866, 1868, 1870, 1872, 1874, 1876, 1878, 1880, 1882, 1884, 1886, 1888, 1890, 1892, 1894, 1896, 1898, 1900, 1902, 1904, 1906] (by decide +kernel) (by decide +kernel)

