set_option maxRecDepth 100000
abbrev cX1_init : ByteArray := prog_1_method_1_code
def yX1_init : MethodName := ⟨RX1, "<init>", "()V"⟩
def dkwX1_init_8 : List UInt8 := [188, 4, 181, 0, 90, 42, 2, 181, 0, 93, 42, 180, 0, 48, 42, 180, 0, 36, 182, 0, 96, 177]
abbrev dktX1_init_8 : List UInt8 := dkwX1_init_8 ++ []
def dkwX1_init_7 : List UInt8 := [188, 10, 181, 0, 81, 42, 16, 24, 188, 10, 181, 0, 84, 42, 16, 24, 188, 10, 181, 0, 87, 42, 16, 24]
abbrev dktX1_init_7 : List UInt8 := dkwX1_init_7 ++ dktX1_init_8
def dkwX1_init_6 : List UInt8 := [181, 0, 71, 42, 16, 16, 188, 10, 181, 0, 74, 42, 16, 16, 188, 4, 181, 0, 77, 42, 17, 75, 8]
abbrev dktX1_init_6 : List UInt8 := dkwX1_init_6 ++ dktX1_init_7
def dkwX1_init_5 : List UInt8 := [16, 100, 188, 10, 181, 0, 65, 42, 17, 2, 188, 188, 10, 181, 0, 68, 42, 17, 101, 0, 188, 10]
abbrev dktX1_init_5 : List UInt8 := dkwX1_init_5 ++ dktX1_init_6
def dkwX1_init_4 : List UInt8 := [183, 0, 45, 181, 0, 55, 42, 16, 100, 188, 10, 181, 0, 58, 42, 16, 100, 188, 10, 181, 0, 62, 42]
abbrev dktX1_init_4 : List UInt8 := dkwX1_init_4 ++ dktX1_init_5
def dkwX1_init_3 : List UInt8 := [183, 0, 45, 181, 0, 48, 42, 187, 0, 43, 89, 42, 183, 0, 45, 181, 0, 52, 42, 187, 0, 43, 89, 42]
abbrev dktX1_init_3 : List UInt8 := dkwX1_init_3 ++ dktX1_init_4
def dkwX1_init_2 : List UInt8 := [183, 0, 35, 181, 0, 36, 42, 187, 0, 33, 89, 183, 0, 35, 181, 0, 40, 42, 187, 0, 43, 89, 42]
abbrev dktX1_init_2 : List UInt8 := dkwX1_init_2 ++ dktX1_init_3
def dkwX1_init_1 : List UInt8 := [183, 0, 21, 181, 0, 22, 42, 187, 0, 26, 89, 183, 0, 28, 181, 0, 29, 42, 187, 0, 33, 89]
abbrev dktX1_init_1 : List UInt8 := dkwX1_init_1 ++ dktX1_init_2
def dkwX1_init_0 : List UInt8 := [42, 183, 0, 5, 42, 17, 3, 132, 188, 8, 181, 0, 11, 42, 2, 181, 0, 15, 42, 187, 0, 19, 89]
abbrev dktX1_init_0 : List UInt8 := dkwX1_init_0 ++ dktX1_init_1
theorem dksX1_init_0 : cX1_init.data.toList.drop 0 = dktX1_init_0 := by decide +kernel
theorem dksX1_init_1 : cX1_init.data.toList.drop 23 = dktX1_init_1 := dk_seg dksX1_init_0 23 rfl rfl
theorem dksX1_init_2 : cX1_init.data.toList.drop 45 = dktX1_init_2 := dk_seg dksX1_init_1 22 rfl rfl
theorem dksX1_init_3 : cX1_init.data.toList.drop 68 = dktX1_init_3 := dk_seg dksX1_init_2 23 rfl rfl
theorem dksX1_init_4 : cX1_init.data.toList.drop 92 = dktX1_init_4 := dk_seg dksX1_init_3 24 rfl rfl
theorem dksX1_init_5 : cX1_init.data.toList.drop 115 = dktX1_init_5 := dk_seg dksX1_init_4 23 rfl rfl
theorem dksX1_init_6 : cX1_init.data.toList.drop 137 = dktX1_init_6 := dk_seg dksX1_init_5 22 rfl rfl
theorem dksX1_init_7 : cX1_init.data.toList.drop 160 = dktX1_init_7 := dk_seg dksX1_init_6 23 rfl rfl
theorem dksX1_init_8 : cX1_init.data.toList.drop 184 = dktX1_init_8 := dk_seg dksX1_init_7 24 rfl rfl
theorem dX1_init_0 : decode cX1_init 0 = .ok (.aload_n 0, 1) := dk_42 (dk_at dksX1_init_0 0 rfl rfl)
theorem dX1_init_1 : decode cX1_init 1 = .ok (.invokespecial 5, 3) := dk_183 0 5 (dk_at dksX1_init_0 1 rfl rfl)
theorem dX1_init_4 : decode cX1_init 4 = .ok (.aload_n 0, 1) := dk_42 (dk_at dksX1_init_0 4 rfl rfl)
theorem dX1_init_5 : decode cX1_init 5 = .ok (.sipush 900, 3) := dk_17 3 132 (dk_at dksX1_init_0 5 rfl rfl)
theorem dX1_init_8 : decode cX1_init 8 = .ok (.newarray .byte, 2) := dk_188_8 (dk_at dksX1_init_0 8 rfl rfl)
theorem dX1_init_10 : decode cX1_init 10 = .ok (.putfield 11, 3) := dk_181 0 11 (dk_at dksX1_init_0 10 rfl rfl)
theorem dX1_init_13 : decode cX1_init 13 = .ok (.aload_n 0, 1) := dk_42 (dk_at dksX1_init_0 13 rfl rfl)
theorem dX1_init_14 : decode cX1_init 14 = .ok (.iconst (-1), 1) := dk_2 (dk_at dksX1_init_0 14 rfl rfl)
theorem dX1_init_15 : decode cX1_init 15 = .ok (.putfield 15, 3) := dk_181 0 15 (dk_at dksX1_init_0 15 rfl rfl)
theorem dX1_init_18 : decode cX1_init 18 = .ok (.aload_n 0, 1) := dk_42 (dk_at dksX1_init_0 18 rfl rfl)
theorem dX1_init_19 : decode cX1_init 19 = .ok (.new 19, 3) := dk_187 0 19 (dk_at dksX1_init_0 19 rfl rfl)
theorem dX1_init_22 : decode cX1_init 22 = .ok (.dup, 1) := dk_89 (dk_at dksX1_init_0 22 rfl rfl)
theorem dX1_init_23 : decode cX1_init 23 = .ok (.invokespecial 21, 3) := dk_183 0 21 (dk_at dksX1_init_1 0 rfl rfl)
theorem dX1_init_26 : decode cX1_init 26 = .ok (.putfield 22, 3) := dk_181 0 22 (dk_at dksX1_init_1 3 rfl rfl)
theorem dX1_init_29 : decode cX1_init 29 = .ok (.aload_n 0, 1) := dk_42 (dk_at dksX1_init_1 6 rfl rfl)
theorem dX1_init_30 : decode cX1_init 30 = .ok (.new 26, 3) := dk_187 0 26 (dk_at dksX1_init_1 7 rfl rfl)
theorem dX1_init_33 : decode cX1_init 33 = .ok (.dup, 1) := dk_89 (dk_at dksX1_init_1 10 rfl rfl)
theorem dX1_init_34 : decode cX1_init 34 = .ok (.invokespecial 28, 3) := dk_183 0 28 (dk_at dksX1_init_1 11 rfl rfl)
theorem dX1_init_37 : decode cX1_init 37 = .ok (.putfield 29, 3) := dk_181 0 29 (dk_at dksX1_init_1 14 rfl rfl)
theorem dX1_init_40 : decode cX1_init 40 = .ok (.aload_n 0, 1) := dk_42 (dk_at dksX1_init_1 17 rfl rfl)
theorem dX1_init_41 : decode cX1_init 41 = .ok (.new 33, 3) := dk_187 0 33 (dk_at dksX1_init_1 18 rfl rfl)
theorem dX1_init_44 : decode cX1_init 44 = .ok (.dup, 1) := dk_89 (dk_at dksX1_init_1 21 rfl rfl)
theorem dX1_init_45 : decode cX1_init 45 = .ok (.invokespecial 35, 3) := dk_183 0 35 (dk_at dksX1_init_2 0 rfl rfl)
theorem dX1_init_48 : decode cX1_init 48 = .ok (.putfield 36, 3) := dk_181 0 36 (dk_at dksX1_init_2 3 rfl rfl)
theorem dX1_init_51 : decode cX1_init 51 = .ok (.aload_n 0, 1) := dk_42 (dk_at dksX1_init_2 6 rfl rfl)
theorem dX1_init_52 : decode cX1_init 52 = .ok (.new 33, 3) := dk_187 0 33 (dk_at dksX1_init_2 7 rfl rfl)
theorem dX1_init_55 : decode cX1_init 55 = .ok (.dup, 1) := dk_89 (dk_at dksX1_init_2 10 rfl rfl)
theorem dX1_init_56 : decode cX1_init 56 = .ok (.invokespecial 35, 3) := dk_183 0 35 (dk_at dksX1_init_2 11 rfl rfl)
theorem dX1_init_59 : decode cX1_init 59 = .ok (.putfield 40, 3) := dk_181 0 40 (dk_at dksX1_init_2 14 rfl rfl)
theorem dX1_init_62 : decode cX1_init 62 = .ok (.aload_n 0, 1) := dk_42 (dk_at dksX1_init_2 17 rfl rfl)
theorem dX1_init_63 : decode cX1_init 63 = .ok (.new 43, 3) := dk_187 0 43 (dk_at dksX1_init_2 18 rfl rfl)
theorem dX1_init_66 : decode cX1_init 66 = .ok (.dup, 1) := dk_89 (dk_at dksX1_init_2 21 rfl rfl)
theorem dX1_init_67 : decode cX1_init 67 = .ok (.aload_n 0, 1) := dk_42 (dk_at dksX1_init_2 22 rfl rfl)
theorem dX1_init_68 : decode cX1_init 68 = .ok (.invokespecial 45, 3) := dk_183 0 45 (dk_at dksX1_init_3 0 rfl rfl)
theorem dX1_init_71 : decode cX1_init 71 = .ok (.putfield 48, 3) := dk_181 0 48 (dk_at dksX1_init_3 3 rfl rfl)
theorem dX1_init_74 : decode cX1_init 74 = .ok (.aload_n 0, 1) := dk_42 (dk_at dksX1_init_3 6 rfl rfl)
theorem dX1_init_75 : decode cX1_init 75 = .ok (.new 43, 3) := dk_187 0 43 (dk_at dksX1_init_3 7 rfl rfl)
theorem dX1_init_78 : decode cX1_init 78 = .ok (.dup, 1) := dk_89 (dk_at dksX1_init_3 10 rfl rfl)
theorem dX1_init_79 : decode cX1_init 79 = .ok (.aload_n 0, 1) := dk_42 (dk_at dksX1_init_3 11 rfl rfl)
theorem dX1_init_80 : decode cX1_init 80 = .ok (.invokespecial 45, 3) := dk_183 0 45 (dk_at dksX1_init_3 12 rfl rfl)
theorem dX1_init_83 : decode cX1_init 83 = .ok (.putfield 52, 3) := dk_181 0 52 (dk_at dksX1_init_3 15 rfl rfl)
theorem dX1_init_86 : decode cX1_init 86 = .ok (.aload_n 0, 1) := dk_42 (dk_at dksX1_init_3 18 rfl rfl)
theorem dX1_init_87 : decode cX1_init 87 = .ok (.new 43, 3) := dk_187 0 43 (dk_at dksX1_init_3 19 rfl rfl)
theorem dX1_init_90 : decode cX1_init 90 = .ok (.dup, 1) := dk_89 (dk_at dksX1_init_3 22 rfl rfl)
theorem dX1_init_91 : decode cX1_init 91 = .ok (.aload_n 0, 1) := dk_42 (dk_at dksX1_init_3 23 rfl rfl)
theorem dX1_init_92 : decode cX1_init 92 = .ok (.invokespecial 45, 3) := dk_183 0 45 (dk_at dksX1_init_4 0 rfl rfl)
theorem dX1_init_95 : decode cX1_init 95 = .ok (.putfield 55, 3) := dk_181 0 55 (dk_at dksX1_init_4 3 rfl rfl)
theorem dX1_init_98 : decode cX1_init 98 = .ok (.aload_n 0, 1) := dk_42 (dk_at dksX1_init_4 6 rfl rfl)
theorem dX1_init_99 : decode cX1_init 99 = .ok (.bipush 100, 2) := dk_16 100 (dk_at dksX1_init_4 7 rfl rfl)
theorem dX1_init_101 : decode cX1_init 101 = .ok (.newarray .int, 2) := dk_188_10 (dk_at dksX1_init_4 9 rfl rfl)
theorem dX1_init_103 : decode cX1_init 103 = .ok (.putfield 58, 3) := dk_181 0 58 (dk_at dksX1_init_4 11 rfl rfl)
theorem dX1_init_106 : decode cX1_init 106 = .ok (.aload_n 0, 1) := dk_42 (dk_at dksX1_init_4 14 rfl rfl)
theorem dX1_init_107 : decode cX1_init 107 = .ok (.bipush 100, 2) := dk_16 100 (dk_at dksX1_init_4 15 rfl rfl)
theorem dX1_init_109 : decode cX1_init 109 = .ok (.newarray .int, 2) := dk_188_10 (dk_at dksX1_init_4 17 rfl rfl)
theorem dX1_init_111 : decode cX1_init 111 = .ok (.putfield 62, 3) := dk_181 0 62 (dk_at dksX1_init_4 19 rfl rfl)
theorem dX1_init_114 : decode cX1_init 114 = .ok (.aload_n 0, 1) := dk_42 (dk_at dksX1_init_4 22 rfl rfl)
theorem dX1_init_115 : decode cX1_init 115 = .ok (.bipush 100, 2) := dk_16 100 (dk_at dksX1_init_5 0 rfl rfl)
theorem dX1_init_117 : decode cX1_init 117 = .ok (.newarray .int, 2) := dk_188_10 (dk_at dksX1_init_5 2 rfl rfl)
theorem dX1_init_119 : decode cX1_init 119 = .ok (.putfield 65, 3) := dk_181 0 65 (dk_at dksX1_init_5 4 rfl rfl)
theorem dX1_init_122 : decode cX1_init 122 = .ok (.aload_n 0, 1) := dk_42 (dk_at dksX1_init_5 7 rfl rfl)
theorem dX1_init_123 : decode cX1_init 123 = .ok (.sipush 700, 3) := dk_17 2 188 (dk_at dksX1_init_5 8 rfl rfl)
theorem dX1_init_126 : decode cX1_init 126 = .ok (.newarray .int, 2) := dk_188_10 (dk_at dksX1_init_5 11 rfl rfl)
theorem dX1_init_128 : decode cX1_init 128 = .ok (.putfield 68, 3) := dk_181 0 68 (dk_at dksX1_init_5 13 rfl rfl)
theorem dX1_init_131 : decode cX1_init 131 = .ok (.aload_n 0, 1) := dk_42 (dk_at dksX1_init_5 16 rfl rfl)
theorem dX1_init_132 : decode cX1_init 132 = .ok (.sipush 25856, 3) := dk_17 101 0 (dk_at dksX1_init_5 17 rfl rfl)
theorem dX1_init_135 : decode cX1_init 135 = .ok (.newarray .int, 2) := dk_188_10 (dk_at dksX1_init_5 20 rfl rfl)
theorem dX1_init_137 : decode cX1_init 137 = .ok (.putfield 71, 3) := dk_181 0 71 (dk_at dksX1_init_6 0 rfl rfl)
theorem dX1_init_140 : decode cX1_init 140 = .ok (.aload_n 0, 1) := dk_42 (dk_at dksX1_init_6 3 rfl rfl)
theorem dX1_init_141 : decode cX1_init 141 = .ok (.bipush 16, 2) := dk_16 16 (dk_at dksX1_init_6 4 rfl rfl)
theorem dX1_init_143 : decode cX1_init 143 = .ok (.newarray .int, 2) := dk_188_10 (dk_at dksX1_init_6 6 rfl rfl)
theorem dX1_init_145 : decode cX1_init 145 = .ok (.putfield 74, 3) := dk_181 0 74 (dk_at dksX1_init_6 8 rfl rfl)
theorem dX1_init_148 : decode cX1_init 148 = .ok (.aload_n 0, 1) := dk_42 (dk_at dksX1_init_6 11 rfl rfl)
theorem dX1_init_149 : decode cX1_init 149 = .ok (.bipush 16, 2) := dk_16 16 (dk_at dksX1_init_6 12 rfl rfl)
theorem dX1_init_151 : decode cX1_init 151 = .ok (.newarray .boolean, 2) := dk_188_4 (dk_at dksX1_init_6 14 rfl rfl)
theorem dX1_init_153 : decode cX1_init 153 = .ok (.putfield 77, 3) := dk_181 0 77 (dk_at dksX1_init_6 16 rfl rfl)
theorem dX1_init_156 : decode cX1_init 156 = .ok (.aload_n 0, 1) := dk_42 (dk_at dksX1_init_6 19 rfl rfl)
theorem dX1_init_157 : decode cX1_init 157 = .ok (.sipush 19208, 3) := dk_17 75 8 (dk_at dksX1_init_6 20 rfl rfl)
theorem dX1_init_160 : decode cX1_init 160 = .ok (.newarray .int, 2) := dk_188_10 (dk_at dksX1_init_7 0 rfl rfl)
theorem dX1_init_162 : decode cX1_init 162 = .ok (.putfield 81, 3) := dk_181 0 81 (dk_at dksX1_init_7 2 rfl rfl)
theorem dX1_init_165 : decode cX1_init 165 = .ok (.aload_n 0, 1) := dk_42 (dk_at dksX1_init_7 5 rfl rfl)
theorem dX1_init_166 : decode cX1_init 166 = .ok (.bipush 24, 2) := dk_16 24 (dk_at dksX1_init_7 6 rfl rfl)
theorem dX1_init_168 : decode cX1_init 168 = .ok (.newarray .int, 2) := dk_188_10 (dk_at dksX1_init_7 8 rfl rfl)
theorem dX1_init_170 : decode cX1_init 170 = .ok (.putfield 84, 3) := dk_181 0 84 (dk_at dksX1_init_7 10 rfl rfl)
theorem dX1_init_173 : decode cX1_init 173 = .ok (.aload_n 0, 1) := dk_42 (dk_at dksX1_init_7 13 rfl rfl)
theorem dX1_init_174 : decode cX1_init 174 = .ok (.bipush 24, 2) := dk_16 24 (dk_at dksX1_init_7 14 rfl rfl)
theorem dX1_init_176 : decode cX1_init 176 = .ok (.newarray .int, 2) := dk_188_10 (dk_at dksX1_init_7 16 rfl rfl)
theorem dX1_init_178 : decode cX1_init 178 = .ok (.putfield 87, 3) := dk_181 0 87 (dk_at dksX1_init_7 18 rfl rfl)
theorem dX1_init_181 : decode cX1_init 181 = .ok (.aload_n 0, 1) := dk_42 (dk_at dksX1_init_7 21 rfl rfl)
theorem dX1_init_182 : decode cX1_init 182 = .ok (.bipush 24, 2) := dk_16 24 (dk_at dksX1_init_7 22 rfl rfl)
theorem dX1_init_184 : decode cX1_init 184 = .ok (.newarray .boolean, 2) := dk_188_4 (dk_at dksX1_init_8 0 rfl rfl)
theorem dX1_init_186 : decode cX1_init 186 = .ok (.putfield 90, 3) := dk_181 0 90 (dk_at dksX1_init_8 2 rfl rfl)
theorem dX1_init_189 : decode cX1_init 189 = .ok (.aload_n 0, 1) := dk_42 (dk_at dksX1_init_8 5 rfl rfl)
theorem dX1_init_190 : decode cX1_init 190 = .ok (.iconst (-1), 1) := dk_2 (dk_at dksX1_init_8 6 rfl rfl)
theorem dX1_init_191 : decode cX1_init 191 = .ok (.putfield 93, 3) := dk_181 0 93 (dk_at dksX1_init_8 7 rfl rfl)
theorem dX1_init_194 : decode cX1_init 194 = .ok (.aload_n 0, 1) := dk_42 (dk_at dksX1_init_8 10 rfl rfl)
theorem dX1_init_195 : decode cX1_init 195 = .ok (.getfield 48, 3) := dk_180 0 48 (dk_at dksX1_init_8 11 rfl rfl)
theorem dX1_init_198 : decode cX1_init 198 = .ok (.aload_n 0, 1) := dk_42 (dk_at dksX1_init_8 14 rfl rfl)
theorem dX1_init_199 : decode cX1_init 199 = .ok (.getfield 36, 3) := dk_180 0 36 (dk_at dksX1_init_8 15 rfl rfl)
theorem dX1_init_202 : decode cX1_init 202 = .ok (.invokevirtual 96, 3) := dk_182 0 96 (dk_at dksX1_init_8 18 rfl rfl)
theorem dX1_init_205 : decode cX1_init 205 = .ok (.return_, 1) := dk_177 (dk_at dksX1_init_8 21 rfl rfl)
abbrev cX1_feed : ByteArray := prog_1_method_4_code
def yX1_feed : MethodName := ⟨RX1, "feed", "(IIIII)I"⟩
def dkwX1_feed_2 : List UInt8 := [172]
abbrev dktX1_feed_2 : List UInt8 := dkwX1_feed_2 ++ []
def dkwX1_feed_1 : List UInt8 := [182, 0, 103, 42, 29, 182, 0, 103, 42, 21, 4, 182, 0, 103, 42, 21, 5, 182, 0, 103, 42, 180, 0, 100]
abbrev dktX1_feed_1 : List UInt8 := dkwX1_feed_1 ++ dktX1_feed_2
def dkwX1_feed_0 : List UInt8 := [42, 180, 0, 100, 16, 20, 96, 17, 3, 132, 164, 0, 5, 2, 172, 42, 27, 182, 0, 103, 42, 28]
abbrev dktX1_feed_0 : List UInt8 := dkwX1_feed_0 ++ dktX1_feed_1
theorem dksX1_feed_0 : cX1_feed.data.toList.drop 0 = dktX1_feed_0 := by decide +kernel
theorem dksX1_feed_1 : cX1_feed.data.toList.drop 22 = dktX1_feed_1 := dk_seg dksX1_feed_0 22 rfl rfl
theorem dksX1_feed_2 : cX1_feed.data.toList.drop 46 = dktX1_feed_2 := dk_seg dksX1_feed_1 24 rfl rfl
theorem dX1_feed_0 : decode cX1_feed 0 = .ok (.aload_n 0, 1) := dk_42 (dk_at dksX1_feed_0 0 rfl rfl)
theorem dX1_feed_1 : decode cX1_feed 1 = .ok (.getfield 100, 3) := dk_180 0 100 (dk_at dksX1_feed_0 1 rfl rfl)
theorem dX1_feed_4 : decode cX1_feed 4 = .ok (.bipush 20, 2) := dk_16 20 (dk_at dksX1_feed_0 4 rfl rfl)
theorem dX1_feed_6 : decode cX1_feed 6 = .ok (.iadd, 1) := dk_96 (dk_at dksX1_feed_0 6 rfl rfl)
theorem dX1_feed_7 : decode cX1_feed 7 = .ok (.sipush 900, 3) := dk_17 3 132 (dk_at dksX1_feed_0 7 rfl rfl)
theorem dX1_feed_10 : decode cX1_feed 10 = .ok (.if_icmp .le 5, 3) := dk_164 0 5 (dk_at dksX1_feed_0 10 rfl rfl)
theorem dX1_feed_13 : decode cX1_feed 13 = .ok (.iconst (-1), 1) := dk_2 (dk_at dksX1_feed_0 13 rfl rfl)
theorem dX1_feed_14 : decode cX1_feed 14 = .ok (.ireturn, 1) := dk_172 (dk_at dksX1_feed_0 14 rfl rfl)
theorem dX1_feed_15 : decode cX1_feed 15 = .ok (.aload_n 0, 1) := dk_42 (dk_at dksX1_feed_0 15 rfl rfl)
theorem dX1_feed_16 : decode cX1_feed 16 = .ok (.iload_n 1, 1) := dk_27 (dk_at dksX1_feed_0 16 rfl rfl)
theorem dX1_feed_17 : decode cX1_feed 17 = .ok (.invokevirtual 103, 3) := dk_182 0 103 (dk_at dksX1_feed_0 17 rfl rfl)
theorem dX1_feed_20 : decode cX1_feed 20 = .ok (.aload_n 0, 1) := dk_42 (dk_at dksX1_feed_0 20 rfl rfl)
theorem dX1_feed_21 : decode cX1_feed 21 = .ok (.iload_n 2, 1) := dk_28 (dk_at dksX1_feed_0 21 rfl rfl)
theorem dX1_feed_22 : decode cX1_feed 22 = .ok (.invokevirtual 103, 3) := dk_182 0 103 (dk_at dksX1_feed_1 0 rfl rfl)
theorem dX1_feed_25 : decode cX1_feed 25 = .ok (.aload_n 0, 1) := dk_42 (dk_at dksX1_feed_1 3 rfl rfl)
theorem dX1_feed_26 : decode cX1_feed 26 = .ok (.iload_n 3, 1) := dk_29 (dk_at dksX1_feed_1 4 rfl rfl)
theorem dX1_feed_27 : decode cX1_feed 27 = .ok (.invokevirtual 103, 3) := dk_182 0 103 (dk_at dksX1_feed_1 5 rfl rfl)
theorem dX1_feed_30 : decode cX1_feed 30 = .ok (.aload_n 0, 1) := dk_42 (dk_at dksX1_feed_1 8 rfl rfl)
theorem dX1_feed_31 : decode cX1_feed 31 = .ok (.iload 4, 2) := dk_21 4 (dk_at dksX1_feed_1 9 rfl rfl)
theorem dX1_feed_33 : decode cX1_feed 33 = .ok (.invokevirtual 103, 3) := dk_182 0 103 (dk_at dksX1_feed_1 11 rfl rfl)
theorem dX1_feed_36 : decode cX1_feed 36 = .ok (.aload_n 0, 1) := dk_42 (dk_at dksX1_feed_1 14 rfl rfl)
theorem dX1_feed_37 : decode cX1_feed 37 = .ok (.iload 5, 2) := dk_21 5 (dk_at dksX1_feed_1 15 rfl rfl)
theorem dX1_feed_39 : decode cX1_feed 39 = .ok (.invokevirtual 103, 3) := dk_182 0 103 (dk_at dksX1_feed_1 17 rfl rfl)
theorem dX1_feed_42 : decode cX1_feed 42 = .ok (.aload_n 0, 1) := dk_42 (dk_at dksX1_feed_1 20 rfl rfl)
theorem dX1_feed_43 : decode cX1_feed 43 = .ok (.getfield 100, 3) := dk_180 0 100 (dk_at dksX1_feed_1 21 rfl rfl)
theorem dX1_feed_46 : decode cX1_feed 46 = .ok (.ireturn, 1) := dk_172 (dk_at dksX1_feed_2 0 rfl rfl)
abbrev cX1_four : ByteArray := prog_1_method_5_code
def yX1_four : MethodName := ⟨RX1, "four", "(I)V"⟩
def dkwX1_four_1 : List UInt8 := [180, 0, 100, 4, 96, 181, 0, 100, 132, 2, 248, 167, 255, 226, 177]
abbrev dktX1_four_1 : List UInt8 := dkwX1_four_1 ++ []
def dkwX1_four_0 : List UInt8 := [16, 24, 61, 28, 155, 0, 32, 42, 180, 0, 11, 42, 180, 0, 100, 27, 28, 122, 145, 84, 42, 89]
abbrev dktX1_four_0 : List UInt8 := dkwX1_four_0 ++ dktX1_four_1
theorem dksX1_four_0 : cX1_four.data.toList.drop 0 = dktX1_four_0 := by decide +kernel
theorem dksX1_four_1 : cX1_four.data.toList.drop 22 = dktX1_four_1 := dk_seg dksX1_four_0 22 rfl rfl
theorem dX1_four_0 : decode cX1_four 0 = .ok (.bipush 24, 2) := dk_16 24 (dk_at dksX1_four_0 0 rfl rfl)
theorem dX1_four_2 : decode cX1_four 2 = .ok (.istore_n 2, 1) := dk_61 (dk_at dksX1_four_0 2 rfl rfl)
theorem dX1_four_3 : decode cX1_four 3 = .ok (.iload_n 2, 1) := dk_28 (dk_at dksX1_four_0 3 rfl rfl)
theorem dX1_four_4 : decode cX1_four 4 = .ok (.ifCond .lt 32, 3) := dk_155 0 32 (dk_at dksX1_four_0 4 rfl rfl)
theorem dX1_four_7 : decode cX1_four 7 = .ok (.aload_n 0, 1) := dk_42 (dk_at dksX1_four_0 7 rfl rfl)
theorem dX1_four_8 : decode cX1_four 8 = .ok (.getfield 11, 3) := dk_180 0 11 (dk_at dksX1_four_0 8 rfl rfl)
theorem dX1_four_11 : decode cX1_four 11 = .ok (.aload_n 0, 1) := dk_42 (dk_at dksX1_four_0 11 rfl rfl)
theorem dX1_four_12 : decode cX1_four 12 = .ok (.getfield 100, 3) := dk_180 0 100 (dk_at dksX1_four_0 12 rfl rfl)
theorem dX1_four_15 : decode cX1_four 15 = .ok (.iload_n 1, 1) := dk_27 (dk_at dksX1_four_0 15 rfl rfl)
theorem dX1_four_16 : decode cX1_four 16 = .ok (.iload_n 2, 1) := dk_28 (dk_at dksX1_four_0 16 rfl rfl)
theorem dX1_four_17 : decode cX1_four 17 = .ok (.ishr, 1) := dk_122 (dk_at dksX1_four_0 17 rfl rfl)
theorem dX1_four_18 : decode cX1_four 18 = .ok (.i2b, 1) := dk_145 (dk_at dksX1_four_0 18 rfl rfl)
theorem dX1_four_19 : decode cX1_four 19 = .ok (.bastore, 1) := dk_84 (dk_at dksX1_four_0 19 rfl rfl)
theorem dX1_four_20 : decode cX1_four 20 = .ok (.aload_n 0, 1) := dk_42 (dk_at dksX1_four_0 20 rfl rfl)
theorem dX1_four_21 : decode cX1_four 21 = .ok (.dup, 1) := dk_89 (dk_at dksX1_four_0 21 rfl rfl)
theorem dX1_four_22 : decode cX1_four 22 = .ok (.getfield 100, 3) := dk_180 0 100 (dk_at dksX1_four_1 0 rfl rfl)
theorem dX1_four_25 : decode cX1_four 25 = .ok (.iconst 1, 1) := dk_4 (dk_at dksX1_four_1 3 rfl rfl)
theorem dX1_four_26 : decode cX1_four 26 = .ok (.iadd, 1) := dk_96 (dk_at dksX1_four_1 4 rfl rfl)
theorem dX1_four_27 : decode cX1_four 27 = .ok (.putfield 100, 3) := dk_181 0 100 (dk_at dksX1_four_1 5 rfl rfl)
theorem dX1_four_30 : decode cX1_four 30 = .ok (.iinc 2 (-8), 3) := dk_132 2 248 (dk_at dksX1_four_1 8 rfl rfl)
theorem dX1_four_33 : decode cX1_four 33 = .ok (.goto (-30), 3) := dk_167 255 226 (dk_at dksX1_four_1 11 rfl rfl)
theorem dX1_four_36 : decode cX1_four 36 = .ok (.return_, 1) := dk_177 (dk_at dksX1_four_1 14 rfl rfl)
abbrev cX1_text : ByteArray := prog_1_method_6_code
def yX1_text : MethodName := ⟨RX1, "text", "(I)I"⟩
def dkwX1_text_4 : List UInt8 := [42, 3, 181, 0, 136, 42, 2, 181, 0, 93, 42, 3, 181, 0, 139, 42, 180, 0, 22, 180, 0, 143, 172]
abbrev dktX1_text_4 : List UInt8 := dkwX1_text_4 ++ []
def dkwX1_text_3 : List UInt8 := [180, 0, 36, 42, 180, 0, 22, 180, 0, 131, 181, 0, 135, 42, 180, 0, 48, 42, 180, 0, 36, 182, 0, 96]
abbrev dktX1_text_3 : List UInt8 := dkwX1_text_3 ++ dktX1_text_4
def dkwX1_text_2 : List UInt8 := [167, 0, 22, 77, 42, 44, 180, 0, 125, 181, 0, 111, 42, 44, 180, 0, 128, 181, 0, 15, 2, 172, 42]
abbrev dktX1_text_2 : List UInt8 := dkwX1_text_2 ++ dktX1_text_3
def dkwX1_text_1 : List UInt8 := [181, 0, 111, 42, 2, 181, 0, 15, 42, 187, 0, 114, 89, 42, 27, 183, 0, 116, 182, 0, 119, 181, 0, 22]
abbrev dktX1_text_1 : List UInt8 := dkwX1_text_1 ++ dktX1_text_2
def dkwX1_text_0 : List UInt8 := [27, 3, 42, 180, 0, 100, 184, 0, 107, 154, 0, 6, 16, 254, 172, 42, 3, 181, 0, 100, 42, 3]
abbrev dktX1_text_0 : List UInt8 := dkwX1_text_0 ++ dktX1_text_1
theorem dksX1_text_0 : cX1_text.data.toList.drop 0 = dktX1_text_0 := by decide +kernel
theorem dksX1_text_1 : cX1_text.data.toList.drop 22 = dktX1_text_1 := dk_seg dksX1_text_0 22 rfl rfl
theorem dksX1_text_2 : cX1_text.data.toList.drop 46 = dktX1_text_2 := dk_seg dksX1_text_1 24 rfl rfl
theorem dksX1_text_3 : cX1_text.data.toList.drop 69 = dktX1_text_3 := dk_seg dksX1_text_2 23 rfl rfl
theorem dksX1_text_4 : cX1_text.data.toList.drop 93 = dktX1_text_4 := dk_seg dksX1_text_3 24 rfl rfl
theorem dX1_text_0 : decode cX1_text 0 = .ok (.iload_n 1, 1) := dk_27 (dk_at dksX1_text_0 0 rfl rfl)
theorem dX1_text_1 : decode cX1_text 1 = .ok (.iconst 0, 1) := dk_3 (dk_at dksX1_text_0 1 rfl rfl)
theorem dX1_text_2 : decode cX1_text 2 = .ok (.aload_n 0, 1) := dk_42 (dk_at dksX1_text_0 2 rfl rfl)
theorem dX1_text_3 : decode cX1_text 3 = .ok (.getfield 100, 3) := dk_180 0 100 (dk_at dksX1_text_0 3 rfl rfl)
theorem dX1_text_6 : decode cX1_text 6 = .ok (.invokestatic 107, 3) := dk_184 0 107 (dk_at dksX1_text_0 6 rfl rfl)
theorem dX1_text_9 : decode cX1_text 9 = .ok (.ifCond .ne 6, 3) := dk_154 0 6 (dk_at dksX1_text_0 9 rfl rfl)
theorem dX1_text_12 : decode cX1_text 12 = .ok (.bipush (-2), 2) := dk_16 254 (dk_at dksX1_text_0 12 rfl rfl)
theorem dX1_text_14 : decode cX1_text 14 = .ok (.ireturn, 1) := dk_172 (dk_at dksX1_text_0 14 rfl rfl)
theorem dX1_text_15 : decode cX1_text 15 = .ok (.aload_n 0, 1) := dk_42 (dk_at dksX1_text_0 15 rfl rfl)
theorem dX1_text_16 : decode cX1_text 16 = .ok (.iconst 0, 1) := dk_3 (dk_at dksX1_text_0 16 rfl rfl)
theorem dX1_text_17 : decode cX1_text 17 = .ok (.putfield 100, 3) := dk_181 0 100 (dk_at dksX1_text_0 17 rfl rfl)
theorem dX1_text_20 : decode cX1_text 20 = .ok (.aload_n 0, 1) := dk_42 (dk_at dksX1_text_0 20 rfl rfl)
theorem dX1_text_21 : decode cX1_text 21 = .ok (.iconst 0, 1) := dk_3 (dk_at dksX1_text_0 21 rfl rfl)
theorem dX1_text_22 : decode cX1_text 22 = .ok (.putfield 111, 3) := dk_181 0 111 (dk_at dksX1_text_1 0 rfl rfl)
theorem dX1_text_25 : decode cX1_text 25 = .ok (.aload_n 0, 1) := dk_42 (dk_at dksX1_text_1 3 rfl rfl)
theorem dX1_text_26 : decode cX1_text 26 = .ok (.iconst (-1), 1) := dk_2 (dk_at dksX1_text_1 4 rfl rfl)
theorem dX1_text_27 : decode cX1_text 27 = .ok (.putfield 15, 3) := dk_181 0 15 (dk_at dksX1_text_1 5 rfl rfl)
theorem dX1_text_30 : decode cX1_text 30 = .ok (.aload_n 0, 1) := dk_42 (dk_at dksX1_text_1 8 rfl rfl)
theorem dX1_text_31 : decode cX1_text 31 = .ok (.new 114, 3) := dk_187 0 114 (dk_at dksX1_text_1 9 rfl rfl)
theorem dX1_text_34 : decode cX1_text 34 = .ok (.dup, 1) := dk_89 (dk_at dksX1_text_1 12 rfl rfl)
theorem dX1_text_35 : decode cX1_text 35 = .ok (.aload_n 0, 1) := dk_42 (dk_at dksX1_text_1 13 rfl rfl)
theorem dX1_text_36 : decode cX1_text 36 = .ok (.iload_n 1, 1) := dk_27 (dk_at dksX1_text_1 14 rfl rfl)
theorem dX1_text_37 : decode cX1_text 37 = .ok (.invokespecial 116, 3) := dk_183 0 116 (dk_at dksX1_text_1 15 rfl rfl)
theorem dX1_text_40 : decode cX1_text 40 = .ok (.invokevirtual 119, 3) := dk_182 0 119 (dk_at dksX1_text_1 18 rfl rfl)
theorem dX1_text_43 : decode cX1_text 43 = .ok (.putfield 22, 3) := dk_181 0 22 (dk_at dksX1_text_1 21 rfl rfl)
theorem dX1_text_46 : decode cX1_text 46 = .ok (.goto 22, 3) := dk_167 0 22 (dk_at dksX1_text_2 0 rfl rfl)
theorem dX1_text_49 : decode cX1_text 49 = .ok (.astore_n 2, 1) := dk_77 (dk_at dksX1_text_2 3 rfl rfl)
theorem dX1_text_50 : decode cX1_text 50 = .ok (.aload_n 0, 1) := dk_42 (dk_at dksX1_text_2 4 rfl rfl)
theorem dX1_text_51 : decode cX1_text 51 = .ok (.aload_n 2, 1) := dk_44 (dk_at dksX1_text_2 5 rfl rfl)
theorem dX1_text_52 : decode cX1_text 52 = .ok (.getfield 125, 3) := dk_180 0 125 (dk_at dksX1_text_2 6 rfl rfl)
theorem dX1_text_55 : decode cX1_text 55 = .ok (.putfield 111, 3) := dk_181 0 111 (dk_at dksX1_text_2 9 rfl rfl)
theorem dX1_text_58 : decode cX1_text 58 = .ok (.aload_n 0, 1) := dk_42 (dk_at dksX1_text_2 12 rfl rfl)
theorem dX1_text_59 : decode cX1_text 59 = .ok (.aload_n 2, 1) := dk_44 (dk_at dksX1_text_2 13 rfl rfl)
theorem dX1_text_60 : decode cX1_text 60 = .ok (.getfield 128, 3) := dk_180 0 128 (dk_at dksX1_text_2 14 rfl rfl)
theorem dX1_text_63 : decode cX1_text 63 = .ok (.putfield 15, 3) := dk_181 0 15 (dk_at dksX1_text_2 17 rfl rfl)
theorem dX1_text_66 : decode cX1_text 66 = .ok (.iconst (-1), 1) := dk_2 (dk_at dksX1_text_2 20 rfl rfl)
theorem dX1_text_67 : decode cX1_text 67 = .ok (.ireturn, 1) := dk_172 (dk_at dksX1_text_2 21 rfl rfl)
theorem dX1_text_68 : decode cX1_text 68 = .ok (.aload_n 0, 1) := dk_42 (dk_at dksX1_text_2 22 rfl rfl)
theorem dX1_text_69 : decode cX1_text 69 = .ok (.getfield 36, 3) := dk_180 0 36 (dk_at dksX1_text_3 0 rfl rfl)
theorem dX1_text_72 : decode cX1_text 72 = .ok (.aload_n 0, 1) := dk_42 (dk_at dksX1_text_3 3 rfl rfl)
theorem dX1_text_73 : decode cX1_text 73 = .ok (.getfield 22, 3) := dk_180 0 22 (dk_at dksX1_text_3 4 rfl rfl)
theorem dX1_text_76 : decode cX1_text 76 = .ok (.getfield 131, 3) := dk_180 0 131 (dk_at dksX1_text_3 7 rfl rfl)
theorem dX1_text_79 : decode cX1_text 79 = .ok (.putfield 135, 3) := dk_181 0 135 (dk_at dksX1_text_3 10 rfl rfl)
theorem dX1_text_82 : decode cX1_text 82 = .ok (.aload_n 0, 1) := dk_42 (dk_at dksX1_text_3 13 rfl rfl)
theorem dX1_text_83 : decode cX1_text 83 = .ok (.getfield 48, 3) := dk_180 0 48 (dk_at dksX1_text_3 14 rfl rfl)
theorem dX1_text_86 : decode cX1_text 86 = .ok (.aload_n 0, 1) := dk_42 (dk_at dksX1_text_3 17 rfl rfl)
theorem dX1_text_87 : decode cX1_text 87 = .ok (.getfield 36, 3) := dk_180 0 36 (dk_at dksX1_text_3 18 rfl rfl)
theorem dX1_text_90 : decode cX1_text 90 = .ok (.invokevirtual 96, 3) := dk_182 0 96 (dk_at dksX1_text_3 21 rfl rfl)
theorem dX1_text_93 : decode cX1_text 93 = .ok (.aload_n 0, 1) := dk_42 (dk_at dksX1_text_4 0 rfl rfl)
theorem dX1_text_94 : decode cX1_text 94 = .ok (.iconst 0, 1) := dk_3 (dk_at dksX1_text_4 1 rfl rfl)
theorem dX1_text_95 : decode cX1_text 95 = .ok (.putfield 136, 3) := dk_181 0 136 (dk_at dksX1_text_4 2 rfl rfl)
theorem dX1_text_98 : decode cX1_text 98 = .ok (.aload_n 0, 1) := dk_42 (dk_at dksX1_text_4 5 rfl rfl)
theorem dX1_text_99 : decode cX1_text 99 = .ok (.iconst (-1), 1) := dk_2 (dk_at dksX1_text_4 6 rfl rfl)
theorem dX1_text_100 : decode cX1_text 100 = .ok (.putfield 93, 3) := dk_181 0 93 (dk_at dksX1_text_4 7 rfl rfl)
theorem dX1_text_103 : decode cX1_text 103 = .ok (.aload_n 0, 1) := dk_42 (dk_at dksX1_text_4 10 rfl rfl)
theorem dX1_text_104 : decode cX1_text 104 = .ok (.iconst 0, 1) := dk_3 (dk_at dksX1_text_4 11 rfl rfl)
theorem dX1_text_105 : decode cX1_text 105 = .ok (.putfield 139, 3) := dk_181 0 139 (dk_at dksX1_text_4 12 rfl rfl)
theorem dX1_text_108 : decode cX1_text 108 = .ok (.aload_n 0, 1) := dk_42 (dk_at dksX1_text_4 15 rfl rfl)
theorem dX1_text_109 : decode cX1_text 109 = .ok (.getfield 22, 3) := dk_180 0 22 (dk_at dksX1_text_4 16 rfl rfl)
theorem dX1_text_112 : decode cX1_text 112 = .ok (.getfield 143, 3) := dk_180 0 143 (dk_at dksX1_text_4 19 rfl rfl)
theorem dX1_text_115 : decode cX1_text 115 = .ok (.ireturn, 1) := dk_172 (dk_at dksX1_text_4 22 rfl rfl)
abbrev cX1_isIn : ByteArray := prog_1_method_2_code
def yX1_isIn : MethodName := ⟨RX1, "isIn", "(III)Z"⟩
def dkwX1_isIn_0 : List UInt8 := [26, 27, 161, 0, 12, 26, 28, 163, 0, 7, 4, 167, 0, 4, 3, 172]
abbrev dktX1_isIn_0 : List UInt8 := dkwX1_isIn_0 ++ []
theorem dksX1_isIn_0 : cX1_isIn.data.toList.drop 0 = dktX1_isIn_0 := by decide +kernel
theorem dX1_isIn_0 : decode cX1_isIn 0 = .ok (.iload_n 0, 1) := dk_26 (dk_at dksX1_isIn_0 0 rfl rfl)
theorem dX1_isIn_1 : decode cX1_isIn 1 = .ok (.iload_n 1, 1) := dk_27 (dk_at dksX1_isIn_0 1 rfl rfl)
theorem dX1_isIn_2 : decode cX1_isIn 2 = .ok (.if_icmp .lt 12, 3) := dk_161 0 12 (dk_at dksX1_isIn_0 2 rfl rfl)
theorem dX1_isIn_5 : decode cX1_isIn 5 = .ok (.iload_n 0, 1) := dk_26 (dk_at dksX1_isIn_0 5 rfl rfl)
theorem dX1_isIn_6 : decode cX1_isIn 6 = .ok (.iload_n 2, 1) := dk_28 (dk_at dksX1_isIn_0 6 rfl rfl)
theorem dX1_isIn_7 : decode cX1_isIn 7 = .ok (.if_icmp .gt 7, 3) := dk_163 0 7 (dk_at dksX1_isIn_0 7 rfl rfl)
theorem dX1_isIn_10 : decode cX1_isIn 10 = .ok (.iconst 1, 1) := dk_4 (dk_at dksX1_isIn_0 10 rfl rfl)
theorem dX1_isIn_11 : decode cX1_isIn 11 = .ok (.goto 4, 3) := dk_167 0 4 (dk_at dksX1_isIn_0 11 rfl rfl)
theorem dX1_isIn_14 : decode cX1_isIn 14 = .ok (.iconst 0, 1) := dk_3 (dk_at dksX1_isIn_0 14 rfl rfl)
theorem dX1_isIn_15 : decode cX1_isIn 15 = .ok (.ireturn, 1) := dk_172 (dk_at dksX1_isIn_0 15 rfl rfl)
abbrev cX1_fault : ByteArray := prog_1_method_7_code
def yX1_fault : MethodName := ⟨RX1, "fault", "(I)I"⟩
def dkwX1_fault_1 : List UInt8 := [172]
abbrev dktX1_fault_1 : List UInt8 := dkwX1_fault_1 ++ []
def dkwX1_fault_0 : List UInt8 := [27, 154, 0, 10, 42, 180, 0, 111, 167, 0, 16, 27, 4, 160, 0, 10, 42, 180, 0, 15, 167, 0, 4, 2]
abbrev dktX1_fault_0 : List UInt8 := dkwX1_fault_0 ++ dktX1_fault_1
theorem dksX1_fault_0 : cX1_fault.data.toList.drop 0 = dktX1_fault_0 := by decide +kernel
theorem dksX1_fault_1 : cX1_fault.data.toList.drop 24 = dktX1_fault_1 := dk_seg dksX1_fault_0 24 rfl rfl
theorem dX1_fault_0 : decode cX1_fault 0 = .ok (.iload_n 1, 1) := dk_27 (dk_at dksX1_fault_0 0 rfl rfl)
theorem dX1_fault_1 : decode cX1_fault 1 = .ok (.ifCond .ne 10, 3) := dk_154 0 10 (dk_at dksX1_fault_0 1 rfl rfl)
theorem dX1_fault_4 : decode cX1_fault 4 = .ok (.aload_n 0, 1) := dk_42 (dk_at dksX1_fault_0 4 rfl rfl)
theorem dX1_fault_5 : decode cX1_fault 5 = .ok (.getfield 111, 3) := dk_180 0 111 (dk_at dksX1_fault_0 5 rfl rfl)
theorem dX1_fault_8 : decode cX1_fault 8 = .ok (.goto 16, 3) := dk_167 0 16 (dk_at dksX1_fault_0 8 rfl rfl)
theorem dX1_fault_11 : decode cX1_fault 11 = .ok (.iload_n 1, 1) := dk_27 (dk_at dksX1_fault_0 11 rfl rfl)
theorem dX1_fault_12 : decode cX1_fault 12 = .ok (.iconst 1, 1) := dk_4 (dk_at dksX1_fault_0 12 rfl rfl)
theorem dX1_fault_13 : decode cX1_fault 13 = .ok (.if_icmp .ne 10, 3) := dk_160 0 10 (dk_at dksX1_fault_0 13 rfl rfl)
theorem dX1_fault_16 : decode cX1_fault 16 = .ok (.aload_n 0, 1) := dk_42 (dk_at dksX1_fault_0 16 rfl rfl)
theorem dX1_fault_17 : decode cX1_fault 17 = .ok (.getfield 15, 3) := dk_180 0 15 (dk_at dksX1_fault_0 17 rfl rfl)
theorem dX1_fault_20 : decode cX1_fault 20 = .ok (.goto 4, 3) := dk_167 0 4 (dk_at dksX1_fault_0 20 rfl rfl)
theorem dX1_fault_23 : decode cX1_fault 23 = .ok (.iconst (-1), 1) := dk_2 (dk_at dksX1_fault_0 23 rfl rfl)
theorem dX1_fault_24 : decode cX1_fault 24 = .ok (.ireturn, 1) := dk_172 (dk_at dksX1_fault_1 0 rfl rfl)
abbrev cX1_named : ByteArray := prog_1_method_8_code
def yX1_named : MethodName := ⟨RX1, "named", "(II)I"⟩
def dkwX1_named_2 : List UInt8 := [172]
abbrev dktX1_named_2 : List UInt8 := dkwX1_named_2 ++ []
def dkwX1_named_1 : List UInt8 := [28, 182, 0, 150, 167, 0, 20, 27, 5, 160, 0, 14, 42, 180, 0, 22, 28, 182, 0, 153, 167, 0, 4, 2]
abbrev dktX1_named_1 : List UInt8 := dkwX1_named_1 ++ dktX1_named_2
def dkwX1_named_0 : List UInt8 := [27, 154, 0, 14, 42, 180, 0, 22, 28, 182, 0, 146, 167, 0, 36, 27, 4, 160, 0, 14, 42, 180, 0, 22]
abbrev dktX1_named_0 : List UInt8 := dkwX1_named_0 ++ dktX1_named_1
theorem dksX1_named_0 : cX1_named.data.toList.drop 0 = dktX1_named_0 := by decide +kernel
theorem dksX1_named_1 : cX1_named.data.toList.drop 24 = dktX1_named_1 := dk_seg dksX1_named_0 24 rfl rfl
theorem dksX1_named_2 : cX1_named.data.toList.drop 48 = dktX1_named_2 := dk_seg dksX1_named_1 24 rfl rfl
theorem dX1_named_0 : decode cX1_named 0 = .ok (.iload_n 1, 1) := dk_27 (dk_at dksX1_named_0 0 rfl rfl)
theorem dX1_named_1 : decode cX1_named 1 = .ok (.ifCond .ne 14, 3) := dk_154 0 14 (dk_at dksX1_named_0 1 rfl rfl)
theorem dX1_named_4 : decode cX1_named 4 = .ok (.aload_n 0, 1) := dk_42 (dk_at dksX1_named_0 4 rfl rfl)
theorem dX1_named_5 : decode cX1_named 5 = .ok (.getfield 22, 3) := dk_180 0 22 (dk_at dksX1_named_0 5 rfl rfl)
theorem dX1_named_8 : decode cX1_named 8 = .ok (.iload_n 2, 1) := dk_28 (dk_at dksX1_named_0 8 rfl rfl)
theorem dX1_named_9 : decode cX1_named 9 = .ok (.invokevirtual 146, 3) := dk_182 0 146 (dk_at dksX1_named_0 9 rfl rfl)
theorem dX1_named_12 : decode cX1_named 12 = .ok (.goto 36, 3) := dk_167 0 36 (dk_at dksX1_named_0 12 rfl rfl)
theorem dX1_named_15 : decode cX1_named 15 = .ok (.iload_n 1, 1) := dk_27 (dk_at dksX1_named_0 15 rfl rfl)
theorem dX1_named_16 : decode cX1_named 16 = .ok (.iconst 1, 1) := dk_4 (dk_at dksX1_named_0 16 rfl rfl)
theorem dX1_named_17 : decode cX1_named 17 = .ok (.if_icmp .ne 14, 3) := dk_160 0 14 (dk_at dksX1_named_0 17 rfl rfl)
theorem dX1_named_20 : decode cX1_named 20 = .ok (.aload_n 0, 1) := dk_42 (dk_at dksX1_named_0 20 rfl rfl)
theorem dX1_named_21 : decode cX1_named 21 = .ok (.getfield 22, 3) := dk_180 0 22 (dk_at dksX1_named_0 21 rfl rfl)
theorem dX1_named_24 : decode cX1_named 24 = .ok (.iload_n 2, 1) := dk_28 (dk_at dksX1_named_1 0 rfl rfl)
theorem dX1_named_25 : decode cX1_named 25 = .ok (.invokevirtual 150, 3) := dk_182 0 150 (dk_at dksX1_named_1 1 rfl rfl)
theorem dX1_named_28 : decode cX1_named 28 = .ok (.goto 20, 3) := dk_167 0 20 (dk_at dksX1_named_1 4 rfl rfl)
theorem dX1_named_31 : decode cX1_named 31 = .ok (.iload_n 1, 1) := dk_27 (dk_at dksX1_named_1 7 rfl rfl)
theorem dX1_named_32 : decode cX1_named 32 = .ok (.iconst 2, 1) := dk_5 (dk_at dksX1_named_1 8 rfl rfl)
theorem dX1_named_33 : decode cX1_named 33 = .ok (.if_icmp .ne 14, 3) := dk_160 0 14 (dk_at dksX1_named_1 9 rfl rfl)
theorem dX1_named_36 : decode cX1_named 36 = .ok (.aload_n 0, 1) := dk_42 (dk_at dksX1_named_1 12 rfl rfl)
theorem dX1_named_37 : decode cX1_named 37 = .ok (.getfield 22, 3) := dk_180 0 22 (dk_at dksX1_named_1 13 rfl rfl)
theorem dX1_named_40 : decode cX1_named 40 = .ok (.iload_n 2, 1) := dk_28 (dk_at dksX1_named_1 16 rfl rfl)
theorem dX1_named_41 : decode cX1_named 41 = .ok (.invokevirtual 153, 3) := dk_182 0 153 (dk_at dksX1_named_1 17 rfl rfl)
theorem dX1_named_44 : decode cX1_named 44 = .ok (.goto 4, 3) := dk_167 0 4 (dk_at dksX1_named_1 20 rfl rfl)
theorem dX1_named_47 : decode cX1_named 47 = .ok (.iconst (-1), 1) := dk_2 (dk_at dksX1_named_1 23 rfl rfl)
theorem dX1_named_48 : decode cX1_named 48 = .ok (.ireturn, 1) := dk_172 (dk_at dksX1_named_2 0 rfl rfl)
abbrev cX1_law : ByteArray := prog_1_method_14_code
def yX1_law : MethodName := ⟨RX1, "law", "(IIIII)J"⟩
def dkwX1_law_6 : List UInt8 := [167, 0, 5, 22, 8, 173]
abbrev dktX1_law_6 : List UInt8 := dkwX1_law_6 ++ []
def dkwX1_law_5 : List UInt8 := [42, 180, 0, 29, 185, 0, 180, 2, 0, 55, 8, 42, 180, 0, 29, 180, 0, 186, 153, 0, 9, 20, 0, 192]
abbrev dktX1_law_5 : List UInt8 := dkwX1_law_5 ++ dktX1_law_6
def dkwX1_law_4 : List UInt8 := [154, 0, 7, 20, 0, 192, 173, 42, 180, 0, 29, 28, 29, 21, 4, 21, 5, 3, 3, 182, 0, 194, 25, 6]
abbrev dktX1_law_4 : List UInt8 := dkwX1_law_4 ++ dktX1_law_5
def dkwX1_law_3 : List UInt8 := [17, 3, 231, 184, 0, 107, 153, 0, 7, 4, 167, 0, 4, 3, 54, 7, 25, 6, 198, 0, 8, 21, 7]
abbrev dktX1_law_3 : List UInt8 := dkwX1_law_3 ++ dktX1_law_4
def dkwX1_law_2 : List UInt8 := [17, 3, 231, 184, 0, 107, 153, 0, 31, 21, 4, 3, 17, 3, 231, 184, 0, 107, 153, 0, 19, 21, 5, 3]
abbrev dktX1_law_2 : List UInt8 := dkwX1_law_2 ++ dktX1_law_3
def dkwX1_law_1 : List UInt8 := [180, 0, 189, 167, 0, 4, 1, 58, 6, 28, 3, 17, 3, 231, 184, 0, 107, 153, 0, 42, 29, 3]
abbrev dktX1_law_1 : List UInt8 := dkwX1_law_1 ++ dktX1_law_2
def dkwX1_law_0 : List UInt8 := [27, 154, 0, 13, 42, 180, 0, 22, 180, 0, 131, 167, 0, 19, 27, 4, 160, 0, 13, 42, 180, 0, 22]
abbrev dktX1_law_0 : List UInt8 := dkwX1_law_0 ++ dktX1_law_1
theorem dksX1_law_0 : cX1_law.data.toList.drop 0 = dktX1_law_0 := by decide +kernel
theorem dksX1_law_1 : cX1_law.data.toList.drop 23 = dktX1_law_1 := dk_seg dksX1_law_0 23 rfl rfl
theorem dksX1_law_2 : cX1_law.data.toList.drop 45 = dktX1_law_2 := dk_seg dksX1_law_1 22 rfl rfl
theorem dksX1_law_3 : cX1_law.data.toList.drop 69 = dktX1_law_3 := dk_seg dksX1_law_2 24 rfl rfl
theorem dksX1_law_4 : cX1_law.data.toList.drop 92 = dktX1_law_4 := dk_seg dksX1_law_3 23 rfl rfl
theorem dksX1_law_5 : cX1_law.data.toList.drop 116 = dktX1_law_5 := dk_seg dksX1_law_4 24 rfl rfl
theorem dksX1_law_6 : cX1_law.data.toList.drop 140 = dktX1_law_6 := dk_seg dksX1_law_5 24 rfl rfl
theorem dX1_law_0 : decode cX1_law 0 = .ok (.iload_n 1, 1) := dk_27 (dk_at dksX1_law_0 0 rfl rfl)
theorem dX1_law_1 : decode cX1_law 1 = .ok (.ifCond .ne 13, 3) := dk_154 0 13 (dk_at dksX1_law_0 1 rfl rfl)
theorem dX1_law_4 : decode cX1_law 4 = .ok (.aload_n 0, 1) := dk_42 (dk_at dksX1_law_0 4 rfl rfl)
theorem dX1_law_5 : decode cX1_law 5 = .ok (.getfield 22, 3) := dk_180 0 22 (dk_at dksX1_law_0 5 rfl rfl)
theorem dX1_law_8 : decode cX1_law 8 = .ok (.getfield 131, 3) := dk_180 0 131 (dk_at dksX1_law_0 8 rfl rfl)
theorem dX1_law_11 : decode cX1_law 11 = .ok (.goto 19, 3) := dk_167 0 19 (dk_at dksX1_law_0 11 rfl rfl)
theorem dX1_law_14 : decode cX1_law 14 = .ok (.iload_n 1, 1) := dk_27 (dk_at dksX1_law_0 14 rfl rfl)
theorem dX1_law_15 : decode cX1_law 15 = .ok (.iconst 1, 1) := dk_4 (dk_at dksX1_law_0 15 rfl rfl)
theorem dX1_law_16 : decode cX1_law 16 = .ok (.if_icmp .ne 13, 3) := dk_160 0 13 (dk_at dksX1_law_0 16 rfl rfl)
theorem dX1_law_19 : decode cX1_law 19 = .ok (.aload_n 0, 1) := dk_42 (dk_at dksX1_law_0 19 rfl rfl)
theorem dX1_law_20 : decode cX1_law 20 = .ok (.getfield 22, 3) := dk_180 0 22 (dk_at dksX1_law_0 20 rfl rfl)
theorem dX1_law_23 : decode cX1_law 23 = .ok (.getfield 189, 3) := dk_180 0 189 (dk_at dksX1_law_1 0 rfl rfl)
theorem dX1_law_26 : decode cX1_law 26 = .ok (.goto 4, 3) := dk_167 0 4 (dk_at dksX1_law_1 3 rfl rfl)
theorem dX1_law_29 : decode cX1_law 29 = .ok (.aconst_null, 1) := dk_1 (dk_at dksX1_law_1 6 rfl rfl)
theorem dX1_law_30 : decode cX1_law 30 = .ok (.astore 6, 2) := dk_58 6 (dk_at dksX1_law_1 7 rfl rfl)
theorem dX1_law_32 : decode cX1_law 32 = .ok (.iload_n 2, 1) := dk_28 (dk_at dksX1_law_1 9 rfl rfl)
theorem dX1_law_33 : decode cX1_law 33 = .ok (.iconst 0, 1) := dk_3 (dk_at dksX1_law_1 10 rfl rfl)
theorem dX1_law_34 : decode cX1_law 34 = .ok (.sipush 999, 3) := dk_17 3 231 (dk_at dksX1_law_1 11 rfl rfl)
theorem dX1_law_37 : decode cX1_law 37 = .ok (.invokestatic 107, 3) := dk_184 0 107 (dk_at dksX1_law_1 14 rfl rfl)
theorem dX1_law_40 : decode cX1_law 40 = .ok (.ifCond .eq 42, 3) := dk_153 0 42 (dk_at dksX1_law_1 17 rfl rfl)
theorem dX1_law_43 : decode cX1_law 43 = .ok (.iload_n 3, 1) := dk_29 (dk_at dksX1_law_1 20 rfl rfl)
theorem dX1_law_44 : decode cX1_law 44 = .ok (.iconst 0, 1) := dk_3 (dk_at dksX1_law_1 21 rfl rfl)
theorem dX1_law_45 : decode cX1_law 45 = .ok (.sipush 999, 3) := dk_17 3 231 (dk_at dksX1_law_2 0 rfl rfl)
theorem dX1_law_48 : decode cX1_law 48 = .ok (.invokestatic 107, 3) := dk_184 0 107 (dk_at dksX1_law_2 3 rfl rfl)
theorem dX1_law_51 : decode cX1_law 51 = .ok (.ifCond .eq 31, 3) := dk_153 0 31 (dk_at dksX1_law_2 6 rfl rfl)
theorem dX1_law_54 : decode cX1_law 54 = .ok (.iload 4, 2) := dk_21 4 (dk_at dksX1_law_2 9 rfl rfl)
theorem dX1_law_56 : decode cX1_law 56 = .ok (.iconst 0, 1) := dk_3 (dk_at dksX1_law_2 11 rfl rfl)
theorem dX1_law_57 : decode cX1_law 57 = .ok (.sipush 999, 3) := dk_17 3 231 (dk_at dksX1_law_2 12 rfl rfl)
theorem dX1_law_60 : decode cX1_law 60 = .ok (.invokestatic 107, 3) := dk_184 0 107 (dk_at dksX1_law_2 15 rfl rfl)
theorem dX1_law_63 : decode cX1_law 63 = .ok (.ifCond .eq 19, 3) := dk_153 0 19 (dk_at dksX1_law_2 18 rfl rfl)
theorem dX1_law_66 : decode cX1_law 66 = .ok (.iload 5, 2) := dk_21 5 (dk_at dksX1_law_2 21 rfl rfl)
theorem dX1_law_68 : decode cX1_law 68 = .ok (.iconst 0, 1) := dk_3 (dk_at dksX1_law_2 23 rfl rfl)
theorem dX1_law_69 : decode cX1_law 69 = .ok (.sipush 999, 3) := dk_17 3 231 (dk_at dksX1_law_3 0 rfl rfl)
theorem dX1_law_72 : decode cX1_law 72 = .ok (.invokestatic 107, 3) := dk_184 0 107 (dk_at dksX1_law_3 3 rfl rfl)
theorem dX1_law_75 : decode cX1_law 75 = .ok (.ifCond .eq 7, 3) := dk_153 0 7 (dk_at dksX1_law_3 6 rfl rfl)
theorem dX1_law_78 : decode cX1_law 78 = .ok (.iconst 1, 1) := dk_4 (dk_at dksX1_law_3 9 rfl rfl)
theorem dX1_law_79 : decode cX1_law 79 = .ok (.goto 4, 3) := dk_167 0 4 (dk_at dksX1_law_3 10 rfl rfl)
theorem dX1_law_82 : decode cX1_law 82 = .ok (.iconst 0, 1) := dk_3 (dk_at dksX1_law_3 13 rfl rfl)
theorem dX1_law_83 : decode cX1_law 83 = .ok (.istore 7, 2) := dk_54 7 (dk_at dksX1_law_3 14 rfl rfl)
theorem dX1_law_85 : decode cX1_law 85 = .ok (.aload 6, 2) := dk_25 6 (dk_at dksX1_law_3 16 rfl rfl)
theorem dX1_law_87 : decode cX1_law 87 = .ok (.ifnull 8, 3) := dk_198 0 8 (dk_at dksX1_law_3 18 rfl rfl)
theorem dX1_law_90 : decode cX1_law 90 = .ok (.iload 7, 2) := dk_21 7 (dk_at dksX1_law_3 21 rfl rfl)
theorem dX1_law_92 : decode cX1_law 92 = .ok (.ifCond .ne 7, 3) := dk_154 0 7 (dk_at dksX1_law_4 0 rfl rfl)
theorem dX1_law_95 : decode cX1_law 95 = .ok (.ldc2_w 192, 3) := dk_20 0 192 (dk_at dksX1_law_4 3 rfl rfl)
theorem dX1_law_98 : decode cX1_law 98 = .ok (.lreturn, 1) := dk_173 (dk_at dksX1_law_4 6 rfl rfl)
theorem dX1_law_99 : decode cX1_law 99 = .ok (.aload_n 0, 1) := dk_42 (dk_at dksX1_law_4 7 rfl rfl)
theorem dX1_law_100 : decode cX1_law 100 = .ok (.getfield 29, 3) := dk_180 0 29 (dk_at dksX1_law_4 8 rfl rfl)
theorem dX1_law_103 : decode cX1_law 103 = .ok (.iload_n 2, 1) := dk_28 (dk_at dksX1_law_4 11 rfl rfl)
theorem dX1_law_104 : decode cX1_law 104 = .ok (.iload_n 3, 1) := dk_29 (dk_at dksX1_law_4 12 rfl rfl)
theorem dX1_law_105 : decode cX1_law 105 = .ok (.iload 4, 2) := dk_21 4 (dk_at dksX1_law_4 13 rfl rfl)
theorem dX1_law_107 : decode cX1_law 107 = .ok (.iload 5, 2) := dk_21 5 (dk_at dksX1_law_4 15 rfl rfl)
theorem dX1_law_109 : decode cX1_law 109 = .ok (.iconst 0, 1) := dk_3 (dk_at dksX1_law_4 17 rfl rfl)
theorem dX1_law_110 : decode cX1_law 110 = .ok (.iconst 0, 1) := dk_3 (dk_at dksX1_law_4 18 rfl rfl)
theorem dX1_law_111 : decode cX1_law 111 = .ok (.invokevirtual 194, 3) := dk_182 0 194 (dk_at dksX1_law_4 19 rfl rfl)
theorem dX1_law_114 : decode cX1_law 114 = .ok (.aload 6, 2) := dk_25 6 (dk_at dksX1_law_4 22 rfl rfl)
theorem dX1_law_116 : decode cX1_law 116 = .ok (.aload_n 0, 1) := dk_42 (dk_at dksX1_law_5 0 rfl rfl)
theorem dX1_law_117 : decode cX1_law 117 = .ok (.getfield 29, 3) := dk_180 0 29 (dk_at dksX1_law_5 1 rfl rfl)
theorem dX1_law_120 : decode cX1_law 120 = .ok (.invokeinterface 180 2, 5) := by decide +kernel
theorem dX1_law_125 : decode cX1_law 125 = .ok (.lstore 8, 2) := dk_55 8 (dk_at dksX1_law_5 9 rfl rfl)
theorem dX1_law_127 : decode cX1_law 127 = .ok (.aload_n 0, 1) := dk_42 (dk_at dksX1_law_5 11 rfl rfl)
theorem dX1_law_128 : decode cX1_law 128 = .ok (.getfield 29, 3) := dk_180 0 29 (dk_at dksX1_law_5 12 rfl rfl)
theorem dX1_law_131 : decode cX1_law 131 = .ok (.getfield 186, 3) := dk_180 0 186 (dk_at dksX1_law_5 15 rfl rfl)
theorem dX1_law_134 : decode cX1_law 134 = .ok (.ifCond .eq 9, 3) := dk_153 0 9 (dk_at dksX1_law_5 18 rfl rfl)
theorem dX1_law_137 : decode cX1_law 137 = .ok (.ldc2_w 192, 3) := dk_20 0 192 (dk_at dksX1_law_5 21 rfl rfl)
theorem dX1_law_140 : decode cX1_law 140 = .ok (.goto 5, 3) := dk_167 0 5 (dk_at dksX1_law_6 0 rfl rfl)
theorem dX1_law_143 : decode cX1_law 143 = .ok (.lload 8, 2) := dk_22 8 (dk_at dksX1_law_6 3 rfl rfl)
theorem dX1_law_145 : decode cX1_law 145 = .ok (.lreturn, 1) := dk_173 (dk_at dksX1_law_6 5 rfl rfl)
abbrev cX1_line : ByteArray := prog_1_method_16_code
def yX1_line : MethodName := ⟨RX1, "line", "(III)I"⟩
def dkwX1_line_3 : List UInt8 := [180, 0, 48, 180, 0, 228, 21, 4, 46, 167, 0, 13, 42, 180, 0, 48, 180, 0, 231, 21, 4, 46, 172]
abbrev dktX1_line_3 : List UInt8 := dkwX1_line_3 ++ []
def dkwX1_line_2 : List UInt8 := [154, 0, 16, 42, 180, 0, 48, 180, 0, 226, 21, 4, 46, 167, 0, 31, 29, 4, 160, 0, 16, 42]
abbrev dktX1_line_2 : List UInt8 := dkwX1_line_2 ++ dktX1_line_3
def dkwX1_line_1 : List UInt8 := [42, 180, 0, 48, 180, 0, 208, 27, 46, 161, 0, 6, 16, 254, 172, 16, 7, 27, 104, 28, 96, 54, 4, 29]
abbrev dktX1_line_1 : List UInt8 := dkwX1_line_1 ++ dktX1_line_2
def dkwX1_line_0 : List UInt8 := [42, 27, 182, 0, 198, 153, 0, 16, 28, 155, 0, 12, 29, 3, 5, 184, 0, 107, 154, 0, 5, 2, 172, 28]
abbrev dktX1_line_0 : List UInt8 := dkwX1_line_0 ++ dktX1_line_1
theorem dksX1_line_0 : cX1_line.data.toList.drop 0 = dktX1_line_0 := by decide +kernel
theorem dksX1_line_1 : cX1_line.data.toList.drop 24 = dktX1_line_1 := dk_seg dksX1_line_0 24 rfl rfl
theorem dksX1_line_2 : cX1_line.data.toList.drop 48 = dktX1_line_2 := dk_seg dksX1_line_1 24 rfl rfl
theorem dksX1_line_3 : cX1_line.data.toList.drop 70 = dktX1_line_3 := dk_seg dksX1_line_2 22 rfl rfl
theorem dX1_line_0 : decode cX1_line 0 = .ok (.aload_n 0, 1) := dk_42 (dk_at dksX1_line_0 0 rfl rfl)
theorem dX1_line_1 : decode cX1_line 1 = .ok (.iload_n 1, 1) := dk_27 (dk_at dksX1_line_0 1 rfl rfl)
theorem dX1_line_2 : decode cX1_line 2 = .ok (.invokevirtual 198, 3) := dk_182 0 198 (dk_at dksX1_line_0 2 rfl rfl)
theorem dX1_line_5 : decode cX1_line 5 = .ok (.ifCond .eq 16, 3) := dk_153 0 16 (dk_at dksX1_line_0 5 rfl rfl)
theorem dX1_line_8 : decode cX1_line 8 = .ok (.iload_n 2, 1) := dk_28 (dk_at dksX1_line_0 8 rfl rfl)
theorem dX1_line_9 : decode cX1_line 9 = .ok (.ifCond .lt 12, 3) := dk_155 0 12 (dk_at dksX1_line_0 9 rfl rfl)
theorem dX1_line_12 : decode cX1_line 12 = .ok (.iload_n 3, 1) := dk_29 (dk_at dksX1_line_0 12 rfl rfl)
theorem dX1_line_13 : decode cX1_line 13 = .ok (.iconst 0, 1) := dk_3 (dk_at dksX1_line_0 13 rfl rfl)
theorem dX1_line_14 : decode cX1_line 14 = .ok (.iconst 2, 1) := dk_5 (dk_at dksX1_line_0 14 rfl rfl)
theorem dX1_line_15 : decode cX1_line 15 = .ok (.invokestatic 107, 3) := dk_184 0 107 (dk_at dksX1_line_0 15 rfl rfl)
theorem dX1_line_18 : decode cX1_line 18 = .ok (.ifCond .ne 5, 3) := dk_154 0 5 (dk_at dksX1_line_0 18 rfl rfl)
theorem dX1_line_21 : decode cX1_line 21 = .ok (.iconst (-1), 1) := dk_2 (dk_at dksX1_line_0 21 rfl rfl)
theorem dX1_line_22 : decode cX1_line 22 = .ok (.ireturn, 1) := dk_172 (dk_at dksX1_line_0 22 rfl rfl)
theorem dX1_line_23 : decode cX1_line 23 = .ok (.iload_n 2, 1) := dk_28 (dk_at dksX1_line_0 23 rfl rfl)
theorem dX1_line_24 : decode cX1_line 24 = .ok (.aload_n 0, 1) := dk_42 (dk_at dksX1_line_1 0 rfl rfl)
theorem dX1_line_25 : decode cX1_line 25 = .ok (.getfield 48, 3) := dk_180 0 48 (dk_at dksX1_line_1 1 rfl rfl)
theorem dX1_line_28 : decode cX1_line 28 = .ok (.getfield 208, 3) := dk_180 0 208 (dk_at dksX1_line_1 4 rfl rfl)
theorem dX1_line_31 : decode cX1_line 31 = .ok (.iload_n 1, 1) := dk_27 (dk_at dksX1_line_1 7 rfl rfl)
theorem dX1_line_32 : decode cX1_line 32 = .ok (.iaload, 1) := dk_46 (dk_at dksX1_line_1 8 rfl rfl)
theorem dX1_line_33 : decode cX1_line 33 = .ok (.if_icmp .lt 6, 3) := dk_161 0 6 (dk_at dksX1_line_1 9 rfl rfl)
theorem dX1_line_36 : decode cX1_line 36 = .ok (.bipush (-2), 2) := dk_16 254 (dk_at dksX1_line_1 12 rfl rfl)
theorem dX1_line_38 : decode cX1_line 38 = .ok (.ireturn, 1) := dk_172 (dk_at dksX1_line_1 14 rfl rfl)
theorem dX1_line_39 : decode cX1_line 39 = .ok (.bipush 7, 2) := dk_16 7 (dk_at dksX1_line_1 15 rfl rfl)
theorem dX1_line_41 : decode cX1_line 41 = .ok (.iload_n 1, 1) := dk_27 (dk_at dksX1_line_1 17 rfl rfl)
theorem dX1_line_42 : decode cX1_line 42 = .ok (.imul, 1) := dk_104 (dk_at dksX1_line_1 18 rfl rfl)
theorem dX1_line_43 : decode cX1_line 43 = .ok (.iload_n 2, 1) := dk_28 (dk_at dksX1_line_1 19 rfl rfl)
theorem dX1_line_44 : decode cX1_line 44 = .ok (.iadd, 1) := dk_96 (dk_at dksX1_line_1 20 rfl rfl)
theorem dX1_line_45 : decode cX1_line 45 = .ok (.istore 4, 2) := dk_54 4 (dk_at dksX1_line_1 21 rfl rfl)
theorem dX1_line_47 : decode cX1_line 47 = .ok (.iload_n 3, 1) := dk_29 (dk_at dksX1_line_1 23 rfl rfl)
theorem dX1_line_48 : decode cX1_line 48 = .ok (.ifCond .ne 16, 3) := dk_154 0 16 (dk_at dksX1_line_2 0 rfl rfl)
theorem dX1_line_51 : decode cX1_line 51 = .ok (.aload_n 0, 1) := dk_42 (dk_at dksX1_line_2 3 rfl rfl)
theorem dX1_line_52 : decode cX1_line 52 = .ok (.getfield 48, 3) := dk_180 0 48 (dk_at dksX1_line_2 4 rfl rfl)
theorem dX1_line_55 : decode cX1_line 55 = .ok (.getfield 226, 3) := dk_180 0 226 (dk_at dksX1_line_2 7 rfl rfl)
theorem dX1_line_58 : decode cX1_line 58 = .ok (.iload 4, 2) := dk_21 4 (dk_at dksX1_line_2 10 rfl rfl)
theorem dX1_line_60 : decode cX1_line 60 = .ok (.iaload, 1) := dk_46 (dk_at dksX1_line_2 12 rfl rfl)
theorem dX1_line_61 : decode cX1_line 61 = .ok (.goto 31, 3) := dk_167 0 31 (dk_at dksX1_line_2 13 rfl rfl)
theorem dX1_line_64 : decode cX1_line 64 = .ok (.iload_n 3, 1) := dk_29 (dk_at dksX1_line_2 16 rfl rfl)
theorem dX1_line_65 : decode cX1_line 65 = .ok (.iconst 1, 1) := dk_4 (dk_at dksX1_line_2 17 rfl rfl)
theorem dX1_line_66 : decode cX1_line 66 = .ok (.if_icmp .ne 16, 3) := dk_160 0 16 (dk_at dksX1_line_2 18 rfl rfl)
theorem dX1_line_69 : decode cX1_line 69 = .ok (.aload_n 0, 1) := dk_42 (dk_at dksX1_line_2 21 rfl rfl)
theorem dX1_line_70 : decode cX1_line 70 = .ok (.getfield 48, 3) := dk_180 0 48 (dk_at dksX1_line_3 0 rfl rfl)
theorem dX1_line_73 : decode cX1_line 73 = .ok (.getfield 228, 3) := dk_180 0 228 (dk_at dksX1_line_3 3 rfl rfl)
theorem dX1_line_76 : decode cX1_line 76 = .ok (.iload 4, 2) := dk_21 4 (dk_at dksX1_line_3 6 rfl rfl)
theorem dX1_line_78 : decode cX1_line 78 = .ok (.iaload, 1) := dk_46 (dk_at dksX1_line_3 8 rfl rfl)
theorem dX1_line_79 : decode cX1_line 79 = .ok (.goto 13, 3) := dk_167 0 13 (dk_at dksX1_line_3 9 rfl rfl)
theorem dX1_line_82 : decode cX1_line 82 = .ok (.aload_n 0, 1) := dk_42 (dk_at dksX1_line_3 12 rfl rfl)
theorem dX1_line_83 : decode cX1_line 83 = .ok (.getfield 48, 3) := dk_180 0 48 (dk_at dksX1_line_3 13 rfl rfl)
theorem dX1_line_86 : decode cX1_line 86 = .ok (.getfield 231, 3) := dk_180 0 231 (dk_at dksX1_line_3 16 rfl rfl)
theorem dX1_line_89 : decode cX1_line 89 = .ok (.iload 4, 2) := dk_21 4 (dk_at dksX1_line_3 19 rfl rfl)
theorem dX1_line_91 : decode cX1_line 91 = .ok (.iaload, 1) := dk_46 (dk_at dksX1_line_3 21 rfl rfl)
theorem dX1_line_92 : decode cX1_line 92 = .ok (.ireturn, 1) := dk_172 (dk_at dksX1_line_3 22 rfl rfl)
abbrev cX1_isDesk : ByteArray := prog_1_method_10_code
def yX1_isDesk : MethodName := ⟨RX1, "isDesk", "(I)Z"⟩
def dkwX1_isDesk_0 : List UInt8 := [27, 3, 42, 182, 0, 166, 4, 100, 184, 0, 107, 172]
abbrev dktX1_isDesk_0 : List UInt8 := dkwX1_isDesk_0 ++ []
theorem dksX1_isDesk_0 : cX1_isDesk.data.toList.drop 0 = dktX1_isDesk_0 := by decide +kernel
theorem dX1_isDesk_0 : decode cX1_isDesk 0 = .ok (.iload_n 1, 1) := dk_27 (dk_at dksX1_isDesk_0 0 rfl rfl)
theorem dX1_isDesk_1 : decode cX1_isDesk 1 = .ok (.iconst 0, 1) := dk_3 (dk_at dksX1_isDesk_0 1 rfl rfl)
theorem dX1_isDesk_2 : decode cX1_isDesk 2 = .ok (.aload_n 0, 1) := dk_42 (dk_at dksX1_isDesk_0 2 rfl rfl)
theorem dX1_isDesk_3 : decode cX1_isDesk 3 = .ok (.invokevirtual 166, 3) := dk_182 0 166 (dk_at dksX1_isDesk_0 3 rfl rfl)
theorem dX1_isDesk_6 : decode cX1_isDesk 6 = .ok (.iconst 1, 1) := dk_4 (dk_at dksX1_isDesk_0 6 rfl rfl)
theorem dX1_isDesk_7 : decode cX1_isDesk 7 = .ok (.isub, 1) := dk_100 (dk_at dksX1_isDesk_0 7 rfl rfl)
theorem dX1_isDesk_8 : decode cX1_isDesk 8 = .ok (.invokestatic 107, 3) := dk_184 0 107 (dk_at dksX1_isDesk_0 8 rfl rfl)
theorem dX1_isDesk_11 : decode cX1_isDesk 11 = .ok (.ireturn, 1) := dk_172 (dk_at dksX1_isDesk_0 11 rfl rfl)
abbrev cX1_desks : ByteArray := prog_1_method_9_code
def yX1_desks : MethodName := ⟨RX1, "desks", "()I"⟩
def dkwX1_desks_0 : List UInt8 := [42, 180, 0, 22, 180, 0, 156, 182, 0, 160, 172]
abbrev dktX1_desks_0 : List UInt8 := dkwX1_desks_0 ++ []
theorem dksX1_desks_0 : cX1_desks.data.toList.drop 0 = dktX1_desks_0 := by decide +kernel
theorem dX1_desks_0 : decode cX1_desks 0 = .ok (.aload_n 0, 1) := dk_42 (dk_at dksX1_desks_0 0 rfl rfl)
theorem dX1_desks_1 : decode cX1_desks 1 = .ok (.getfield 22, 3) := dk_180 0 22 (dk_at dksX1_desks_0 1 rfl rfl)
theorem dX1_desks_4 : decode cX1_desks 4 = .ok (.getfield 156, 3) := dk_180 0 156 (dk_at dksX1_desks_0 4 rfl rfl)
theorem dX1_desks_7 : decode cX1_desks 7 = .ok (.invokevirtual 160, 3) := dk_182 0 160 (dk_at dksX1_desks_0 7 rfl rfl)
theorem dX1_desks_10 : decode cX1_desks 10 = .ok (.ireturn, 1) := dk_172 (dk_at dksX1_desks_0 10 rfl rfl)
abbrev cX1_days : ByteArray := prog_1_method_17_code
def yX1_days : MethodName := ⟨RX1, "days", "(I)I"⟩
def dkwX1_days_2 : List UInt8 := [180, 0, 234, 172]
abbrev dktX1_days_2 : List UInt8 := dkwX1_days_2 ++ []
def dkwX1_days_1 : List UInt8 := [2, 172, 42, 180, 0, 48, 42, 180, 0, 48, 180, 0, 234, 27, 96, 182, 0, 237, 87, 42, 180, 0, 48]
abbrev dktX1_days_1 : List UInt8 := dkwX1_days_1 ++ dktX1_days_2
def dkwX1_days_0 : List UInt8 := [27, 3, 16, 61, 184, 0, 107, 153, 0, 17, 42, 180, 0, 48, 180, 0, 234, 27, 96, 16, 61, 164, 0, 5]
abbrev dktX1_days_0 : List UInt8 := dkwX1_days_0 ++ dktX1_days_1
theorem dksX1_days_0 : cX1_days.data.toList.drop 0 = dktX1_days_0 := by decide +kernel
theorem dksX1_days_1 : cX1_days.data.toList.drop 24 = dktX1_days_1 := dk_seg dksX1_days_0 24 rfl rfl
theorem dksX1_days_2 : cX1_days.data.toList.drop 47 = dktX1_days_2 := dk_seg dksX1_days_1 23 rfl rfl
theorem dX1_days_0 : decode cX1_days 0 = .ok (.iload_n 1, 1) := dk_27 (dk_at dksX1_days_0 0 rfl rfl)
theorem dX1_days_1 : decode cX1_days 1 = .ok (.iconst 0, 1) := dk_3 (dk_at dksX1_days_0 1 rfl rfl)
theorem dX1_days_2 : decode cX1_days 2 = .ok (.bipush 61, 2) := dk_16 61 (dk_at dksX1_days_0 2 rfl rfl)
theorem dX1_days_4 : decode cX1_days 4 = .ok (.invokestatic 107, 3) := dk_184 0 107 (dk_at dksX1_days_0 4 rfl rfl)
theorem dX1_days_7 : decode cX1_days 7 = .ok (.ifCond .eq 17, 3) := dk_153 0 17 (dk_at dksX1_days_0 7 rfl rfl)
theorem dX1_days_10 : decode cX1_days 10 = .ok (.aload_n 0, 1) := dk_42 (dk_at dksX1_days_0 10 rfl rfl)
theorem dX1_days_11 : decode cX1_days 11 = .ok (.getfield 48, 3) := dk_180 0 48 (dk_at dksX1_days_0 11 rfl rfl)
theorem dX1_days_14 : decode cX1_days 14 = .ok (.getfield 234, 3) := dk_180 0 234 (dk_at dksX1_days_0 14 rfl rfl)
theorem dX1_days_17 : decode cX1_days 17 = .ok (.iload_n 1, 1) := dk_27 (dk_at dksX1_days_0 17 rfl rfl)
theorem dX1_days_18 : decode cX1_days 18 = .ok (.iadd, 1) := dk_96 (dk_at dksX1_days_0 18 rfl rfl)
theorem dX1_days_19 : decode cX1_days 19 = .ok (.bipush 61, 2) := dk_16 61 (dk_at dksX1_days_0 19 rfl rfl)
theorem dX1_days_21 : decode cX1_days 21 = .ok (.if_icmp .le 5, 3) := dk_164 0 5 (dk_at dksX1_days_0 21 rfl rfl)
theorem dX1_days_24 : decode cX1_days 24 = .ok (.iconst (-1), 1) := dk_2 (dk_at dksX1_days_1 0 rfl rfl)
theorem dX1_days_25 : decode cX1_days 25 = .ok (.ireturn, 1) := dk_172 (dk_at dksX1_days_1 1 rfl rfl)
theorem dX1_days_26 : decode cX1_days 26 = .ok (.aload_n 0, 1) := dk_42 (dk_at dksX1_days_1 2 rfl rfl)
theorem dX1_days_27 : decode cX1_days 27 = .ok (.getfield 48, 3) := dk_180 0 48 (dk_at dksX1_days_1 3 rfl rfl)
theorem dX1_days_30 : decode cX1_days 30 = .ok (.aload_n 0, 1) := dk_42 (dk_at dksX1_days_1 6 rfl rfl)
theorem dX1_days_31 : decode cX1_days 31 = .ok (.getfield 48, 3) := dk_180 0 48 (dk_at dksX1_days_1 7 rfl rfl)
theorem dX1_days_34 : decode cX1_days 34 = .ok (.getfield 234, 3) := dk_180 0 234 (dk_at dksX1_days_1 10 rfl rfl)
theorem dX1_days_37 : decode cX1_days 37 = .ok (.iload_n 1, 1) := dk_27 (dk_at dksX1_days_1 13 rfl rfl)
theorem dX1_days_38 : decode cX1_days 38 = .ok (.iadd, 1) := dk_96 (dk_at dksX1_days_1 14 rfl rfl)
theorem dX1_days_39 : decode cX1_days 39 = .ok (.invokevirtual 237, 3) := dk_182 0 237 (dk_at dksX1_days_1 15 rfl rfl)
theorem dX1_days_42 : decode cX1_days 42 = .ok (.pop, 1) := dk_87 (dk_at dksX1_days_1 18 rfl rfl)
theorem dX1_days_43 : decode cX1_days 43 = .ok (.aload_n 0, 1) := dk_42 (dk_at dksX1_days_1 19 rfl rfl)
theorem dX1_days_44 : decode cX1_days 44 = .ok (.getfield 48, 3) := dk_180 0 48 (dk_at dksX1_days_1 20 rfl rfl)
theorem dX1_days_47 : decode cX1_days 47 = .ok (.getfield 234, 3) := dk_180 0 234 (dk_at dksX1_days_2 0 rfl rfl)
theorem dX1_days_50 : decode cX1_days 50 = .ok (.ireturn, 1) := dk_172 (dk_at dksX1_days_2 3 rfl rfl)
abbrev cX1_worth : ByteArray := prog_1_method_12_code
def yX1_worth : MethodName := ⟨RX1, "worth", "(I)I"⟩
def dkwX1_worth_0 : List UInt8 := [42, 180, 0, 22, 180, 0, 168, 27, 182, 0, 171, 192, 0, 175, 180, 0, 177, 172]
abbrev dktX1_worth_0 : List UInt8 := dkwX1_worth_0 ++ []
theorem dksX1_worth_0 : cX1_worth.data.toList.drop 0 = dktX1_worth_0 := by decide +kernel
theorem dX1_worth_0 : decode cX1_worth 0 = .ok (.aload_n 0, 1) := dk_42 (dk_at dksX1_worth_0 0 rfl rfl)
theorem dX1_worth_1 : decode cX1_worth 1 = .ok (.getfield 22, 3) := dk_180 0 22 (dk_at dksX1_worth_0 1 rfl rfl)
theorem dX1_worth_4 : decode cX1_worth 4 = .ok (.getfield 168, 3) := dk_180 0 168 (dk_at dksX1_worth_0 4 rfl rfl)
theorem dX1_worth_7 : decode cX1_worth 7 = .ok (.iload_n 1, 1) := dk_27 (dk_at dksX1_worth_0 7 rfl rfl)
theorem dX1_worth_8 : decode cX1_worth 8 = .ok (.invokevirtual 171, 3) := dk_182 0 171 (dk_at dksX1_worth_0 8 rfl rfl)
theorem dX1_worth_11 : decode cX1_worth 11 = .ok (.checkcast 175, 3) := dk_192 0 175 (dk_at dksX1_worth_0 11 rfl rfl)
theorem dX1_worth_14 : decode cX1_worth 14 = .ok (.getfield 177, 3) := dk_180 0 177 (dk_at dksX1_worth_0 14 rfl rfl)
theorem dX1_worth_17 : decode cX1_worth 17 = .ok (.ireturn, 1) := dk_172 (dk_at dksX1_worth_0 17 rfl rfl)
abbrev cX1_isOf : ByteArray := prog_1_method_3_code
def yX1_isOf : MethodName := ⟨RX1, "isOf", "(II)Z"⟩
def dkwX1_isOf_0 : List UInt8 := [26, 27, 122, 4, 126, 4, 160, 0, 7, 4, 167, 0, 4, 3, 172]
abbrev dktX1_isOf_0 : List UInt8 := dkwX1_isOf_0 ++ []
theorem dksX1_isOf_0 : cX1_isOf.data.toList.drop 0 = dktX1_isOf_0 := by decide +kernel
theorem dX1_isOf_0 : decode cX1_isOf 0 = .ok (.iload_n 0, 1) := dk_26 (dk_at dksX1_isOf_0 0 rfl rfl)
theorem dX1_isOf_1 : decode cX1_isOf 1 = .ok (.iload_n 1, 1) := dk_27 (dk_at dksX1_isOf_0 1 rfl rfl)
theorem dX1_isOf_2 : decode cX1_isOf 2 = .ok (.ishr, 1) := dk_122 (dk_at dksX1_isOf_0 2 rfl rfl)
theorem dX1_isOf_3 : decode cX1_isOf 3 = .ok (.iconst 1, 1) := dk_4 (dk_at dksX1_isOf_0 3 rfl rfl)
theorem dX1_isOf_4 : decode cX1_isOf 4 = .ok (.iand, 1) := dk_126 (dk_at dksX1_isOf_0 4 rfl rfl)
theorem dX1_isOf_5 : decode cX1_isOf 5 = .ok (.iconst 1, 1) := dk_4 (dk_at dksX1_isOf_0 5 rfl rfl)
theorem dX1_isOf_6 : decode cX1_isOf 6 = .ok (.if_icmp .ne 7, 3) := dk_160 0 7 (dk_at dksX1_isOf_0 6 rfl rfl)
theorem dX1_isOf_9 : decode cX1_isOf 9 = .ok (.iconst 1, 1) := dk_4 (dk_at dksX1_isOf_0 9 rfl rfl)
theorem dX1_isOf_10 : decode cX1_isOf 10 = .ok (.goto 4, 3) := dk_167 0 4 (dk_at dksX1_isOf_0 10 rfl rfl)
theorem dX1_isOf_13 : decode cX1_isOf 13 = .ok (.iconst 0, 1) := dk_3 (dk_at dksX1_isOf_0 13 rfl rfl)
theorem dX1_isOf_14 : decode cX1_isOf 14 = .ok (.ireturn, 1) := dk_172 (dk_at dksX1_isOf_0 14 rfl rfl)
abbrev cX1_value : ByteArray := prog_1_method_13_code
def yX1_value : MethodName := ⟨RX1, "value", "(LMinistryDesks$Node;J)J"⟩
def dkwX1_value_1 : List UInt8 := [180, 0, 186, 153, 0, 7, 9, 167, 0, 5, 22, 4, 173]
abbrev dktX1_value_1 : List UInt8 := dkwX1_value_1 ++ []
def dkwX1_value_0 : List UInt8 := [43, 199, 0, 5, 32, 173, 43, 42, 180, 0, 29, 185, 0, 180, 2, 0, 55, 4, 42, 180, 0, 29]
abbrev dktX1_value_0 : List UInt8 := dkwX1_value_0 ++ dktX1_value_1
theorem dksX1_value_0 : cX1_value.data.toList.drop 0 = dktX1_value_0 := by decide +kernel
theorem dksX1_value_1 : cX1_value.data.toList.drop 22 = dktX1_value_1 := dk_seg dksX1_value_0 22 rfl rfl
theorem dX1_value_0 : decode cX1_value 0 = .ok (.aload_n 1, 1) := dk_43 (dk_at dksX1_value_0 0 rfl rfl)
theorem dX1_value_1 : decode cX1_value 1 = .ok (.ifnonnull 5, 3) := dk_199 0 5 (dk_at dksX1_value_0 1 rfl rfl)
theorem dX1_value_4 : decode cX1_value 4 = .ok (.lload_n 2, 1) := dk_32 (dk_at dksX1_value_0 4 rfl rfl)
theorem dX1_value_5 : decode cX1_value 5 = .ok (.lreturn, 1) := dk_173 (dk_at dksX1_value_0 5 rfl rfl)
theorem dX1_value_6 : decode cX1_value 6 = .ok (.aload_n 1, 1) := dk_43 (dk_at dksX1_value_0 6 rfl rfl)
theorem dX1_value_7 : decode cX1_value 7 = .ok (.aload_n 0, 1) := dk_42 (dk_at dksX1_value_0 7 rfl rfl)
theorem dX1_value_8 : decode cX1_value 8 = .ok (.getfield 29, 3) := dk_180 0 29 (dk_at dksX1_value_0 8 rfl rfl)
theorem dX1_value_11 : decode cX1_value 11 = .ok (.invokeinterface 180 2, 5) := by decide +kernel
theorem dX1_value_16 : decode cX1_value 16 = .ok (.lstore 4, 2) := dk_55 4 (dk_at dksX1_value_0 16 rfl rfl)
theorem dX1_value_18 : decode cX1_value 18 = .ok (.aload_n 0, 1) := dk_42 (dk_at dksX1_value_0 18 rfl rfl)
theorem dX1_value_19 : decode cX1_value 19 = .ok (.getfield 29, 3) := dk_180 0 29 (dk_at dksX1_value_0 19 rfl rfl)
theorem dX1_value_22 : decode cX1_value 22 = .ok (.getfield 186, 3) := dk_180 0 186 (dk_at dksX1_value_1 0 rfl rfl)
theorem dX1_value_25 : decode cX1_value 25 = .ok (.ifCond .eq 7, 3) := dk_153 0 7 (dk_at dksX1_value_1 3 rfl rfl)
theorem dX1_value_28 : decode cX1_value 28 = .ok (.lconst 0, 1) := dk_9 (dk_at dksX1_value_1 6 rfl rfl)
theorem dX1_value_29 : decode cX1_value 29 = .ok (.goto 5, 3) := dk_167 0 5 (dk_at dksX1_value_1 7 rfl rfl)
theorem dX1_value_32 : decode cX1_value 32 = .ok (.lload 4, 2) := dk_22 4 (dk_at dksX1_value_1 10 rfl rfl)
theorem dX1_value_34 : decode cX1_value 34 = .ok (.lreturn, 1) := dk_173 (dk_at dksX1_value_1 12 rfl rfl)
abbrev cX1_went : ByteArray := prog_1_method_18_code
def yX1_went : MethodName := ⟨RX1, "went", "(II)I"⟩
def dkwX1_went_4 : List UInt8 := [7, 108, 16, 8, 112, 167, 0, 6, 29, 7, 112, 172]
abbrev dktX1_went_4 : List UInt8 := dkwX1_went_4 ++ []
def dkwX1_went_3 : List UInt8 := [167, 0, 35, 28, 4, 160, 0, 13, 29, 16, 32, 108, 16, 8, 112, 167, 0, 20, 28, 5, 160, 0, 12, 29]
abbrev dktX1_went_3 : List UInt8 := dkwX1_went_3 ++ dktX1_went_4
def dkwX1_went_2 : List UInt8 := [16, 254, 172, 42, 180, 0, 48, 180, 0, 244, 27, 46, 62, 28, 154, 0, 11, 29, 17, 1, 0, 108]
abbrev dktX1_went_2 : List UInt8 := dkwX1_went_2 ++ dktX1_went_3
def dkwX1_went_1 : List UInt8 := [42, 180, 0, 48, 180, 0, 241, 167, 0, 4, 2, 172, 27, 42, 180, 0, 48, 180, 0, 241, 161, 0, 6]
abbrev dktX1_went_1 : List UInt8 := dkwX1_went_1 ++ dktX1_went_2
def dkwX1_went_0 : List UInt8 := [27, 2, 161, 0, 12, 28, 3, 6, 184, 0, 107, 154, 0, 5, 2, 172, 27, 156, 0, 19, 28, 154, 0, 13]
abbrev dktX1_went_0 : List UInt8 := dkwX1_went_0 ++ dktX1_went_1
theorem dksX1_went_0 : cX1_went.data.toList.drop 0 = dktX1_went_0 := by decide +kernel
theorem dksX1_went_1 : cX1_went.data.toList.drop 24 = dktX1_went_1 := dk_seg dksX1_went_0 24 rfl rfl
theorem dksX1_went_2 : cX1_went.data.toList.drop 47 = dktX1_went_2 := dk_seg dksX1_went_1 23 rfl rfl
theorem dksX1_went_3 : cX1_went.data.toList.drop 69 = dktX1_went_3 := dk_seg dksX1_went_2 22 rfl rfl
theorem dksX1_went_4 : cX1_went.data.toList.drop 93 = dktX1_went_4 := dk_seg dksX1_went_3 24 rfl rfl
theorem dX1_went_0 : decode cX1_went 0 = .ok (.iload_n 1, 1) := dk_27 (dk_at dksX1_went_0 0 rfl rfl)
theorem dX1_went_1 : decode cX1_went 1 = .ok (.iconst (-1), 1) := dk_2 (dk_at dksX1_went_0 1 rfl rfl)
theorem dX1_went_2 : decode cX1_went 2 = .ok (.if_icmp .lt 12, 3) := dk_161 0 12 (dk_at dksX1_went_0 2 rfl rfl)
theorem dX1_went_5 : decode cX1_went 5 = .ok (.iload_n 2, 1) := dk_28 (dk_at dksX1_went_0 5 rfl rfl)
theorem dX1_went_6 : decode cX1_went 6 = .ok (.iconst 0, 1) := dk_3 (dk_at dksX1_went_0 6 rfl rfl)
theorem dX1_went_7 : decode cX1_went 7 = .ok (.iconst 3, 1) := dk_6 (dk_at dksX1_went_0 7 rfl rfl)
theorem dX1_went_8 : decode cX1_went 8 = .ok (.invokestatic 107, 3) := dk_184 0 107 (dk_at dksX1_went_0 8 rfl rfl)
theorem dX1_went_11 : decode cX1_went 11 = .ok (.ifCond .ne 5, 3) := dk_154 0 5 (dk_at dksX1_went_0 11 rfl rfl)
theorem dX1_went_14 : decode cX1_went 14 = .ok (.iconst (-1), 1) := dk_2 (dk_at dksX1_went_0 14 rfl rfl)
theorem dX1_went_15 : decode cX1_went 15 = .ok (.ireturn, 1) := dk_172 (dk_at dksX1_went_0 15 rfl rfl)
theorem dX1_went_16 : decode cX1_went 16 = .ok (.iload_n 1, 1) := dk_27 (dk_at dksX1_went_0 16 rfl rfl)
theorem dX1_went_17 : decode cX1_went 17 = .ok (.ifCond .ge 19, 3) := dk_156 0 19 (dk_at dksX1_went_0 17 rfl rfl)
theorem dX1_went_20 : decode cX1_went 20 = .ok (.iload_n 2, 1) := dk_28 (dk_at dksX1_went_0 20 rfl rfl)
theorem dX1_went_21 : decode cX1_went 21 = .ok (.ifCond .ne 13, 3) := dk_154 0 13 (dk_at dksX1_went_0 21 rfl rfl)
theorem dX1_went_24 : decode cX1_went 24 = .ok (.aload_n 0, 1) := dk_42 (dk_at dksX1_went_1 0 rfl rfl)
theorem dX1_went_25 : decode cX1_went 25 = .ok (.getfield 48, 3) := dk_180 0 48 (dk_at dksX1_went_1 1 rfl rfl)
theorem dX1_went_28 : decode cX1_went 28 = .ok (.getfield 241, 3) := dk_180 0 241 (dk_at dksX1_went_1 4 rfl rfl)
theorem dX1_went_31 : decode cX1_went 31 = .ok (.goto 4, 3) := dk_167 0 4 (dk_at dksX1_went_1 7 rfl rfl)
theorem dX1_went_34 : decode cX1_went 34 = .ok (.iconst (-1), 1) := dk_2 (dk_at dksX1_went_1 10 rfl rfl)
theorem dX1_went_35 : decode cX1_went 35 = .ok (.ireturn, 1) := dk_172 (dk_at dksX1_went_1 11 rfl rfl)
theorem dX1_went_36 : decode cX1_went 36 = .ok (.iload_n 1, 1) := dk_27 (dk_at dksX1_went_1 12 rfl rfl)
theorem dX1_went_37 : decode cX1_went 37 = .ok (.aload_n 0, 1) := dk_42 (dk_at dksX1_went_1 13 rfl rfl)
theorem dX1_went_38 : decode cX1_went 38 = .ok (.getfield 48, 3) := dk_180 0 48 (dk_at dksX1_went_1 14 rfl rfl)
theorem dX1_went_41 : decode cX1_went 41 = .ok (.getfield 241, 3) := dk_180 0 241 (dk_at dksX1_went_1 17 rfl rfl)
theorem dX1_went_44 : decode cX1_went 44 = .ok (.if_icmp .lt 6, 3) := dk_161 0 6 (dk_at dksX1_went_1 20 rfl rfl)
theorem dX1_went_47 : decode cX1_went 47 = .ok (.bipush (-2), 2) := dk_16 254 (dk_at dksX1_went_2 0 rfl rfl)
theorem dX1_went_49 : decode cX1_went 49 = .ok (.ireturn, 1) := dk_172 (dk_at dksX1_went_2 2 rfl rfl)
theorem dX1_went_50 : decode cX1_went 50 = .ok (.aload_n 0, 1) := dk_42 (dk_at dksX1_went_2 3 rfl rfl)
theorem dX1_went_51 : decode cX1_went 51 = .ok (.getfield 48, 3) := dk_180 0 48 (dk_at dksX1_went_2 4 rfl rfl)
theorem dX1_went_54 : decode cX1_went 54 = .ok (.getfield 244, 3) := dk_180 0 244 (dk_at dksX1_went_2 7 rfl rfl)
theorem dX1_went_57 : decode cX1_went 57 = .ok (.iload_n 1, 1) := dk_27 (dk_at dksX1_went_2 10 rfl rfl)
theorem dX1_went_58 : decode cX1_went 58 = .ok (.iaload, 1) := dk_46 (dk_at dksX1_went_2 11 rfl rfl)
theorem dX1_went_59 : decode cX1_went 59 = .ok (.istore_n 3, 1) := dk_62 (dk_at dksX1_went_2 12 rfl rfl)
theorem dX1_went_60 : decode cX1_went 60 = .ok (.iload_n 2, 1) := dk_28 (dk_at dksX1_went_2 13 rfl rfl)
theorem dX1_went_61 : decode cX1_went 61 = .ok (.ifCond .ne 11, 3) := dk_154 0 11 (dk_at dksX1_went_2 14 rfl rfl)
theorem dX1_went_64 : decode cX1_went 64 = .ok (.iload_n 3, 1) := dk_29 (dk_at dksX1_went_2 17 rfl rfl)
theorem dX1_went_65 : decode cX1_went 65 = .ok (.sipush 256, 3) := dk_17 1 0 (dk_at dksX1_went_2 18 rfl rfl)
theorem dX1_went_68 : decode cX1_went 68 = .ok (.idiv, 1) := dk_108 (dk_at dksX1_went_2 21 rfl rfl)
theorem dX1_went_69 : decode cX1_went 69 = .ok (.goto 35, 3) := dk_167 0 35 (dk_at dksX1_went_3 0 rfl rfl)
theorem dX1_went_72 : decode cX1_went 72 = .ok (.iload_n 2, 1) := dk_28 (dk_at dksX1_went_3 3 rfl rfl)
theorem dX1_went_73 : decode cX1_went 73 = .ok (.iconst 1, 1) := dk_4 (dk_at dksX1_went_3 4 rfl rfl)
theorem dX1_went_74 : decode cX1_went 74 = .ok (.if_icmp .ne 13, 3) := dk_160 0 13 (dk_at dksX1_went_3 5 rfl rfl)
theorem dX1_went_77 : decode cX1_went 77 = .ok (.iload_n 3, 1) := dk_29 (dk_at dksX1_went_3 8 rfl rfl)
theorem dX1_went_78 : decode cX1_went 78 = .ok (.bipush 32, 2) := dk_16 32 (dk_at dksX1_went_3 9 rfl rfl)
theorem dX1_went_80 : decode cX1_went 80 = .ok (.idiv, 1) := dk_108 (dk_at dksX1_went_3 11 rfl rfl)
theorem dX1_went_81 : decode cX1_went 81 = .ok (.bipush 8, 2) := dk_16 8 (dk_at dksX1_went_3 12 rfl rfl)
theorem dX1_went_83 : decode cX1_went 83 = .ok (.irem, 1) := dk_112 (dk_at dksX1_went_3 14 rfl rfl)
theorem dX1_went_84 : decode cX1_went 84 = .ok (.goto 20, 3) := dk_167 0 20 (dk_at dksX1_went_3 15 rfl rfl)
theorem dX1_went_87 : decode cX1_went 87 = .ok (.iload_n 2, 1) := dk_28 (dk_at dksX1_went_3 18 rfl rfl)
theorem dX1_went_88 : decode cX1_went 88 = .ok (.iconst 2, 1) := dk_5 (dk_at dksX1_went_3 19 rfl rfl)
theorem dX1_went_89 : decode cX1_went 89 = .ok (.if_icmp .ne 12, 3) := dk_160 0 12 (dk_at dksX1_went_3 20 rfl rfl)
theorem dX1_went_92 : decode cX1_went 92 = .ok (.iload_n 3, 1) := dk_29 (dk_at dksX1_went_3 23 rfl rfl)
theorem dX1_went_93 : decode cX1_went 93 = .ok (.iconst 4, 1) := dk_7 (dk_at dksX1_went_4 0 rfl rfl)
theorem dX1_went_94 : decode cX1_went 94 = .ok (.idiv, 1) := dk_108 (dk_at dksX1_went_4 1 rfl rfl)
theorem dX1_went_95 : decode cX1_went 95 = .ok (.bipush 8, 2) := dk_16 8 (dk_at dksX1_went_4 2 rfl rfl)
theorem dX1_went_97 : decode cX1_went 97 = .ok (.irem, 1) := dk_112 (dk_at dksX1_went_4 4 rfl rfl)
theorem dX1_went_98 : decode cX1_went 98 = .ok (.goto 6, 3) := dk_167 0 6 (dk_at dksX1_went_4 5 rfl rfl)
theorem dX1_went_101 : decode cX1_went 101 = .ok (.iload_n 3, 1) := dk_29 (dk_at dksX1_went_4 8 rfl rfl)
theorem dX1_went_102 : decode cX1_went 102 = .ok (.iconst 4, 1) := dk_7 (dk_at dksX1_went_4 9 rfl rfl)
theorem dX1_went_103 : decode cX1_went 103 = .ok (.irem, 1) := dk_112 (dk_at dksX1_went_4 10 rfl rfl)
theorem dX1_went_104 : decode cX1_went 104 = .ok (.ireturn, 1) := dk_172 (dk_at dksX1_went_4 11 rfl rfl)
abbrev cX1_answer : ByteArray := prog_1_method_19_code
def yX1_answer : MethodName := ⟨RX1, "answer", "(I)I"⟩
def dkwX1_answer_1 : List UInt8 := [180, 0, 250, 27, 46, 167, 0, 4, 2, 172]
abbrev dktX1_answer_1 : List UInt8 := dkwX1_answer_1 ++ []
def dkwX1_answer_0 : List UInt8 := [27, 3, 42, 180, 0, 22, 180, 0, 247, 182, 0, 160, 4, 100, 184, 0, 107, 153, 0, 15, 42, 180, 0, 48]
abbrev dktX1_answer_0 : List UInt8 := dkwX1_answer_0 ++ dktX1_answer_1
theorem dksX1_answer_0 : cX1_answer.data.toList.drop 0 = dktX1_answer_0 := by decide +kernel
theorem dksX1_answer_1 : cX1_answer.data.toList.drop 24 = dktX1_answer_1 := dk_seg dksX1_answer_0 24 rfl rfl
theorem dX1_answer_0 : decode cX1_answer 0 = .ok (.iload_n 1, 1) := dk_27 (dk_at dksX1_answer_0 0 rfl rfl)
theorem dX1_answer_1 : decode cX1_answer 1 = .ok (.iconst 0, 1) := dk_3 (dk_at dksX1_answer_0 1 rfl rfl)
theorem dX1_answer_2 : decode cX1_answer 2 = .ok (.aload_n 0, 1) := dk_42 (dk_at dksX1_answer_0 2 rfl rfl)
theorem dX1_answer_3 : decode cX1_answer 3 = .ok (.getfield 22, 3) := dk_180 0 22 (dk_at dksX1_answer_0 3 rfl rfl)
theorem dX1_answer_6 : decode cX1_answer 6 = .ok (.getfield 247, 3) := dk_180 0 247 (dk_at dksX1_answer_0 6 rfl rfl)
theorem dX1_answer_9 : decode cX1_answer 9 = .ok (.invokevirtual 160, 3) := dk_182 0 160 (dk_at dksX1_answer_0 9 rfl rfl)
theorem dX1_answer_12 : decode cX1_answer 12 = .ok (.iconst 1, 1) := dk_4 (dk_at dksX1_answer_0 12 rfl rfl)
theorem dX1_answer_13 : decode cX1_answer 13 = .ok (.isub, 1) := dk_100 (dk_at dksX1_answer_0 13 rfl rfl)
theorem dX1_answer_14 : decode cX1_answer 14 = .ok (.invokestatic 107, 3) := dk_184 0 107 (dk_at dksX1_answer_0 14 rfl rfl)
theorem dX1_answer_17 : decode cX1_answer 17 = .ok (.ifCond .eq 15, 3) := dk_153 0 15 (dk_at dksX1_answer_0 17 rfl rfl)
theorem dX1_answer_20 : decode cX1_answer 20 = .ok (.aload_n 0, 1) := dk_42 (dk_at dksX1_answer_0 20 rfl rfl)
theorem dX1_answer_21 : decode cX1_answer 21 = .ok (.getfield 48, 3) := dk_180 0 48 (dk_at dksX1_answer_0 21 rfl rfl)
theorem dX1_answer_24 : decode cX1_answer 24 = .ok (.getfield 250, 3) := dk_180 0 250 (dk_at dksX1_answer_1 0 rfl rfl)
theorem dX1_answer_27 : decode cX1_answer 27 = .ok (.iload_n 1, 1) := dk_27 (dk_at dksX1_answer_1 3 rfl rfl)
theorem dX1_answer_28 : decode cX1_answer 28 = .ok (.iaload, 1) := dk_46 (dk_at dksX1_answer_1 4 rfl rfl)
theorem dX1_answer_29 : decode cX1_answer 29 = .ok (.goto 4, 3) := dk_167 0 4 (dk_at dksX1_answer_1 5 rfl rfl)
theorem dX1_answer_32 : decode cX1_answer 32 = .ok (.iconst (-1), 1) := dk_2 (dk_at dksX1_answer_1 8 rfl rfl)
theorem dX1_answer_33 : decode cX1_answer 33 = .ok (.ireturn, 1) := dk_172 (dk_at dksX1_answer_1 9 rfl rfl)
abbrev cX1_best : ByteArray := prog_1_method_33_code
def yX1_best : MethodName := ⟨RX1, "best", "(I)I"⟩
def dkwX1_best_1 : List UInt8 := [184, 1, 32, 46, 172]
abbrev dktX1_best_1 : List UInt8 := dkwX1_best_1 ++ []
def dkwX1_best_0 : List UInt8 := [42, 27, 182, 0, 198, 154, 0, 5, 2, 172, 42, 27, 182, 1, 73, 42, 180, 0, 71, 3, 3, 3]
abbrev dktX1_best_0 : List UInt8 := dkwX1_best_0 ++ dktX1_best_1
theorem dksX1_best_0 : cX1_best.data.toList.drop 0 = dktX1_best_0 := by decide +kernel
theorem dksX1_best_1 : cX1_best.data.toList.drop 22 = dktX1_best_1 := dk_seg dksX1_best_0 22 rfl rfl
theorem dX1_best_0 : decode cX1_best 0 = .ok (.aload_n 0, 1) := dk_42 (dk_at dksX1_best_0 0 rfl rfl)
theorem dX1_best_1 : decode cX1_best 1 = .ok (.iload_n 1, 1) := dk_27 (dk_at dksX1_best_0 1 rfl rfl)
theorem dX1_best_2 : decode cX1_best 2 = .ok (.invokevirtual 198, 3) := dk_182 0 198 (dk_at dksX1_best_0 2 rfl rfl)
theorem dX1_best_5 : decode cX1_best 5 = .ok (.ifCond .ne 5, 3) := dk_154 0 5 (dk_at dksX1_best_0 5 rfl rfl)
theorem dX1_best_8 : decode cX1_best 8 = .ok (.iconst (-1), 1) := dk_2 (dk_at dksX1_best_0 8 rfl rfl)
theorem dX1_best_9 : decode cX1_best 9 = .ok (.ireturn, 1) := dk_172 (dk_at dksX1_best_0 9 rfl rfl)
theorem dX1_best_10 : decode cX1_best 10 = .ok (.aload_n 0, 1) := dk_42 (dk_at dksX1_best_0 10 rfl rfl)
theorem dX1_best_11 : decode cX1_best 11 = .ok (.iload_n 1, 1) := dk_27 (dk_at dksX1_best_0 11 rfl rfl)
theorem dX1_best_12 : decode cX1_best 12 = .ok (.invokevirtual 329, 3) := dk_182 1 73 (dk_at dksX1_best_0 12 rfl rfl)
theorem dX1_best_15 : decode cX1_best 15 = .ok (.aload_n 0, 1) := dk_42 (dk_at dksX1_best_0 15 rfl rfl)
theorem dX1_best_16 : decode cX1_best 16 = .ok (.getfield 71, 3) := dk_180 0 71 (dk_at dksX1_best_0 16 rfl rfl)
theorem dX1_best_19 : decode cX1_best 19 = .ok (.iconst 0, 1) := dk_3 (dk_at dksX1_best_0 19 rfl rfl)
theorem dX1_best_20 : decode cX1_best 20 = .ok (.iconst 0, 1) := dk_3 (dk_at dksX1_best_0 20 rfl rfl)
theorem dX1_best_21 : decode cX1_best 21 = .ok (.iconst 0, 1) := dk_3 (dk_at dksX1_best_0 21 rfl rfl)
theorem dX1_best_22 : decode cX1_best 22 = .ok (.invokestatic 288, 3) := dk_184 1 32 (dk_at dksX1_best_1 0 rfl rfl)
theorem dX1_best_25 : decode cX1_best 25 = .ok (.iaload, 1) := dk_46 (dk_at dksX1_best_1 3 rfl rfl)
theorem dX1_best_26 : decode cX1_best 26 = .ok (.ireturn, 1) := dk_172 (dk_at dksX1_best_1 4 rfl rfl)
abbrev cX1_layBest : ByteArray := prog_1_method_32_code
def yX1_layBest : MethodName := ⟨RX1, "layBest", "(I)V"⟩
def dkwX1_layBest_0 : List UInt8 := [42, 27, 182, 1, 63, 42, 4, 182, 1, 66, 42, 27, 182, 1, 70, 177]
abbrev dktX1_layBest_0 : List UInt8 := dkwX1_layBest_0 ++ []
theorem dksX1_layBest_0 : cX1_layBest.data.toList.drop 0 = dktX1_layBest_0 := by decide +kernel
theorem dX1_layBest_0 : decode cX1_layBest 0 = .ok (.aload_n 0, 1) := dk_42 (dk_at dksX1_layBest_0 0 rfl rfl)
theorem dX1_layBest_1 : decode cX1_layBest 1 = .ok (.iload_n 1, 1) := dk_27 (dk_at dksX1_layBest_0 1 rfl rfl)
theorem dX1_layBest_2 : decode cX1_layBest 2 = .ok (.invokevirtual 319, 3) := dk_182 1 63 (dk_at dksX1_layBest_0 2 rfl rfl)
theorem dX1_layBest_5 : decode cX1_layBest 5 = .ok (.aload_n 0, 1) := dk_42 (dk_at dksX1_layBest_0 5 rfl rfl)
theorem dX1_layBest_6 : decode cX1_layBest 6 = .ok (.iconst 1, 1) := dk_4 (dk_at dksX1_layBest_0 6 rfl rfl)
theorem dX1_layBest_7 : decode cX1_layBest 7 = .ok (.invokevirtual 322, 3) := dk_182 1 66 (dk_at dksX1_layBest_0 7 rfl rfl)
theorem dX1_layBest_10 : decode cX1_layBest 10 = .ok (.aload_n 0, 1) := dk_42 (dk_at dksX1_layBest_0 10 rfl rfl)
theorem dX1_layBest_11 : decode cX1_layBest 11 = .ok (.iload_n 1, 1) := dk_27 (dk_at dksX1_layBest_0 11 rfl rfl)
theorem dX1_layBest_12 : decode cX1_layBest 12 = .ok (.invokevirtual 326, 3) := dk_182 1 70 (dk_at dksX1_layBest_0 12 rfl rfl)
theorem dX1_layBest_15 : decode cX1_layBest 15 = .ok (.return_, 1) := dk_177 (dk_at dksX1_layBest_0 15 rfl rfl)
abbrev cX1_layPoints : ByteArray := prog_1_method_21_code
def yX1_layPoints : MethodName := ⟨RX1, "layPoints", "(I)V"⟩
def dkwX1_layPoints_7 : List UInt8 := [167, 255, 98, 177]
abbrev dktX1_layPoints_7 : List UInt8 := dkwX1_layPoints_7 ++ []
def dkwX1_layPoints_6 : List UInt8 := [180, 1, 19, 27, 160, 0, 10, 42, 5, 29, 28, 182, 1, 9, 132, 3, 1, 167, 255, 190, 132, 2, 1]
abbrev dktX1_layPoints_6 : List UInt8 := dkwX1_layPoints_6 ++ dktX1_layPoints_7
def dkwX1_layPoints_5 : List UInt8 := [192, 1, 16, 180, 1, 18, 28, 160, 0, 31, 42, 180, 0, 22, 180, 0, 247, 29, 182, 0, 171, 192, 1, 16]
abbrev dktX1_layPoints_5 : List UInt8 := dkwX1_layPoints_5 ++ dktX1_layPoints_6
def dkwX1_layPoints_4 : List UInt8 := [180, 0, 22, 180, 0, 247, 182, 0, 160, 162, 0, 58, 42, 180, 0, 22, 180, 0, 247, 29, 182, 0, 171]
abbrev dktX1_layPoints_4 : List UInt8 := dkwX1_layPoints_4 ++ dktX1_layPoints_5
def dkwX1_layPoints_3 : List UInt8 := [180, 1, 14, 27, 160, 0, 10, 42, 4, 29, 28, 182, 1, 9, 132, 3, 1, 167, 255, 190, 3, 62, 29, 42]
abbrev dktX1_layPoints_3 : List UInt8 := dkwX1_layPoints_3 ++ dktX1_layPoints_4
def dkwX1_layPoints_2 : List UInt8 := [192, 1, 3, 180, 1, 13, 28, 160, 0, 31, 42, 180, 0, 22, 180, 1, 0, 29, 182, 0, 171, 192, 1, 3]
abbrev dktX1_layPoints_2 : List UInt8 := dkwX1_layPoints_2 ++ dktX1_layPoints_3
def dkwX1_layPoints_1 : List UInt8 := [180, 0, 22, 180, 1, 0, 182, 0, 160, 162, 0, 58, 42, 180, 0, 22, 180, 1, 0, 29, 182, 0, 171]
abbrev dktX1_layPoints_1 : List UInt8 := dkwX1_layPoints_1 ++ dktX1_layPoints_2
def dkwX1_layPoints_0 : List UInt8 := [42, 3, 181, 0, 253, 3, 61, 28, 16, 61, 162, 0, 158, 42, 3, 3, 28, 182, 1, 9, 3, 62, 29, 42]
abbrev dktX1_layPoints_0 : List UInt8 := dkwX1_layPoints_0 ++ dktX1_layPoints_1
theorem dksX1_layPoints_0 : cX1_layPoints.data.toList.drop 0 = dktX1_layPoints_0 := by decide +kernel
theorem dksX1_layPoints_1 : cX1_layPoints.data.toList.drop 24 = dktX1_layPoints_1 := dk_seg dksX1_layPoints_0 24 rfl rfl
theorem dksX1_layPoints_2 : cX1_layPoints.data.toList.drop 47 = dktX1_layPoints_2 := dk_seg dksX1_layPoints_1 23 rfl rfl
theorem dksX1_layPoints_3 : cX1_layPoints.data.toList.drop 71 = dktX1_layPoints_3 := dk_seg dksX1_layPoints_2 24 rfl rfl
theorem dksX1_layPoints_4 : cX1_layPoints.data.toList.drop 95 = dktX1_layPoints_4 := dk_seg dksX1_layPoints_3 24 rfl rfl
theorem dksX1_layPoints_5 : cX1_layPoints.data.toList.drop 118 = dktX1_layPoints_5 := dk_seg dksX1_layPoints_4 23 rfl rfl
theorem dksX1_layPoints_6 : cX1_layPoints.data.toList.drop 142 = dktX1_layPoints_6 := dk_seg dksX1_layPoints_5 24 rfl rfl
theorem dksX1_layPoints_7 : cX1_layPoints.data.toList.drop 165 = dktX1_layPoints_7 := dk_seg dksX1_layPoints_6 23 rfl rfl
theorem dX1_layPoints_0 : decode cX1_layPoints 0 = .ok (.aload_n 0, 1) := dk_42 (dk_at dksX1_layPoints_0 0 rfl rfl)
theorem dX1_layPoints_1 : decode cX1_layPoints 1 = .ok (.iconst 0, 1) := dk_3 (dk_at dksX1_layPoints_0 1 rfl rfl)
theorem dX1_layPoints_2 : decode cX1_layPoints 2 = .ok (.putfield 253, 3) := dk_181 0 253 (dk_at dksX1_layPoints_0 2 rfl rfl)
theorem dX1_layPoints_5 : decode cX1_layPoints 5 = .ok (.iconst 0, 1) := dk_3 (dk_at dksX1_layPoints_0 5 rfl rfl)
theorem dX1_layPoints_6 : decode cX1_layPoints 6 = .ok (.istore_n 2, 1) := dk_61 (dk_at dksX1_layPoints_0 6 rfl rfl)
theorem dX1_layPoints_7 : decode cX1_layPoints 7 = .ok (.iload_n 2, 1) := dk_28 (dk_at dksX1_layPoints_0 7 rfl rfl)
theorem dX1_layPoints_8 : decode cX1_layPoints 8 = .ok (.bipush 61, 2) := dk_16 61 (dk_at dksX1_layPoints_0 8 rfl rfl)
theorem dX1_layPoints_10 : decode cX1_layPoints 10 = .ok (.if_icmp .ge 158, 3) := dk_162 0 158 (dk_at dksX1_layPoints_0 10 rfl rfl)
theorem dX1_layPoints_13 : decode cX1_layPoints 13 = .ok (.aload_n 0, 1) := dk_42 (dk_at dksX1_layPoints_0 13 rfl rfl)
theorem dX1_layPoints_14 : decode cX1_layPoints 14 = .ok (.iconst 0, 1) := dk_3 (dk_at dksX1_layPoints_0 14 rfl rfl)
theorem dX1_layPoints_15 : decode cX1_layPoints 15 = .ok (.iconst 0, 1) := dk_3 (dk_at dksX1_layPoints_0 15 rfl rfl)
theorem dX1_layPoints_16 : decode cX1_layPoints 16 = .ok (.iload_n 2, 1) := dk_28 (dk_at dksX1_layPoints_0 16 rfl rfl)
theorem dX1_layPoints_17 : decode cX1_layPoints 17 = .ok (.invokevirtual 265, 3) := dk_182 1 9 (dk_at dksX1_layPoints_0 17 rfl rfl)
theorem dX1_layPoints_20 : decode cX1_layPoints 20 = .ok (.iconst 0, 1) := dk_3 (dk_at dksX1_layPoints_0 20 rfl rfl)
theorem dX1_layPoints_21 : decode cX1_layPoints 21 = .ok (.istore_n 3, 1) := dk_62 (dk_at dksX1_layPoints_0 21 rfl rfl)
theorem dX1_layPoints_22 : decode cX1_layPoints 22 = .ok (.iload_n 3, 1) := dk_29 (dk_at dksX1_layPoints_0 22 rfl rfl)
theorem dX1_layPoints_23 : decode cX1_layPoints 23 = .ok (.aload_n 0, 1) := dk_42 (dk_at dksX1_layPoints_0 23 rfl rfl)
theorem dX1_layPoints_24 : decode cX1_layPoints 24 = .ok (.getfield 22, 3) := dk_180 0 22 (dk_at dksX1_layPoints_1 0 rfl rfl)
theorem dX1_layPoints_27 : decode cX1_layPoints 27 = .ok (.getfield 256, 3) := dk_180 1 0 (dk_at dksX1_layPoints_1 3 rfl rfl)
theorem dX1_layPoints_30 : decode cX1_layPoints 30 = .ok (.invokevirtual 160, 3) := dk_182 0 160 (dk_at dksX1_layPoints_1 6 rfl rfl)
theorem dX1_layPoints_33 : decode cX1_layPoints 33 = .ok (.if_icmp .ge 58, 3) := dk_162 0 58 (dk_at dksX1_layPoints_1 9 rfl rfl)
theorem dX1_layPoints_36 : decode cX1_layPoints 36 = .ok (.aload_n 0, 1) := dk_42 (dk_at dksX1_layPoints_1 12 rfl rfl)
theorem dX1_layPoints_37 : decode cX1_layPoints 37 = .ok (.getfield 22, 3) := dk_180 0 22 (dk_at dksX1_layPoints_1 13 rfl rfl)
theorem dX1_layPoints_40 : decode cX1_layPoints 40 = .ok (.getfield 256, 3) := dk_180 1 0 (dk_at dksX1_layPoints_1 16 rfl rfl)
theorem dX1_layPoints_43 : decode cX1_layPoints 43 = .ok (.iload_n 3, 1) := dk_29 (dk_at dksX1_layPoints_1 19 rfl rfl)
theorem dX1_layPoints_44 : decode cX1_layPoints 44 = .ok (.invokevirtual 171, 3) := dk_182 0 171 (dk_at dksX1_layPoints_1 20 rfl rfl)
theorem dX1_layPoints_47 : decode cX1_layPoints 47 = .ok (.checkcast 259, 3) := dk_192 1 3 (dk_at dksX1_layPoints_2 0 rfl rfl)
theorem dX1_layPoints_50 : decode cX1_layPoints 50 = .ok (.getfield 269, 3) := dk_180 1 13 (dk_at dksX1_layPoints_2 3 rfl rfl)
theorem dX1_layPoints_53 : decode cX1_layPoints 53 = .ok (.iload_n 2, 1) := dk_28 (dk_at dksX1_layPoints_2 6 rfl rfl)
theorem dX1_layPoints_54 : decode cX1_layPoints 54 = .ok (.if_icmp .ne 31, 3) := dk_160 0 31 (dk_at dksX1_layPoints_2 7 rfl rfl)
theorem dX1_layPoints_57 : decode cX1_layPoints 57 = .ok (.aload_n 0, 1) := dk_42 (dk_at dksX1_layPoints_2 10 rfl rfl)
theorem dX1_layPoints_58 : decode cX1_layPoints 58 = .ok (.getfield 22, 3) := dk_180 0 22 (dk_at dksX1_layPoints_2 11 rfl rfl)
theorem dX1_layPoints_61 : decode cX1_layPoints 61 = .ok (.getfield 256, 3) := dk_180 1 0 (dk_at dksX1_layPoints_2 14 rfl rfl)
theorem dX1_layPoints_64 : decode cX1_layPoints 64 = .ok (.iload_n 3, 1) := dk_29 (dk_at dksX1_layPoints_2 17 rfl rfl)
theorem dX1_layPoints_65 : decode cX1_layPoints 65 = .ok (.invokevirtual 171, 3) := dk_182 0 171 (dk_at dksX1_layPoints_2 18 rfl rfl)
theorem dX1_layPoints_68 : decode cX1_layPoints 68 = .ok (.checkcast 259, 3) := dk_192 1 3 (dk_at dksX1_layPoints_2 21 rfl rfl)
theorem dX1_layPoints_71 : decode cX1_layPoints 71 = .ok (.getfield 270, 3) := dk_180 1 14 (dk_at dksX1_layPoints_3 0 rfl rfl)
theorem dX1_layPoints_74 : decode cX1_layPoints 74 = .ok (.iload_n 1, 1) := dk_27 (dk_at dksX1_layPoints_3 3 rfl rfl)
theorem dX1_layPoints_75 : decode cX1_layPoints 75 = .ok (.if_icmp .ne 10, 3) := dk_160 0 10 (dk_at dksX1_layPoints_3 4 rfl rfl)
theorem dX1_layPoints_78 : decode cX1_layPoints 78 = .ok (.aload_n 0, 1) := dk_42 (dk_at dksX1_layPoints_3 7 rfl rfl)
theorem dX1_layPoints_79 : decode cX1_layPoints 79 = .ok (.iconst 1, 1) := dk_4 (dk_at dksX1_layPoints_3 8 rfl rfl)
theorem dX1_layPoints_80 : decode cX1_layPoints 80 = .ok (.iload_n 3, 1) := dk_29 (dk_at dksX1_layPoints_3 9 rfl rfl)
theorem dX1_layPoints_81 : decode cX1_layPoints 81 = .ok (.iload_n 2, 1) := dk_28 (dk_at dksX1_layPoints_3 10 rfl rfl)
theorem dX1_layPoints_82 : decode cX1_layPoints 82 = .ok (.invokevirtual 265, 3) := dk_182 1 9 (dk_at dksX1_layPoints_3 11 rfl rfl)
theorem dX1_layPoints_85 : decode cX1_layPoints 85 = .ok (.iinc 3 1, 3) := dk_132 3 1 (dk_at dksX1_layPoints_3 14 rfl rfl)
theorem dX1_layPoints_88 : decode cX1_layPoints 88 = .ok (.goto (-66), 3) := dk_167 255 190 (dk_at dksX1_layPoints_3 17 rfl rfl)
theorem dX1_layPoints_91 : decode cX1_layPoints 91 = .ok (.iconst 0, 1) := dk_3 (dk_at dksX1_layPoints_3 20 rfl rfl)
theorem dX1_layPoints_92 : decode cX1_layPoints 92 = .ok (.istore_n 3, 1) := dk_62 (dk_at dksX1_layPoints_3 21 rfl rfl)
theorem dX1_layPoints_93 : decode cX1_layPoints 93 = .ok (.iload_n 3, 1) := dk_29 (dk_at dksX1_layPoints_3 22 rfl rfl)
theorem dX1_layPoints_94 : decode cX1_layPoints 94 = .ok (.aload_n 0, 1) := dk_42 (dk_at dksX1_layPoints_3 23 rfl rfl)
theorem dX1_layPoints_95 : decode cX1_layPoints 95 = .ok (.getfield 22, 3) := dk_180 0 22 (dk_at dksX1_layPoints_4 0 rfl rfl)
theorem dX1_layPoints_98 : decode cX1_layPoints 98 = .ok (.getfield 247, 3) := dk_180 0 247 (dk_at dksX1_layPoints_4 3 rfl rfl)
theorem dX1_layPoints_101 : decode cX1_layPoints 101 = .ok (.invokevirtual 160, 3) := dk_182 0 160 (dk_at dksX1_layPoints_4 6 rfl rfl)
theorem dX1_layPoints_104 : decode cX1_layPoints 104 = .ok (.if_icmp .ge 58, 3) := dk_162 0 58 (dk_at dksX1_layPoints_4 9 rfl rfl)
theorem dX1_layPoints_107 : decode cX1_layPoints 107 = .ok (.aload_n 0, 1) := dk_42 (dk_at dksX1_layPoints_4 12 rfl rfl)
theorem dX1_layPoints_108 : decode cX1_layPoints 108 = .ok (.getfield 22, 3) := dk_180 0 22 (dk_at dksX1_layPoints_4 13 rfl rfl)
theorem dX1_layPoints_111 : decode cX1_layPoints 111 = .ok (.getfield 247, 3) := dk_180 0 247 (dk_at dksX1_layPoints_4 16 rfl rfl)
theorem dX1_layPoints_114 : decode cX1_layPoints 114 = .ok (.iload_n 3, 1) := dk_29 (dk_at dksX1_layPoints_4 19 rfl rfl)
theorem dX1_layPoints_115 : decode cX1_layPoints 115 = .ok (.invokevirtual 171, 3) := dk_182 0 171 (dk_at dksX1_layPoints_4 20 rfl rfl)
theorem dX1_layPoints_118 : decode cX1_layPoints 118 = .ok (.checkcast 272, 3) := dk_192 1 16 (dk_at dksX1_layPoints_5 0 rfl rfl)
theorem dX1_layPoints_121 : decode cX1_layPoints 121 = .ok (.getfield 274, 3) := dk_180 1 18 (dk_at dksX1_layPoints_5 3 rfl rfl)
theorem dX1_layPoints_124 : decode cX1_layPoints 124 = .ok (.iload_n 2, 1) := dk_28 (dk_at dksX1_layPoints_5 6 rfl rfl)
theorem dX1_layPoints_125 : decode cX1_layPoints 125 = .ok (.if_icmp .ne 31, 3) := dk_160 0 31 (dk_at dksX1_layPoints_5 7 rfl rfl)
theorem dX1_layPoints_128 : decode cX1_layPoints 128 = .ok (.aload_n 0, 1) := dk_42 (dk_at dksX1_layPoints_5 10 rfl rfl)
theorem dX1_layPoints_129 : decode cX1_layPoints 129 = .ok (.getfield 22, 3) := dk_180 0 22 (dk_at dksX1_layPoints_5 11 rfl rfl)
theorem dX1_layPoints_132 : decode cX1_layPoints 132 = .ok (.getfield 247, 3) := dk_180 0 247 (dk_at dksX1_layPoints_5 14 rfl rfl)
theorem dX1_layPoints_135 : decode cX1_layPoints 135 = .ok (.iload_n 3, 1) := dk_29 (dk_at dksX1_layPoints_5 17 rfl rfl)
theorem dX1_layPoints_136 : decode cX1_layPoints 136 = .ok (.invokevirtual 171, 3) := dk_182 0 171 (dk_at dksX1_layPoints_5 18 rfl rfl)
theorem dX1_layPoints_139 : decode cX1_layPoints 139 = .ok (.checkcast 272, 3) := dk_192 1 16 (dk_at dksX1_layPoints_5 21 rfl rfl)
theorem dX1_layPoints_142 : decode cX1_layPoints 142 = .ok (.getfield 275, 3) := dk_180 1 19 (dk_at dksX1_layPoints_6 0 rfl rfl)
theorem dX1_layPoints_145 : decode cX1_layPoints 145 = .ok (.iload_n 1, 1) := dk_27 (dk_at dksX1_layPoints_6 3 rfl rfl)
theorem dX1_layPoints_146 : decode cX1_layPoints 146 = .ok (.if_icmp .ne 10, 3) := dk_160 0 10 (dk_at dksX1_layPoints_6 4 rfl rfl)
theorem dX1_layPoints_149 : decode cX1_layPoints 149 = .ok (.aload_n 0, 1) := dk_42 (dk_at dksX1_layPoints_6 7 rfl rfl)
theorem dX1_layPoints_150 : decode cX1_layPoints 150 = .ok (.iconst 2, 1) := dk_5 (dk_at dksX1_layPoints_6 8 rfl rfl)
theorem dX1_layPoints_151 : decode cX1_layPoints 151 = .ok (.iload_n 3, 1) := dk_29 (dk_at dksX1_layPoints_6 9 rfl rfl)
theorem dX1_layPoints_152 : decode cX1_layPoints 152 = .ok (.iload_n 2, 1) := dk_28 (dk_at dksX1_layPoints_6 10 rfl rfl)
theorem dX1_layPoints_153 : decode cX1_layPoints 153 = .ok (.invokevirtual 265, 3) := dk_182 1 9 (dk_at dksX1_layPoints_6 11 rfl rfl)
theorem dX1_layPoints_156 : decode cX1_layPoints 156 = .ok (.iinc 3 1, 3) := dk_132 3 1 (dk_at dksX1_layPoints_6 14 rfl rfl)
theorem dX1_layPoints_159 : decode cX1_layPoints 159 = .ok (.goto (-66), 3) := dk_167 255 190 (dk_at dksX1_layPoints_6 17 rfl rfl)
theorem dX1_layPoints_162 : decode cX1_layPoints 162 = .ok (.iinc 2 1, 3) := dk_132 2 1 (dk_at dksX1_layPoints_6 20 rfl rfl)
theorem dX1_layPoints_165 : decode cX1_layPoints 165 = .ok (.goto (-158), 3) := dk_167 255 98 (dk_at dksX1_layPoints_7 0 rfl rfl)
theorem dX1_layPoints_168 : decode cX1_layPoints 168 = .ok (.return_, 1) := dk_177 (dk_at dksX1_layPoints_7 3 rfl rfl)
abbrev cX1_addPoint : ByteArray := prog_1_method_20_code
def yX1_addPoint : MethodName := ⟨RX1, "addPoint", "(III)V"⟩
def dkwX1_addPoint_7 : List UInt8 := [180, 0, 253, 4, 96, 181, 0, 253, 177]
abbrev dktX1_addPoint_7 : List UInt8 := dkwX1_addPoint_7 ++ []
def dkwX1_addPoint_6 : List UInt8 := [180, 0, 68, 16, 7, 42, 180, 0, 253, 104, 25, 4, 180, 1, 5, 96, 25, 4, 180, 1, 7, 79, 42, 89]
abbrev dktX1_addPoint_6 : List UInt8 := dkwX1_addPoint_6 ++ dktX1_addPoint_7
def dkwX1_addPoint_5 : List UInt8 := [180, 1, 0, 42, 180, 0, 62, 42, 180, 0, 253, 4, 100, 46, 182, 0, 171, 192, 1, 3, 58, 4, 42]
abbrev dktX1_addPoint_5 : List UInt8 := dkwX1_addPoint_5 ++ dktX1_addPoint_6
def dkwX1_addPoint_4 : List UInt8 := [158, 0, 67, 42, 180, 0, 58, 42, 180, 0, 253, 4, 100, 46, 4, 160, 0, 52, 42, 180, 0, 22]
abbrev dktX1_addPoint_4 : List UInt8 := dkwX1_addPoint_4 ++ dktX1_addPoint_5
def dkwX1_addPoint_3 : List UInt8 := [42, 180, 0, 253, 4, 100, 104, 21, 4, 96, 46, 79, 132, 4, 1, 167, 255, 203, 42, 180, 0, 253]
abbrev dktX1_addPoint_3 : List UInt8 := dkwX1_addPoint_3 ++ dktX1_addPoint_4
def dkwX1_addPoint_2 : List UInt8 := [180, 0, 253, 104, 21, 4, 96, 42, 180, 0, 253, 154, 0, 7, 2, 167, 0, 20, 42, 180, 0, 68, 16, 7]
abbrev dktX1_addPoint_2 : List UInt8 := dkwX1_addPoint_2 ++ dktX1_addPoint_3
def dkwX1_addPoint_1 : List UInt8 := [42, 180, 0, 253, 29, 79, 3, 54, 4, 21, 4, 16, 7, 162, 0, 52, 42, 180, 0, 68, 16, 7, 42]
abbrev dktX1_addPoint_1 : List UInt8 := dkwX1_addPoint_1 ++ dktX1_addPoint_2
def dkwX1_addPoint_0 : List UInt8 := [42, 180, 0, 58, 42, 180, 0, 253, 27, 79, 42, 180, 0, 62, 42, 180, 0, 253, 28, 79, 42, 180, 0, 65]
abbrev dktX1_addPoint_0 : List UInt8 := dkwX1_addPoint_0 ++ dktX1_addPoint_1
theorem dksX1_addPoint_0 : cX1_addPoint.data.toList.drop 0 = dktX1_addPoint_0 := by decide +kernel
theorem dksX1_addPoint_1 : cX1_addPoint.data.toList.drop 24 = dktX1_addPoint_1 := dk_seg dksX1_addPoint_0 24 rfl rfl
theorem dksX1_addPoint_2 : cX1_addPoint.data.toList.drop 47 = dktX1_addPoint_2 := dk_seg dksX1_addPoint_1 23 rfl rfl
theorem dksX1_addPoint_3 : cX1_addPoint.data.toList.drop 71 = dktX1_addPoint_3 := dk_seg dksX1_addPoint_2 24 rfl rfl
theorem dksX1_addPoint_4 : cX1_addPoint.data.toList.drop 93 = dktX1_addPoint_4 := dk_seg dksX1_addPoint_3 22 rfl rfl
theorem dksX1_addPoint_5 : cX1_addPoint.data.toList.drop 115 = dktX1_addPoint_5 := dk_seg dksX1_addPoint_4 22 rfl rfl
theorem dksX1_addPoint_6 : cX1_addPoint.data.toList.drop 138 = dktX1_addPoint_6 := dk_seg dksX1_addPoint_5 23 rfl rfl
theorem dksX1_addPoint_7 : cX1_addPoint.data.toList.drop 162 = dktX1_addPoint_7 := dk_seg dksX1_addPoint_6 24 rfl rfl
theorem dX1_addPoint_0 : decode cX1_addPoint 0 = .ok (.aload_n 0, 1) := dk_42 (dk_at dksX1_addPoint_0 0 rfl rfl)
theorem dX1_addPoint_1 : decode cX1_addPoint 1 = .ok (.getfield 58, 3) := dk_180 0 58 (dk_at dksX1_addPoint_0 1 rfl rfl)
theorem dX1_addPoint_4 : decode cX1_addPoint 4 = .ok (.aload_n 0, 1) := dk_42 (dk_at dksX1_addPoint_0 4 rfl rfl)
theorem dX1_addPoint_5 : decode cX1_addPoint 5 = .ok (.getfield 253, 3) := dk_180 0 253 (dk_at dksX1_addPoint_0 5 rfl rfl)
theorem dX1_addPoint_8 : decode cX1_addPoint 8 = .ok (.iload_n 1, 1) := dk_27 (dk_at dksX1_addPoint_0 8 rfl rfl)
theorem dX1_addPoint_9 : decode cX1_addPoint 9 = .ok (.iastore, 1) := dk_79 (dk_at dksX1_addPoint_0 9 rfl rfl)
theorem dX1_addPoint_10 : decode cX1_addPoint 10 = .ok (.aload_n 0, 1) := dk_42 (dk_at dksX1_addPoint_0 10 rfl rfl)
theorem dX1_addPoint_11 : decode cX1_addPoint 11 = .ok (.getfield 62, 3) := dk_180 0 62 (dk_at dksX1_addPoint_0 11 rfl rfl)
theorem dX1_addPoint_14 : decode cX1_addPoint 14 = .ok (.aload_n 0, 1) := dk_42 (dk_at dksX1_addPoint_0 14 rfl rfl)
theorem dX1_addPoint_15 : decode cX1_addPoint 15 = .ok (.getfield 253, 3) := dk_180 0 253 (dk_at dksX1_addPoint_0 15 rfl rfl)
theorem dX1_addPoint_18 : decode cX1_addPoint 18 = .ok (.iload_n 2, 1) := dk_28 (dk_at dksX1_addPoint_0 18 rfl rfl)
theorem dX1_addPoint_19 : decode cX1_addPoint 19 = .ok (.iastore, 1) := dk_79 (dk_at dksX1_addPoint_0 19 rfl rfl)
theorem dX1_addPoint_20 : decode cX1_addPoint 20 = .ok (.aload_n 0, 1) := dk_42 (dk_at dksX1_addPoint_0 20 rfl rfl)
theorem dX1_addPoint_21 : decode cX1_addPoint 21 = .ok (.getfield 65, 3) := dk_180 0 65 (dk_at dksX1_addPoint_0 21 rfl rfl)
theorem dX1_addPoint_24 : decode cX1_addPoint 24 = .ok (.aload_n 0, 1) := dk_42 (dk_at dksX1_addPoint_1 0 rfl rfl)
theorem dX1_addPoint_25 : decode cX1_addPoint 25 = .ok (.getfield 253, 3) := dk_180 0 253 (dk_at dksX1_addPoint_1 1 rfl rfl)
theorem dX1_addPoint_28 : decode cX1_addPoint 28 = .ok (.iload_n 3, 1) := dk_29 (dk_at dksX1_addPoint_1 4 rfl rfl)
theorem dX1_addPoint_29 : decode cX1_addPoint 29 = .ok (.iastore, 1) := dk_79 (dk_at dksX1_addPoint_1 5 rfl rfl)
theorem dX1_addPoint_30 : decode cX1_addPoint 30 = .ok (.iconst 0, 1) := dk_3 (dk_at dksX1_addPoint_1 6 rfl rfl)
theorem dX1_addPoint_31 : decode cX1_addPoint 31 = .ok (.istore 4, 2) := dk_54 4 (dk_at dksX1_addPoint_1 7 rfl rfl)
theorem dX1_addPoint_33 : decode cX1_addPoint 33 = .ok (.iload 4, 2) := dk_21 4 (dk_at dksX1_addPoint_1 9 rfl rfl)
theorem dX1_addPoint_35 : decode cX1_addPoint 35 = .ok (.bipush 7, 2) := dk_16 7 (dk_at dksX1_addPoint_1 11 rfl rfl)
theorem dX1_addPoint_37 : decode cX1_addPoint 37 = .ok (.if_icmp .ge 52, 3) := dk_162 0 52 (dk_at dksX1_addPoint_1 13 rfl rfl)
theorem dX1_addPoint_40 : decode cX1_addPoint 40 = .ok (.aload_n 0, 1) := dk_42 (dk_at dksX1_addPoint_1 16 rfl rfl)
theorem dX1_addPoint_41 : decode cX1_addPoint 41 = .ok (.getfield 68, 3) := dk_180 0 68 (dk_at dksX1_addPoint_1 17 rfl rfl)
theorem dX1_addPoint_44 : decode cX1_addPoint 44 = .ok (.bipush 7, 2) := dk_16 7 (dk_at dksX1_addPoint_1 20 rfl rfl)
theorem dX1_addPoint_46 : decode cX1_addPoint 46 = .ok (.aload_n 0, 1) := dk_42 (dk_at dksX1_addPoint_1 22 rfl rfl)
theorem dX1_addPoint_47 : decode cX1_addPoint 47 = .ok (.getfield 253, 3) := dk_180 0 253 (dk_at dksX1_addPoint_2 0 rfl rfl)
theorem dX1_addPoint_50 : decode cX1_addPoint 50 = .ok (.imul, 1) := dk_104 (dk_at dksX1_addPoint_2 3 rfl rfl)
theorem dX1_addPoint_51 : decode cX1_addPoint 51 = .ok (.iload 4, 2) := dk_21 4 (dk_at dksX1_addPoint_2 4 rfl rfl)
theorem dX1_addPoint_53 : decode cX1_addPoint 53 = .ok (.iadd, 1) := dk_96 (dk_at dksX1_addPoint_2 6 rfl rfl)
theorem dX1_addPoint_54 : decode cX1_addPoint 54 = .ok (.aload_n 0, 1) := dk_42 (dk_at dksX1_addPoint_2 7 rfl rfl)
theorem dX1_addPoint_55 : decode cX1_addPoint 55 = .ok (.getfield 253, 3) := dk_180 0 253 (dk_at dksX1_addPoint_2 8 rfl rfl)
theorem dX1_addPoint_58 : decode cX1_addPoint 58 = .ok (.ifCond .ne 7, 3) := dk_154 0 7 (dk_at dksX1_addPoint_2 11 rfl rfl)
theorem dX1_addPoint_61 : decode cX1_addPoint 61 = .ok (.iconst (-1), 1) := dk_2 (dk_at dksX1_addPoint_2 14 rfl rfl)
theorem dX1_addPoint_62 : decode cX1_addPoint 62 = .ok (.goto 20, 3) := dk_167 0 20 (dk_at dksX1_addPoint_2 15 rfl rfl)
theorem dX1_addPoint_65 : decode cX1_addPoint 65 = .ok (.aload_n 0, 1) := dk_42 (dk_at dksX1_addPoint_2 18 rfl rfl)
theorem dX1_addPoint_66 : decode cX1_addPoint 66 = .ok (.getfield 68, 3) := dk_180 0 68 (dk_at dksX1_addPoint_2 19 rfl rfl)
theorem dX1_addPoint_69 : decode cX1_addPoint 69 = .ok (.bipush 7, 2) := dk_16 7 (dk_at dksX1_addPoint_2 22 rfl rfl)
theorem dX1_addPoint_71 : decode cX1_addPoint 71 = .ok (.aload_n 0, 1) := dk_42 (dk_at dksX1_addPoint_3 0 rfl rfl)
theorem dX1_addPoint_72 : decode cX1_addPoint 72 = .ok (.getfield 253, 3) := dk_180 0 253 (dk_at dksX1_addPoint_3 1 rfl rfl)
theorem dX1_addPoint_75 : decode cX1_addPoint 75 = .ok (.iconst 1, 1) := dk_4 (dk_at dksX1_addPoint_3 4 rfl rfl)
theorem dX1_addPoint_76 : decode cX1_addPoint 76 = .ok (.isub, 1) := dk_100 (dk_at dksX1_addPoint_3 5 rfl rfl)
theorem dX1_addPoint_77 : decode cX1_addPoint 77 = .ok (.imul, 1) := dk_104 (dk_at dksX1_addPoint_3 6 rfl rfl)
theorem dX1_addPoint_78 : decode cX1_addPoint 78 = .ok (.iload 4, 2) := dk_21 4 (dk_at dksX1_addPoint_3 7 rfl rfl)
theorem dX1_addPoint_80 : decode cX1_addPoint 80 = .ok (.iadd, 1) := dk_96 (dk_at dksX1_addPoint_3 9 rfl rfl)
theorem dX1_addPoint_81 : decode cX1_addPoint 81 = .ok (.iaload, 1) := dk_46 (dk_at dksX1_addPoint_3 10 rfl rfl)
theorem dX1_addPoint_82 : decode cX1_addPoint 82 = .ok (.iastore, 1) := dk_79 (dk_at dksX1_addPoint_3 11 rfl rfl)
theorem dX1_addPoint_83 : decode cX1_addPoint 83 = .ok (.iinc 4 1, 3) := dk_132 4 1 (dk_at dksX1_addPoint_3 12 rfl rfl)
theorem dX1_addPoint_86 : decode cX1_addPoint 86 = .ok (.goto (-53), 3) := dk_167 255 203 (dk_at dksX1_addPoint_3 15 rfl rfl)
theorem dX1_addPoint_89 : decode cX1_addPoint 89 = .ok (.aload_n 0, 1) := dk_42 (dk_at dksX1_addPoint_3 18 rfl rfl)
theorem dX1_addPoint_90 : decode cX1_addPoint 90 = .ok (.getfield 253, 3) := dk_180 0 253 (dk_at dksX1_addPoint_3 19 rfl rfl)
theorem dX1_addPoint_93 : decode cX1_addPoint 93 = .ok (.ifCond .le 67, 3) := dk_158 0 67 (dk_at dksX1_addPoint_4 0 rfl rfl)
theorem dX1_addPoint_96 : decode cX1_addPoint 96 = .ok (.aload_n 0, 1) := dk_42 (dk_at dksX1_addPoint_4 3 rfl rfl)
theorem dX1_addPoint_97 : decode cX1_addPoint 97 = .ok (.getfield 58, 3) := dk_180 0 58 (dk_at dksX1_addPoint_4 4 rfl rfl)
theorem dX1_addPoint_100 : decode cX1_addPoint 100 = .ok (.aload_n 0, 1) := dk_42 (dk_at dksX1_addPoint_4 7 rfl rfl)
theorem dX1_addPoint_101 : decode cX1_addPoint 101 = .ok (.getfield 253, 3) := dk_180 0 253 (dk_at dksX1_addPoint_4 8 rfl rfl)
theorem dX1_addPoint_104 : decode cX1_addPoint 104 = .ok (.iconst 1, 1) := dk_4 (dk_at dksX1_addPoint_4 11 rfl rfl)
theorem dX1_addPoint_105 : decode cX1_addPoint 105 = .ok (.isub, 1) := dk_100 (dk_at dksX1_addPoint_4 12 rfl rfl)
theorem dX1_addPoint_106 : decode cX1_addPoint 106 = .ok (.iaload, 1) := dk_46 (dk_at dksX1_addPoint_4 13 rfl rfl)
theorem dX1_addPoint_107 : decode cX1_addPoint 107 = .ok (.iconst 1, 1) := dk_4 (dk_at dksX1_addPoint_4 14 rfl rfl)
theorem dX1_addPoint_108 : decode cX1_addPoint 108 = .ok (.if_icmp .ne 52, 3) := dk_160 0 52 (dk_at dksX1_addPoint_4 15 rfl rfl)
theorem dX1_addPoint_111 : decode cX1_addPoint 111 = .ok (.aload_n 0, 1) := dk_42 (dk_at dksX1_addPoint_4 18 rfl rfl)
theorem dX1_addPoint_112 : decode cX1_addPoint 112 = .ok (.getfield 22, 3) := dk_180 0 22 (dk_at dksX1_addPoint_4 19 rfl rfl)
theorem dX1_addPoint_115 : decode cX1_addPoint 115 = .ok (.getfield 256, 3) := dk_180 1 0 (dk_at dksX1_addPoint_5 0 rfl rfl)
theorem dX1_addPoint_118 : decode cX1_addPoint 118 = .ok (.aload_n 0, 1) := dk_42 (dk_at dksX1_addPoint_5 3 rfl rfl)
theorem dX1_addPoint_119 : decode cX1_addPoint 119 = .ok (.getfield 62, 3) := dk_180 0 62 (dk_at dksX1_addPoint_5 4 rfl rfl)
theorem dX1_addPoint_122 : decode cX1_addPoint 122 = .ok (.aload_n 0, 1) := dk_42 (dk_at dksX1_addPoint_5 7 rfl rfl)
theorem dX1_addPoint_123 : decode cX1_addPoint 123 = .ok (.getfield 253, 3) := dk_180 0 253 (dk_at dksX1_addPoint_5 8 rfl rfl)
theorem dX1_addPoint_126 : decode cX1_addPoint 126 = .ok (.iconst 1, 1) := dk_4 (dk_at dksX1_addPoint_5 11 rfl rfl)
theorem dX1_addPoint_127 : decode cX1_addPoint 127 = .ok (.isub, 1) := dk_100 (dk_at dksX1_addPoint_5 12 rfl rfl)
theorem dX1_addPoint_128 : decode cX1_addPoint 128 = .ok (.iaload, 1) := dk_46 (dk_at dksX1_addPoint_5 13 rfl rfl)
theorem dX1_addPoint_129 : decode cX1_addPoint 129 = .ok (.invokevirtual 171, 3) := dk_182 0 171 (dk_at dksX1_addPoint_5 14 rfl rfl)
theorem dX1_addPoint_132 : decode cX1_addPoint 132 = .ok (.checkcast 259, 3) := dk_192 1 3 (dk_at dksX1_addPoint_5 17 rfl rfl)
theorem dX1_addPoint_135 : decode cX1_addPoint 135 = .ok (.astore 4, 2) := dk_58 4 (dk_at dksX1_addPoint_5 20 rfl rfl)
theorem dX1_addPoint_137 : decode cX1_addPoint 137 = .ok (.aload_n 0, 1) := dk_42 (dk_at dksX1_addPoint_5 22 rfl rfl)
theorem dX1_addPoint_138 : decode cX1_addPoint 138 = .ok (.getfield 68, 3) := dk_180 0 68 (dk_at dksX1_addPoint_6 0 rfl rfl)
theorem dX1_addPoint_141 : decode cX1_addPoint 141 = .ok (.bipush 7, 2) := dk_16 7 (dk_at dksX1_addPoint_6 3 rfl rfl)
theorem dX1_addPoint_143 : decode cX1_addPoint 143 = .ok (.aload_n 0, 1) := dk_42 (dk_at dksX1_addPoint_6 5 rfl rfl)
theorem dX1_addPoint_144 : decode cX1_addPoint 144 = .ok (.getfield 253, 3) := dk_180 0 253 (dk_at dksX1_addPoint_6 6 rfl rfl)
theorem dX1_addPoint_147 : decode cX1_addPoint 147 = .ok (.imul, 1) := dk_104 (dk_at dksX1_addPoint_6 9 rfl rfl)
theorem dX1_addPoint_148 : decode cX1_addPoint 148 = .ok (.aload 4, 2) := dk_25 4 (dk_at dksX1_addPoint_6 10 rfl rfl)
theorem dX1_addPoint_150 : decode cX1_addPoint 150 = .ok (.getfield 261, 3) := dk_180 1 5 (dk_at dksX1_addPoint_6 12 rfl rfl)
theorem dX1_addPoint_153 : decode cX1_addPoint 153 = .ok (.iadd, 1) := dk_96 (dk_at dksX1_addPoint_6 15 rfl rfl)
theorem dX1_addPoint_154 : decode cX1_addPoint 154 = .ok (.aload 4, 2) := dk_25 4 (dk_at dksX1_addPoint_6 16 rfl rfl)
theorem dX1_addPoint_156 : decode cX1_addPoint 156 = .ok (.getfield 263, 3) := dk_180 1 7 (dk_at dksX1_addPoint_6 18 rfl rfl)
theorem dX1_addPoint_159 : decode cX1_addPoint 159 = .ok (.iastore, 1) := dk_79 (dk_at dksX1_addPoint_6 21 rfl rfl)
theorem dX1_addPoint_160 : decode cX1_addPoint 160 = .ok (.aload_n 0, 1) := dk_42 (dk_at dksX1_addPoint_6 22 rfl rfl)
theorem dX1_addPoint_161 : decode cX1_addPoint 161 = .ok (.dup, 1) := dk_89 (dk_at dksX1_addPoint_6 23 rfl rfl)
theorem dX1_addPoint_162 : decode cX1_addPoint 162 = .ok (.getfield 253, 3) := dk_180 0 253 (dk_at dksX1_addPoint_7 0 rfl rfl)
theorem dX1_addPoint_165 : decode cX1_addPoint 165 = .ok (.iconst 1, 1) := dk_4 (dk_at dksX1_addPoint_7 3 rfl rfl)
theorem dX1_addPoint_166 : decode cX1_addPoint 166 = .ok (.iadd, 1) := dk_96 (dk_at dksX1_addPoint_7 4 rfl rfl)
theorem dX1_addPoint_167 : decode cX1_addPoint 167 = .ok (.putfield 253, 3) := dk_181 0 253 (dk_at dksX1_addPoint_7 5 rfl rfl)
theorem dX1_addPoint_170 : decode cX1_addPoint 170 = .ok (.return_, 1) := dk_177 (dk_at dksX1_addPoint_7 8 rfl rfl)
abbrev cX1_layCounts : ByteArray := prog_1_method_31_code
def yX1_layCounts : MethodName := ⟨RX1, "layCounts", "(Z)V"⟩
def dkwX1_layCounts_2 : List UInt8 := [45, 180, 1, 60, 167, 0, 4, 4, 104, 79, 132, 2, 1, 167, 255, 197, 177]
abbrev dktX1_layCounts_2 : List UInt8 := dkwX1_layCounts_2 ++ []
def dkwX1_layCounts_1 : List UInt8 := [182, 0, 171, 192, 1, 16, 78, 42, 180, 0, 74, 28, 42, 45, 180, 1, 44, 182, 1, 58, 27, 153, 0, 10]
abbrev dktX1_layCounts_1 : List UInt8 := dkwX1_layCounts_1 ++ dktX1_layCounts_2
def dkwX1_layCounts_0 : List UInt8 := [3, 61, 28, 42, 180, 0, 22, 180, 0, 247, 182, 0, 160, 162, 0, 51, 42, 180, 0, 22, 180, 0, 247, 28]
abbrev dktX1_layCounts_0 : List UInt8 := dkwX1_layCounts_0 ++ dktX1_layCounts_1
theorem dksX1_layCounts_0 : cX1_layCounts.data.toList.drop 0 = dktX1_layCounts_0 := by decide +kernel
theorem dksX1_layCounts_1 : cX1_layCounts.data.toList.drop 24 = dktX1_layCounts_1 := dk_seg dksX1_layCounts_0 24 rfl rfl
theorem dksX1_layCounts_2 : cX1_layCounts.data.toList.drop 48 = dktX1_layCounts_2 := dk_seg dksX1_layCounts_1 24 rfl rfl
theorem dX1_layCounts_0 : decode cX1_layCounts 0 = .ok (.iconst 0, 1) := dk_3 (dk_at dksX1_layCounts_0 0 rfl rfl)
theorem dX1_layCounts_1 : decode cX1_layCounts 1 = .ok (.istore_n 2, 1) := dk_61 (dk_at dksX1_layCounts_0 1 rfl rfl)
theorem dX1_layCounts_2 : decode cX1_layCounts 2 = .ok (.iload_n 2, 1) := dk_28 (dk_at dksX1_layCounts_0 2 rfl rfl)
theorem dX1_layCounts_3 : decode cX1_layCounts 3 = .ok (.aload_n 0, 1) := dk_42 (dk_at dksX1_layCounts_0 3 rfl rfl)
theorem dX1_layCounts_4 : decode cX1_layCounts 4 = .ok (.getfield 22, 3) := dk_180 0 22 (dk_at dksX1_layCounts_0 4 rfl rfl)
theorem dX1_layCounts_7 : decode cX1_layCounts 7 = .ok (.getfield 247, 3) := dk_180 0 247 (dk_at dksX1_layCounts_0 7 rfl rfl)
theorem dX1_layCounts_10 : decode cX1_layCounts 10 = .ok (.invokevirtual 160, 3) := dk_182 0 160 (dk_at dksX1_layCounts_0 10 rfl rfl)
theorem dX1_layCounts_13 : decode cX1_layCounts 13 = .ok (.if_icmp .ge 51, 3) := dk_162 0 51 (dk_at dksX1_layCounts_0 13 rfl rfl)
theorem dX1_layCounts_16 : decode cX1_layCounts 16 = .ok (.aload_n 0, 1) := dk_42 (dk_at dksX1_layCounts_0 16 rfl rfl)
theorem dX1_layCounts_17 : decode cX1_layCounts 17 = .ok (.getfield 22, 3) := dk_180 0 22 (dk_at dksX1_layCounts_0 17 rfl rfl)
theorem dX1_layCounts_20 : decode cX1_layCounts 20 = .ok (.getfield 247, 3) := dk_180 0 247 (dk_at dksX1_layCounts_0 20 rfl rfl)
theorem dX1_layCounts_23 : decode cX1_layCounts 23 = .ok (.iload_n 2, 1) := dk_28 (dk_at dksX1_layCounts_0 23 rfl rfl)
theorem dX1_layCounts_24 : decode cX1_layCounts 24 = .ok (.invokevirtual 171, 3) := dk_182 0 171 (dk_at dksX1_layCounts_1 0 rfl rfl)
theorem dX1_layCounts_27 : decode cX1_layCounts 27 = .ok (.checkcast 272, 3) := dk_192 1 16 (dk_at dksX1_layCounts_1 3 rfl rfl)
theorem dX1_layCounts_30 : decode cX1_layCounts 30 = .ok (.astore_n 3, 1) := dk_78 (dk_at dksX1_layCounts_1 6 rfl rfl)
theorem dX1_layCounts_31 : decode cX1_layCounts 31 = .ok (.aload_n 0, 1) := dk_42 (dk_at dksX1_layCounts_1 7 rfl rfl)
theorem dX1_layCounts_32 : decode cX1_layCounts 32 = .ok (.getfield 74, 3) := dk_180 0 74 (dk_at dksX1_layCounts_1 8 rfl rfl)
theorem dX1_layCounts_35 : decode cX1_layCounts 35 = .ok (.iload_n 2, 1) := dk_28 (dk_at dksX1_layCounts_1 11 rfl rfl)
theorem dX1_layCounts_36 : decode cX1_layCounts 36 = .ok (.aload_n 0, 1) := dk_42 (dk_at dksX1_layCounts_1 12 rfl rfl)
theorem dX1_layCounts_37 : decode cX1_layCounts 37 = .ok (.aload_n 3, 1) := dk_45 (dk_at dksX1_layCounts_1 13 rfl rfl)
theorem dX1_layCounts_38 : decode cX1_layCounts 38 = .ok (.getfield 300, 3) := dk_180 1 44 (dk_at dksX1_layCounts_1 14 rfl rfl)
theorem dX1_layCounts_41 : decode cX1_layCounts 41 = .ok (.invokevirtual 314, 3) := dk_182 1 58 (dk_at dksX1_layCounts_1 17 rfl rfl)
theorem dX1_layCounts_44 : decode cX1_layCounts 44 = .ok (.iload_n 1, 1) := dk_27 (dk_at dksX1_layCounts_1 20 rfl rfl)
theorem dX1_layCounts_45 : decode cX1_layCounts 45 = .ok (.ifCond .eq 10, 3) := dk_153 0 10 (dk_at dksX1_layCounts_1 21 rfl rfl)
theorem dX1_layCounts_48 : decode cX1_layCounts 48 = .ok (.aload_n 3, 1) := dk_45 (dk_at dksX1_layCounts_2 0 rfl rfl)
theorem dX1_layCounts_49 : decode cX1_layCounts 49 = .ok (.getfield 316, 3) := dk_180 1 60 (dk_at dksX1_layCounts_2 1 rfl rfl)
theorem dX1_layCounts_52 : decode cX1_layCounts 52 = .ok (.goto 4, 3) := dk_167 0 4 (dk_at dksX1_layCounts_2 4 rfl rfl)
theorem dX1_layCounts_55 : decode cX1_layCounts 55 = .ok (.iconst 1, 1) := dk_4 (dk_at dksX1_layCounts_2 7 rfl rfl)
theorem dX1_layCounts_56 : decode cX1_layCounts 56 = .ok (.imul, 1) := dk_104 (dk_at dksX1_layCounts_2 8 rfl rfl)
theorem dX1_layCounts_57 : decode cX1_layCounts 57 = .ok (.iastore, 1) := dk_79 (dk_at dksX1_layCounts_2 9 rfl rfl)
theorem dX1_layCounts_58 : decode cX1_layCounts 58 = .ok (.iinc 2 1, 3) := dk_132 2 1 (dk_at dksX1_layCounts_2 10 rfl rfl)
theorem dX1_layCounts_61 : decode cX1_layCounts 61 = .ok (.goto (-59), 3) := dk_167 255 197 (dk_at dksX1_layCounts_2 13 rfl rfl)
theorem dX1_layCounts_64 : decode cX1_layCounts 64 = .ok (.return_, 1) := dk_177 (dk_at dksX1_layCounts_2 16 rfl rfl)
abbrev cX1_layMost : ByteArray := prog_1_method_30_code
def yX1_layMost : MethodName := ⟨RX1, "layMost", "(I)V"⟩
def dkwX1_layMost_8 : List UInt8 := [132, 5, 1, 167, 255, 141, 132, 4, 1, 167, 255, 126, 132, 3, 255, 167, 255, 113, 177]
abbrev dktX1_layMost_8 : List UInt8 := dkwX1_layMost_8 ++ []
def dkwX1_layMost_7 : List UInt8 := [42, 180, 0, 71, 29, 4, 96, 42, 27, 29, 21, 4, 182, 1, 55, 21, 7, 184, 1, 32, 46, 96, 79]
abbrev dktX1_layMost_7 : List UInt8 := dkwX1_layMost_7 ++ dktX1_layMost_8
def dkwX1_layMost_6 : List UInt8 := [42, 29, 21, 4, 42, 29, 21, 4, 182, 1, 49, 182, 1, 36, 167, 0, 32, 42, 29, 21, 4, 182, 1, 52]
abbrev dktX1_layMost_6 : List UInt8 := dkwX1_layMost_6 ++ dktX1_layMost_7
def dkwX1_layMost_5 : List UInt8 := [180, 0, 71, 29, 21, 4, 21, 6, 184, 1, 32, 42, 27, 29, 21, 4, 21, 6, 182, 1, 45, 153, 0, 20]
abbrev dktX1_layMost_5 : List UInt8 := dkwX1_layMost_5 ++ dktX1_layMost_6
def dkwX1_layMost_4 : List UInt8 := [54, 6, 21, 6, 153, 0, 16, 42, 180, 0, 58, 29, 46, 153, 0, 7, 4, 167, 0, 4, 3, 54, 7, 42]
abbrev dktX1_layMost_4 : List UInt8 := dkwX1_layMost_4 ++ dktX1_layMost_5
def dkwX1_layMost_3 : List UInt8 := [28, 162, 0, 130, 3, 54, 5, 21, 5, 5, 162, 0, 115, 21, 5, 4, 160, 0, 7, 4, 167, 0, 4, 3]
abbrev dktX1_layMost_3 : List UInt8 := dkwX1_layMost_3 ++ dktX1_layMost_4
def dkwX1_layMost_2 : List UInt8 := [3, 79, 132, 3, 1, 167, 255, 218, 42, 180, 0, 253, 4, 100, 62, 29, 155, 0, 145, 3, 54, 4, 21, 4]
abbrev dktX1_layMost_2 : List UInt8 := dkwX1_layMost_2 ++ dktX1_layMost_3
def dkwX1_layMost_1 : List UInt8 := [42, 180, 0, 253, 29, 3, 184, 1, 32, 3, 79, 42, 180, 0, 71, 42, 180, 0, 253, 29, 4, 184, 1, 32]
abbrev dktX1_layMost_1 : List UInt8 := dkwX1_layMost_1 ++ dktX1_layMost_2
def dkwX1_layMost_0 : List UInt8 := [4, 42, 180, 0, 22, 180, 0, 168, 182, 0, 160, 120, 61, 3, 62, 29, 28, 162, 0, 39, 42, 180, 0, 71]
abbrev dktX1_layMost_0 : List UInt8 := dkwX1_layMost_0 ++ dktX1_layMost_1
theorem dksX1_layMost_0 : cX1_layMost.data.toList.drop 0 = dktX1_layMost_0 := by decide +kernel
theorem dksX1_layMost_1 : cX1_layMost.data.toList.drop 24 = dktX1_layMost_1 := dk_seg dksX1_layMost_0 24 rfl rfl
theorem dksX1_layMost_2 : cX1_layMost.data.toList.drop 48 = dktX1_layMost_2 := dk_seg dksX1_layMost_1 24 rfl rfl
theorem dksX1_layMost_3 : cX1_layMost.data.toList.drop 72 = dktX1_layMost_3 := dk_seg dksX1_layMost_2 24 rfl rfl
theorem dksX1_layMost_4 : cX1_layMost.data.toList.drop 96 = dktX1_layMost_4 := dk_seg dksX1_layMost_3 24 rfl rfl
theorem dksX1_layMost_5 : cX1_layMost.data.toList.drop 120 = dktX1_layMost_5 := dk_seg dksX1_layMost_4 24 rfl rfl
theorem dksX1_layMost_6 : cX1_layMost.data.toList.drop 144 = dktX1_layMost_6 := dk_seg dksX1_layMost_5 24 rfl rfl
theorem dksX1_layMost_7 : cX1_layMost.data.toList.drop 168 = dktX1_layMost_7 := dk_seg dksX1_layMost_6 24 rfl rfl
theorem dksX1_layMost_8 : cX1_layMost.data.toList.drop 191 = dktX1_layMost_8 := dk_seg dksX1_layMost_7 23 rfl rfl
theorem dX1_layMost_0 : decode cX1_layMost 0 = .ok (.iconst 1, 1) := dk_4 (dk_at dksX1_layMost_0 0 rfl rfl)
theorem dX1_layMost_1 : decode cX1_layMost 1 = .ok (.aload_n 0, 1) := dk_42 (dk_at dksX1_layMost_0 1 rfl rfl)
theorem dX1_layMost_2 : decode cX1_layMost 2 = .ok (.getfield 22, 3) := dk_180 0 22 (dk_at dksX1_layMost_0 2 rfl rfl)
theorem dX1_layMost_5 : decode cX1_layMost 5 = .ok (.getfield 168, 3) := dk_180 0 168 (dk_at dksX1_layMost_0 5 rfl rfl)
theorem dX1_layMost_8 : decode cX1_layMost 8 = .ok (.invokevirtual 160, 3) := dk_182 0 160 (dk_at dksX1_layMost_0 8 rfl rfl)
theorem dX1_layMost_11 : decode cX1_layMost 11 = .ok (.ishl, 1) := dk_120 (dk_at dksX1_layMost_0 11 rfl rfl)
theorem dX1_layMost_12 : decode cX1_layMost 12 = .ok (.istore_n 2, 1) := dk_61 (dk_at dksX1_layMost_0 12 rfl rfl)
theorem dX1_layMost_13 : decode cX1_layMost 13 = .ok (.iconst 0, 1) := dk_3 (dk_at dksX1_layMost_0 13 rfl rfl)
theorem dX1_layMost_14 : decode cX1_layMost 14 = .ok (.istore_n 3, 1) := dk_62 (dk_at dksX1_layMost_0 14 rfl rfl)
theorem dX1_layMost_15 : decode cX1_layMost 15 = .ok (.iload_n 3, 1) := dk_29 (dk_at dksX1_layMost_0 15 rfl rfl)
theorem dX1_layMost_16 : decode cX1_layMost 16 = .ok (.iload_n 2, 1) := dk_28 (dk_at dksX1_layMost_0 16 rfl rfl)
theorem dX1_layMost_17 : decode cX1_layMost 17 = .ok (.if_icmp .ge 39, 3) := dk_162 0 39 (dk_at dksX1_layMost_0 17 rfl rfl)
theorem dX1_layMost_20 : decode cX1_layMost 20 = .ok (.aload_n 0, 1) := dk_42 (dk_at dksX1_layMost_0 20 rfl rfl)
theorem dX1_layMost_21 : decode cX1_layMost 21 = .ok (.getfield 71, 3) := dk_180 0 71 (dk_at dksX1_layMost_0 21 rfl rfl)
theorem dX1_layMost_24 : decode cX1_layMost 24 = .ok (.aload_n 0, 1) := dk_42 (dk_at dksX1_layMost_1 0 rfl rfl)
theorem dX1_layMost_25 : decode cX1_layMost 25 = .ok (.getfield 253, 3) := dk_180 0 253 (dk_at dksX1_layMost_1 1 rfl rfl)
theorem dX1_layMost_28 : decode cX1_layMost 28 = .ok (.iload_n 3, 1) := dk_29 (dk_at dksX1_layMost_1 4 rfl rfl)
theorem dX1_layMost_29 : decode cX1_layMost 29 = .ok (.iconst 0, 1) := dk_3 (dk_at dksX1_layMost_1 5 rfl rfl)
theorem dX1_layMost_30 : decode cX1_layMost 30 = .ok (.invokestatic 288, 3) := dk_184 1 32 (dk_at dksX1_layMost_1 6 rfl rfl)
theorem dX1_layMost_33 : decode cX1_layMost 33 = .ok (.iconst 0, 1) := dk_3 (dk_at dksX1_layMost_1 9 rfl rfl)
theorem dX1_layMost_34 : decode cX1_layMost 34 = .ok (.iastore, 1) := dk_79 (dk_at dksX1_layMost_1 10 rfl rfl)
theorem dX1_layMost_35 : decode cX1_layMost 35 = .ok (.aload_n 0, 1) := dk_42 (dk_at dksX1_layMost_1 11 rfl rfl)
theorem dX1_layMost_36 : decode cX1_layMost 36 = .ok (.getfield 71, 3) := dk_180 0 71 (dk_at dksX1_layMost_1 12 rfl rfl)
theorem dX1_layMost_39 : decode cX1_layMost 39 = .ok (.aload_n 0, 1) := dk_42 (dk_at dksX1_layMost_1 15 rfl rfl)
theorem dX1_layMost_40 : decode cX1_layMost 40 = .ok (.getfield 253, 3) := dk_180 0 253 (dk_at dksX1_layMost_1 16 rfl rfl)
theorem dX1_layMost_43 : decode cX1_layMost 43 = .ok (.iload_n 3, 1) := dk_29 (dk_at dksX1_layMost_1 19 rfl rfl)
theorem dX1_layMost_44 : decode cX1_layMost 44 = .ok (.iconst 1, 1) := dk_4 (dk_at dksX1_layMost_1 20 rfl rfl)
theorem dX1_layMost_45 : decode cX1_layMost 45 = .ok (.invokestatic 288, 3) := dk_184 1 32 (dk_at dksX1_layMost_1 21 rfl rfl)
theorem dX1_layMost_48 : decode cX1_layMost 48 = .ok (.iconst 0, 1) := dk_3 (dk_at dksX1_layMost_2 0 rfl rfl)
theorem dX1_layMost_49 : decode cX1_layMost 49 = .ok (.iastore, 1) := dk_79 (dk_at dksX1_layMost_2 1 rfl rfl)
theorem dX1_layMost_50 : decode cX1_layMost 50 = .ok (.iinc 3 1, 3) := dk_132 3 1 (dk_at dksX1_layMost_2 2 rfl rfl)
theorem dX1_layMost_53 : decode cX1_layMost 53 = .ok (.goto (-38), 3) := dk_167 255 218 (dk_at dksX1_layMost_2 5 rfl rfl)
theorem dX1_layMost_56 : decode cX1_layMost 56 = .ok (.aload_n 0, 1) := dk_42 (dk_at dksX1_layMost_2 8 rfl rfl)
theorem dX1_layMost_57 : decode cX1_layMost 57 = .ok (.getfield 253, 3) := dk_180 0 253 (dk_at dksX1_layMost_2 9 rfl rfl)
theorem dX1_layMost_60 : decode cX1_layMost 60 = .ok (.iconst 1, 1) := dk_4 (dk_at dksX1_layMost_2 12 rfl rfl)
theorem dX1_layMost_61 : decode cX1_layMost 61 = .ok (.isub, 1) := dk_100 (dk_at dksX1_layMost_2 13 rfl rfl)
theorem dX1_layMost_62 : decode cX1_layMost 62 = .ok (.istore_n 3, 1) := dk_62 (dk_at dksX1_layMost_2 14 rfl rfl)
theorem dX1_layMost_63 : decode cX1_layMost 63 = .ok (.iload_n 3, 1) := dk_29 (dk_at dksX1_layMost_2 15 rfl rfl)
theorem dX1_layMost_64 : decode cX1_layMost 64 = .ok (.ifCond .lt 145, 3) := dk_155 0 145 (dk_at dksX1_layMost_2 16 rfl rfl)
theorem dX1_layMost_67 : decode cX1_layMost 67 = .ok (.iconst 0, 1) := dk_3 (dk_at dksX1_layMost_2 19 rfl rfl)
theorem dX1_layMost_68 : decode cX1_layMost 68 = .ok (.istore 4, 2) := dk_54 4 (dk_at dksX1_layMost_2 20 rfl rfl)
theorem dX1_layMost_70 : decode cX1_layMost 70 = .ok (.iload 4, 2) := dk_21 4 (dk_at dksX1_layMost_2 22 rfl rfl)
theorem dX1_layMost_72 : decode cX1_layMost 72 = .ok (.iload_n 2, 1) := dk_28 (dk_at dksX1_layMost_3 0 rfl rfl)
theorem dX1_layMost_73 : decode cX1_layMost 73 = .ok (.if_icmp .ge 130, 3) := dk_162 0 130 (dk_at dksX1_layMost_3 1 rfl rfl)
theorem dX1_layMost_76 : decode cX1_layMost 76 = .ok (.iconst 0, 1) := dk_3 (dk_at dksX1_layMost_3 4 rfl rfl)
theorem dX1_layMost_77 : decode cX1_layMost 77 = .ok (.istore 5, 2) := dk_54 5 (dk_at dksX1_layMost_3 5 rfl rfl)
theorem dX1_layMost_79 : decode cX1_layMost 79 = .ok (.iload 5, 2) := dk_21 5 (dk_at dksX1_layMost_3 7 rfl rfl)
theorem dX1_layMost_81 : decode cX1_layMost 81 = .ok (.iconst 2, 1) := dk_5 (dk_at dksX1_layMost_3 9 rfl rfl)
theorem dX1_layMost_82 : decode cX1_layMost 82 = .ok (.if_icmp .ge 115, 3) := dk_162 0 115 (dk_at dksX1_layMost_3 10 rfl rfl)
theorem dX1_layMost_85 : decode cX1_layMost 85 = .ok (.iload 5, 2) := dk_21 5 (dk_at dksX1_layMost_3 13 rfl rfl)
theorem dX1_layMost_87 : decode cX1_layMost 87 = .ok (.iconst 1, 1) := dk_4 (dk_at dksX1_layMost_3 15 rfl rfl)
theorem dX1_layMost_88 : decode cX1_layMost 88 = .ok (.if_icmp .ne 7, 3) := dk_160 0 7 (dk_at dksX1_layMost_3 16 rfl rfl)
theorem dX1_layMost_91 : decode cX1_layMost 91 = .ok (.iconst 1, 1) := dk_4 (dk_at dksX1_layMost_3 19 rfl rfl)
theorem dX1_layMost_92 : decode cX1_layMost 92 = .ok (.goto 4, 3) := dk_167 0 4 (dk_at dksX1_layMost_3 20 rfl rfl)
theorem dX1_layMost_95 : decode cX1_layMost 95 = .ok (.iconst 0, 1) := dk_3 (dk_at dksX1_layMost_3 23 rfl rfl)
theorem dX1_layMost_96 : decode cX1_layMost 96 = .ok (.istore 6, 2) := dk_54 6 (dk_at dksX1_layMost_4 0 rfl rfl)
theorem dX1_layMost_98 : decode cX1_layMost 98 = .ok (.iload 6, 2) := dk_21 6 (dk_at dksX1_layMost_4 2 rfl rfl)
theorem dX1_layMost_100 : decode cX1_layMost 100 = .ok (.ifCond .eq 16, 3) := dk_153 0 16 (dk_at dksX1_layMost_4 4 rfl rfl)
theorem dX1_layMost_103 : decode cX1_layMost 103 = .ok (.aload_n 0, 1) := dk_42 (dk_at dksX1_layMost_4 7 rfl rfl)
theorem dX1_layMost_104 : decode cX1_layMost 104 = .ok (.getfield 58, 3) := dk_180 0 58 (dk_at dksX1_layMost_4 8 rfl rfl)
theorem dX1_layMost_107 : decode cX1_layMost 107 = .ok (.iload_n 3, 1) := dk_29 (dk_at dksX1_layMost_4 11 rfl rfl)
theorem dX1_layMost_108 : decode cX1_layMost 108 = .ok (.iaload, 1) := dk_46 (dk_at dksX1_layMost_4 12 rfl rfl)
theorem dX1_layMost_109 : decode cX1_layMost 109 = .ok (.ifCond .eq 7, 3) := dk_153 0 7 (dk_at dksX1_layMost_4 13 rfl rfl)
theorem dX1_layMost_112 : decode cX1_layMost 112 = .ok (.iconst 1, 1) := dk_4 (dk_at dksX1_layMost_4 16 rfl rfl)
theorem dX1_layMost_113 : decode cX1_layMost 113 = .ok (.goto 4, 3) := dk_167 0 4 (dk_at dksX1_layMost_4 17 rfl rfl)
theorem dX1_layMost_116 : decode cX1_layMost 116 = .ok (.iconst 0, 1) := dk_3 (dk_at dksX1_layMost_4 20 rfl rfl)
theorem dX1_layMost_117 : decode cX1_layMost 117 = .ok (.istore 7, 2) := dk_54 7 (dk_at dksX1_layMost_4 21 rfl rfl)
theorem dX1_layMost_119 : decode cX1_layMost 119 = .ok (.aload_n 0, 1) := dk_42 (dk_at dksX1_layMost_4 23 rfl rfl)
theorem dX1_layMost_120 : decode cX1_layMost 120 = .ok (.getfield 71, 3) := dk_180 0 71 (dk_at dksX1_layMost_5 0 rfl rfl)
theorem dX1_layMost_123 : decode cX1_layMost 123 = .ok (.iload_n 3, 1) := dk_29 (dk_at dksX1_layMost_5 3 rfl rfl)
theorem dX1_layMost_124 : decode cX1_layMost 124 = .ok (.iload 4, 2) := dk_21 4 (dk_at dksX1_layMost_5 4 rfl rfl)
theorem dX1_layMost_126 : decode cX1_layMost 126 = .ok (.iload 6, 2) := dk_21 6 (dk_at dksX1_layMost_5 6 rfl rfl)
theorem dX1_layMost_128 : decode cX1_layMost 128 = .ok (.invokestatic 288, 3) := dk_184 1 32 (dk_at dksX1_layMost_5 8 rfl rfl)
theorem dX1_layMost_131 : decode cX1_layMost 131 = .ok (.aload_n 0, 1) := dk_42 (dk_at dksX1_layMost_5 11 rfl rfl)
theorem dX1_layMost_132 : decode cX1_layMost 132 = .ok (.iload_n 1, 1) := dk_27 (dk_at dksX1_layMost_5 12 rfl rfl)
theorem dX1_layMost_133 : decode cX1_layMost 133 = .ok (.iload_n 3, 1) := dk_29 (dk_at dksX1_layMost_5 13 rfl rfl)
theorem dX1_layMost_134 : decode cX1_layMost 134 = .ok (.iload 4, 2) := dk_21 4 (dk_at dksX1_layMost_5 14 rfl rfl)
theorem dX1_layMost_136 : decode cX1_layMost 136 = .ok (.iload 6, 2) := dk_21 6 (dk_at dksX1_layMost_5 16 rfl rfl)
theorem dX1_layMost_138 : decode cX1_layMost 138 = .ok (.invokevirtual 301, 3) := dk_182 1 45 (dk_at dksX1_layMost_5 18 rfl rfl)
theorem dX1_layMost_141 : decode cX1_layMost 141 = .ok (.ifCond .eq 20, 3) := dk_153 0 20 (dk_at dksX1_layMost_5 21 rfl rfl)
theorem dX1_layMost_144 : decode cX1_layMost 144 = .ok (.aload_n 0, 1) := dk_42 (dk_at dksX1_layMost_6 0 rfl rfl)
theorem dX1_layMost_145 : decode cX1_layMost 145 = .ok (.iload_n 3, 1) := dk_29 (dk_at dksX1_layMost_6 1 rfl rfl)
theorem dX1_layMost_146 : decode cX1_layMost 146 = .ok (.iload 4, 2) := dk_21 4 (dk_at dksX1_layMost_6 2 rfl rfl)
theorem dX1_layMost_148 : decode cX1_layMost 148 = .ok (.aload_n 0, 1) := dk_42 (dk_at dksX1_layMost_6 4 rfl rfl)
theorem dX1_layMost_149 : decode cX1_layMost 149 = .ok (.iload_n 3, 1) := dk_29 (dk_at dksX1_layMost_6 5 rfl rfl)
theorem dX1_layMost_150 : decode cX1_layMost 150 = .ok (.iload 4, 2) := dk_21 4 (dk_at dksX1_layMost_6 6 rfl rfl)
theorem dX1_layMost_152 : decode cX1_layMost 152 = .ok (.invokevirtual 305, 3) := dk_182 1 49 (dk_at dksX1_layMost_6 8 rfl rfl)
theorem dX1_layMost_155 : decode cX1_layMost 155 = .ok (.invokevirtual 292, 3) := dk_182 1 36 (dk_at dksX1_layMost_6 11 rfl rfl)
theorem dX1_layMost_158 : decode cX1_layMost 158 = .ok (.goto 32, 3) := dk_167 0 32 (dk_at dksX1_layMost_6 14 rfl rfl)
theorem dX1_layMost_161 : decode cX1_layMost 161 = .ok (.aload_n 0, 1) := dk_42 (dk_at dksX1_layMost_6 17 rfl rfl)
theorem dX1_layMost_162 : decode cX1_layMost 162 = .ok (.iload_n 3, 1) := dk_29 (dk_at dksX1_layMost_6 18 rfl rfl)
theorem dX1_layMost_163 : decode cX1_layMost 163 = .ok (.iload 4, 2) := dk_21 4 (dk_at dksX1_layMost_6 19 rfl rfl)
theorem dX1_layMost_165 : decode cX1_layMost 165 = .ok (.invokevirtual 308, 3) := dk_182 1 52 (dk_at dksX1_layMost_6 21 rfl rfl)
theorem dX1_layMost_168 : decode cX1_layMost 168 = .ok (.aload_n 0, 1) := dk_42 (dk_at dksX1_layMost_7 0 rfl rfl)
theorem dX1_layMost_169 : decode cX1_layMost 169 = .ok (.getfield 71, 3) := dk_180 0 71 (dk_at dksX1_layMost_7 1 rfl rfl)
theorem dX1_layMost_172 : decode cX1_layMost 172 = .ok (.iload_n 3, 1) := dk_29 (dk_at dksX1_layMost_7 4 rfl rfl)
theorem dX1_layMost_173 : decode cX1_layMost 173 = .ok (.iconst 1, 1) := dk_4 (dk_at dksX1_layMost_7 5 rfl rfl)
theorem dX1_layMost_174 : decode cX1_layMost 174 = .ok (.iadd, 1) := dk_96 (dk_at dksX1_layMost_7 6 rfl rfl)
theorem dX1_layMost_175 : decode cX1_layMost 175 = .ok (.aload_n 0, 1) := dk_42 (dk_at dksX1_layMost_7 7 rfl rfl)
theorem dX1_layMost_176 : decode cX1_layMost 176 = .ok (.iload_n 1, 1) := dk_27 (dk_at dksX1_layMost_7 8 rfl rfl)
theorem dX1_layMost_177 : decode cX1_layMost 177 = .ok (.iload_n 3, 1) := dk_29 (dk_at dksX1_layMost_7 9 rfl rfl)
theorem dX1_layMost_178 : decode cX1_layMost 178 = .ok (.iload 4, 2) := dk_21 4 (dk_at dksX1_layMost_7 10 rfl rfl)
theorem dX1_layMost_180 : decode cX1_layMost 180 = .ok (.invokevirtual 311, 3) := dk_182 1 55 (dk_at dksX1_layMost_7 12 rfl rfl)
theorem dX1_layMost_183 : decode cX1_layMost 183 = .ok (.iload 7, 2) := dk_21 7 (dk_at dksX1_layMost_7 15 rfl rfl)
theorem dX1_layMost_185 : decode cX1_layMost 185 = .ok (.invokestatic 288, 3) := dk_184 1 32 (dk_at dksX1_layMost_7 17 rfl rfl)
theorem dX1_layMost_188 : decode cX1_layMost 188 = .ok (.iaload, 1) := dk_46 (dk_at dksX1_layMost_7 20 rfl rfl)
theorem dX1_layMost_189 : decode cX1_layMost 189 = .ok (.iadd, 1) := dk_96 (dk_at dksX1_layMost_7 21 rfl rfl)
theorem dX1_layMost_190 : decode cX1_layMost 190 = .ok (.iastore, 1) := dk_79 (dk_at dksX1_layMost_7 22 rfl rfl)
theorem dX1_layMost_191 : decode cX1_layMost 191 = .ok (.iinc 5 1, 3) := dk_132 5 1 (dk_at dksX1_layMost_8 0 rfl rfl)
theorem dX1_layMost_194 : decode cX1_layMost 194 = .ok (.goto (-115), 3) := dk_167 255 141 (dk_at dksX1_layMost_8 3 rfl rfl)
theorem dX1_layMost_197 : decode cX1_layMost 197 = .ok (.iinc 4 1, 3) := dk_132 4 1 (dk_at dksX1_layMost_8 6 rfl rfl)
theorem dX1_layMost_200 : decode cX1_layMost 200 = .ok (.goto (-130), 3) := dk_167 255 126 (dk_at dksX1_layMost_8 9 rfl rfl)
theorem dX1_layMost_203 : decode cX1_layMost 203 = .ok (.iinc 3 (-1), 3) := dk_132 3 255 (dk_at dksX1_layMost_8 12 rfl rfl)
theorem dX1_layMost_206 : decode cX1_layMost 206 = .ok (.goto (-143), 3) := dk_167 255 113 (dk_at dksX1_layMost_8 15 rfl rfl)
theorem dX1_layMost_209 : decode cX1_layMost 209 = .ok (.return_, 1) := dk_177 (dk_at dksX1_layMost_8 18 rfl rfl)
abbrev cX1_at : ByteArray := prog_1_method_22_code
def yX1_at : MethodName := ⟨RX1, "at", "(IIZ)I"⟩
def dkwX1_at_0 : List UInt8 := [26, 17, 0, 128, 104, 27, 96, 5, 104, 28, 153, 0, 7, 4, 167, 0, 4, 3, 96, 172]
abbrev dktX1_at_0 : List UInt8 := dkwX1_at_0 ++ []
theorem dksX1_at_0 : cX1_at.data.toList.drop 0 = dktX1_at_0 := by decide +kernel
theorem dX1_at_0 : decode cX1_at 0 = .ok (.iload_n 0, 1) := dk_26 (dk_at dksX1_at_0 0 rfl rfl)
theorem dX1_at_1 : decode cX1_at 1 = .ok (.sipush 128, 3) := dk_17 0 128 (dk_at dksX1_at_0 1 rfl rfl)
theorem dX1_at_4 : decode cX1_at 4 = .ok (.imul, 1) := dk_104 (dk_at dksX1_at_0 4 rfl rfl)
theorem dX1_at_5 : decode cX1_at 5 = .ok (.iload_n 1, 1) := dk_27 (dk_at dksX1_at_0 5 rfl rfl)
theorem dX1_at_6 : decode cX1_at 6 = .ok (.iadd, 1) := dk_96 (dk_at dksX1_at_0 6 rfl rfl)
theorem dX1_at_7 : decode cX1_at 7 = .ok (.iconst 2, 1) := dk_5 (dk_at dksX1_at_0 7 rfl rfl)
theorem dX1_at_8 : decode cX1_at 8 = .ok (.imul, 1) := dk_104 (dk_at dksX1_at_0 8 rfl rfl)
theorem dX1_at_9 : decode cX1_at 9 = .ok (.iload_n 2, 1) := dk_28 (dk_at dksX1_at_0 9 rfl rfl)
theorem dX1_at_10 : decode cX1_at 10 = .ok (.ifCond .eq 7, 3) := dk_153 0 7 (dk_at dksX1_at_0 10 rfl rfl)
theorem dX1_at_13 : decode cX1_at 13 = .ok (.iconst 1, 1) := dk_4 (dk_at dksX1_at_0 13 rfl rfl)
theorem dX1_at_14 : decode cX1_at 14 = .ok (.goto 4, 3) := dk_167 0 4 (dk_at dksX1_at_0 14 rfl rfl)
theorem dX1_at_17 : decode cX1_at 17 = .ok (.iconst 0, 1) := dk_3 (dk_at dksX1_at_0 17 rfl rfl)
theorem dX1_at_18 : decode cX1_at 18 = .ok (.iadd, 1) := dk_96 (dk_at dksX1_at_0 18 rfl rfl)
theorem dX1_at_19 : decode cX1_at 19 = .ok (.ireturn, 1) := dk_172 (dk_at dksX1_at_0 19 rfl rfl)
abbrev cX1_isTime : ByteArray := prog_1_method_24_code
def yX1_isTime : MethodName := ⟨RX1, "isTime", "(IIIZ)Z"⟩
def dkwX1_isTime_2 : List UInt8 := [161, 0, 7, 4, 167, 0, 4, 3, 172]
abbrev dktX1_isTime_2 : List UInt8 := dkwX1_isTime_2 ++ []
def dkwX1_isTime_1 : List UInt8 := [154, 0, 31, 29, 184, 1, 27, 42, 180, 0, 22, 180, 0, 156, 27, 182, 0, 171, 192, 0, 205, 180, 0, 207]
abbrev dktX1_isTime_1 : List UInt8 := dkwX1_isTime_1 ++ dktX1_isTime_2
def dkwX1_isTime_0 : List UInt8 := [42, 180, 0, 58, 28, 46, 4, 160, 0, 48, 21, 4, 154, 0, 43, 29, 42, 28, 182, 1, 20, 184, 1, 23]
abbrev dktX1_isTime_0 : List UInt8 := dkwX1_isTime_0 ++ dktX1_isTime_1
theorem dksX1_isTime_0 : cX1_isTime.data.toList.drop 0 = dktX1_isTime_0 := by decide +kernel
theorem dksX1_isTime_1 : cX1_isTime.data.toList.drop 24 = dktX1_isTime_1 := dk_seg dksX1_isTime_0 24 rfl rfl
theorem dksX1_isTime_2 : cX1_isTime.data.toList.drop 48 = dktX1_isTime_2 := dk_seg dksX1_isTime_1 24 rfl rfl
theorem dX1_isTime_0 : decode cX1_isTime 0 = .ok (.aload_n 0, 1) := dk_42 (dk_at dksX1_isTime_0 0 rfl rfl)
theorem dX1_isTime_1 : decode cX1_isTime 1 = .ok (.getfield 58, 3) := dk_180 0 58 (dk_at dksX1_isTime_0 1 rfl rfl)
theorem dX1_isTime_4 : decode cX1_isTime 4 = .ok (.iload_n 2, 1) := dk_28 (dk_at dksX1_isTime_0 4 rfl rfl)
theorem dX1_isTime_5 : decode cX1_isTime 5 = .ok (.iaload, 1) := dk_46 (dk_at dksX1_isTime_0 5 rfl rfl)
theorem dX1_isTime_6 : decode cX1_isTime 6 = .ok (.iconst 1, 1) := dk_4 (dk_at dksX1_isTime_0 6 rfl rfl)
theorem dX1_isTime_7 : decode cX1_isTime 7 = .ok (.if_icmp .ne 48, 3) := dk_160 0 48 (dk_at dksX1_isTime_0 7 rfl rfl)
theorem dX1_isTime_10 : decode cX1_isTime 10 = .ok (.iload 4, 2) := dk_21 4 (dk_at dksX1_isTime_0 10 rfl rfl)
theorem dX1_isTime_12 : decode cX1_isTime 12 = .ok (.ifCond .ne 43, 3) := dk_154 0 43 (dk_at dksX1_isTime_0 12 rfl rfl)
theorem dX1_isTime_15 : decode cX1_isTime 15 = .ok (.iload_n 3, 1) := dk_29 (dk_at dksX1_isTime_0 15 rfl rfl)
theorem dX1_isTime_16 : decode cX1_isTime 16 = .ok (.aload_n 0, 1) := dk_42 (dk_at dksX1_isTime_0 16 rfl rfl)
theorem dX1_isTime_17 : decode cX1_isTime 17 = .ok (.iload_n 2, 1) := dk_28 (dk_at dksX1_isTime_0 17 rfl rfl)
theorem dX1_isTime_18 : decode cX1_isTime 18 = .ok (.invokevirtual 276, 3) := dk_182 1 20 (dk_at dksX1_isTime_0 18 rfl rfl)
theorem dX1_isTime_21 : decode cX1_isTime 21 = .ok (.invokestatic 279, 3) := dk_184 1 23 (dk_at dksX1_isTime_0 21 rfl rfl)
theorem dX1_isTime_24 : decode cX1_isTime 24 = .ok (.ifCond .ne 31, 3) := dk_154 0 31 (dk_at dksX1_isTime_1 0 rfl rfl)
theorem dX1_isTime_27 : decode cX1_isTime 27 = .ok (.iload_n 3, 1) := dk_29 (dk_at dksX1_isTime_1 3 rfl rfl)
theorem dX1_isTime_28 : decode cX1_isTime 28 = .ok (.invokestatic 283, 3) := dk_184 1 27 (dk_at dksX1_isTime_1 4 rfl rfl)
theorem dX1_isTime_31 : decode cX1_isTime 31 = .ok (.aload_n 0, 1) := dk_42 (dk_at dksX1_isTime_1 7 rfl rfl)
theorem dX1_isTime_32 : decode cX1_isTime 32 = .ok (.getfield 22, 3) := dk_180 0 22 (dk_at dksX1_isTime_1 8 rfl rfl)
theorem dX1_isTime_35 : decode cX1_isTime 35 = .ok (.getfield 156, 3) := dk_180 0 156 (dk_at dksX1_isTime_1 11 rfl rfl)
theorem dX1_isTime_38 : decode cX1_isTime 38 = .ok (.iload_n 1, 1) := dk_27 (dk_at dksX1_isTime_1 14 rfl rfl)
theorem dX1_isTime_39 : decode cX1_isTime 39 = .ok (.invokevirtual 171, 3) := dk_182 0 171 (dk_at dksX1_isTime_1 15 rfl rfl)
theorem dX1_isTime_42 : decode cX1_isTime 42 = .ok (.checkcast 205, 3) := dk_192 0 205 (dk_at dksX1_isTime_1 18 rfl rfl)
theorem dX1_isTime_45 : decode cX1_isTime 45 = .ok (.getfield 207, 3) := dk_180 0 207 (dk_at dksX1_isTime_1 21 rfl rfl)
theorem dX1_isTime_48 : decode cX1_isTime 48 = .ok (.if_icmp .lt 7, 3) := dk_161 0 7 (dk_at dksX1_isTime_2 0 rfl rfl)
theorem dX1_isTime_51 : decode cX1_isTime 51 = .ok (.iconst 1, 1) := dk_4 (dk_at dksX1_isTime_2 3 rfl rfl)
theorem dX1_isTime_52 : decode cX1_isTime 52 = .ok (.goto 4, 3) := dk_167 0 4 (dk_at dksX1_isTime_2 4 rfl rfl)
theorem dX1_isTime_55 : decode cX1_isTime 55 = .ok (.iconst 0, 1) := dk_3 (dk_at dksX1_isTime_2 7 rfl rfl)
theorem dX1_isTime_56 : decode cX1_isTime 56 = .ok (.ireturn, 1) := dk_172 (dk_at dksX1_isTime_2 8 rfl rfl)
abbrev cX1_comingFact : ByteArray := prog_1_method_25_code
def yX1_comingFact : MethodName := ⟨RX1, "comingFact", "(I)I"⟩
def dkwX1_comingFact_0 : List UInt8 := [42, 180, 0, 22, 180, 1, 0, 42, 180, 0, 62, 27, 46, 182, 0, 171, 192, 1, 3, 180, 1, 5, 172]
abbrev dktX1_comingFact_0 : List UInt8 := dkwX1_comingFact_0 ++ []
theorem dksX1_comingFact_0 : cX1_comingFact.data.toList.drop 0 = dktX1_comingFact_0 := by decide +kernel
theorem dX1_comingFact_0 : decode cX1_comingFact 0 = .ok (.aload_n 0, 1) := dk_42 (dk_at dksX1_comingFact_0 0 rfl rfl)
theorem dX1_comingFact_1 : decode cX1_comingFact 1 = .ok (.getfield 22, 3) := dk_180 0 22 (dk_at dksX1_comingFact_0 1 rfl rfl)
theorem dX1_comingFact_4 : decode cX1_comingFact 4 = .ok (.getfield 256, 3) := dk_180 1 0 (dk_at dksX1_comingFact_0 4 rfl rfl)
theorem dX1_comingFact_7 : decode cX1_comingFact 7 = .ok (.aload_n 0, 1) := dk_42 (dk_at dksX1_comingFact_0 7 rfl rfl)
theorem dX1_comingFact_8 : decode cX1_comingFact 8 = .ok (.getfield 62, 3) := dk_180 0 62 (dk_at dksX1_comingFact_0 8 rfl rfl)
theorem dX1_comingFact_11 : decode cX1_comingFact 11 = .ok (.iload_n 1, 1) := dk_27 (dk_at dksX1_comingFact_0 11 rfl rfl)
theorem dX1_comingFact_12 : decode cX1_comingFact 12 = .ok (.iaload, 1) := dk_46 (dk_at dksX1_comingFact_0 12 rfl rfl)
theorem dX1_comingFact_13 : decode cX1_comingFact 13 = .ok (.invokevirtual 171, 3) := dk_182 0 171 (dk_at dksX1_comingFact_0 13 rfl rfl)
theorem dX1_comingFact_16 : decode cX1_comingFact 16 = .ok (.checkcast 259, 3) := dk_192 1 3 (dk_at dksX1_comingFact_0 16 rfl rfl)
theorem dX1_comingFact_19 : decode cX1_comingFact 19 = .ok (.getfield 261, 3) := dk_180 1 5 (dk_at dksX1_comingFact_0 19 rfl rfl)
theorem dX1_comingFact_22 : decode cX1_comingFact 22 = .ok (.ireturn, 1) := dk_172 (dk_at dksX1_comingFact_0 22 rfl rfl)
abbrev cX1_choice : ByteArray := prog_1_method_27_code
def yX1_choice : MethodName := ⟨RX1, "choice", "(II)I"⟩
def dkwX1_choice_2 : List UInt8 := [29, 172]
abbrev dktX1_choice_2 : List UInt8 := dkwX1_choice_2 ++ []
def dkwX1_choice_1 : List UInt8 := [21, 4, 182, 1, 36, 42, 27, 28, 29, 182, 1, 36, 164, 0, 6, 21, 4, 62, 132, 4, 1, 167, 255, 216]
abbrev dktX1_choice_1 : List UInt8 := dkwX1_choice_1 ++ dktX1_choice_2
def dkwX1_choice_0 : List UInt8 := [2, 62, 3, 54, 4, 21, 4, 16, 7, 162, 0, 39, 28, 21, 4, 184, 1, 23, 153, 0, 24, 42, 27, 28]
abbrev dktX1_choice_0 : List UInt8 := dkwX1_choice_0 ++ dktX1_choice_1
theorem dksX1_choice_0 : cX1_choice.data.toList.drop 0 = dktX1_choice_0 := by decide +kernel
theorem dksX1_choice_1 : cX1_choice.data.toList.drop 24 = dktX1_choice_1 := dk_seg dksX1_choice_0 24 rfl rfl
theorem dksX1_choice_2 : cX1_choice.data.toList.drop 48 = dktX1_choice_2 := dk_seg dksX1_choice_1 24 rfl rfl
theorem dX1_choice_0 : decode cX1_choice 0 = .ok (.iconst (-1), 1) := dk_2 (dk_at dksX1_choice_0 0 rfl rfl)
theorem dX1_choice_1 : decode cX1_choice 1 = .ok (.istore_n 3, 1) := dk_62 (dk_at dksX1_choice_0 1 rfl rfl)
theorem dX1_choice_2 : decode cX1_choice 2 = .ok (.iconst 0, 1) := dk_3 (dk_at dksX1_choice_0 2 rfl rfl)
theorem dX1_choice_3 : decode cX1_choice 3 = .ok (.istore 4, 2) := dk_54 4 (dk_at dksX1_choice_0 3 rfl rfl)
theorem dX1_choice_5 : decode cX1_choice 5 = .ok (.iload 4, 2) := dk_21 4 (dk_at dksX1_choice_0 5 rfl rfl)
theorem dX1_choice_7 : decode cX1_choice 7 = .ok (.bipush 7, 2) := dk_16 7 (dk_at dksX1_choice_0 7 rfl rfl)
theorem dX1_choice_9 : decode cX1_choice 9 = .ok (.if_icmp .ge 39, 3) := dk_162 0 39 (dk_at dksX1_choice_0 9 rfl rfl)
theorem dX1_choice_12 : decode cX1_choice 12 = .ok (.iload_n 2, 1) := dk_28 (dk_at dksX1_choice_0 12 rfl rfl)
theorem dX1_choice_13 : decode cX1_choice 13 = .ok (.iload 4, 2) := dk_21 4 (dk_at dksX1_choice_0 13 rfl rfl)
theorem dX1_choice_15 : decode cX1_choice 15 = .ok (.invokestatic 279, 3) := dk_184 1 23 (dk_at dksX1_choice_0 15 rfl rfl)
theorem dX1_choice_18 : decode cX1_choice 18 = .ok (.ifCond .eq 24, 3) := dk_153 0 24 (dk_at dksX1_choice_0 18 rfl rfl)
theorem dX1_choice_21 : decode cX1_choice 21 = .ok (.aload_n 0, 1) := dk_42 (dk_at dksX1_choice_0 21 rfl rfl)
theorem dX1_choice_22 : decode cX1_choice 22 = .ok (.iload_n 1, 1) := dk_27 (dk_at dksX1_choice_0 22 rfl rfl)
theorem dX1_choice_23 : decode cX1_choice 23 = .ok (.iload_n 2, 1) := dk_28 (dk_at dksX1_choice_0 23 rfl rfl)
theorem dX1_choice_24 : decode cX1_choice 24 = .ok (.iload 4, 2) := dk_21 4 (dk_at dksX1_choice_1 0 rfl rfl)
theorem dX1_choice_26 : decode cX1_choice 26 = .ok (.invokevirtual 292, 3) := dk_182 1 36 (dk_at dksX1_choice_1 2 rfl rfl)
theorem dX1_choice_29 : decode cX1_choice 29 = .ok (.aload_n 0, 1) := dk_42 (dk_at dksX1_choice_1 5 rfl rfl)
theorem dX1_choice_30 : decode cX1_choice 30 = .ok (.iload_n 1, 1) := dk_27 (dk_at dksX1_choice_1 6 rfl rfl)
theorem dX1_choice_31 : decode cX1_choice 31 = .ok (.iload_n 2, 1) := dk_28 (dk_at dksX1_choice_1 7 rfl rfl)
theorem dX1_choice_32 : decode cX1_choice 32 = .ok (.iload_n 3, 1) := dk_29 (dk_at dksX1_choice_1 8 rfl rfl)
theorem dX1_choice_33 : decode cX1_choice 33 = .ok (.invokevirtual 292, 3) := dk_182 1 36 (dk_at dksX1_choice_1 9 rfl rfl)
theorem dX1_choice_36 : decode cX1_choice 36 = .ok (.if_icmp .le 6, 3) := dk_164 0 6 (dk_at dksX1_choice_1 12 rfl rfl)
theorem dX1_choice_39 : decode cX1_choice 39 = .ok (.iload 4, 2) := dk_21 4 (dk_at dksX1_choice_1 15 rfl rfl)
theorem dX1_choice_41 : decode cX1_choice 41 = .ok (.istore_n 3, 1) := dk_62 (dk_at dksX1_choice_1 17 rfl rfl)
theorem dX1_choice_42 : decode cX1_choice 42 = .ok (.iinc 4 1, 3) := dk_132 4 1 (dk_at dksX1_choice_1 18 rfl rfl)
theorem dX1_choice_45 : decode cX1_choice 45 = .ok (.goto (-40), 3) := dk_167 255 216 (dk_at dksX1_choice_1 21 rfl rfl)
theorem dX1_choice_48 : decode cX1_choice 48 = .ok (.iload_n 3, 1) := dk_29 (dk_at dksX1_choice_2 0 rfl rfl)
theorem dX1_choice_49 : decode cX1_choice 49 = .ok (.ireturn, 1) := dk_172 (dk_at dksX1_choice_2 1 rfl rfl)
abbrev cX1_behind : ByteArray := prog_1_method_26_code
def yX1_behind : MethodName := ⟨RX1, "behind", "(III)I"⟩
def dkwX1_behind_1 : List UInt8 := [96, 28, 4, 29, 120, 2, 130, 126, 4, 42, 27, 182, 1, 20, 120, 128, 4, 184, 1, 32, 46, 172]
abbrev dktX1_behind_1 : List UInt8 := dkwX1_behind_1 ++ []
def dkwX1_behind_0 : List UInt8 := [29, 156, 0, 17, 42, 180, 0, 71, 27, 4, 96, 28, 3, 184, 1, 32, 46, 172, 42, 180, 0, 71, 27, 4]
abbrev dktX1_behind_0 : List UInt8 := dkwX1_behind_0 ++ dktX1_behind_1
theorem dksX1_behind_0 : cX1_behind.data.toList.drop 0 = dktX1_behind_0 := by decide +kernel
theorem dksX1_behind_1 : cX1_behind.data.toList.drop 24 = dktX1_behind_1 := dk_seg dksX1_behind_0 24 rfl rfl
theorem dX1_behind_0 : decode cX1_behind 0 = .ok (.iload_n 3, 1) := dk_29 (dk_at dksX1_behind_0 0 rfl rfl)
theorem dX1_behind_1 : decode cX1_behind 1 = .ok (.ifCond .ge 17, 3) := dk_156 0 17 (dk_at dksX1_behind_0 1 rfl rfl)
theorem dX1_behind_4 : decode cX1_behind 4 = .ok (.aload_n 0, 1) := dk_42 (dk_at dksX1_behind_0 4 rfl rfl)
theorem dX1_behind_5 : decode cX1_behind 5 = .ok (.getfield 71, 3) := dk_180 0 71 (dk_at dksX1_behind_0 5 rfl rfl)
theorem dX1_behind_8 : decode cX1_behind 8 = .ok (.iload_n 1, 1) := dk_27 (dk_at dksX1_behind_0 8 rfl rfl)
theorem dX1_behind_9 : decode cX1_behind 9 = .ok (.iconst 1, 1) := dk_4 (dk_at dksX1_behind_0 9 rfl rfl)
theorem dX1_behind_10 : decode cX1_behind 10 = .ok (.iadd, 1) := dk_96 (dk_at dksX1_behind_0 10 rfl rfl)
theorem dX1_behind_11 : decode cX1_behind 11 = .ok (.iload_n 2, 1) := dk_28 (dk_at dksX1_behind_0 11 rfl rfl)
theorem dX1_behind_12 : decode cX1_behind 12 = .ok (.iconst 0, 1) := dk_3 (dk_at dksX1_behind_0 12 rfl rfl)
theorem dX1_behind_13 : decode cX1_behind 13 = .ok (.invokestatic 288, 3) := dk_184 1 32 (dk_at dksX1_behind_0 13 rfl rfl)
theorem dX1_behind_16 : decode cX1_behind 16 = .ok (.iaload, 1) := dk_46 (dk_at dksX1_behind_0 16 rfl rfl)
theorem dX1_behind_17 : decode cX1_behind 17 = .ok (.ireturn, 1) := dk_172 (dk_at dksX1_behind_0 17 rfl rfl)
theorem dX1_behind_18 : decode cX1_behind 18 = .ok (.aload_n 0, 1) := dk_42 (dk_at dksX1_behind_0 18 rfl rfl)
theorem dX1_behind_19 : decode cX1_behind 19 = .ok (.getfield 71, 3) := dk_180 0 71 (dk_at dksX1_behind_0 19 rfl rfl)
theorem dX1_behind_22 : decode cX1_behind 22 = .ok (.iload_n 1, 1) := dk_27 (dk_at dksX1_behind_0 22 rfl rfl)
theorem dX1_behind_23 : decode cX1_behind 23 = .ok (.iconst 1, 1) := dk_4 (dk_at dksX1_behind_0 23 rfl rfl)
theorem dX1_behind_24 : decode cX1_behind 24 = .ok (.iadd, 1) := dk_96 (dk_at dksX1_behind_1 0 rfl rfl)
theorem dX1_behind_25 : decode cX1_behind 25 = .ok (.iload_n 2, 1) := dk_28 (dk_at dksX1_behind_1 1 rfl rfl)
theorem dX1_behind_26 : decode cX1_behind 26 = .ok (.iconst 1, 1) := dk_4 (dk_at dksX1_behind_1 2 rfl rfl)
theorem dX1_behind_27 : decode cX1_behind 27 = .ok (.iload_n 3, 1) := dk_29 (dk_at dksX1_behind_1 3 rfl rfl)
theorem dX1_behind_28 : decode cX1_behind 28 = .ok (.ishl, 1) := dk_120 (dk_at dksX1_behind_1 4 rfl rfl)
theorem dX1_behind_29 : decode cX1_behind 29 = .ok (.iconst (-1), 1) := dk_2 (dk_at dksX1_behind_1 5 rfl rfl)
theorem dX1_behind_30 : decode cX1_behind 30 = .ok (.ixor, 1) := dk_130 (dk_at dksX1_behind_1 6 rfl rfl)
theorem dX1_behind_31 : decode cX1_behind 31 = .ok (.iand, 1) := dk_126 (dk_at dksX1_behind_1 7 rfl rfl)
theorem dX1_behind_32 : decode cX1_behind 32 = .ok (.iconst 1, 1) := dk_4 (dk_at dksX1_behind_1 8 rfl rfl)
theorem dX1_behind_33 : decode cX1_behind 33 = .ok (.aload_n 0, 1) := dk_42 (dk_at dksX1_behind_1 9 rfl rfl)
theorem dX1_behind_34 : decode cX1_behind 34 = .ok (.iload_n 1, 1) := dk_27 (dk_at dksX1_behind_1 10 rfl rfl)
theorem dX1_behind_35 : decode cX1_behind 35 = .ok (.invokevirtual 276, 3) := dk_182 1 20 (dk_at dksX1_behind_1 11 rfl rfl)
theorem dX1_behind_38 : decode cX1_behind 38 = .ok (.ishl, 1) := dk_120 (dk_at dksX1_behind_1 14 rfl rfl)
theorem dX1_behind_39 : decode cX1_behind 39 = .ok (.ior, 1) := dk_128 (dk_at dksX1_behind_1 15 rfl rfl)
theorem dX1_behind_40 : decode cX1_behind 40 = .ok (.iconst 1, 1) := dk_4 (dk_at dksX1_behind_1 16 rfl rfl)
theorem dX1_behind_41 : decode cX1_behind 41 = .ok (.invokestatic 288, 3) := dk_184 1 32 (dk_at dksX1_behind_1 17 rfl rfl)
theorem dX1_behind_44 : decode cX1_behind 44 = .ok (.iaload, 1) := dk_46 (dk_at dksX1_behind_1 20 rfl rfl)
theorem dX1_behind_45 : decode cX1_behind 45 = .ok (.ireturn, 1) := dk_172 (dk_at dksX1_behind_1 21 rfl rfl)
abbrev cX1_gain : ByteArray := prog_1_method_29_code
def yX1_gain : MethodName := ⟨RX1, "gain", "(II)I"⟩
def dkwX1_gain_2 : List UInt8 := [46, 167, 0, 4, 3, 172]
abbrev dktX1_gain_2 : List UInt8 := dkwX1_gain_2 ++ []
def dkwX1_gain_1 : List UInt8 := [180, 0, 247, 29, 182, 0, 171, 192, 1, 16, 180, 1, 44, 184, 1, 23, 153, 0, 12, 42, 180, 0, 74, 29]
abbrev dktX1_gain_1 : List UInt8 := dkwX1_gain_1 ++ dktX1_gain_2
def dkwX1_gain_0 : List UInt8 := [42, 180, 0, 58, 27, 46, 5, 159, 0, 5, 3, 172, 42, 180, 0, 62, 27, 46, 62, 28, 42, 180, 0, 22]
abbrev dktX1_gain_0 : List UInt8 := dkwX1_gain_0 ++ dktX1_gain_1
theorem dksX1_gain_0 : cX1_gain.data.toList.drop 0 = dktX1_gain_0 := by decide +kernel
theorem dksX1_gain_1 : cX1_gain.data.toList.drop 24 = dktX1_gain_1 := dk_seg dksX1_gain_0 24 rfl rfl
theorem dksX1_gain_2 : cX1_gain.data.toList.drop 48 = dktX1_gain_2 := dk_seg dksX1_gain_1 24 rfl rfl
theorem dX1_gain_0 : decode cX1_gain 0 = .ok (.aload_n 0, 1) := dk_42 (dk_at dksX1_gain_0 0 rfl rfl)
theorem dX1_gain_1 : decode cX1_gain 1 = .ok (.getfield 58, 3) := dk_180 0 58 (dk_at dksX1_gain_0 1 rfl rfl)
theorem dX1_gain_4 : decode cX1_gain 4 = .ok (.iload_n 1, 1) := dk_27 (dk_at dksX1_gain_0 4 rfl rfl)
theorem dX1_gain_5 : decode cX1_gain 5 = .ok (.iaload, 1) := dk_46 (dk_at dksX1_gain_0 5 rfl rfl)
theorem dX1_gain_6 : decode cX1_gain 6 = .ok (.iconst 2, 1) := dk_5 (dk_at dksX1_gain_0 6 rfl rfl)
theorem dX1_gain_7 : decode cX1_gain 7 = .ok (.if_icmp .eq 5, 3) := dk_159 0 5 (dk_at dksX1_gain_0 7 rfl rfl)
theorem dX1_gain_10 : decode cX1_gain 10 = .ok (.iconst 0, 1) := dk_3 (dk_at dksX1_gain_0 10 rfl rfl)
theorem dX1_gain_11 : decode cX1_gain 11 = .ok (.ireturn, 1) := dk_172 (dk_at dksX1_gain_0 11 rfl rfl)
theorem dX1_gain_12 : decode cX1_gain 12 = .ok (.aload_n 0, 1) := dk_42 (dk_at dksX1_gain_0 12 rfl rfl)
theorem dX1_gain_13 : decode cX1_gain 13 = .ok (.getfield 62, 3) := dk_180 0 62 (dk_at dksX1_gain_0 13 rfl rfl)
theorem dX1_gain_16 : decode cX1_gain 16 = .ok (.iload_n 1, 1) := dk_27 (dk_at dksX1_gain_0 16 rfl rfl)
theorem dX1_gain_17 : decode cX1_gain 17 = .ok (.iaload, 1) := dk_46 (dk_at dksX1_gain_0 17 rfl rfl)
theorem dX1_gain_18 : decode cX1_gain 18 = .ok (.istore_n 3, 1) := dk_62 (dk_at dksX1_gain_0 18 rfl rfl)
theorem dX1_gain_19 : decode cX1_gain 19 = .ok (.iload_n 2, 1) := dk_28 (dk_at dksX1_gain_0 19 rfl rfl)
theorem dX1_gain_20 : decode cX1_gain 20 = .ok (.aload_n 0, 1) := dk_42 (dk_at dksX1_gain_0 20 rfl rfl)
theorem dX1_gain_21 : decode cX1_gain 21 = .ok (.getfield 22, 3) := dk_180 0 22 (dk_at dksX1_gain_0 21 rfl rfl)
theorem dX1_gain_24 : decode cX1_gain 24 = .ok (.getfield 247, 3) := dk_180 0 247 (dk_at dksX1_gain_1 0 rfl rfl)
theorem dX1_gain_27 : decode cX1_gain 27 = .ok (.iload_n 3, 1) := dk_29 (dk_at dksX1_gain_1 3 rfl rfl)
theorem dX1_gain_28 : decode cX1_gain 28 = .ok (.invokevirtual 171, 3) := dk_182 0 171 (dk_at dksX1_gain_1 4 rfl rfl)
theorem dX1_gain_31 : decode cX1_gain 31 = .ok (.checkcast 272, 3) := dk_192 1 16 (dk_at dksX1_gain_1 7 rfl rfl)
theorem dX1_gain_34 : decode cX1_gain 34 = .ok (.getfield 300, 3) := dk_180 1 44 (dk_at dksX1_gain_1 10 rfl rfl)
theorem dX1_gain_37 : decode cX1_gain 37 = .ok (.invokestatic 279, 3) := dk_184 1 23 (dk_at dksX1_gain_1 13 rfl rfl)
theorem dX1_gain_40 : decode cX1_gain 40 = .ok (.ifCond .eq 12, 3) := dk_153 0 12 (dk_at dksX1_gain_1 16 rfl rfl)
theorem dX1_gain_43 : decode cX1_gain 43 = .ok (.aload_n 0, 1) := dk_42 (dk_at dksX1_gain_1 19 rfl rfl)
theorem dX1_gain_44 : decode cX1_gain 44 = .ok (.getfield 74, 3) := dk_180 0 74 (dk_at dksX1_gain_1 20 rfl rfl)
theorem dX1_gain_47 : decode cX1_gain 47 = .ok (.iload_n 3, 1) := dk_29 (dk_at dksX1_gain_1 23 rfl rfl)
theorem dX1_gain_48 : decode cX1_gain 48 = .ok (.iaload, 1) := dk_46 (dk_at dksX1_gain_2 0 rfl rfl)
theorem dX1_gain_49 : decode cX1_gain 49 = .ok (.goto 4, 3) := dk_167 0 4 (dk_at dksX1_gain_2 1 rfl rfl)
theorem dX1_gain_52 : decode cX1_gain 52 = .ok (.iconst 0, 1) := dk_3 (dk_at dksX1_gain_2 4 rfl rfl)
theorem dX1_gain_53 : decode cX1_gain 53 = .ok (.ireturn, 1) := dk_172 (dk_at dksX1_gain_2 5 rfl rfl)
abbrev cX1_next : ByteArray := prog_1_method_28_code
def yX1_next : MethodName := ⟨RX1, "next", "(III)I"⟩
def dkwX1_next_2 : List UInt8 := [162, 0, 13, 29, 4, 42, 28, 182, 1, 20, 120, 128, 172, 29, 172]
abbrev dktX1_next_2 : List UInt8 := dkwX1_next_2 ++ []
def dkwX1_next_1 : List UInt8 := [160, 0, 37, 29, 184, 1, 27, 42, 180, 0, 22, 180, 0, 156, 27, 182, 0, 171, 192, 0, 205, 180, 0, 207]
abbrev dktX1_next_1 : List UInt8 := dkwX1_next_1 ++ dktX1_next_2
def dkwX1_next_0 : List UInt8 := [42, 180, 0, 58, 28, 46, 154, 0, 10, 42, 28, 29, 182, 1, 40, 172, 42, 180, 0, 58, 28, 46, 4]
abbrev dktX1_next_0 : List UInt8 := dkwX1_next_0 ++ dktX1_next_1
theorem dksX1_next_0 : cX1_next.data.toList.drop 0 = dktX1_next_0 := by decide +kernel
theorem dksX1_next_1 : cX1_next.data.toList.drop 23 = dktX1_next_1 := dk_seg dksX1_next_0 23 rfl rfl
theorem dksX1_next_2 : cX1_next.data.toList.drop 47 = dktX1_next_2 := dk_seg dksX1_next_1 24 rfl rfl
theorem dX1_next_0 : decode cX1_next 0 = .ok (.aload_n 0, 1) := dk_42 (dk_at dksX1_next_0 0 rfl rfl)
theorem dX1_next_1 : decode cX1_next 1 = .ok (.getfield 58, 3) := dk_180 0 58 (dk_at dksX1_next_0 1 rfl rfl)
theorem dX1_next_4 : decode cX1_next 4 = .ok (.iload_n 2, 1) := dk_28 (dk_at dksX1_next_0 4 rfl rfl)
theorem dX1_next_5 : decode cX1_next 5 = .ok (.iaload, 1) := dk_46 (dk_at dksX1_next_0 5 rfl rfl)
theorem dX1_next_6 : decode cX1_next 6 = .ok (.ifCond .ne 10, 3) := dk_154 0 10 (dk_at dksX1_next_0 6 rfl rfl)
theorem dX1_next_9 : decode cX1_next 9 = .ok (.aload_n 0, 1) := dk_42 (dk_at dksX1_next_0 9 rfl rfl)
theorem dX1_next_10 : decode cX1_next 10 = .ok (.iload_n 2, 1) := dk_28 (dk_at dksX1_next_0 10 rfl rfl)
theorem dX1_next_11 : decode cX1_next 11 = .ok (.iload_n 3, 1) := dk_29 (dk_at dksX1_next_0 11 rfl rfl)
theorem dX1_next_12 : decode cX1_next 12 = .ok (.invokevirtual 296, 3) := dk_182 1 40 (dk_at dksX1_next_0 12 rfl rfl)
theorem dX1_next_15 : decode cX1_next 15 = .ok (.ireturn, 1) := dk_172 (dk_at dksX1_next_0 15 rfl rfl)
theorem dX1_next_16 : decode cX1_next 16 = .ok (.aload_n 0, 1) := dk_42 (dk_at dksX1_next_0 16 rfl rfl)
theorem dX1_next_17 : decode cX1_next 17 = .ok (.getfield 58, 3) := dk_180 0 58 (dk_at dksX1_next_0 17 rfl rfl)
theorem dX1_next_20 : decode cX1_next 20 = .ok (.iload_n 2, 1) := dk_28 (dk_at dksX1_next_0 20 rfl rfl)
theorem dX1_next_21 : decode cX1_next 21 = .ok (.iaload, 1) := dk_46 (dk_at dksX1_next_0 21 rfl rfl)
theorem dX1_next_22 : decode cX1_next 22 = .ok (.iconst 1, 1) := dk_4 (dk_at dksX1_next_0 22 rfl rfl)
theorem dX1_next_23 : decode cX1_next 23 = .ok (.if_icmp .ne 37, 3) := dk_160 0 37 (dk_at dksX1_next_1 0 rfl rfl)
theorem dX1_next_26 : decode cX1_next 26 = .ok (.iload_n 3, 1) := dk_29 (dk_at dksX1_next_1 3 rfl rfl)
theorem dX1_next_27 : decode cX1_next 27 = .ok (.invokestatic 283, 3) := dk_184 1 27 (dk_at dksX1_next_1 4 rfl rfl)
theorem dX1_next_30 : decode cX1_next 30 = .ok (.aload_n 0, 1) := dk_42 (dk_at dksX1_next_1 7 rfl rfl)
theorem dX1_next_31 : decode cX1_next 31 = .ok (.getfield 22, 3) := dk_180 0 22 (dk_at dksX1_next_1 8 rfl rfl)
theorem dX1_next_34 : decode cX1_next 34 = .ok (.getfield 156, 3) := dk_180 0 156 (dk_at dksX1_next_1 11 rfl rfl)
theorem dX1_next_37 : decode cX1_next 37 = .ok (.iload_n 1, 1) := dk_27 (dk_at dksX1_next_1 14 rfl rfl)
theorem dX1_next_38 : decode cX1_next 38 = .ok (.invokevirtual 171, 3) := dk_182 0 171 (dk_at dksX1_next_1 15 rfl rfl)
theorem dX1_next_41 : decode cX1_next 41 = .ok (.checkcast 205, 3) := dk_192 0 205 (dk_at dksX1_next_1 18 rfl rfl)
theorem dX1_next_44 : decode cX1_next 44 = .ok (.getfield 207, 3) := dk_180 0 207 (dk_at dksX1_next_1 21 rfl rfl)
theorem dX1_next_47 : decode cX1_next 47 = .ok (.if_icmp .ge 13, 3) := dk_162 0 13 (dk_at dksX1_next_2 0 rfl rfl)
theorem dX1_next_50 : decode cX1_next 50 = .ok (.iload_n 3, 1) := dk_29 (dk_at dksX1_next_2 3 rfl rfl)
theorem dX1_next_51 : decode cX1_next 51 = .ok (.iconst 1, 1) := dk_4 (dk_at dksX1_next_2 4 rfl rfl)
theorem dX1_next_52 : decode cX1_next 52 = .ok (.aload_n 0, 1) := dk_42 (dk_at dksX1_next_2 5 rfl rfl)
theorem dX1_next_53 : decode cX1_next 53 = .ok (.iload_n 2, 1) := dk_28 (dk_at dksX1_next_2 6 rfl rfl)
theorem dX1_next_54 : decode cX1_next 54 = .ok (.invokevirtual 276, 3) := dk_182 1 20 (dk_at dksX1_next_2 7 rfl rfl)
theorem dX1_next_57 : decode cX1_next 57 = .ok (.ishl, 1) := dk_120 (dk_at dksX1_next_2 10 rfl rfl)
theorem dX1_next_58 : decode cX1_next 58 = .ok (.ior, 1) := dk_128 (dk_at dksX1_next_2 11 rfl rfl)
theorem dX1_next_59 : decode cX1_next 59 = .ok (.ireturn, 1) := dk_172 (dk_at dksX1_next_2 12 rfl rfl)
theorem dX1_next_60 : decode cX1_next 60 = .ok (.iload_n 3, 1) := dk_29 (dk_at dksX1_next_2 13 rfl rfl)
theorem dX1_next_61 : decode cX1_next 61 = .ok (.ireturn, 1) := dk_172 (dk_at dksX1_next_2 14 rfl rfl)
abbrev cX1_dawned : ByteArray := prog_1_method_23_code
def yX1_dawned : MethodName := ⟨RX1, "dawned", "(II)I"⟩
def dkwX1_dawned_2 : List UInt8 := [29, 172]
abbrev dktX1_dawned_2 : List UInt8 := dkwX1_dawned_2 ++ []
def dkwX1_dawned_1 : List UInt8 := [42, 180, 0, 65, 27, 46, 162, 0, 12, 29, 4, 21, 4, 120, 2, 130, 126, 62, 132, 4, 1, 167, 255, 216]
abbrev dktX1_dawned_1 : List UInt8 := dkwX1_dawned_1 ++ dktX1_dawned_2
def dkwX1_dawned_0 : List UInt8 := [28, 62, 3, 54, 4, 21, 4, 16, 7, 162, 0, 39, 42, 180, 0, 68, 16, 7, 27, 104, 21, 4, 96, 46]
abbrev dktX1_dawned_0 : List UInt8 := dkwX1_dawned_0 ++ dktX1_dawned_1
theorem dksX1_dawned_0 : cX1_dawned.data.toList.drop 0 = dktX1_dawned_0 := by decide +kernel
theorem dksX1_dawned_1 : cX1_dawned.data.toList.drop 24 = dktX1_dawned_1 := dk_seg dksX1_dawned_0 24 rfl rfl
theorem dksX1_dawned_2 : cX1_dawned.data.toList.drop 48 = dktX1_dawned_2 := dk_seg dksX1_dawned_1 24 rfl rfl
theorem dX1_dawned_0 : decode cX1_dawned 0 = .ok (.iload_n 2, 1) := dk_28 (dk_at dksX1_dawned_0 0 rfl rfl)
theorem dX1_dawned_1 : decode cX1_dawned 1 = .ok (.istore_n 3, 1) := dk_62 (dk_at dksX1_dawned_0 1 rfl rfl)
theorem dX1_dawned_2 : decode cX1_dawned 2 = .ok (.iconst 0, 1) := dk_3 (dk_at dksX1_dawned_0 2 rfl rfl)
theorem dX1_dawned_3 : decode cX1_dawned 3 = .ok (.istore 4, 2) := dk_54 4 (dk_at dksX1_dawned_0 3 rfl rfl)
theorem dX1_dawned_5 : decode cX1_dawned 5 = .ok (.iload 4, 2) := dk_21 4 (dk_at dksX1_dawned_0 5 rfl rfl)
theorem dX1_dawned_7 : decode cX1_dawned 7 = .ok (.bipush 7, 2) := dk_16 7 (dk_at dksX1_dawned_0 7 rfl rfl)
theorem dX1_dawned_9 : decode cX1_dawned 9 = .ok (.if_icmp .ge 39, 3) := dk_162 0 39 (dk_at dksX1_dawned_0 9 rfl rfl)
theorem dX1_dawned_12 : decode cX1_dawned 12 = .ok (.aload_n 0, 1) := dk_42 (dk_at dksX1_dawned_0 12 rfl rfl)
theorem dX1_dawned_13 : decode cX1_dawned 13 = .ok (.getfield 68, 3) := dk_180 0 68 (dk_at dksX1_dawned_0 13 rfl rfl)
theorem dX1_dawned_16 : decode cX1_dawned 16 = .ok (.bipush 7, 2) := dk_16 7 (dk_at dksX1_dawned_0 16 rfl rfl)
theorem dX1_dawned_18 : decode cX1_dawned 18 = .ok (.iload_n 1, 1) := dk_27 (dk_at dksX1_dawned_0 18 rfl rfl)
theorem dX1_dawned_19 : decode cX1_dawned 19 = .ok (.imul, 1) := dk_104 (dk_at dksX1_dawned_0 19 rfl rfl)
theorem dX1_dawned_20 : decode cX1_dawned 20 = .ok (.iload 4, 2) := dk_21 4 (dk_at dksX1_dawned_0 20 rfl rfl)
theorem dX1_dawned_22 : decode cX1_dawned 22 = .ok (.iadd, 1) := dk_96 (dk_at dksX1_dawned_0 22 rfl rfl)
theorem dX1_dawned_23 : decode cX1_dawned 23 = .ok (.iaload, 1) := dk_46 (dk_at dksX1_dawned_0 23 rfl rfl)
theorem dX1_dawned_24 : decode cX1_dawned 24 = .ok (.aload_n 0, 1) := dk_42 (dk_at dksX1_dawned_1 0 rfl rfl)
theorem dX1_dawned_25 : decode cX1_dawned 25 = .ok (.getfield 65, 3) := dk_180 0 65 (dk_at dksX1_dawned_1 1 rfl rfl)
theorem dX1_dawned_28 : decode cX1_dawned 28 = .ok (.iload_n 1, 1) := dk_27 (dk_at dksX1_dawned_1 4 rfl rfl)
theorem dX1_dawned_29 : decode cX1_dawned 29 = .ok (.iaload, 1) := dk_46 (dk_at dksX1_dawned_1 5 rfl rfl)
theorem dX1_dawned_30 : decode cX1_dawned 30 = .ok (.if_icmp .ge 12, 3) := dk_162 0 12 (dk_at dksX1_dawned_1 6 rfl rfl)
theorem dX1_dawned_33 : decode cX1_dawned 33 = .ok (.iload_n 3, 1) := dk_29 (dk_at dksX1_dawned_1 9 rfl rfl)
theorem dX1_dawned_34 : decode cX1_dawned 34 = .ok (.iconst 1, 1) := dk_4 (dk_at dksX1_dawned_1 10 rfl rfl)
theorem dX1_dawned_35 : decode cX1_dawned 35 = .ok (.iload 4, 2) := dk_21 4 (dk_at dksX1_dawned_1 11 rfl rfl)
theorem dX1_dawned_37 : decode cX1_dawned 37 = .ok (.ishl, 1) := dk_120 (dk_at dksX1_dawned_1 13 rfl rfl)
theorem dX1_dawned_38 : decode cX1_dawned 38 = .ok (.iconst (-1), 1) := dk_2 (dk_at dksX1_dawned_1 14 rfl rfl)
theorem dX1_dawned_39 : decode cX1_dawned 39 = .ok (.ixor, 1) := dk_130 (dk_at dksX1_dawned_1 15 rfl rfl)
theorem dX1_dawned_40 : decode cX1_dawned 40 = .ok (.iand, 1) := dk_126 (dk_at dksX1_dawned_1 16 rfl rfl)
theorem dX1_dawned_41 : decode cX1_dawned 41 = .ok (.istore_n 3, 1) := dk_62 (dk_at dksX1_dawned_1 17 rfl rfl)
theorem dX1_dawned_42 : decode cX1_dawned 42 = .ok (.iinc 4 1, 3) := dk_132 4 1 (dk_at dksX1_dawned_1 18 rfl rfl)
theorem dX1_dawned_45 : decode cX1_dawned 45 = .ok (.goto (-40), 3) := dk_167 255 216 (dk_at dksX1_dawned_1 21 rfl rfl)
theorem dX1_dawned_48 : decode cX1_dawned 48 = .ok (.iload_n 3, 1) := dk_29 (dk_at dksX1_dawned_2 0 rfl rfl)
theorem dX1_dawned_49 : decode cX1_dawned 49 = .ok (.ireturn, 1) := dk_172 (dk_at dksX1_dawned_2 1 rfl rfl)
abbrev cX1_goes : ByteArray := prog_1_method_35_code
def yX1_goes : MethodName := ⟨RX1, "goes", "(II)I"⟩
def dkwX1_goes_2 : List UInt8 := [16, 254, 167, 0, 7, 42, 180, 1, 79, 172]
abbrev dktX1_goes_2 : List UInt8 := dkwX1_goes_2 ++ []
def dkwX1_goes_1 : List UInt8 := [182, 1, 82, 87, 28, 42, 180, 1, 76, 161, 0, 8, 16, 253, 167, 0, 19, 42, 180, 1, 79, 156, 0, 8]
abbrev dktX1_goes_1 : List UInt8 := dkwX1_goes_1 ++ dktX1_goes_2
def dkwX1_goes_0 : List UInt8 := [42, 27, 182, 0, 198, 153, 0, 7, 28, 156, 0, 5, 2, 172, 42, 27, 182, 1, 73, 42, 27, 28, 1]
abbrev dktX1_goes_0 : List UInt8 := dkwX1_goes_0 ++ dktX1_goes_1
theorem dksX1_goes_0 : cX1_goes.data.toList.drop 0 = dktX1_goes_0 := by decide +kernel
theorem dksX1_goes_1 : cX1_goes.data.toList.drop 23 = dktX1_goes_1 := dk_seg dksX1_goes_0 23 rfl rfl
theorem dksX1_goes_2 : cX1_goes.data.toList.drop 47 = dktX1_goes_2 := dk_seg dksX1_goes_1 24 rfl rfl
theorem dX1_goes_0 : decode cX1_goes 0 = .ok (.aload_n 0, 1) := dk_42 (dk_at dksX1_goes_0 0 rfl rfl)
theorem dX1_goes_1 : decode cX1_goes 1 = .ok (.iload_n 1, 1) := dk_27 (dk_at dksX1_goes_0 1 rfl rfl)
theorem dX1_goes_2 : decode cX1_goes 2 = .ok (.invokevirtual 198, 3) := dk_182 0 198 (dk_at dksX1_goes_0 2 rfl rfl)
theorem dX1_goes_5 : decode cX1_goes 5 = .ok (.ifCond .eq 7, 3) := dk_153 0 7 (dk_at dksX1_goes_0 5 rfl rfl)
theorem dX1_goes_8 : decode cX1_goes 8 = .ok (.iload_n 2, 1) := dk_28 (dk_at dksX1_goes_0 8 rfl rfl)
theorem dX1_goes_9 : decode cX1_goes 9 = .ok (.ifCond .ge 5, 3) := dk_156 0 5 (dk_at dksX1_goes_0 9 rfl rfl)
theorem dX1_goes_12 : decode cX1_goes 12 = .ok (.iconst (-1), 1) := dk_2 (dk_at dksX1_goes_0 12 rfl rfl)
theorem dX1_goes_13 : decode cX1_goes 13 = .ok (.ireturn, 1) := dk_172 (dk_at dksX1_goes_0 13 rfl rfl)
theorem dX1_goes_14 : decode cX1_goes 14 = .ok (.aload_n 0, 1) := dk_42 (dk_at dksX1_goes_0 14 rfl rfl)
theorem dX1_goes_15 : decode cX1_goes 15 = .ok (.iload_n 1, 1) := dk_27 (dk_at dksX1_goes_0 15 rfl rfl)
theorem dX1_goes_16 : decode cX1_goes 16 = .ok (.invokevirtual 329, 3) := dk_182 1 73 (dk_at dksX1_goes_0 16 rfl rfl)
theorem dX1_goes_19 : decode cX1_goes 19 = .ok (.aload_n 0, 1) := dk_42 (dk_at dksX1_goes_0 19 rfl rfl)
theorem dX1_goes_20 : decode cX1_goes 20 = .ok (.iload_n 1, 1) := dk_27 (dk_at dksX1_goes_0 20 rfl rfl)
theorem dX1_goes_21 : decode cX1_goes 21 = .ok (.iload_n 2, 1) := dk_28 (dk_at dksX1_goes_0 21 rfl rfl)
theorem dX1_goes_22 : decode cX1_goes 22 = .ok (.aconst_null, 1) := dk_1 (dk_at dksX1_goes_0 22 rfl rfl)
theorem dX1_goes_23 : decode cX1_goes 23 = .ok (.invokevirtual 338, 3) := dk_182 1 82 (dk_at dksX1_goes_1 0 rfl rfl)
theorem dX1_goes_26 : decode cX1_goes 26 = .ok (.pop, 1) := dk_87 (dk_at dksX1_goes_1 3 rfl rfl)
theorem dX1_goes_27 : decode cX1_goes 27 = .ok (.iload_n 2, 1) := dk_28 (dk_at dksX1_goes_1 4 rfl rfl)
theorem dX1_goes_28 : decode cX1_goes 28 = .ok (.aload_n 0, 1) := dk_42 (dk_at dksX1_goes_1 5 rfl rfl)
theorem dX1_goes_29 : decode cX1_goes 29 = .ok (.getfield 332, 3) := dk_180 1 76 (dk_at dksX1_goes_1 6 rfl rfl)
theorem dX1_goes_32 : decode cX1_goes 32 = .ok (.if_icmp .lt 8, 3) := dk_161 0 8 (dk_at dksX1_goes_1 9 rfl rfl)
theorem dX1_goes_35 : decode cX1_goes 35 = .ok (.bipush (-3), 2) := dk_16 253 (dk_at dksX1_goes_1 12 rfl rfl)
theorem dX1_goes_37 : decode cX1_goes 37 = .ok (.goto 19, 3) := dk_167 0 19 (dk_at dksX1_goes_1 14 rfl rfl)
theorem dX1_goes_40 : decode cX1_goes 40 = .ok (.aload_n 0, 1) := dk_42 (dk_at dksX1_goes_1 17 rfl rfl)
theorem dX1_goes_41 : decode cX1_goes 41 = .ok (.getfield 335, 3) := dk_180 1 79 (dk_at dksX1_goes_1 18 rfl rfl)
theorem dX1_goes_44 : decode cX1_goes 44 = .ok (.ifCond .ge 8, 3) := dk_156 0 8 (dk_at dksX1_goes_1 21 rfl rfl)
theorem dX1_goes_47 : decode cX1_goes 47 = .ok (.bipush (-2), 2) := dk_16 254 (dk_at dksX1_goes_2 0 rfl rfl)
theorem dX1_goes_49 : decode cX1_goes 49 = .ok (.goto 7, 3) := dk_167 0 7 (dk_at dksX1_goes_2 2 rfl rfl)
theorem dX1_goes_52 : decode cX1_goes 52 = .ok (.aload_n 0, 1) := dk_42 (dk_at dksX1_goes_2 5 rfl rfl)
theorem dX1_goes_53 : decode cX1_goes 53 = .ok (.getfield 335, 3) := dk_180 1 79 (dk_at dksX1_goes_2 6 rfl rfl)
theorem dX1_goes_56 : decode cX1_goes 56 = .ok (.ireturn, 1) := dk_172 (dk_at dksX1_goes_2 9 rfl rfl)
abbrev cX1_goAlong : ByteArray := prog_1_method_34_code
def yX1_goAlong : MethodName := ⟨RX1, "goAlong", "(II[Z)I"⟩
def dkwX1_goAlong_8 : List UInt8 := [126, 4, 42, 21, 7, 182, 1, 20, 120, 128, 54, 4, 4, 54, 5, 132, 7, 1, 167, 255, 68, 21, 6, 172]
abbrev dktX1_goAlong_8 : List UInt8 := dkwX1_goAlong_8 ++ []
def dkwX1_goAlong_7 : List UInt8 := [180, 1, 76, 4, 96, 181, 1, 76, 21, 8, 156, 0, 6, 167, 0, 26, 21, 4, 4, 21, 8, 120, 2, 130]
abbrev dktX1_goAlong_7 : List UInt8 := dkwX1_goAlong_7 ++ dktX1_goAlong_8
def dkwX1_goAlong_6 : List UInt8 := [21, 4, 182, 1, 49, 54, 8, 42, 180, 1, 76, 28, 160, 0, 9, 42, 21, 8, 181, 1, 79, 42, 89]
abbrev dktX1_goAlong_6 : List UInt8 := dkwX1_goAlong_6 ++ dktX1_goAlong_7
def dkwX1_goAlong_5 : List UInt8 := [182, 1, 45, 154, 0, 17, 42, 27, 21, 7, 21, 4, 182, 1, 55, 54, 4, 167, 0, 68, 42, 21, 7]
abbrev dktX1_goAlong_5 : List UInt8 := dkwX1_goAlong_5 ++ dktX1_goAlong_6
def dkwX1_goAlong_4 : List UInt8 := [182, 0, 171, 192, 1, 16, 180, 1, 44, 182, 1, 58, 96, 54, 6, 42, 27, 21, 7, 21, 4, 21, 5]
abbrev dktX1_goAlong_4 : List UInt8 := dkwX1_goAlong_4 ++ dktX1_goAlong_5
def dkwX1_goAlong_3 : List UInt8 := [182, 1, 52, 158, 0, 35, 21, 6, 42, 42, 180, 0, 22, 180, 0, 247, 42, 180, 0, 62, 21, 7, 46]
abbrev dktX1_goAlong_3 : List UInt8 := dkwX1_goAlong_3 ++ dktX1_goAlong_4
def dkwX1_goAlong_2 : List UInt8 := [160, 0, 62, 45, 198, 0, 58, 45, 42, 180, 0, 62, 21, 7, 46, 51, 153, 0, 46, 42, 21, 7, 21, 4]
abbrev dktX1_goAlong_2 : List UInt8 := dkwX1_goAlong_2 ++ dktX1_goAlong_3
def dkwX1_goAlong_1 : List UInt8 := [162, 0, 185, 42, 180, 0, 58, 21, 7, 46, 154, 0, 6, 3, 54, 5, 42, 180, 0, 58, 21, 7, 46, 5]
abbrev dktX1_goAlong_1 : List UInt8 := dkwX1_goAlong_1 ++ dktX1_goAlong_2
def dkwX1_goAlong_0 : List UInt8 := [3, 54, 4, 3, 54, 5, 3, 54, 6, 42, 3, 181, 1, 76, 3, 54, 7, 21, 7, 42, 180, 0, 253]
abbrev dktX1_goAlong_0 : List UInt8 := dkwX1_goAlong_0 ++ dktX1_goAlong_1
theorem dksX1_goAlong_0 : cX1_goAlong.data.toList.drop 0 = dktX1_goAlong_0 := by decide +kernel
theorem dksX1_goAlong_1 : cX1_goAlong.data.toList.drop 23 = dktX1_goAlong_1 := dk_seg dksX1_goAlong_0 23 rfl rfl
theorem dksX1_goAlong_2 : cX1_goAlong.data.toList.drop 47 = dktX1_goAlong_2 := dk_seg dksX1_goAlong_1 24 rfl rfl
theorem dksX1_goAlong_3 : cX1_goAlong.data.toList.drop 71 = dktX1_goAlong_3 := dk_seg dksX1_goAlong_2 24 rfl rfl
theorem dksX1_goAlong_4 : cX1_goAlong.data.toList.drop 94 = dktX1_goAlong_4 := dk_seg dksX1_goAlong_3 23 rfl rfl
theorem dksX1_goAlong_5 : cX1_goAlong.data.toList.drop 117 = dktX1_goAlong_5 := dk_seg dksX1_goAlong_4 23 rfl rfl
theorem dksX1_goAlong_6 : cX1_goAlong.data.toList.drop 140 = dktX1_goAlong_6 := dk_seg dksX1_goAlong_5 23 rfl rfl
theorem dksX1_goAlong_7 : cX1_goAlong.data.toList.drop 163 = dktX1_goAlong_7 := dk_seg dksX1_goAlong_6 23 rfl rfl
theorem dksX1_goAlong_8 : cX1_goAlong.data.toList.drop 187 = dktX1_goAlong_8 := dk_seg dksX1_goAlong_7 24 rfl rfl
theorem dX1_goAlong_0 : decode cX1_goAlong 0 = .ok (.iconst 0, 1) := dk_3 (dk_at dksX1_goAlong_0 0 rfl rfl)
theorem dX1_goAlong_1 : decode cX1_goAlong 1 = .ok (.istore 4, 2) := dk_54 4 (dk_at dksX1_goAlong_0 1 rfl rfl)
theorem dX1_goAlong_3 : decode cX1_goAlong 3 = .ok (.iconst 0, 1) := dk_3 (dk_at dksX1_goAlong_0 3 rfl rfl)
theorem dX1_goAlong_4 : decode cX1_goAlong 4 = .ok (.istore 5, 2) := dk_54 5 (dk_at dksX1_goAlong_0 4 rfl rfl)
theorem dX1_goAlong_6 : decode cX1_goAlong 6 = .ok (.iconst 0, 1) := dk_3 (dk_at dksX1_goAlong_0 6 rfl rfl)
theorem dX1_goAlong_7 : decode cX1_goAlong 7 = .ok (.istore 6, 2) := dk_54 6 (dk_at dksX1_goAlong_0 7 rfl rfl)
theorem dX1_goAlong_9 : decode cX1_goAlong 9 = .ok (.aload_n 0, 1) := dk_42 (dk_at dksX1_goAlong_0 9 rfl rfl)
theorem dX1_goAlong_10 : decode cX1_goAlong 10 = .ok (.iconst 0, 1) := dk_3 (dk_at dksX1_goAlong_0 10 rfl rfl)
theorem dX1_goAlong_11 : decode cX1_goAlong 11 = .ok (.putfield 332, 3) := dk_181 1 76 (dk_at dksX1_goAlong_0 11 rfl rfl)
theorem dX1_goAlong_14 : decode cX1_goAlong 14 = .ok (.iconst 0, 1) := dk_3 (dk_at dksX1_goAlong_0 14 rfl rfl)
theorem dX1_goAlong_15 : decode cX1_goAlong 15 = .ok (.istore 7, 2) := dk_54 7 (dk_at dksX1_goAlong_0 15 rfl rfl)
theorem dX1_goAlong_17 : decode cX1_goAlong 17 = .ok (.iload 7, 2) := dk_21 7 (dk_at dksX1_goAlong_0 17 rfl rfl)
theorem dX1_goAlong_19 : decode cX1_goAlong 19 = .ok (.aload_n 0, 1) := dk_42 (dk_at dksX1_goAlong_0 19 rfl rfl)
theorem dX1_goAlong_20 : decode cX1_goAlong 20 = .ok (.getfield 253, 3) := dk_180 0 253 (dk_at dksX1_goAlong_0 20 rfl rfl)
theorem dX1_goAlong_23 : decode cX1_goAlong 23 = .ok (.if_icmp .ge 185, 3) := dk_162 0 185 (dk_at dksX1_goAlong_1 0 rfl rfl)
theorem dX1_goAlong_26 : decode cX1_goAlong 26 = .ok (.aload_n 0, 1) := dk_42 (dk_at dksX1_goAlong_1 3 rfl rfl)
theorem dX1_goAlong_27 : decode cX1_goAlong 27 = .ok (.getfield 58, 3) := dk_180 0 58 (dk_at dksX1_goAlong_1 4 rfl rfl)
theorem dX1_goAlong_30 : decode cX1_goAlong 30 = .ok (.iload 7, 2) := dk_21 7 (dk_at dksX1_goAlong_1 7 rfl rfl)
theorem dX1_goAlong_32 : decode cX1_goAlong 32 = .ok (.iaload, 1) := dk_46 (dk_at dksX1_goAlong_1 9 rfl rfl)
theorem dX1_goAlong_33 : decode cX1_goAlong 33 = .ok (.ifCond .ne 6, 3) := dk_154 0 6 (dk_at dksX1_goAlong_1 10 rfl rfl)
theorem dX1_goAlong_36 : decode cX1_goAlong 36 = .ok (.iconst 0, 1) := dk_3 (dk_at dksX1_goAlong_1 13 rfl rfl)
theorem dX1_goAlong_37 : decode cX1_goAlong 37 = .ok (.istore 5, 2) := dk_54 5 (dk_at dksX1_goAlong_1 14 rfl rfl)
theorem dX1_goAlong_39 : decode cX1_goAlong 39 = .ok (.aload_n 0, 1) := dk_42 (dk_at dksX1_goAlong_1 16 rfl rfl)
theorem dX1_goAlong_40 : decode cX1_goAlong 40 = .ok (.getfield 58, 3) := dk_180 0 58 (dk_at dksX1_goAlong_1 17 rfl rfl)
theorem dX1_goAlong_43 : decode cX1_goAlong 43 = .ok (.iload 7, 2) := dk_21 7 (dk_at dksX1_goAlong_1 20 rfl rfl)
theorem dX1_goAlong_45 : decode cX1_goAlong 45 = .ok (.iaload, 1) := dk_46 (dk_at dksX1_goAlong_1 22 rfl rfl)
theorem dX1_goAlong_46 : decode cX1_goAlong 46 = .ok (.iconst 2, 1) := dk_5 (dk_at dksX1_goAlong_1 23 rfl rfl)
theorem dX1_goAlong_47 : decode cX1_goAlong 47 = .ok (.if_icmp .ne 62, 3) := dk_160 0 62 (dk_at dksX1_goAlong_2 0 rfl rfl)
theorem dX1_goAlong_50 : decode cX1_goAlong 50 = .ok (.aload_n 3, 1) := dk_45 (dk_at dksX1_goAlong_2 3 rfl rfl)
theorem dX1_goAlong_51 : decode cX1_goAlong 51 = .ok (.ifnull 58, 3) := dk_198 0 58 (dk_at dksX1_goAlong_2 4 rfl rfl)
theorem dX1_goAlong_54 : decode cX1_goAlong 54 = .ok (.aload_n 3, 1) := dk_45 (dk_at dksX1_goAlong_2 7 rfl rfl)
theorem dX1_goAlong_55 : decode cX1_goAlong 55 = .ok (.aload_n 0, 1) := dk_42 (dk_at dksX1_goAlong_2 8 rfl rfl)
theorem dX1_goAlong_56 : decode cX1_goAlong 56 = .ok (.getfield 62, 3) := dk_180 0 62 (dk_at dksX1_goAlong_2 9 rfl rfl)
theorem dX1_goAlong_59 : decode cX1_goAlong 59 = .ok (.iload 7, 2) := dk_21 7 (dk_at dksX1_goAlong_2 12 rfl rfl)
theorem dX1_goAlong_61 : decode cX1_goAlong 61 = .ok (.iaload, 1) := dk_46 (dk_at dksX1_goAlong_2 14 rfl rfl)
theorem dX1_goAlong_62 : decode cX1_goAlong 62 = .ok (.baload, 1) := dk_51 (dk_at dksX1_goAlong_2 15 rfl rfl)
theorem dX1_goAlong_63 : decode cX1_goAlong 63 = .ok (.ifCond .eq 46, 3) := dk_153 0 46 (dk_at dksX1_goAlong_2 16 rfl rfl)
theorem dX1_goAlong_66 : decode cX1_goAlong 66 = .ok (.aload_n 0, 1) := dk_42 (dk_at dksX1_goAlong_2 19 rfl rfl)
theorem dX1_goAlong_67 : decode cX1_goAlong 67 = .ok (.iload 7, 2) := dk_21 7 (dk_at dksX1_goAlong_2 20 rfl rfl)
theorem dX1_goAlong_69 : decode cX1_goAlong 69 = .ok (.iload 4, 2) := dk_21 4 (dk_at dksX1_goAlong_2 22 rfl rfl)
theorem dX1_goAlong_71 : decode cX1_goAlong 71 = .ok (.invokevirtual 308, 3) := dk_182 1 52 (dk_at dksX1_goAlong_3 0 rfl rfl)
theorem dX1_goAlong_74 : decode cX1_goAlong 74 = .ok (.ifCond .le 35, 3) := dk_158 0 35 (dk_at dksX1_goAlong_3 3 rfl rfl)
theorem dX1_goAlong_77 : decode cX1_goAlong 77 = .ok (.iload 6, 2) := dk_21 6 (dk_at dksX1_goAlong_3 6 rfl rfl)
theorem dX1_goAlong_79 : decode cX1_goAlong 79 = .ok (.aload_n 0, 1) := dk_42 (dk_at dksX1_goAlong_3 8 rfl rfl)
theorem dX1_goAlong_80 : decode cX1_goAlong 80 = .ok (.aload_n 0, 1) := dk_42 (dk_at dksX1_goAlong_3 9 rfl rfl)
theorem dX1_goAlong_81 : decode cX1_goAlong 81 = .ok (.getfield 22, 3) := dk_180 0 22 (dk_at dksX1_goAlong_3 10 rfl rfl)
theorem dX1_goAlong_84 : decode cX1_goAlong 84 = .ok (.getfield 247, 3) := dk_180 0 247 (dk_at dksX1_goAlong_3 13 rfl rfl)
theorem dX1_goAlong_87 : decode cX1_goAlong 87 = .ok (.aload_n 0, 1) := dk_42 (dk_at dksX1_goAlong_3 16 rfl rfl)
theorem dX1_goAlong_88 : decode cX1_goAlong 88 = .ok (.getfield 62, 3) := dk_180 0 62 (dk_at dksX1_goAlong_3 17 rfl rfl)
theorem dX1_goAlong_91 : decode cX1_goAlong 91 = .ok (.iload 7, 2) := dk_21 7 (dk_at dksX1_goAlong_3 20 rfl rfl)
theorem dX1_goAlong_93 : decode cX1_goAlong 93 = .ok (.iaload, 1) := dk_46 (dk_at dksX1_goAlong_3 22 rfl rfl)
theorem dX1_goAlong_94 : decode cX1_goAlong 94 = .ok (.invokevirtual 171, 3) := dk_182 0 171 (dk_at dksX1_goAlong_4 0 rfl rfl)
theorem dX1_goAlong_97 : decode cX1_goAlong 97 = .ok (.checkcast 272, 3) := dk_192 1 16 (dk_at dksX1_goAlong_4 3 rfl rfl)
theorem dX1_goAlong_100 : decode cX1_goAlong 100 = .ok (.getfield 300, 3) := dk_180 1 44 (dk_at dksX1_goAlong_4 6 rfl rfl)
theorem dX1_goAlong_103 : decode cX1_goAlong 103 = .ok (.invokevirtual 314, 3) := dk_182 1 58 (dk_at dksX1_goAlong_4 9 rfl rfl)
theorem dX1_goAlong_106 : decode cX1_goAlong 106 = .ok (.iadd, 1) := dk_96 (dk_at dksX1_goAlong_4 12 rfl rfl)
theorem dX1_goAlong_107 : decode cX1_goAlong 107 = .ok (.istore 6, 2) := dk_54 6 (dk_at dksX1_goAlong_4 13 rfl rfl)
theorem dX1_goAlong_109 : decode cX1_goAlong 109 = .ok (.aload_n 0, 1) := dk_42 (dk_at dksX1_goAlong_4 15 rfl rfl)
theorem dX1_goAlong_110 : decode cX1_goAlong 110 = .ok (.iload_n 1, 1) := dk_27 (dk_at dksX1_goAlong_4 16 rfl rfl)
theorem dX1_goAlong_111 : decode cX1_goAlong 111 = .ok (.iload 7, 2) := dk_21 7 (dk_at dksX1_goAlong_4 17 rfl rfl)
theorem dX1_goAlong_113 : decode cX1_goAlong 113 = .ok (.iload 4, 2) := dk_21 4 (dk_at dksX1_goAlong_4 19 rfl rfl)
theorem dX1_goAlong_115 : decode cX1_goAlong 115 = .ok (.iload 5, 2) := dk_21 5 (dk_at dksX1_goAlong_4 21 rfl rfl)
theorem dX1_goAlong_117 : decode cX1_goAlong 117 = .ok (.invokevirtual 301, 3) := dk_182 1 45 (dk_at dksX1_goAlong_5 0 rfl rfl)
theorem dX1_goAlong_120 : decode cX1_goAlong 120 = .ok (.ifCond .ne 17, 3) := dk_154 0 17 (dk_at dksX1_goAlong_5 3 rfl rfl)
theorem dX1_goAlong_123 : decode cX1_goAlong 123 = .ok (.aload_n 0, 1) := dk_42 (dk_at dksX1_goAlong_5 6 rfl rfl)
theorem dX1_goAlong_124 : decode cX1_goAlong 124 = .ok (.iload_n 1, 1) := dk_27 (dk_at dksX1_goAlong_5 7 rfl rfl)
theorem dX1_goAlong_125 : decode cX1_goAlong 125 = .ok (.iload 7, 2) := dk_21 7 (dk_at dksX1_goAlong_5 8 rfl rfl)
theorem dX1_goAlong_127 : decode cX1_goAlong 127 = .ok (.iload 4, 2) := dk_21 4 (dk_at dksX1_goAlong_5 10 rfl rfl)
theorem dX1_goAlong_129 : decode cX1_goAlong 129 = .ok (.invokevirtual 311, 3) := dk_182 1 55 (dk_at dksX1_goAlong_5 12 rfl rfl)
theorem dX1_goAlong_132 : decode cX1_goAlong 132 = .ok (.istore 4, 2) := dk_54 4 (dk_at dksX1_goAlong_5 15 rfl rfl)
theorem dX1_goAlong_134 : decode cX1_goAlong 134 = .ok (.goto 68, 3) := dk_167 0 68 (dk_at dksX1_goAlong_5 17 rfl rfl)
theorem dX1_goAlong_137 : decode cX1_goAlong 137 = .ok (.aload_n 0, 1) := dk_42 (dk_at dksX1_goAlong_5 20 rfl rfl)
theorem dX1_goAlong_138 : decode cX1_goAlong 138 = .ok (.iload 7, 2) := dk_21 7 (dk_at dksX1_goAlong_5 21 rfl rfl)
theorem dX1_goAlong_140 : decode cX1_goAlong 140 = .ok (.iload 4, 2) := dk_21 4 (dk_at dksX1_goAlong_6 0 rfl rfl)
theorem dX1_goAlong_142 : decode cX1_goAlong 142 = .ok (.invokevirtual 305, 3) := dk_182 1 49 (dk_at dksX1_goAlong_6 2 rfl rfl)
theorem dX1_goAlong_145 : decode cX1_goAlong 145 = .ok (.istore 8, 2) := dk_54 8 (dk_at dksX1_goAlong_6 5 rfl rfl)
theorem dX1_goAlong_147 : decode cX1_goAlong 147 = .ok (.aload_n 0, 1) := dk_42 (dk_at dksX1_goAlong_6 7 rfl rfl)
theorem dX1_goAlong_148 : decode cX1_goAlong 148 = .ok (.getfield 332, 3) := dk_180 1 76 (dk_at dksX1_goAlong_6 8 rfl rfl)
theorem dX1_goAlong_151 : decode cX1_goAlong 151 = .ok (.iload_n 2, 1) := dk_28 (dk_at dksX1_goAlong_6 11 rfl rfl)
theorem dX1_goAlong_152 : decode cX1_goAlong 152 = .ok (.if_icmp .ne 9, 3) := dk_160 0 9 (dk_at dksX1_goAlong_6 12 rfl rfl)
theorem dX1_goAlong_155 : decode cX1_goAlong 155 = .ok (.aload_n 0, 1) := dk_42 (dk_at dksX1_goAlong_6 15 rfl rfl)
theorem dX1_goAlong_156 : decode cX1_goAlong 156 = .ok (.iload 8, 2) := dk_21 8 (dk_at dksX1_goAlong_6 16 rfl rfl)
theorem dX1_goAlong_158 : decode cX1_goAlong 158 = .ok (.putfield 335, 3) := dk_181 1 79 (dk_at dksX1_goAlong_6 18 rfl rfl)
theorem dX1_goAlong_161 : decode cX1_goAlong 161 = .ok (.aload_n 0, 1) := dk_42 (dk_at dksX1_goAlong_6 21 rfl rfl)
theorem dX1_goAlong_162 : decode cX1_goAlong 162 = .ok (.dup, 1) := dk_89 (dk_at dksX1_goAlong_6 22 rfl rfl)
theorem dX1_goAlong_163 : decode cX1_goAlong 163 = .ok (.getfield 332, 3) := dk_180 1 76 (dk_at dksX1_goAlong_7 0 rfl rfl)
theorem dX1_goAlong_166 : decode cX1_goAlong 166 = .ok (.iconst 1, 1) := dk_4 (dk_at dksX1_goAlong_7 3 rfl rfl)
theorem dX1_goAlong_167 : decode cX1_goAlong 167 = .ok (.iadd, 1) := dk_96 (dk_at dksX1_goAlong_7 4 rfl rfl)
theorem dX1_goAlong_168 : decode cX1_goAlong 168 = .ok (.putfield 332, 3) := dk_181 1 76 (dk_at dksX1_goAlong_7 5 rfl rfl)
theorem dX1_goAlong_171 : decode cX1_goAlong 171 = .ok (.iload 8, 2) := dk_21 8 (dk_at dksX1_goAlong_7 8 rfl rfl)
theorem dX1_goAlong_173 : decode cX1_goAlong 173 = .ok (.ifCond .ge 6, 3) := dk_156 0 6 (dk_at dksX1_goAlong_7 10 rfl rfl)
theorem dX1_goAlong_176 : decode cX1_goAlong 176 = .ok (.goto 26, 3) := dk_167 0 26 (dk_at dksX1_goAlong_7 13 rfl rfl)
theorem dX1_goAlong_179 : decode cX1_goAlong 179 = .ok (.iload 4, 2) := dk_21 4 (dk_at dksX1_goAlong_7 16 rfl rfl)
theorem dX1_goAlong_181 : decode cX1_goAlong 181 = .ok (.iconst 1, 1) := dk_4 (dk_at dksX1_goAlong_7 18 rfl rfl)
theorem dX1_goAlong_182 : decode cX1_goAlong 182 = .ok (.iload 8, 2) := dk_21 8 (dk_at dksX1_goAlong_7 19 rfl rfl)
theorem dX1_goAlong_184 : decode cX1_goAlong 184 = .ok (.ishl, 1) := dk_120 (dk_at dksX1_goAlong_7 21 rfl rfl)
theorem dX1_goAlong_185 : decode cX1_goAlong 185 = .ok (.iconst (-1), 1) := dk_2 (dk_at dksX1_goAlong_7 22 rfl rfl)
theorem dX1_goAlong_186 : decode cX1_goAlong 186 = .ok (.ixor, 1) := dk_130 (dk_at dksX1_goAlong_7 23 rfl rfl)
theorem dX1_goAlong_187 : decode cX1_goAlong 187 = .ok (.iand, 1) := dk_126 (dk_at dksX1_goAlong_8 0 rfl rfl)
theorem dX1_goAlong_188 : decode cX1_goAlong 188 = .ok (.iconst 1, 1) := dk_4 (dk_at dksX1_goAlong_8 1 rfl rfl)
theorem dX1_goAlong_189 : decode cX1_goAlong 189 = .ok (.aload_n 0, 1) := dk_42 (dk_at dksX1_goAlong_8 2 rfl rfl)
theorem dX1_goAlong_190 : decode cX1_goAlong 190 = .ok (.iload 7, 2) := dk_21 7 (dk_at dksX1_goAlong_8 3 rfl rfl)
theorem dX1_goAlong_192 : decode cX1_goAlong 192 = .ok (.invokevirtual 276, 3) := dk_182 1 20 (dk_at dksX1_goAlong_8 5 rfl rfl)
theorem dX1_goAlong_195 : decode cX1_goAlong 195 = .ok (.ishl, 1) := dk_120 (dk_at dksX1_goAlong_8 8 rfl rfl)
theorem dX1_goAlong_196 : decode cX1_goAlong 196 = .ok (.ior, 1) := dk_128 (dk_at dksX1_goAlong_8 9 rfl rfl)
theorem dX1_goAlong_197 : decode cX1_goAlong 197 = .ok (.istore 4, 2) := dk_54 4 (dk_at dksX1_goAlong_8 10 rfl rfl)
theorem dX1_goAlong_199 : decode cX1_goAlong 199 = .ok (.iconst 1, 1) := dk_4 (dk_at dksX1_goAlong_8 12 rfl rfl)
theorem dX1_goAlong_200 : decode cX1_goAlong 200 = .ok (.istore 5, 2) := dk_54 5 (dk_at dksX1_goAlong_8 13 rfl rfl)
theorem dX1_goAlong_202 : decode cX1_goAlong 202 = .ok (.iinc 7 1, 3) := dk_132 7 1 (dk_at dksX1_goAlong_8 15 rfl rfl)
theorem dX1_goAlong_205 : decode cX1_goAlong 205 = .ok (.goto (-188), 3) := dk_167 255 68 (dk_at dksX1_goAlong_8 18 rfl rfl)
theorem dX1_goAlong_208 : decode cX1_goAlong 208 = .ok (.iload 6, 2) := dk_21 6 (dk_at dksX1_goAlong_8 21 rfl rfl)
theorem dX1_goAlong_210 : decode cX1_goAlong 210 = .ok (.ireturn, 1) := dk_172 (dk_at dksX1_goAlong_8 23 rfl rfl)
abbrev cX1_knew : ByteArray := prog_1_method_36_code
def yX1_knew : MethodName := ⟨RX1, "knew", "(III)I"⟩
def dkwX1_knew_8 : List UInt8 := [180, 0, 71, 3, 3, 3, 184, 1, 32, 46, 172]
abbrev dktX1_knew_8 : List UInt8 := dkwX1_knew_8 ++ []
def dkwX1_knew_7 : List UInt8 := [51, 154, 0, 11, 42, 180, 0, 74, 21, 6, 3, 79, 132, 6, 1, 167, 255, 220, 42, 27, 182, 1, 70, 42]
abbrev dktX1_knew_7 : List UInt8 := dkwX1_knew_7 ++ dktX1_knew_8
def dkwX1_knew_6 : List UInt8 := [3, 54, 6, 21, 6, 42, 180, 0, 22, 180, 0, 247, 182, 0, 160, 162, 0, 27, 42, 180, 0, 77, 21, 6]
abbrev dktX1_knew_6 : List UInt8 := dkwX1_knew_6 ++ dktX1_knew_7
def dkwX1_knew_5 : List UInt8 := [182, 1, 73, 29, 4, 160, 0, 14, 42, 27, 2, 42, 180, 0, 77, 182, 1, 82, 172, 42, 3, 182, 1, 66]
abbrev dktX1_knew_5 : List UInt8 := dkwX1_knew_5 ++ dktX1_knew_6
def dkwX1_knew_4 : List UInt8 := [180, 1, 60, 133, 148, 156, 0, 7, 4, 167, 0, 4, 3, 84, 132, 6, 1, 167, 255, 177, 42, 27]
abbrev dktX1_knew_4 : List UInt8 := dkwX1_knew_4 ++ dktX1_knew_5
def dkwX1_knew_3 : List UInt8 := [20, 1, 92, 109, 20, 1, 94, 113, 42, 180, 0, 22, 180, 0, 247, 21, 6, 182, 0, 171, 192, 1, 16]
abbrev dktX1_knew_3 : List UInt8 := dkwX1_knew_3 ++ dktX1_knew_4
def dkwX1_knew_2 : List UInt8 := [20, 1, 86, 105, 20, 1, 88, 97, 20, 1, 90, 127, 55, 4, 42, 180, 0, 77, 21, 6, 22, 4]
abbrev dktX1_knew_2 : List UInt8 := dkwX1_knew_2 ++ dktX1_knew_3
def dkwX1_knew_1 : List UInt8 := [133, 55, 4, 3, 54, 6, 21, 6, 42, 180, 0, 22, 180, 0, 247, 182, 0, 160, 162, 0, 70, 22, 4]
abbrev dktX1_knew_1 : List UInt8 := dkwX1_knew_1 ++ dktX1_knew_2
def dkwX1_knew_0 : List UInt8 := [42, 27, 182, 0, 198, 153, 0, 16, 28, 155, 0, 12, 29, 3, 4, 184, 0, 107, 154, 0, 5, 2, 172, 28]
abbrev dktX1_knew_0 : List UInt8 := dkwX1_knew_0 ++ dktX1_knew_1
theorem dksX1_knew_0 : cX1_knew.data.toList.drop 0 = dktX1_knew_0 := by decide +kernel
theorem dksX1_knew_1 : cX1_knew.data.toList.drop 24 = dktX1_knew_1 := dk_seg dksX1_knew_0 24 rfl rfl
theorem dksX1_knew_2 : cX1_knew.data.toList.drop 47 = dktX1_knew_2 := dk_seg dksX1_knew_1 23 rfl rfl
theorem dksX1_knew_3 : cX1_knew.data.toList.drop 69 = dktX1_knew_3 := dk_seg dksX1_knew_2 22 rfl rfl
theorem dksX1_knew_4 : cX1_knew.data.toList.drop 92 = dktX1_knew_4 := dk_seg dksX1_knew_3 23 rfl rfl
theorem dksX1_knew_5 : cX1_knew.data.toList.drop 114 = dktX1_knew_5 := dk_seg dksX1_knew_4 22 rfl rfl
theorem dksX1_knew_6 : cX1_knew.data.toList.drop 138 = dktX1_knew_6 := dk_seg dksX1_knew_5 24 rfl rfl
theorem dksX1_knew_7 : cX1_knew.data.toList.drop 162 = dktX1_knew_7 := dk_seg dksX1_knew_6 24 rfl rfl
theorem dksX1_knew_8 : cX1_knew.data.toList.drop 186 = dktX1_knew_8 := dk_seg dksX1_knew_7 24 rfl rfl
theorem dX1_knew_0 : decode cX1_knew 0 = .ok (.aload_n 0, 1) := dk_42 (dk_at dksX1_knew_0 0 rfl rfl)
theorem dX1_knew_1 : decode cX1_knew 1 = .ok (.iload_n 1, 1) := dk_27 (dk_at dksX1_knew_0 1 rfl rfl)
theorem dX1_knew_2 : decode cX1_knew 2 = .ok (.invokevirtual 198, 3) := dk_182 0 198 (dk_at dksX1_knew_0 2 rfl rfl)
theorem dX1_knew_5 : decode cX1_knew 5 = .ok (.ifCond .eq 16, 3) := dk_153 0 16 (dk_at dksX1_knew_0 5 rfl rfl)
theorem dX1_knew_8 : decode cX1_knew 8 = .ok (.iload_n 2, 1) := dk_28 (dk_at dksX1_knew_0 8 rfl rfl)
theorem dX1_knew_9 : decode cX1_knew 9 = .ok (.ifCond .lt 12, 3) := dk_155 0 12 (dk_at dksX1_knew_0 9 rfl rfl)
theorem dX1_knew_12 : decode cX1_knew 12 = .ok (.iload_n 3, 1) := dk_29 (dk_at dksX1_knew_0 12 rfl rfl)
theorem dX1_knew_13 : decode cX1_knew 13 = .ok (.iconst 0, 1) := dk_3 (dk_at dksX1_knew_0 13 rfl rfl)
theorem dX1_knew_14 : decode cX1_knew 14 = .ok (.iconst 1, 1) := dk_4 (dk_at dksX1_knew_0 14 rfl rfl)
theorem dX1_knew_15 : decode cX1_knew 15 = .ok (.invokestatic 107, 3) := dk_184 0 107 (dk_at dksX1_knew_0 15 rfl rfl)
theorem dX1_knew_18 : decode cX1_knew 18 = .ok (.ifCond .ne 5, 3) := dk_154 0 5 (dk_at dksX1_knew_0 18 rfl rfl)
theorem dX1_knew_21 : decode cX1_knew 21 = .ok (.iconst (-1), 1) := dk_2 (dk_at dksX1_knew_0 21 rfl rfl)
theorem dX1_knew_22 : decode cX1_knew 22 = .ok (.ireturn, 1) := dk_172 (dk_at dksX1_knew_0 22 rfl rfl)
theorem dX1_knew_23 : decode cX1_knew 23 = .ok (.iload_n 2, 1) := dk_28 (dk_at dksX1_knew_0 23 rfl rfl)
theorem dX1_knew_24 : decode cX1_knew 24 = .ok (.i2l, 1) := dk_133 (dk_at dksX1_knew_1 0 rfl rfl)
theorem dX1_knew_25 : decode cX1_knew 25 = .ok (.lstore 4, 2) := dk_55 4 (dk_at dksX1_knew_1 1 rfl rfl)
theorem dX1_knew_27 : decode cX1_knew 27 = .ok (.iconst 0, 1) := dk_3 (dk_at dksX1_knew_1 3 rfl rfl)
theorem dX1_knew_28 : decode cX1_knew 28 = .ok (.istore 6, 2) := dk_54 6 (dk_at dksX1_knew_1 4 rfl rfl)
theorem dX1_knew_30 : decode cX1_knew 30 = .ok (.iload 6, 2) := dk_21 6 (dk_at dksX1_knew_1 6 rfl rfl)
theorem dX1_knew_32 : decode cX1_knew 32 = .ok (.aload_n 0, 1) := dk_42 (dk_at dksX1_knew_1 8 rfl rfl)
theorem dX1_knew_33 : decode cX1_knew 33 = .ok (.getfield 22, 3) := dk_180 0 22 (dk_at dksX1_knew_1 9 rfl rfl)
theorem dX1_knew_36 : decode cX1_knew 36 = .ok (.getfield 247, 3) := dk_180 0 247 (dk_at dksX1_knew_1 12 rfl rfl)
theorem dX1_knew_39 : decode cX1_knew 39 = .ok (.invokevirtual 160, 3) := dk_182 0 160 (dk_at dksX1_knew_1 15 rfl rfl)
theorem dX1_knew_42 : decode cX1_knew 42 = .ok (.if_icmp .ge 70, 3) := dk_162 0 70 (dk_at dksX1_knew_1 18 rfl rfl)
theorem dX1_knew_45 : decode cX1_knew 45 = .ok (.lload 4, 2) := dk_22 4 (dk_at dksX1_knew_1 21 rfl rfl)
theorem dX1_knew_47 : decode cX1_knew 47 = .ok (.ldc2_w 342, 3) := dk_20 1 86 (dk_at dksX1_knew_2 0 rfl rfl)
theorem dX1_knew_50 : decode cX1_knew 50 = .ok (.lmul, 1) := dk_105 (dk_at dksX1_knew_2 3 rfl rfl)
theorem dX1_knew_51 : decode cX1_knew 51 = .ok (.ldc2_w 344, 3) := dk_20 1 88 (dk_at dksX1_knew_2 4 rfl rfl)
theorem dX1_knew_54 : decode cX1_knew 54 = .ok (.ladd, 1) := dk_97 (dk_at dksX1_knew_2 7 rfl rfl)
theorem dX1_knew_55 : decode cX1_knew 55 = .ok (.ldc2_w 346, 3) := dk_20 1 90 (dk_at dksX1_knew_2 8 rfl rfl)
theorem dX1_knew_58 : decode cX1_knew 58 = .ok (.land, 1) := dk_127 (dk_at dksX1_knew_2 11 rfl rfl)
theorem dX1_knew_59 : decode cX1_knew 59 = .ok (.lstore 4, 2) := dk_55 4 (dk_at dksX1_knew_2 12 rfl rfl)
theorem dX1_knew_61 : decode cX1_knew 61 = .ok (.aload_n 0, 1) := dk_42 (dk_at dksX1_knew_2 14 rfl rfl)
theorem dX1_knew_62 : decode cX1_knew 62 = .ok (.getfield 77, 3) := dk_180 0 77 (dk_at dksX1_knew_2 15 rfl rfl)
theorem dX1_knew_65 : decode cX1_knew 65 = .ok (.iload 6, 2) := dk_21 6 (dk_at dksX1_knew_2 18 rfl rfl)
theorem dX1_knew_67 : decode cX1_knew 67 = .ok (.lload 4, 2) := dk_22 4 (dk_at dksX1_knew_2 20 rfl rfl)
theorem dX1_knew_69 : decode cX1_knew 69 = .ok (.ldc2_w 348, 3) := dk_20 1 92 (dk_at dksX1_knew_3 0 rfl rfl)
theorem dX1_knew_72 : decode cX1_knew 72 = .ok (.ldiv, 1) := dk_109 (dk_at dksX1_knew_3 3 rfl rfl)
theorem dX1_knew_73 : decode cX1_knew 73 = .ok (.ldc2_w 350, 3) := dk_20 1 94 (dk_at dksX1_knew_3 4 rfl rfl)
theorem dX1_knew_76 : decode cX1_knew 76 = .ok (.lrem, 1) := dk_113 (dk_at dksX1_knew_3 7 rfl rfl)
theorem dX1_knew_77 : decode cX1_knew 77 = .ok (.aload_n 0, 1) := dk_42 (dk_at dksX1_knew_3 8 rfl rfl)
theorem dX1_knew_78 : decode cX1_knew 78 = .ok (.getfield 22, 3) := dk_180 0 22 (dk_at dksX1_knew_3 9 rfl rfl)
theorem dX1_knew_81 : decode cX1_knew 81 = .ok (.getfield 247, 3) := dk_180 0 247 (dk_at dksX1_knew_3 12 rfl rfl)
theorem dX1_knew_84 : decode cX1_knew 84 = .ok (.iload 6, 2) := dk_21 6 (dk_at dksX1_knew_3 15 rfl rfl)
theorem dX1_knew_86 : decode cX1_knew 86 = .ok (.invokevirtual 171, 3) := dk_182 0 171 (dk_at dksX1_knew_3 17 rfl rfl)
theorem dX1_knew_89 : decode cX1_knew 89 = .ok (.checkcast 272, 3) := dk_192 1 16 (dk_at dksX1_knew_3 20 rfl rfl)
theorem dX1_knew_92 : decode cX1_knew 92 = .ok (.getfield 316, 3) := dk_180 1 60 (dk_at dksX1_knew_4 0 rfl rfl)
theorem dX1_knew_95 : decode cX1_knew 95 = .ok (.i2l, 1) := dk_133 (dk_at dksX1_knew_4 3 rfl rfl)
theorem dX1_knew_96 : decode cX1_knew 96 = .ok (.lcmp, 1) := dk_148 (dk_at dksX1_knew_4 4 rfl rfl)
theorem dX1_knew_97 : decode cX1_knew 97 = .ok (.ifCond .ge 7, 3) := dk_156 0 7 (dk_at dksX1_knew_4 5 rfl rfl)
theorem dX1_knew_100 : decode cX1_knew 100 = .ok (.iconst 1, 1) := dk_4 (dk_at dksX1_knew_4 8 rfl rfl)
theorem dX1_knew_101 : decode cX1_knew 101 = .ok (.goto 4, 3) := dk_167 0 4 (dk_at dksX1_knew_4 9 rfl rfl)
theorem dX1_knew_104 : decode cX1_knew 104 = .ok (.iconst 0, 1) := dk_3 (dk_at dksX1_knew_4 12 rfl rfl)
theorem dX1_knew_105 : decode cX1_knew 105 = .ok (.bastore, 1) := dk_84 (dk_at dksX1_knew_4 13 rfl rfl)
theorem dX1_knew_106 : decode cX1_knew 106 = .ok (.iinc 6 1, 3) := dk_132 6 1 (dk_at dksX1_knew_4 14 rfl rfl)
theorem dX1_knew_109 : decode cX1_knew 109 = .ok (.goto (-79), 3) := dk_167 255 177 (dk_at dksX1_knew_4 17 rfl rfl)
theorem dX1_knew_112 : decode cX1_knew 112 = .ok (.aload_n 0, 1) := dk_42 (dk_at dksX1_knew_4 20 rfl rfl)
theorem dX1_knew_113 : decode cX1_knew 113 = .ok (.iload_n 1, 1) := dk_27 (dk_at dksX1_knew_4 21 rfl rfl)
theorem dX1_knew_114 : decode cX1_knew 114 = .ok (.invokevirtual 329, 3) := dk_182 1 73 (dk_at dksX1_knew_5 0 rfl rfl)
theorem dX1_knew_117 : decode cX1_knew 117 = .ok (.iload_n 3, 1) := dk_29 (dk_at dksX1_knew_5 3 rfl rfl)
theorem dX1_knew_118 : decode cX1_knew 118 = .ok (.iconst 1, 1) := dk_4 (dk_at dksX1_knew_5 4 rfl rfl)
theorem dX1_knew_119 : decode cX1_knew 119 = .ok (.if_icmp .ne 14, 3) := dk_160 0 14 (dk_at dksX1_knew_5 5 rfl rfl)
theorem dX1_knew_122 : decode cX1_knew 122 = .ok (.aload_n 0, 1) := dk_42 (dk_at dksX1_knew_5 8 rfl rfl)
theorem dX1_knew_123 : decode cX1_knew 123 = .ok (.iload_n 1, 1) := dk_27 (dk_at dksX1_knew_5 9 rfl rfl)
theorem dX1_knew_124 : decode cX1_knew 124 = .ok (.iconst (-1), 1) := dk_2 (dk_at dksX1_knew_5 10 rfl rfl)
theorem dX1_knew_125 : decode cX1_knew 125 = .ok (.aload_n 0, 1) := dk_42 (dk_at dksX1_knew_5 11 rfl rfl)
theorem dX1_knew_126 : decode cX1_knew 126 = .ok (.getfield 77, 3) := dk_180 0 77 (dk_at dksX1_knew_5 12 rfl rfl)
theorem dX1_knew_129 : decode cX1_knew 129 = .ok (.invokevirtual 338, 3) := dk_182 1 82 (dk_at dksX1_knew_5 15 rfl rfl)
theorem dX1_knew_132 : decode cX1_knew 132 = .ok (.ireturn, 1) := dk_172 (dk_at dksX1_knew_5 18 rfl rfl)
theorem dX1_knew_133 : decode cX1_knew 133 = .ok (.aload_n 0, 1) := dk_42 (dk_at dksX1_knew_5 19 rfl rfl)
theorem dX1_knew_134 : decode cX1_knew 134 = .ok (.iconst 0, 1) := dk_3 (dk_at dksX1_knew_5 20 rfl rfl)
theorem dX1_knew_135 : decode cX1_knew 135 = .ok (.invokevirtual 322, 3) := dk_182 1 66 (dk_at dksX1_knew_5 21 rfl rfl)
theorem dX1_knew_138 : decode cX1_knew 138 = .ok (.iconst 0, 1) := dk_3 (dk_at dksX1_knew_6 0 rfl rfl)
theorem dX1_knew_139 : decode cX1_knew 139 = .ok (.istore 6, 2) := dk_54 6 (dk_at dksX1_knew_6 1 rfl rfl)
theorem dX1_knew_141 : decode cX1_knew 141 = .ok (.iload 6, 2) := dk_21 6 (dk_at dksX1_knew_6 3 rfl rfl)
theorem dX1_knew_143 : decode cX1_knew 143 = .ok (.aload_n 0, 1) := dk_42 (dk_at dksX1_knew_6 5 rfl rfl)
theorem dX1_knew_144 : decode cX1_knew 144 = .ok (.getfield 22, 3) := dk_180 0 22 (dk_at dksX1_knew_6 6 rfl rfl)
theorem dX1_knew_147 : decode cX1_knew 147 = .ok (.getfield 247, 3) := dk_180 0 247 (dk_at dksX1_knew_6 9 rfl rfl)
theorem dX1_knew_150 : decode cX1_knew 150 = .ok (.invokevirtual 160, 3) := dk_182 0 160 (dk_at dksX1_knew_6 12 rfl rfl)
theorem dX1_knew_153 : decode cX1_knew 153 = .ok (.if_icmp .ge 27, 3) := dk_162 0 27 (dk_at dksX1_knew_6 15 rfl rfl)
theorem dX1_knew_156 : decode cX1_knew 156 = .ok (.aload_n 0, 1) := dk_42 (dk_at dksX1_knew_6 18 rfl rfl)
theorem dX1_knew_157 : decode cX1_knew 157 = .ok (.getfield 77, 3) := dk_180 0 77 (dk_at dksX1_knew_6 19 rfl rfl)
theorem dX1_knew_160 : decode cX1_knew 160 = .ok (.iload 6, 2) := dk_21 6 (dk_at dksX1_knew_6 22 rfl rfl)
theorem dX1_knew_162 : decode cX1_knew 162 = .ok (.baload, 1) := dk_51 (dk_at dksX1_knew_7 0 rfl rfl)
theorem dX1_knew_163 : decode cX1_knew 163 = .ok (.ifCond .ne 11, 3) := dk_154 0 11 (dk_at dksX1_knew_7 1 rfl rfl)
theorem dX1_knew_166 : decode cX1_knew 166 = .ok (.aload_n 0, 1) := dk_42 (dk_at dksX1_knew_7 4 rfl rfl)
theorem dX1_knew_167 : decode cX1_knew 167 = .ok (.getfield 74, 3) := dk_180 0 74 (dk_at dksX1_knew_7 5 rfl rfl)
theorem dX1_knew_170 : decode cX1_knew 170 = .ok (.iload 6, 2) := dk_21 6 (dk_at dksX1_knew_7 8 rfl rfl)
theorem dX1_knew_172 : decode cX1_knew 172 = .ok (.iconst 0, 1) := dk_3 (dk_at dksX1_knew_7 10 rfl rfl)
theorem dX1_knew_173 : decode cX1_knew 173 = .ok (.iastore, 1) := dk_79 (dk_at dksX1_knew_7 11 rfl rfl)
theorem dX1_knew_174 : decode cX1_knew 174 = .ok (.iinc 6 1, 3) := dk_132 6 1 (dk_at dksX1_knew_7 12 rfl rfl)
theorem dX1_knew_177 : decode cX1_knew 177 = .ok (.goto (-36), 3) := dk_167 255 220 (dk_at dksX1_knew_7 15 rfl rfl)
theorem dX1_knew_180 : decode cX1_knew 180 = .ok (.aload_n 0, 1) := dk_42 (dk_at dksX1_knew_7 18 rfl rfl)
theorem dX1_knew_181 : decode cX1_knew 181 = .ok (.iload_n 1, 1) := dk_27 (dk_at dksX1_knew_7 19 rfl rfl)
theorem dX1_knew_182 : decode cX1_knew 182 = .ok (.invokevirtual 326, 3) := dk_182 1 70 (dk_at dksX1_knew_7 20 rfl rfl)
theorem dX1_knew_185 : decode cX1_knew 185 = .ok (.aload_n 0, 1) := dk_42 (dk_at dksX1_knew_7 23 rfl rfl)
theorem dX1_knew_186 : decode cX1_knew 186 = .ok (.getfield 71, 3) := dk_180 0 71 (dk_at dksX1_knew_8 0 rfl rfl)
theorem dX1_knew_189 : decode cX1_knew 189 = .ok (.iconst 0, 1) := dk_3 (dk_at dksX1_knew_8 3 rfl rfl)
theorem dX1_knew_190 : decode cX1_knew 190 = .ok (.iconst 0, 1) := dk_3 (dk_at dksX1_knew_8 4 rfl rfl)
theorem dX1_knew_191 : decode cX1_knew 191 = .ok (.iconst 0, 1) := dk_3 (dk_at dksX1_knew_8 5 rfl rfl)
theorem dX1_knew_192 : decode cX1_knew 192 = .ok (.invokestatic 288, 3) := dk_184 1 32 (dk_at dksX1_knew_8 6 rfl rfl)
theorem dX1_knew_195 : decode cX1_knew 195 = .ok (.iaload, 1) := dk_46 (dk_at dksX1_knew_8 9 rfl rfl)
theorem dX1_knew_196 : decode cX1_knew 196 = .ok (.ireturn, 1) := dk_172 (dk_at dksX1_knew_8 10 rfl rfl)
abbrev cX1_share : ByteArray := prog_1_method_41_code
def yX1_share : MethodName := ⟨RX1, "share", "(ZI)I"⟩
def dkwX1_share_5 : List UInt8 := [29, 21, 4, 182, 1, 99, 62, 132, 5, 1, 167, 255, 173, 21, 4, 172]
abbrev dktX1_share_5 : List UInt8 := dkwX1_share_5 ++ []
def dkwX1_share_4 : List UInt8 := [96, 42, 180, 0, 81, 17, 9, 97, 21, 5, 104, 29, 96, 46, 159, 0, 9, 132, 4, 1, 167, 255, 196, 42]
abbrev dktX1_share_4 : List UInt8 := dkwX1_share_4 ++ dktX1_share_5
def dkwX1_share_3 : List UInt8 := [182, 1, 96, 42, 180, 0, 81, 17, 9, 97, 21, 5, 4, 96, 104, 42, 29, 21, 4, 182, 1, 99, 96, 46]
abbrev dktX1_share_3 : List UInt8 := dkwX1_share_3 ++ dktX1_share_4
def dkwX1_share_2 : List UInt8 := [28, 163, 0, 83, 3, 54, 4, 42, 29, 21, 4, 182, 1, 99, 155, 0, 50, 42, 21, 5, 21, 4, 27]
abbrev dktX1_share_2 : List UInt8 := dkwX1_share_2 ++ dktX1_share_3
def dkwX1_share_1 : List UInt8 := [42, 182, 1, 113, 62, 28, 156, 0, 10, 42, 180, 0, 81, 29, 46, 172, 3, 54, 4, 3, 54, 5, 21, 5]
abbrev dktX1_share_1 : List UInt8 := dkwX1_share_1 ++ dktX1_share_2
def dkwX1_share_0 : List UInt8 := [28, 2, 161, 0, 15, 28, 155, 0, 13, 42, 28, 182, 1, 107, 154, 0, 5, 2, 172, 42, 27, 182, 1, 110]
abbrev dktX1_share_0 : List UInt8 := dkwX1_share_0 ++ dktX1_share_1
theorem dksX1_share_0 : cX1_share.data.toList.drop 0 = dktX1_share_0 := by decide +kernel
theorem dksX1_share_1 : cX1_share.data.toList.drop 24 = dktX1_share_1 := dk_seg dksX1_share_0 24 rfl rfl
theorem dksX1_share_2 : cX1_share.data.toList.drop 48 = dktX1_share_2 := dk_seg dksX1_share_1 24 rfl rfl
theorem dksX1_share_3 : cX1_share.data.toList.drop 71 = dktX1_share_3 := dk_seg dksX1_share_2 23 rfl rfl
theorem dksX1_share_4 : cX1_share.data.toList.drop 95 = dktX1_share_4 := dk_seg dksX1_share_3 24 rfl rfl
theorem dksX1_share_5 : cX1_share.data.toList.drop 119 = dktX1_share_5 := dk_seg dksX1_share_4 24 rfl rfl
theorem dX1_share_0 : decode cX1_share 0 = .ok (.iload_n 2, 1) := dk_28 (dk_at dksX1_share_0 0 rfl rfl)
theorem dX1_share_1 : decode cX1_share 1 = .ok (.iconst (-1), 1) := dk_2 (dk_at dksX1_share_0 1 rfl rfl)
theorem dX1_share_2 : decode cX1_share 2 = .ok (.if_icmp .lt 15, 3) := dk_161 0 15 (dk_at dksX1_share_0 2 rfl rfl)
theorem dX1_share_5 : decode cX1_share 5 = .ok (.iload_n 2, 1) := dk_28 (dk_at dksX1_share_0 5 rfl rfl)
theorem dX1_share_6 : decode cX1_share 6 = .ok (.ifCond .lt 13, 3) := dk_155 0 13 (dk_at dksX1_share_0 6 rfl rfl)
theorem dX1_share_9 : decode cX1_share 9 = .ok (.aload_n 0, 1) := dk_42 (dk_at dksX1_share_0 9 rfl rfl)
theorem dX1_share_10 : decode cX1_share 10 = .ok (.iload_n 2, 1) := dk_28 (dk_at dksX1_share_0 10 rfl rfl)
theorem dX1_share_11 : decode cX1_share 11 = .ok (.invokevirtual 363, 3) := dk_182 1 107 (dk_at dksX1_share_0 11 rfl rfl)
theorem dX1_share_14 : decode cX1_share 14 = .ok (.ifCond .ne 5, 3) := dk_154 0 5 (dk_at dksX1_share_0 14 rfl rfl)
theorem dX1_share_17 : decode cX1_share 17 = .ok (.iconst (-1), 1) := dk_2 (dk_at dksX1_share_0 17 rfl rfl)
theorem dX1_share_18 : decode cX1_share 18 = .ok (.ireturn, 1) := dk_172 (dk_at dksX1_share_0 18 rfl rfl)
theorem dX1_share_19 : decode cX1_share 19 = .ok (.aload_n 0, 1) := dk_42 (dk_at dksX1_share_0 19 rfl rfl)
theorem dX1_share_20 : decode cX1_share 20 = .ok (.iload_n 1, 1) := dk_27 (dk_at dksX1_share_0 20 rfl rfl)
theorem dX1_share_21 : decode cX1_share 21 = .ok (.invokevirtual 366, 3) := dk_182 1 110 (dk_at dksX1_share_0 21 rfl rfl)
theorem dX1_share_24 : decode cX1_share 24 = .ok (.aload_n 0, 1) := dk_42 (dk_at dksX1_share_1 0 rfl rfl)
theorem dX1_share_25 : decode cX1_share 25 = .ok (.invokevirtual 369, 3) := dk_182 1 113 (dk_at dksX1_share_1 1 rfl rfl)
theorem dX1_share_28 : decode cX1_share 28 = .ok (.istore_n 3, 1) := dk_62 (dk_at dksX1_share_1 4 rfl rfl)
theorem dX1_share_29 : decode cX1_share 29 = .ok (.iload_n 2, 1) := dk_28 (dk_at dksX1_share_1 5 rfl rfl)
theorem dX1_share_30 : decode cX1_share 30 = .ok (.ifCond .ge 10, 3) := dk_156 0 10 (dk_at dksX1_share_1 6 rfl rfl)
theorem dX1_share_33 : decode cX1_share 33 = .ok (.aload_n 0, 1) := dk_42 (dk_at dksX1_share_1 9 rfl rfl)
theorem dX1_share_34 : decode cX1_share 34 = .ok (.getfield 81, 3) := dk_180 0 81 (dk_at dksX1_share_1 10 rfl rfl)
theorem dX1_share_37 : decode cX1_share 37 = .ok (.iload_n 3, 1) := dk_29 (dk_at dksX1_share_1 13 rfl rfl)
theorem dX1_share_38 : decode cX1_share 38 = .ok (.iaload, 1) := dk_46 (dk_at dksX1_share_1 14 rfl rfl)
theorem dX1_share_39 : decode cX1_share 39 = .ok (.ireturn, 1) := dk_172 (dk_at dksX1_share_1 15 rfl rfl)
theorem dX1_share_40 : decode cX1_share 40 = .ok (.iconst 0, 1) := dk_3 (dk_at dksX1_share_1 16 rfl rfl)
theorem dX1_share_41 : decode cX1_share 41 = .ok (.istore 4, 2) := dk_54 4 (dk_at dksX1_share_1 17 rfl rfl)
theorem dX1_share_43 : decode cX1_share 43 = .ok (.iconst 0, 1) := dk_3 (dk_at dksX1_share_1 19 rfl rfl)
theorem dX1_share_44 : decode cX1_share 44 = .ok (.istore 5, 2) := dk_54 5 (dk_at dksX1_share_1 20 rfl rfl)
theorem dX1_share_46 : decode cX1_share 46 = .ok (.iload 5, 2) := dk_21 5 (dk_at dksX1_share_1 22 rfl rfl)
theorem dX1_share_48 : decode cX1_share 48 = .ok (.iload_n 2, 1) := dk_28 (dk_at dksX1_share_2 0 rfl rfl)
theorem dX1_share_49 : decode cX1_share 49 = .ok (.if_icmp .gt 83, 3) := dk_163 0 83 (dk_at dksX1_share_2 1 rfl rfl)
theorem dX1_share_52 : decode cX1_share 52 = .ok (.iconst 0, 1) := dk_3 (dk_at dksX1_share_2 4 rfl rfl)
theorem dX1_share_53 : decode cX1_share 53 = .ok (.istore 4, 2) := dk_54 4 (dk_at dksX1_share_2 5 rfl rfl)
theorem dX1_share_55 : decode cX1_share 55 = .ok (.aload_n 0, 1) := dk_42 (dk_at dksX1_share_2 7 rfl rfl)
theorem dX1_share_56 : decode cX1_share 56 = .ok (.iload_n 3, 1) := dk_29 (dk_at dksX1_share_2 8 rfl rfl)
theorem dX1_share_57 : decode cX1_share 57 = .ok (.iload 4, 2) := dk_21 4 (dk_at dksX1_share_2 9 rfl rfl)
theorem dX1_share_59 : decode cX1_share 59 = .ok (.invokevirtual 355, 3) := dk_182 1 99 (dk_at dksX1_share_2 11 rfl rfl)
theorem dX1_share_62 : decode cX1_share 62 = .ok (.ifCond .lt 50, 3) := dk_155 0 50 (dk_at dksX1_share_2 14 rfl rfl)
theorem dX1_share_65 : decode cX1_share 65 = .ok (.aload_n 0, 1) := dk_42 (dk_at dksX1_share_2 17 rfl rfl)
theorem dX1_share_66 : decode cX1_share 66 = .ok (.iload 5, 2) := dk_21 5 (dk_at dksX1_share_2 18 rfl rfl)
theorem dX1_share_68 : decode cX1_share 68 = .ok (.iload 4, 2) := dk_21 4 (dk_at dksX1_share_2 20 rfl rfl)
theorem dX1_share_70 : decode cX1_share 70 = .ok (.iload_n 1, 1) := dk_27 (dk_at dksX1_share_2 22 rfl rfl)
theorem dX1_share_71 : decode cX1_share 71 = .ok (.invokevirtual 352, 3) := dk_182 1 96 (dk_at dksX1_share_3 0 rfl rfl)
theorem dX1_share_74 : decode cX1_share 74 = .ok (.aload_n 0, 1) := dk_42 (dk_at dksX1_share_3 3 rfl rfl)
theorem dX1_share_75 : decode cX1_share 75 = .ok (.getfield 81, 3) := dk_180 0 81 (dk_at dksX1_share_3 4 rfl rfl)
theorem dX1_share_78 : decode cX1_share 78 = .ok (.sipush 2401, 3) := dk_17 9 97 (dk_at dksX1_share_3 7 rfl rfl)
theorem dX1_share_81 : decode cX1_share 81 = .ok (.iload 5, 2) := dk_21 5 (dk_at dksX1_share_3 10 rfl rfl)
theorem dX1_share_83 : decode cX1_share 83 = .ok (.iconst 1, 1) := dk_4 (dk_at dksX1_share_3 12 rfl rfl)
theorem dX1_share_84 : decode cX1_share 84 = .ok (.iadd, 1) := dk_96 (dk_at dksX1_share_3 13 rfl rfl)
theorem dX1_share_85 : decode cX1_share 85 = .ok (.imul, 1) := dk_104 (dk_at dksX1_share_3 14 rfl rfl)
theorem dX1_share_86 : decode cX1_share 86 = .ok (.aload_n 0, 1) := dk_42 (dk_at dksX1_share_3 15 rfl rfl)
theorem dX1_share_87 : decode cX1_share 87 = .ok (.iload_n 3, 1) := dk_29 (dk_at dksX1_share_3 16 rfl rfl)
theorem dX1_share_88 : decode cX1_share 88 = .ok (.iload 4, 2) := dk_21 4 (dk_at dksX1_share_3 17 rfl rfl)
theorem dX1_share_90 : decode cX1_share 90 = .ok (.invokevirtual 355, 3) := dk_182 1 99 (dk_at dksX1_share_3 19 rfl rfl)
theorem dX1_share_93 : decode cX1_share 93 = .ok (.iadd, 1) := dk_96 (dk_at dksX1_share_3 22 rfl rfl)
theorem dX1_share_94 : decode cX1_share 94 = .ok (.iaload, 1) := dk_46 (dk_at dksX1_share_3 23 rfl rfl)
theorem dX1_share_95 : decode cX1_share 95 = .ok (.iadd, 1) := dk_96 (dk_at dksX1_share_4 0 rfl rfl)
theorem dX1_share_96 : decode cX1_share 96 = .ok (.aload_n 0, 1) := dk_42 (dk_at dksX1_share_4 1 rfl rfl)
theorem dX1_share_97 : decode cX1_share 97 = .ok (.getfield 81, 3) := dk_180 0 81 (dk_at dksX1_share_4 2 rfl rfl)
theorem dX1_share_100 : decode cX1_share 100 = .ok (.sipush 2401, 3) := dk_17 9 97 (dk_at dksX1_share_4 5 rfl rfl)
theorem dX1_share_103 : decode cX1_share 103 = .ok (.iload 5, 2) := dk_21 5 (dk_at dksX1_share_4 8 rfl rfl)
theorem dX1_share_105 : decode cX1_share 105 = .ok (.imul, 1) := dk_104 (dk_at dksX1_share_4 10 rfl rfl)
theorem dX1_share_106 : decode cX1_share 106 = .ok (.iload_n 3, 1) := dk_29 (dk_at dksX1_share_4 11 rfl rfl)
theorem dX1_share_107 : decode cX1_share 107 = .ok (.iadd, 1) := dk_96 (dk_at dksX1_share_4 12 rfl rfl)
theorem dX1_share_108 : decode cX1_share 108 = .ok (.iaload, 1) := dk_46 (dk_at dksX1_share_4 13 rfl rfl)
theorem dX1_share_109 : decode cX1_share 109 = .ok (.if_icmp .eq 9, 3) := dk_159 0 9 (dk_at dksX1_share_4 14 rfl rfl)
theorem dX1_share_112 : decode cX1_share 112 = .ok (.iinc 4 1, 3) := dk_132 4 1 (dk_at dksX1_share_4 17 rfl rfl)
theorem dX1_share_115 : decode cX1_share 115 = .ok (.goto (-60), 3) := dk_167 255 196 (dk_at dksX1_share_4 20 rfl rfl)
theorem dX1_share_118 : decode cX1_share 118 = .ok (.aload_n 0, 1) := dk_42 (dk_at dksX1_share_4 23 rfl rfl)
theorem dX1_share_119 : decode cX1_share 119 = .ok (.iload_n 3, 1) := dk_29 (dk_at dksX1_share_5 0 rfl rfl)
theorem dX1_share_120 : decode cX1_share 120 = .ok (.iload 4, 2) := dk_21 4 (dk_at dksX1_share_5 1 rfl rfl)
theorem dX1_share_122 : decode cX1_share 122 = .ok (.invokevirtual 355, 3) := dk_182 1 99 (dk_at dksX1_share_5 3 rfl rfl)
theorem dX1_share_125 : decode cX1_share 125 = .ok (.istore_n 3, 1) := dk_62 (dk_at dksX1_share_5 6 rfl rfl)
theorem dX1_share_126 : decode cX1_share 126 = .ok (.iinc 5 1, 3) := dk_132 5 1 (dk_at dksX1_share_5 7 rfl rfl)
theorem dX1_share_129 : decode cX1_share 129 = .ok (.goto (-83), 3) := dk_167 255 173 (dk_at dksX1_share_5 10 rfl rfl)
theorem dX1_share_132 : decode cX1_share 132 = .ok (.iload 4, 2) := dk_21 4 (dk_at dksX1_share_5 13 rfl rfl)
theorem dX1_share_134 : decode cX1_share 134 = .ok (.ireturn, 1) := dk_172 (dk_at dksX1_share_5 15 rfl rfl)
abbrev cX1_isFact : ByteArray := prog_1_method_11_code
def yX1_isFact : MethodName := ⟨RX1, "isFact", "(I)Z"⟩
def dkwX1_isFact_0 : List UInt8 := [27, 3, 42, 180, 0, 22, 180, 0, 168, 182, 0, 160, 4, 100, 184, 0, 107, 172]
abbrev dktX1_isFact_0 : List UInt8 := dkwX1_isFact_0 ++ []
theorem dksX1_isFact_0 : cX1_isFact.data.toList.drop 0 = dktX1_isFact_0 := by decide +kernel
theorem dX1_isFact_0 : decode cX1_isFact 0 = .ok (.iload_n 1, 1) := dk_27 (dk_at dksX1_isFact_0 0 rfl rfl)
theorem dX1_isFact_1 : decode cX1_isFact 1 = .ok (.iconst 0, 1) := dk_3 (dk_at dksX1_isFact_0 1 rfl rfl)
theorem dX1_isFact_2 : decode cX1_isFact 2 = .ok (.aload_n 0, 1) := dk_42 (dk_at dksX1_isFact_0 2 rfl rfl)
theorem dX1_isFact_3 : decode cX1_isFact 3 = .ok (.getfield 22, 3) := dk_180 0 22 (dk_at dksX1_isFact_0 3 rfl rfl)
theorem dX1_isFact_6 : decode cX1_isFact 6 = .ok (.getfield 168, 3) := dk_180 0 168 (dk_at dksX1_isFact_0 6 rfl rfl)
theorem dX1_isFact_9 : decode cX1_isFact 9 = .ok (.invokevirtual 160, 3) := dk_182 0 160 (dk_at dksX1_isFact_0 9 rfl rfl)
theorem dX1_isFact_12 : decode cX1_isFact 12 = .ok (.iconst 1, 1) := dk_4 (dk_at dksX1_isFact_0 12 rfl rfl)
theorem dX1_isFact_13 : decode cX1_isFact 13 = .ok (.isub, 1) := dk_100 (dk_at dksX1_isFact_0 13 rfl rfl)
theorem dX1_isFact_14 : decode cX1_isFact 14 = .ok (.invokestatic 107, 3) := dk_184 0 107 (dk_at dksX1_isFact_0 14 rfl rfl)
theorem dX1_isFact_17 : decode cX1_isFact 17 = .ok (.ireturn, 1) := dk_172 (dk_at dksX1_isFact_0 17 rfl rfl)
abbrev cX1_layShares : ByteArray := prog_1_method_39_code
def yX1_layShares : MethodName := ⟨RX1, "layShares", "(Z)V"⟩
def dkwX1_layShares_8 : List UInt8 := [132, 3, 255, 167, 255, 109, 177]
abbrev dktX1_layShares_8 : List UInt8 := dkwX1_layShares_8 ++ []
def dkwX1_layShares_7 : List UInt8 := [104, 21, 7, 96, 46, 96, 184, 1, 102, 79, 132, 6, 1, 167, 255, 183, 132, 4, 1, 167, 255, 153]
abbrev dktX1_layShares_7 : List UInt8 := dkwX1_layShares_7 ++ dktX1_layShares_8
def dkwX1_layShares_6 : List UInt8 := [180, 0, 81, 17, 9, 97, 29, 104, 21, 6, 96, 46, 21, 5, 42, 180, 0, 81, 17, 9, 97, 29, 4, 96]
abbrev dktX1_layShares_6 : List UInt8 := dkwX1_layShares_6 ++ dktX1_layShares_7
def dkwX1_layShares_5 : List UInt8 := [182, 1, 99, 54, 7, 21, 7, 155, 0, 50, 42, 180, 0, 81, 17, 9, 97, 29, 104, 21, 6, 96, 42]
abbrev dktX1_layShares_5 : List UInt8 := dkwX1_layShares_5 ++ dktX1_layShares_6
def dkwX1_layShares_4 : List UInt8 := [27, 182, 1, 96, 54, 5, 3, 54, 6, 21, 6, 17, 9, 97, 162, 0, 71, 42, 21, 6, 21, 4]
abbrev dktX1_layShares_4 : List UInt8 := dkwX1_layShares_4 ++ dktX1_layShares_5
def dkwX1_layShares_3 : List UInt8 := [132, 4, 1, 167, 255, 231, 3, 54, 4, 21, 4, 4, 42, 182, 0, 166, 120, 162, 0, 98, 42, 29, 21, 4]
abbrev dktX1_layShares_3 : List UInt8 := dkwX1_layShares_3 ++ dktX1_layShares_4
def dkwX1_layShares_2 : List UInt8 := [54, 4, 21, 4, 17, 9, 97, 162, 0, 23, 42, 180, 0, 81, 17, 9, 97, 29, 104, 21, 4, 96, 3, 79]
abbrev dktX1_layShares_2 : List UInt8 := dkwX1_layShares_2 ++ dktX1_layShares_3
def dkwX1_layShares_1 : List UInt8 := [17, 9, 97, 28, 104, 29, 96, 3, 79, 132, 3, 1, 167, 255, 233, 28, 4, 100, 62, 29, 155, 0, 149, 3]
abbrev dktX1_layShares_1 : List UInt8 := dkwX1_layShares_1 ++ dktX1_layShares_2
def dkwX1_layShares_0 : List UInt8 := [42, 180, 0, 22, 180, 0, 168, 182, 0, 160, 61, 3, 62, 29, 17, 9, 97, 162, 0, 22, 42, 180, 0, 81]
abbrev dktX1_layShares_0 : List UInt8 := dkwX1_layShares_0 ++ dktX1_layShares_1
theorem dksX1_layShares_0 : cX1_layShares.data.toList.drop 0 = dktX1_layShares_0 := by decide +kernel
theorem dksX1_layShares_1 : cX1_layShares.data.toList.drop 24 = dktX1_layShares_1 := dk_seg dksX1_layShares_0 24 rfl rfl
theorem dksX1_layShares_2 : cX1_layShares.data.toList.drop 48 = dktX1_layShares_2 := dk_seg dksX1_layShares_1 24 rfl rfl
theorem dksX1_layShares_3 : cX1_layShares.data.toList.drop 72 = dktX1_layShares_3 := dk_seg dksX1_layShares_2 24 rfl rfl
theorem dksX1_layShares_4 : cX1_layShares.data.toList.drop 96 = dktX1_layShares_4 := dk_seg dksX1_layShares_3 24 rfl rfl
theorem dksX1_layShares_5 : cX1_layShares.data.toList.drop 118 = dktX1_layShares_5 := dk_seg dksX1_layShares_4 22 rfl rfl
theorem dksX1_layShares_6 : cX1_layShares.data.toList.drop 141 = dktX1_layShares_6 := dk_seg dksX1_layShares_5 23 rfl rfl
theorem dksX1_layShares_7 : cX1_layShares.data.toList.drop 165 = dktX1_layShares_7 := dk_seg dksX1_layShares_6 24 rfl rfl
theorem dksX1_layShares_8 : cX1_layShares.data.toList.drop 187 = dktX1_layShares_8 := dk_seg dksX1_layShares_7 22 rfl rfl
theorem dX1_layShares_0 : decode cX1_layShares 0 = .ok (.aload_n 0, 1) := dk_42 (dk_at dksX1_layShares_0 0 rfl rfl)
theorem dX1_layShares_1 : decode cX1_layShares 1 = .ok (.getfield 22, 3) := dk_180 0 22 (dk_at dksX1_layShares_0 1 rfl rfl)
theorem dX1_layShares_4 : decode cX1_layShares 4 = .ok (.getfield 168, 3) := dk_180 0 168 (dk_at dksX1_layShares_0 4 rfl rfl)
theorem dX1_layShares_7 : decode cX1_layShares 7 = .ok (.invokevirtual 160, 3) := dk_182 0 160 (dk_at dksX1_layShares_0 7 rfl rfl)
theorem dX1_layShares_10 : decode cX1_layShares 10 = .ok (.istore_n 2, 1) := dk_61 (dk_at dksX1_layShares_0 10 rfl rfl)
theorem dX1_layShares_11 : decode cX1_layShares 11 = .ok (.iconst 0, 1) := dk_3 (dk_at dksX1_layShares_0 11 rfl rfl)
theorem dX1_layShares_12 : decode cX1_layShares 12 = .ok (.istore_n 3, 1) := dk_62 (dk_at dksX1_layShares_0 12 rfl rfl)
theorem dX1_layShares_13 : decode cX1_layShares 13 = .ok (.iload_n 3, 1) := dk_29 (dk_at dksX1_layShares_0 13 rfl rfl)
theorem dX1_layShares_14 : decode cX1_layShares 14 = .ok (.sipush 2401, 3) := dk_17 9 97 (dk_at dksX1_layShares_0 14 rfl rfl)
theorem dX1_layShares_17 : decode cX1_layShares 17 = .ok (.if_icmp .ge 22, 3) := dk_162 0 22 (dk_at dksX1_layShares_0 17 rfl rfl)
theorem dX1_layShares_20 : decode cX1_layShares 20 = .ok (.aload_n 0, 1) := dk_42 (dk_at dksX1_layShares_0 20 rfl rfl)
theorem dX1_layShares_21 : decode cX1_layShares 21 = .ok (.getfield 81, 3) := dk_180 0 81 (dk_at dksX1_layShares_0 21 rfl rfl)
theorem dX1_layShares_24 : decode cX1_layShares 24 = .ok (.sipush 2401, 3) := dk_17 9 97 (dk_at dksX1_layShares_1 0 rfl rfl)
theorem dX1_layShares_27 : decode cX1_layShares 27 = .ok (.iload_n 2, 1) := dk_28 (dk_at dksX1_layShares_1 3 rfl rfl)
theorem dX1_layShares_28 : decode cX1_layShares 28 = .ok (.imul, 1) := dk_104 (dk_at dksX1_layShares_1 4 rfl rfl)
theorem dX1_layShares_29 : decode cX1_layShares 29 = .ok (.iload_n 3, 1) := dk_29 (dk_at dksX1_layShares_1 5 rfl rfl)
theorem dX1_layShares_30 : decode cX1_layShares 30 = .ok (.iadd, 1) := dk_96 (dk_at dksX1_layShares_1 6 rfl rfl)
theorem dX1_layShares_31 : decode cX1_layShares 31 = .ok (.iconst 0, 1) := dk_3 (dk_at dksX1_layShares_1 7 rfl rfl)
theorem dX1_layShares_32 : decode cX1_layShares 32 = .ok (.iastore, 1) := dk_79 (dk_at dksX1_layShares_1 8 rfl rfl)
theorem dX1_layShares_33 : decode cX1_layShares 33 = .ok (.iinc 3 1, 3) := dk_132 3 1 (dk_at dksX1_layShares_1 9 rfl rfl)
theorem dX1_layShares_36 : decode cX1_layShares 36 = .ok (.goto (-23), 3) := dk_167 255 233 (dk_at dksX1_layShares_1 12 rfl rfl)
theorem dX1_layShares_39 : decode cX1_layShares 39 = .ok (.iload_n 2, 1) := dk_28 (dk_at dksX1_layShares_1 15 rfl rfl)
theorem dX1_layShares_40 : decode cX1_layShares 40 = .ok (.iconst 1, 1) := dk_4 (dk_at dksX1_layShares_1 16 rfl rfl)
theorem dX1_layShares_41 : decode cX1_layShares 41 = .ok (.isub, 1) := dk_100 (dk_at dksX1_layShares_1 17 rfl rfl)
theorem dX1_layShares_42 : decode cX1_layShares 42 = .ok (.istore_n 3, 1) := dk_62 (dk_at dksX1_layShares_1 18 rfl rfl)
theorem dX1_layShares_43 : decode cX1_layShares 43 = .ok (.iload_n 3, 1) := dk_29 (dk_at dksX1_layShares_1 19 rfl rfl)
theorem dX1_layShares_44 : decode cX1_layShares 44 = .ok (.ifCond .lt 149, 3) := dk_155 0 149 (dk_at dksX1_layShares_1 20 rfl rfl)
theorem dX1_layShares_47 : decode cX1_layShares 47 = .ok (.iconst 0, 1) := dk_3 (dk_at dksX1_layShares_1 23 rfl rfl)
theorem dX1_layShares_48 : decode cX1_layShares 48 = .ok (.istore 4, 2) := dk_54 4 (dk_at dksX1_layShares_2 0 rfl rfl)
theorem dX1_layShares_50 : decode cX1_layShares 50 = .ok (.iload 4, 2) := dk_21 4 (dk_at dksX1_layShares_2 2 rfl rfl)
theorem dX1_layShares_52 : decode cX1_layShares 52 = .ok (.sipush 2401, 3) := dk_17 9 97 (dk_at dksX1_layShares_2 4 rfl rfl)
theorem dX1_layShares_55 : decode cX1_layShares 55 = .ok (.if_icmp .ge 23, 3) := dk_162 0 23 (dk_at dksX1_layShares_2 7 rfl rfl)
theorem dX1_layShares_58 : decode cX1_layShares 58 = .ok (.aload_n 0, 1) := dk_42 (dk_at dksX1_layShares_2 10 rfl rfl)
theorem dX1_layShares_59 : decode cX1_layShares 59 = .ok (.getfield 81, 3) := dk_180 0 81 (dk_at dksX1_layShares_2 11 rfl rfl)
theorem dX1_layShares_62 : decode cX1_layShares 62 = .ok (.sipush 2401, 3) := dk_17 9 97 (dk_at dksX1_layShares_2 14 rfl rfl)
theorem dX1_layShares_65 : decode cX1_layShares 65 = .ok (.iload_n 3, 1) := dk_29 (dk_at dksX1_layShares_2 17 rfl rfl)
theorem dX1_layShares_66 : decode cX1_layShares 66 = .ok (.imul, 1) := dk_104 (dk_at dksX1_layShares_2 18 rfl rfl)
theorem dX1_layShares_67 : decode cX1_layShares 67 = .ok (.iload 4, 2) := dk_21 4 (dk_at dksX1_layShares_2 19 rfl rfl)
theorem dX1_layShares_69 : decode cX1_layShares 69 = .ok (.iadd, 1) := dk_96 (dk_at dksX1_layShares_2 21 rfl rfl)
theorem dX1_layShares_70 : decode cX1_layShares 70 = .ok (.iconst 0, 1) := dk_3 (dk_at dksX1_layShares_2 22 rfl rfl)
theorem dX1_layShares_71 : decode cX1_layShares 71 = .ok (.iastore, 1) := dk_79 (dk_at dksX1_layShares_2 23 rfl rfl)
theorem dX1_layShares_72 : decode cX1_layShares 72 = .ok (.iinc 4 1, 3) := dk_132 4 1 (dk_at dksX1_layShares_3 0 rfl rfl)
theorem dX1_layShares_75 : decode cX1_layShares 75 = .ok (.goto (-25), 3) := dk_167 255 231 (dk_at dksX1_layShares_3 3 rfl rfl)
theorem dX1_layShares_78 : decode cX1_layShares 78 = .ok (.iconst 0, 1) := dk_3 (dk_at dksX1_layShares_3 6 rfl rfl)
theorem dX1_layShares_79 : decode cX1_layShares 79 = .ok (.istore 4, 2) := dk_54 4 (dk_at dksX1_layShares_3 7 rfl rfl)
theorem dX1_layShares_81 : decode cX1_layShares 81 = .ok (.iload 4, 2) := dk_21 4 (dk_at dksX1_layShares_3 9 rfl rfl)
theorem dX1_layShares_83 : decode cX1_layShares 83 = .ok (.iconst 1, 1) := dk_4 (dk_at dksX1_layShares_3 11 rfl rfl)
theorem dX1_layShares_84 : decode cX1_layShares 84 = .ok (.aload_n 0, 1) := dk_42 (dk_at dksX1_layShares_3 12 rfl rfl)
theorem dX1_layShares_85 : decode cX1_layShares 85 = .ok (.invokevirtual 166, 3) := dk_182 0 166 (dk_at dksX1_layShares_3 13 rfl rfl)
theorem dX1_layShares_88 : decode cX1_layShares 88 = .ok (.ishl, 1) := dk_120 (dk_at dksX1_layShares_3 16 rfl rfl)
theorem dX1_layShares_89 : decode cX1_layShares 89 = .ok (.if_icmp .ge 98, 3) := dk_162 0 98 (dk_at dksX1_layShares_3 17 rfl rfl)
theorem dX1_layShares_92 : decode cX1_layShares 92 = .ok (.aload_n 0, 1) := dk_42 (dk_at dksX1_layShares_3 20 rfl rfl)
theorem dX1_layShares_93 : decode cX1_layShares 93 = .ok (.iload_n 3, 1) := dk_29 (dk_at dksX1_layShares_3 21 rfl rfl)
theorem dX1_layShares_94 : decode cX1_layShares 94 = .ok (.iload 4, 2) := dk_21 4 (dk_at dksX1_layShares_3 22 rfl rfl)
theorem dX1_layShares_96 : decode cX1_layShares 96 = .ok (.iload_n 1, 1) := dk_27 (dk_at dksX1_layShares_4 0 rfl rfl)
theorem dX1_layShares_97 : decode cX1_layShares 97 = .ok (.invokevirtual 352, 3) := dk_182 1 96 (dk_at dksX1_layShares_4 1 rfl rfl)
theorem dX1_layShares_100 : decode cX1_layShares 100 = .ok (.istore 5, 2) := dk_54 5 (dk_at dksX1_layShares_4 4 rfl rfl)
theorem dX1_layShares_102 : decode cX1_layShares 102 = .ok (.iconst 0, 1) := dk_3 (dk_at dksX1_layShares_4 6 rfl rfl)
theorem dX1_layShares_103 : decode cX1_layShares 103 = .ok (.istore 6, 2) := dk_54 6 (dk_at dksX1_layShares_4 7 rfl rfl)
theorem dX1_layShares_105 : decode cX1_layShares 105 = .ok (.iload 6, 2) := dk_21 6 (dk_at dksX1_layShares_4 9 rfl rfl)
theorem dX1_layShares_107 : decode cX1_layShares 107 = .ok (.sipush 2401, 3) := dk_17 9 97 (dk_at dksX1_layShares_4 11 rfl rfl)
theorem dX1_layShares_110 : decode cX1_layShares 110 = .ok (.if_icmp .ge 71, 3) := dk_162 0 71 (dk_at dksX1_layShares_4 14 rfl rfl)
theorem dX1_layShares_113 : decode cX1_layShares 113 = .ok (.aload_n 0, 1) := dk_42 (dk_at dksX1_layShares_4 17 rfl rfl)
theorem dX1_layShares_114 : decode cX1_layShares 114 = .ok (.iload 6, 2) := dk_21 6 (dk_at dksX1_layShares_4 18 rfl rfl)
theorem dX1_layShares_116 : decode cX1_layShares 116 = .ok (.iload 4, 2) := dk_21 4 (dk_at dksX1_layShares_4 20 rfl rfl)
theorem dX1_layShares_118 : decode cX1_layShares 118 = .ok (.invokevirtual 355, 3) := dk_182 1 99 (dk_at dksX1_layShares_5 0 rfl rfl)
theorem dX1_layShares_121 : decode cX1_layShares 121 = .ok (.istore 7, 2) := dk_54 7 (dk_at dksX1_layShares_5 3 rfl rfl)
theorem dX1_layShares_123 : decode cX1_layShares 123 = .ok (.iload 7, 2) := dk_21 7 (dk_at dksX1_layShares_5 5 rfl rfl)
theorem dX1_layShares_125 : decode cX1_layShares 125 = .ok (.ifCond .lt 50, 3) := dk_155 0 50 (dk_at dksX1_layShares_5 7 rfl rfl)
theorem dX1_layShares_128 : decode cX1_layShares 128 = .ok (.aload_n 0, 1) := dk_42 (dk_at dksX1_layShares_5 10 rfl rfl)
theorem dX1_layShares_129 : decode cX1_layShares 129 = .ok (.getfield 81, 3) := dk_180 0 81 (dk_at dksX1_layShares_5 11 rfl rfl)
theorem dX1_layShares_132 : decode cX1_layShares 132 = .ok (.sipush 2401, 3) := dk_17 9 97 (dk_at dksX1_layShares_5 14 rfl rfl)
theorem dX1_layShares_135 : decode cX1_layShares 135 = .ok (.iload_n 3, 1) := dk_29 (dk_at dksX1_layShares_5 17 rfl rfl)
theorem dX1_layShares_136 : decode cX1_layShares 136 = .ok (.imul, 1) := dk_104 (dk_at dksX1_layShares_5 18 rfl rfl)
theorem dX1_layShares_137 : decode cX1_layShares 137 = .ok (.iload 6, 2) := dk_21 6 (dk_at dksX1_layShares_5 19 rfl rfl)
theorem dX1_layShares_139 : decode cX1_layShares 139 = .ok (.iadd, 1) := dk_96 (dk_at dksX1_layShares_5 21 rfl rfl)
theorem dX1_layShares_140 : decode cX1_layShares 140 = .ok (.aload_n 0, 1) := dk_42 (dk_at dksX1_layShares_5 22 rfl rfl)
theorem dX1_layShares_141 : decode cX1_layShares 141 = .ok (.getfield 81, 3) := dk_180 0 81 (dk_at dksX1_layShares_6 0 rfl rfl)
theorem dX1_layShares_144 : decode cX1_layShares 144 = .ok (.sipush 2401, 3) := dk_17 9 97 (dk_at dksX1_layShares_6 3 rfl rfl)
theorem dX1_layShares_147 : decode cX1_layShares 147 = .ok (.iload_n 3, 1) := dk_29 (dk_at dksX1_layShares_6 6 rfl rfl)
theorem dX1_layShares_148 : decode cX1_layShares 148 = .ok (.imul, 1) := dk_104 (dk_at dksX1_layShares_6 7 rfl rfl)
theorem dX1_layShares_149 : decode cX1_layShares 149 = .ok (.iload 6, 2) := dk_21 6 (dk_at dksX1_layShares_6 8 rfl rfl)
theorem dX1_layShares_151 : decode cX1_layShares 151 = .ok (.iadd, 1) := dk_96 (dk_at dksX1_layShares_6 10 rfl rfl)
theorem dX1_layShares_152 : decode cX1_layShares 152 = .ok (.iaload, 1) := dk_46 (dk_at dksX1_layShares_6 11 rfl rfl)
theorem dX1_layShares_153 : decode cX1_layShares 153 = .ok (.iload 5, 2) := dk_21 5 (dk_at dksX1_layShares_6 12 rfl rfl)
theorem dX1_layShares_155 : decode cX1_layShares 155 = .ok (.aload_n 0, 1) := dk_42 (dk_at dksX1_layShares_6 14 rfl rfl)
theorem dX1_layShares_156 : decode cX1_layShares 156 = .ok (.getfield 81, 3) := dk_180 0 81 (dk_at dksX1_layShares_6 15 rfl rfl)
theorem dX1_layShares_159 : decode cX1_layShares 159 = .ok (.sipush 2401, 3) := dk_17 9 97 (dk_at dksX1_layShares_6 18 rfl rfl)
theorem dX1_layShares_162 : decode cX1_layShares 162 = .ok (.iload_n 3, 1) := dk_29 (dk_at dksX1_layShares_6 21 rfl rfl)
theorem dX1_layShares_163 : decode cX1_layShares 163 = .ok (.iconst 1, 1) := dk_4 (dk_at dksX1_layShares_6 22 rfl rfl)
theorem dX1_layShares_164 : decode cX1_layShares 164 = .ok (.iadd, 1) := dk_96 (dk_at dksX1_layShares_6 23 rfl rfl)
theorem dX1_layShares_165 : decode cX1_layShares 165 = .ok (.imul, 1) := dk_104 (dk_at dksX1_layShares_7 0 rfl rfl)
theorem dX1_layShares_166 : decode cX1_layShares 166 = .ok (.iload 7, 2) := dk_21 7 (dk_at dksX1_layShares_7 1 rfl rfl)
theorem dX1_layShares_168 : decode cX1_layShares 168 = .ok (.iadd, 1) := dk_96 (dk_at dksX1_layShares_7 3 rfl rfl)
theorem dX1_layShares_169 : decode cX1_layShares 169 = .ok (.iaload, 1) := dk_46 (dk_at dksX1_layShares_7 4 rfl rfl)
theorem dX1_layShares_170 : decode cX1_layShares 170 = .ok (.iadd, 1) := dk_96 (dk_at dksX1_layShares_7 5 rfl rfl)
theorem dX1_layShares_171 : decode cX1_layShares 171 = .ok (.invokestatic 358, 3) := dk_184 1 102 (dk_at dksX1_layShares_7 6 rfl rfl)
theorem dX1_layShares_174 : decode cX1_layShares 174 = .ok (.iastore, 1) := dk_79 (dk_at dksX1_layShares_7 9 rfl rfl)
theorem dX1_layShares_175 : decode cX1_layShares 175 = .ok (.iinc 6 1, 3) := dk_132 6 1 (dk_at dksX1_layShares_7 10 rfl rfl)
theorem dX1_layShares_178 : decode cX1_layShares 178 = .ok (.goto (-73), 3) := dk_167 255 183 (dk_at dksX1_layShares_7 13 rfl rfl)
theorem dX1_layShares_181 : decode cX1_layShares 181 = .ok (.iinc 4 1, 3) := dk_132 4 1 (dk_at dksX1_layShares_7 16 rfl rfl)
theorem dX1_layShares_184 : decode cX1_layShares 184 = .ok (.goto (-103), 3) := dk_167 255 153 (dk_at dksX1_layShares_7 19 rfl rfl)
theorem dX1_layShares_187 : decode cX1_layShares 187 = .ok (.iinc 3 (-1), 3) := dk_132 3 255 (dk_at dksX1_layShares_8 0 rfl rfl)
theorem dX1_layShares_190 : decode cX1_layShares 190 = .ok (.goto (-147), 3) := dk_167 255 109 (dk_at dksX1_layShares_8 3 rfl rfl)
theorem dX1_layShares_193 : decode cX1_layShares 193 = .ok (.return_, 1) := dk_177 (dk_at dksX1_layShares_8 6 rfl rfl)
abbrev cX1_shareOf : ByteArray := prog_1_method_37_code
def yX1_shareOf : MethodName := ⟨RX1, "shareOf", "(IIZ)I"⟩
def dkwX1_shareOf_6 : List UInt8 := [27, 182, 1, 58, 167, 0, 4, 3, 96, 54, 4, 132, 5, 1, 167, 255, 108, 21, 4, 172]
abbrev dktX1_shareOf_6 : List UInt8 := dkwX1_shareOf_6 ++ []
def dkwX1_shareOf_5 : List UInt8 := [21, 8, 153, 0, 29, 21, 9, 153, 0, 24, 167, 0, 13, 21, 8, 154, 0, 8, 21, 9, 153, 0, 11, 42]
abbrev dktX1_shareOf_5 : List UInt8 := dkwX1_shareOf_5 ++ dktX1_shareOf_6
def dkwX1_shareOf_4 : List UInt8 := [184, 1, 23, 153, 0, 7, 4, 167, 0, 4, 3, 54, 9, 21, 4, 29, 153, 0, 21, 21, 7, 155, 0, 16]
abbrev dktX1_shareOf_4 : List UInt8 := dkwX1_shareOf_4 ++ dktX1_shareOf_5
def dkwX1_shareOf_3 : List UInt8 := [180, 0, 217, 54, 7, 28, 25, 6, 180, 1, 19, 184, 1, 23, 54, 8, 21, 7, 155, 0, 16, 28, 21, 7]
abbrev dktX1_shareOf_3 : List UInt8 := dkwX1_shareOf_3 ++ dktX1_shareOf_4
def dkwX1_shareOf_2 : List UInt8 := [159, 0, 6, 167, 0, 104, 42, 180, 0, 22, 180, 0, 156, 25, 6, 180, 1, 19, 182, 0, 171, 192, 0, 205]
abbrev dktX1_shareOf_2 : List UInt8 := dkwX1_shareOf_2 ++ dktX1_shareOf_3
def dkwX1_shareOf_1 : List UInt8 := [180, 0, 22, 180, 0, 247, 21, 5, 182, 0, 171, 192, 1, 16, 58, 6, 25, 6, 180, 1, 44, 27]
abbrev dktX1_shareOf_1 : List UInt8 := dkwX1_shareOf_1 ++ dktX1_shareOf_2
def dkwX1_shareOf_0 : List UInt8 := [3, 54, 4, 3, 54, 5, 21, 5, 42, 180, 0, 22, 180, 0, 247, 182, 0, 160, 162, 0, 139, 42]
abbrev dktX1_shareOf_0 : List UInt8 := dkwX1_shareOf_0 ++ dktX1_shareOf_1
theorem dksX1_shareOf_0 : cX1_shareOf.data.toList.drop 0 = dktX1_shareOf_0 := by decide +kernel
theorem dksX1_shareOf_1 : cX1_shareOf.data.toList.drop 22 = dktX1_shareOf_1 := dk_seg dksX1_shareOf_0 22 rfl rfl
theorem dksX1_shareOf_2 : cX1_shareOf.data.toList.drop 44 = dktX1_shareOf_2 := dk_seg dksX1_shareOf_1 22 rfl rfl
theorem dksX1_shareOf_3 : cX1_shareOf.data.toList.drop 68 = dktX1_shareOf_3 := dk_seg dksX1_shareOf_2 24 rfl rfl
theorem dksX1_shareOf_4 : cX1_shareOf.data.toList.drop 92 = dktX1_shareOf_4 := dk_seg dksX1_shareOf_3 24 rfl rfl
theorem dksX1_shareOf_5 : cX1_shareOf.data.toList.drop 116 = dktX1_shareOf_5 := dk_seg dksX1_shareOf_4 24 rfl rfl
theorem dksX1_shareOf_6 : cX1_shareOf.data.toList.drop 140 = dktX1_shareOf_6 := dk_seg dksX1_shareOf_5 24 rfl rfl
theorem dX1_shareOf_0 : decode cX1_shareOf 0 = .ok (.iconst 0, 1) := dk_3 (dk_at dksX1_shareOf_0 0 rfl rfl)
theorem dX1_shareOf_1 : decode cX1_shareOf 1 = .ok (.istore 4, 2) := dk_54 4 (dk_at dksX1_shareOf_0 1 rfl rfl)
theorem dX1_shareOf_3 : decode cX1_shareOf 3 = .ok (.iconst 0, 1) := dk_3 (dk_at dksX1_shareOf_0 3 rfl rfl)
theorem dX1_shareOf_4 : decode cX1_shareOf 4 = .ok (.istore 5, 2) := dk_54 5 (dk_at dksX1_shareOf_0 4 rfl rfl)
theorem dX1_shareOf_6 : decode cX1_shareOf 6 = .ok (.iload 5, 2) := dk_21 5 (dk_at dksX1_shareOf_0 6 rfl rfl)
theorem dX1_shareOf_8 : decode cX1_shareOf 8 = .ok (.aload_n 0, 1) := dk_42 (dk_at dksX1_shareOf_0 8 rfl rfl)
theorem dX1_shareOf_9 : decode cX1_shareOf 9 = .ok (.getfield 22, 3) := dk_180 0 22 (dk_at dksX1_shareOf_0 9 rfl rfl)
theorem dX1_shareOf_12 : decode cX1_shareOf 12 = .ok (.getfield 247, 3) := dk_180 0 247 (dk_at dksX1_shareOf_0 12 rfl rfl)
theorem dX1_shareOf_15 : decode cX1_shareOf 15 = .ok (.invokevirtual 160, 3) := dk_182 0 160 (dk_at dksX1_shareOf_0 15 rfl rfl)
theorem dX1_shareOf_18 : decode cX1_shareOf 18 = .ok (.if_icmp .ge 139, 3) := dk_162 0 139 (dk_at dksX1_shareOf_0 18 rfl rfl)
theorem dX1_shareOf_21 : decode cX1_shareOf 21 = .ok (.aload_n 0, 1) := dk_42 (dk_at dksX1_shareOf_0 21 rfl rfl)
theorem dX1_shareOf_22 : decode cX1_shareOf 22 = .ok (.getfield 22, 3) := dk_180 0 22 (dk_at dksX1_shareOf_1 0 rfl rfl)
theorem dX1_shareOf_25 : decode cX1_shareOf 25 = .ok (.getfield 247, 3) := dk_180 0 247 (dk_at dksX1_shareOf_1 3 rfl rfl)
theorem dX1_shareOf_28 : decode cX1_shareOf 28 = .ok (.iload 5, 2) := dk_21 5 (dk_at dksX1_shareOf_1 6 rfl rfl)
theorem dX1_shareOf_30 : decode cX1_shareOf 30 = .ok (.invokevirtual 171, 3) := dk_182 0 171 (dk_at dksX1_shareOf_1 8 rfl rfl)
theorem dX1_shareOf_33 : decode cX1_shareOf 33 = .ok (.checkcast 272, 3) := dk_192 1 16 (dk_at dksX1_shareOf_1 11 rfl rfl)
theorem dX1_shareOf_36 : decode cX1_shareOf 36 = .ok (.astore 6, 2) := dk_58 6 (dk_at dksX1_shareOf_1 14 rfl rfl)
theorem dX1_shareOf_38 : decode cX1_shareOf 38 = .ok (.aload 6, 2) := dk_25 6 (dk_at dksX1_shareOf_1 16 rfl rfl)
theorem dX1_shareOf_40 : decode cX1_shareOf 40 = .ok (.getfield 300, 3) := dk_180 1 44 (dk_at dksX1_shareOf_1 18 rfl rfl)
theorem dX1_shareOf_43 : decode cX1_shareOf 43 = .ok (.iload_n 1, 1) := dk_27 (dk_at dksX1_shareOf_1 21 rfl rfl)
theorem dX1_shareOf_44 : decode cX1_shareOf 44 = .ok (.if_icmp .eq 6, 3) := dk_159 0 6 (dk_at dksX1_shareOf_2 0 rfl rfl)
theorem dX1_shareOf_47 : decode cX1_shareOf 47 = .ok (.goto 104, 3) := dk_167 0 104 (dk_at dksX1_shareOf_2 3 rfl rfl)
theorem dX1_shareOf_50 : decode cX1_shareOf 50 = .ok (.aload_n 0, 1) := dk_42 (dk_at dksX1_shareOf_2 6 rfl rfl)
theorem dX1_shareOf_51 : decode cX1_shareOf 51 = .ok (.getfield 22, 3) := dk_180 0 22 (dk_at dksX1_shareOf_2 7 rfl rfl)
theorem dX1_shareOf_54 : decode cX1_shareOf 54 = .ok (.getfield 156, 3) := dk_180 0 156 (dk_at dksX1_shareOf_2 10 rfl rfl)
theorem dX1_shareOf_57 : decode cX1_shareOf 57 = .ok (.aload 6, 2) := dk_25 6 (dk_at dksX1_shareOf_2 13 rfl rfl)
theorem dX1_shareOf_59 : decode cX1_shareOf 59 = .ok (.getfield 275, 3) := dk_180 1 19 (dk_at dksX1_shareOf_2 15 rfl rfl)
theorem dX1_shareOf_62 : decode cX1_shareOf 62 = .ok (.invokevirtual 171, 3) := dk_182 0 171 (dk_at dksX1_shareOf_2 18 rfl rfl)
theorem dX1_shareOf_65 : decode cX1_shareOf 65 = .ok (.checkcast 205, 3) := dk_192 0 205 (dk_at dksX1_shareOf_2 21 rfl rfl)
theorem dX1_shareOf_68 : decode cX1_shareOf 68 = .ok (.getfield 217, 3) := dk_180 0 217 (dk_at dksX1_shareOf_3 0 rfl rfl)
theorem dX1_shareOf_71 : decode cX1_shareOf 71 = .ok (.istore 7, 2) := dk_54 7 (dk_at dksX1_shareOf_3 3 rfl rfl)
theorem dX1_shareOf_73 : decode cX1_shareOf 73 = .ok (.iload_n 2, 1) := dk_28 (dk_at dksX1_shareOf_3 5 rfl rfl)
theorem dX1_shareOf_74 : decode cX1_shareOf 74 = .ok (.aload 6, 2) := dk_25 6 (dk_at dksX1_shareOf_3 6 rfl rfl)
theorem dX1_shareOf_76 : decode cX1_shareOf 76 = .ok (.getfield 275, 3) := dk_180 1 19 (dk_at dksX1_shareOf_3 8 rfl rfl)
theorem dX1_shareOf_79 : decode cX1_shareOf 79 = .ok (.invokestatic 279, 3) := dk_184 1 23 (dk_at dksX1_shareOf_3 11 rfl rfl)
theorem dX1_shareOf_82 : decode cX1_shareOf 82 = .ok (.istore 8, 2) := dk_54 8 (dk_at dksX1_shareOf_3 14 rfl rfl)
theorem dX1_shareOf_84 : decode cX1_shareOf 84 = .ok (.iload 7, 2) := dk_21 7 (dk_at dksX1_shareOf_3 16 rfl rfl)
theorem dX1_shareOf_86 : decode cX1_shareOf 86 = .ok (.ifCond .lt 16, 3) := dk_155 0 16 (dk_at dksX1_shareOf_3 18 rfl rfl)
theorem dX1_shareOf_89 : decode cX1_shareOf 89 = .ok (.iload_n 2, 1) := dk_28 (dk_at dksX1_shareOf_3 21 rfl rfl)
theorem dX1_shareOf_90 : decode cX1_shareOf 90 = .ok (.iload 7, 2) := dk_21 7 (dk_at dksX1_shareOf_3 22 rfl rfl)
theorem dX1_shareOf_92 : decode cX1_shareOf 92 = .ok (.invokestatic 279, 3) := dk_184 1 23 (dk_at dksX1_shareOf_4 0 rfl rfl)
theorem dX1_shareOf_95 : decode cX1_shareOf 95 = .ok (.ifCond .eq 7, 3) := dk_153 0 7 (dk_at dksX1_shareOf_4 3 rfl rfl)
theorem dX1_shareOf_98 : decode cX1_shareOf 98 = .ok (.iconst 1, 1) := dk_4 (dk_at dksX1_shareOf_4 6 rfl rfl)
theorem dX1_shareOf_99 : decode cX1_shareOf 99 = .ok (.goto 4, 3) := dk_167 0 4 (dk_at dksX1_shareOf_4 7 rfl rfl)
theorem dX1_shareOf_102 : decode cX1_shareOf 102 = .ok (.iconst 0, 1) := dk_3 (dk_at dksX1_shareOf_4 10 rfl rfl)
theorem dX1_shareOf_103 : decode cX1_shareOf 103 = .ok (.istore 9, 2) := dk_54 9 (dk_at dksX1_shareOf_4 11 rfl rfl)
theorem dX1_shareOf_105 : decode cX1_shareOf 105 = .ok (.iload 4, 2) := dk_21 4 (dk_at dksX1_shareOf_4 13 rfl rfl)
theorem dX1_shareOf_107 : decode cX1_shareOf 107 = .ok (.iload_n 3, 1) := dk_29 (dk_at dksX1_shareOf_4 15 rfl rfl)
theorem dX1_shareOf_108 : decode cX1_shareOf 108 = .ok (.ifCond .eq 21, 3) := dk_153 0 21 (dk_at dksX1_shareOf_4 16 rfl rfl)
theorem dX1_shareOf_111 : decode cX1_shareOf 111 = .ok (.iload 7, 2) := dk_21 7 (dk_at dksX1_shareOf_4 19 rfl rfl)
theorem dX1_shareOf_113 : decode cX1_shareOf 113 = .ok (.ifCond .lt 16, 3) := dk_155 0 16 (dk_at dksX1_shareOf_4 21 rfl rfl)
theorem dX1_shareOf_116 : decode cX1_shareOf 116 = .ok (.iload 8, 2) := dk_21 8 (dk_at dksX1_shareOf_5 0 rfl rfl)
theorem dX1_shareOf_118 : decode cX1_shareOf 118 = .ok (.ifCond .eq 29, 3) := dk_153 0 29 (dk_at dksX1_shareOf_5 2 rfl rfl)
theorem dX1_shareOf_121 : decode cX1_shareOf 121 = .ok (.iload 9, 2) := dk_21 9 (dk_at dksX1_shareOf_5 5 rfl rfl)
theorem dX1_shareOf_123 : decode cX1_shareOf 123 = .ok (.ifCond .eq 24, 3) := dk_153 0 24 (dk_at dksX1_shareOf_5 7 rfl rfl)
theorem dX1_shareOf_126 : decode cX1_shareOf 126 = .ok (.goto 13, 3) := dk_167 0 13 (dk_at dksX1_shareOf_5 10 rfl rfl)
theorem dX1_shareOf_129 : decode cX1_shareOf 129 = .ok (.iload 8, 2) := dk_21 8 (dk_at dksX1_shareOf_5 13 rfl rfl)
theorem dX1_shareOf_131 : decode cX1_shareOf 131 = .ok (.ifCond .ne 8, 3) := dk_154 0 8 (dk_at dksX1_shareOf_5 15 rfl rfl)
theorem dX1_shareOf_134 : decode cX1_shareOf 134 = .ok (.iload 9, 2) := dk_21 9 (dk_at dksX1_shareOf_5 18 rfl rfl)
theorem dX1_shareOf_136 : decode cX1_shareOf 136 = .ok (.ifCond .eq 11, 3) := dk_153 0 11 (dk_at dksX1_shareOf_5 20 rfl rfl)
theorem dX1_shareOf_139 : decode cX1_shareOf 139 = .ok (.aload_n 0, 1) := dk_42 (dk_at dksX1_shareOf_5 23 rfl rfl)
theorem dX1_shareOf_140 : decode cX1_shareOf 140 = .ok (.iload_n 1, 1) := dk_27 (dk_at dksX1_shareOf_6 0 rfl rfl)
theorem dX1_shareOf_141 : decode cX1_shareOf 141 = .ok (.invokevirtual 314, 3) := dk_182 1 58 (dk_at dksX1_shareOf_6 1 rfl rfl)
theorem dX1_shareOf_144 : decode cX1_shareOf 144 = .ok (.goto 4, 3) := dk_167 0 4 (dk_at dksX1_shareOf_6 4 rfl rfl)
theorem dX1_shareOf_147 : decode cX1_shareOf 147 = .ok (.iconst 0, 1) := dk_3 (dk_at dksX1_shareOf_6 7 rfl rfl)
theorem dX1_shareOf_148 : decode cX1_shareOf 148 = .ok (.iadd, 1) := dk_96 (dk_at dksX1_shareOf_6 8 rfl rfl)
theorem dX1_shareOf_149 : decode cX1_shareOf 149 = .ok (.istore 4, 2) := dk_54 4 (dk_at dksX1_shareOf_6 9 rfl rfl)
theorem dX1_shareOf_151 : decode cX1_shareOf 151 = .ok (.iinc 5 1, 3) := dk_132 5 1 (dk_at dksX1_shareOf_6 11 rfl rfl)
theorem dX1_shareOf_154 : decode cX1_shareOf 154 = .ok (.goto (-148), 3) := dk_167 255 108 (dk_at dksX1_shareOf_6 14 rfl rfl)
theorem dX1_shareOf_157 : decode cX1_shareOf 157 = .ok (.iload 4, 2) := dk_21 4 (dk_at dksX1_shareOf_6 17 rfl rfl)
theorem dX1_shareOf_159 : decode cX1_shareOf 159 = .ok (.ireturn, 1) := dk_172 (dk_at dksX1_shareOf_6 19 rfl rfl)
abbrev cX1_keeping : ByteArray := prog_1_method_38_code
def yX1_keeping : MethodName := ⟨RX1, "keeping", "(II)I"⟩
def dkwX1_keeping_2 : List UInt8 := [132, 5, 1, 167, 255, 214, 29, 172]
abbrev dktX1_keeping_2 : List UInt8 := dkwX1_keeping_2 ++ []
def dkwX1_keeping_1 : List UInt8 := [21, 4, 108, 16, 7, 112, 154, 0, 5, 2, 172, 29, 21, 4, 100, 62, 21, 4, 16, 7, 104, 54, 4]
abbrev dktX1_keeping_1 : List UInt8 := dkwX1_keeping_1 ++ dktX1_keeping_2
def dkwX1_keeping_0 : List UInt8 := [27, 62, 4, 54, 4, 3, 54, 5, 21, 5, 7, 162, 0, 42, 28, 21, 5, 184, 1, 23, 153, 0, 20, 27]
abbrev dktX1_keeping_0 : List UInt8 := dkwX1_keeping_0 ++ dktX1_keeping_1
theorem dksX1_keeping_0 : cX1_keeping.data.toList.drop 0 = dktX1_keeping_0 := by decide +kernel
theorem dksX1_keeping_1 : cX1_keeping.data.toList.drop 24 = dktX1_keeping_1 := dk_seg dksX1_keeping_0 24 rfl rfl
theorem dksX1_keeping_2 : cX1_keeping.data.toList.drop 47 = dktX1_keeping_2 := dk_seg dksX1_keeping_1 23 rfl rfl
theorem dX1_keeping_0 : decode cX1_keeping 0 = .ok (.iload_n 1, 1) := dk_27 (dk_at dksX1_keeping_0 0 rfl rfl)
theorem dX1_keeping_1 : decode cX1_keeping 1 = .ok (.istore_n 3, 1) := dk_62 (dk_at dksX1_keeping_0 1 rfl rfl)
theorem dX1_keeping_2 : decode cX1_keeping 2 = .ok (.iconst 1, 1) := dk_4 (dk_at dksX1_keeping_0 2 rfl rfl)
theorem dX1_keeping_3 : decode cX1_keeping 3 = .ok (.istore 4, 2) := dk_54 4 (dk_at dksX1_keeping_0 3 rfl rfl)
theorem dX1_keeping_5 : decode cX1_keeping 5 = .ok (.iconst 0, 1) := dk_3 (dk_at dksX1_keeping_0 5 rfl rfl)
theorem dX1_keeping_6 : decode cX1_keeping 6 = .ok (.istore 5, 2) := dk_54 5 (dk_at dksX1_keeping_0 6 rfl rfl)
theorem dX1_keeping_8 : decode cX1_keeping 8 = .ok (.iload 5, 2) := dk_21 5 (dk_at dksX1_keeping_0 8 rfl rfl)
theorem dX1_keeping_10 : decode cX1_keeping 10 = .ok (.iconst 4, 1) := dk_7 (dk_at dksX1_keeping_0 10 rfl rfl)
theorem dX1_keeping_11 : decode cX1_keeping 11 = .ok (.if_icmp .ge 42, 3) := dk_162 0 42 (dk_at dksX1_keeping_0 11 rfl rfl)
theorem dX1_keeping_14 : decode cX1_keeping 14 = .ok (.iload_n 2, 1) := dk_28 (dk_at dksX1_keeping_0 14 rfl rfl)
theorem dX1_keeping_15 : decode cX1_keeping 15 = .ok (.iload 5, 2) := dk_21 5 (dk_at dksX1_keeping_0 15 rfl rfl)
theorem dX1_keeping_17 : decode cX1_keeping 17 = .ok (.invokestatic 279, 3) := dk_184 1 23 (dk_at dksX1_keeping_0 17 rfl rfl)
theorem dX1_keeping_20 : decode cX1_keeping 20 = .ok (.ifCond .eq 20, 3) := dk_153 0 20 (dk_at dksX1_keeping_0 20 rfl rfl)
theorem dX1_keeping_23 : decode cX1_keeping 23 = .ok (.iload_n 1, 1) := dk_27 (dk_at dksX1_keeping_0 23 rfl rfl)
theorem dX1_keeping_24 : decode cX1_keeping 24 = .ok (.iload 4, 2) := dk_21 4 (dk_at dksX1_keeping_1 0 rfl rfl)
theorem dX1_keeping_26 : decode cX1_keeping 26 = .ok (.idiv, 1) := dk_108 (dk_at dksX1_keeping_1 2 rfl rfl)
theorem dX1_keeping_27 : decode cX1_keeping 27 = .ok (.bipush 7, 2) := dk_16 7 (dk_at dksX1_keeping_1 3 rfl rfl)
theorem dX1_keeping_29 : decode cX1_keeping 29 = .ok (.irem, 1) := dk_112 (dk_at dksX1_keeping_1 5 rfl rfl)
theorem dX1_keeping_30 : decode cX1_keeping 30 = .ok (.ifCond .ne 5, 3) := dk_154 0 5 (dk_at dksX1_keeping_1 6 rfl rfl)
theorem dX1_keeping_33 : decode cX1_keeping 33 = .ok (.iconst (-1), 1) := dk_2 (dk_at dksX1_keeping_1 9 rfl rfl)
theorem dX1_keeping_34 : decode cX1_keeping 34 = .ok (.ireturn, 1) := dk_172 (dk_at dksX1_keeping_1 10 rfl rfl)
theorem dX1_keeping_35 : decode cX1_keeping 35 = .ok (.iload_n 3, 1) := dk_29 (dk_at dksX1_keeping_1 11 rfl rfl)
theorem dX1_keeping_36 : decode cX1_keeping 36 = .ok (.iload 4, 2) := dk_21 4 (dk_at dksX1_keeping_1 12 rfl rfl)
theorem dX1_keeping_38 : decode cX1_keeping 38 = .ok (.isub, 1) := dk_100 (dk_at dksX1_keeping_1 14 rfl rfl)
theorem dX1_keeping_39 : decode cX1_keeping 39 = .ok (.istore_n 3, 1) := dk_62 (dk_at dksX1_keeping_1 15 rfl rfl)
theorem dX1_keeping_40 : decode cX1_keeping 40 = .ok (.iload 4, 2) := dk_21 4 (dk_at dksX1_keeping_1 16 rfl rfl)
theorem dX1_keeping_42 : decode cX1_keeping 42 = .ok (.bipush 7, 2) := dk_16 7 (dk_at dksX1_keeping_1 18 rfl rfl)
theorem dX1_keeping_44 : decode cX1_keeping 44 = .ok (.imul, 1) := dk_104 (dk_at dksX1_keeping_1 20 rfl rfl)
theorem dX1_keeping_45 : decode cX1_keeping 45 = .ok (.istore 4, 2) := dk_54 4 (dk_at dksX1_keeping_1 21 rfl rfl)
theorem dX1_keeping_47 : decode cX1_keeping 47 = .ok (.iinc 5 1, 3) := dk_132 5 1 (dk_at dksX1_keeping_2 0 rfl rfl)
theorem dX1_keeping_50 : decode cX1_keeping 50 = .ok (.goto (-42), 3) := dk_167 255 214 (dk_at dksX1_keeping_2 3 rfl rfl)
theorem dX1_keeping_53 : decode cX1_keeping 53 = .ok (.iload_n 3, 1) := dk_29 (dk_at dksX1_keeping_2 6 rfl rfl)
theorem dX1_keeping_54 : decode cX1_keeping 54 = .ok (.ireturn, 1) := dk_172 (dk_at dksX1_keeping_2 7 rfl rfl)
abbrev cX1_allFree : ByteArray := prog_1_method_40_code
def yX1_allFree : MethodName := ⟨RX1, "allFree", "()I"⟩
def dkwX1_allFree_1 : List UInt8 := [28, 182, 0, 171, 192, 0, 205, 180, 0, 207, 96, 60, 132, 2, 255, 167, 255, 226, 27, 172]
abbrev dktX1_allFree_1 : List UInt8 := dkwX1_allFree_1 ++ []
def dkwX1_allFree_0 : List UInt8 := [3, 60, 42, 182, 0, 166, 4, 100, 61, 28, 155, 0, 32, 16, 7, 27, 104, 42, 180, 0, 22, 180, 0, 156]
abbrev dktX1_allFree_0 : List UInt8 := dkwX1_allFree_0 ++ dktX1_allFree_1
theorem dksX1_allFree_0 : cX1_allFree.data.toList.drop 0 = dktX1_allFree_0 := by decide +kernel
theorem dksX1_allFree_1 : cX1_allFree.data.toList.drop 24 = dktX1_allFree_1 := dk_seg dksX1_allFree_0 24 rfl rfl
theorem dX1_allFree_0 : decode cX1_allFree 0 = .ok (.iconst 0, 1) := dk_3 (dk_at dksX1_allFree_0 0 rfl rfl)
theorem dX1_allFree_1 : decode cX1_allFree 1 = .ok (.istore_n 1, 1) := dk_60 (dk_at dksX1_allFree_0 1 rfl rfl)
theorem dX1_allFree_2 : decode cX1_allFree 2 = .ok (.aload_n 0, 1) := dk_42 (dk_at dksX1_allFree_0 2 rfl rfl)
theorem dX1_allFree_3 : decode cX1_allFree 3 = .ok (.invokevirtual 166, 3) := dk_182 0 166 (dk_at dksX1_allFree_0 3 rfl rfl)
theorem dX1_allFree_6 : decode cX1_allFree 6 = .ok (.iconst 1, 1) := dk_4 (dk_at dksX1_allFree_0 6 rfl rfl)
theorem dX1_allFree_7 : decode cX1_allFree 7 = .ok (.isub, 1) := dk_100 (dk_at dksX1_allFree_0 7 rfl rfl)
theorem dX1_allFree_8 : decode cX1_allFree 8 = .ok (.istore_n 2, 1) := dk_61 (dk_at dksX1_allFree_0 8 rfl rfl)
theorem dX1_allFree_9 : decode cX1_allFree 9 = .ok (.iload_n 2, 1) := dk_28 (dk_at dksX1_allFree_0 9 rfl rfl)
theorem dX1_allFree_10 : decode cX1_allFree 10 = .ok (.ifCond .lt 32, 3) := dk_155 0 32 (dk_at dksX1_allFree_0 10 rfl rfl)
theorem dX1_allFree_13 : decode cX1_allFree 13 = .ok (.bipush 7, 2) := dk_16 7 (dk_at dksX1_allFree_0 13 rfl rfl)
theorem dX1_allFree_15 : decode cX1_allFree 15 = .ok (.iload_n 1, 1) := dk_27 (dk_at dksX1_allFree_0 15 rfl rfl)
theorem dX1_allFree_16 : decode cX1_allFree 16 = .ok (.imul, 1) := dk_104 (dk_at dksX1_allFree_0 16 rfl rfl)
theorem dX1_allFree_17 : decode cX1_allFree 17 = .ok (.aload_n 0, 1) := dk_42 (dk_at dksX1_allFree_0 17 rfl rfl)
theorem dX1_allFree_18 : decode cX1_allFree 18 = .ok (.getfield 22, 3) := dk_180 0 22 (dk_at dksX1_allFree_0 18 rfl rfl)
theorem dX1_allFree_21 : decode cX1_allFree 21 = .ok (.getfield 156, 3) := dk_180 0 156 (dk_at dksX1_allFree_0 21 rfl rfl)
theorem dX1_allFree_24 : decode cX1_allFree 24 = .ok (.iload_n 2, 1) := dk_28 (dk_at dksX1_allFree_1 0 rfl rfl)
theorem dX1_allFree_25 : decode cX1_allFree 25 = .ok (.invokevirtual 171, 3) := dk_182 0 171 (dk_at dksX1_allFree_1 1 rfl rfl)
theorem dX1_allFree_28 : decode cX1_allFree 28 = .ok (.checkcast 205, 3) := dk_192 0 205 (dk_at dksX1_allFree_1 4 rfl rfl)
theorem dX1_allFree_31 : decode cX1_allFree 31 = .ok (.getfield 207, 3) := dk_180 0 207 (dk_at dksX1_allFree_1 7 rfl rfl)
theorem dX1_allFree_34 : decode cX1_allFree 34 = .ok (.iadd, 1) := dk_96 (dk_at dksX1_allFree_1 10 rfl rfl)
theorem dX1_allFree_35 : decode cX1_allFree 35 = .ok (.istore_n 1, 1) := dk_60 (dk_at dksX1_allFree_1 11 rfl rfl)
theorem dX1_allFree_36 : decode cX1_allFree 36 = .ok (.iinc 2 (-1), 3) := dk_132 2 255 (dk_at dksX1_allFree_1 12 rfl rfl)
theorem dX1_allFree_39 : decode cX1_allFree 39 = .ok (.goto (-30), 3) := dk_167 255 226 (dk_at dksX1_allFree_1 15 rfl rfl)
theorem dX1_allFree_42 : decode cX1_allFree 42 = .ok (.iload_n 1, 1) := dk_27 (dk_at dksX1_allFree_1 18 rfl rfl)
theorem dX1_allFree_43 : decode cX1_allFree 43 = .ok (.ireturn, 1) := dk_172 (dk_at dksX1_allFree_1 19 rfl rfl)
abbrev cX1_fewest : ByteArray := prog_1_method_42_code
def yX1_fewest : MethodName := ⟨RX1, "fewest", "()I"⟩
def dkwX1_fewest_4 : List UInt8 := [60, 132, 3, 1, 167, 255, 171, 27, 172]
abbrev dktX1_fewest_4 : List UInt8 := dkwX1_fewest_4 ++ []
def dkwX1_fewest_3 : List UInt8 := [54, 4, 132, 5, 1, 167, 255, 217, 27, 42, 29, 182, 1, 58, 158, 0, 8, 21, 4, 167, 0, 4, 3, 96]
abbrev dktX1_fewest_3 : List UInt8 := dkwX1_fewest_3 ++ dktX1_fewest_4
def dkwX1_fewest_2 : List UInt8 := [182, 1, 96, 42, 29, 28, 3, 182, 1, 96, 160, 0, 15, 21, 4, 21, 5, 184, 1, 27, 184, 1, 116]
abbrev dktX1_fewest_2 : List UInt8 := dkwX1_fewest_2 ++ dktX1_fewest_3
def dkwX1_fewest_1 : List UInt8 := [162, 0, 77, 28, 184, 1, 27, 54, 4, 3, 54, 5, 21, 5, 28, 162, 0, 39, 42, 29, 21, 5, 3]
abbrev dktX1_fewest_1 : List UInt8 := dkwX1_fewest_1 ++ dktX1_fewest_2
def dkwX1_fewest_0 : List UInt8 := [3, 60, 4, 42, 182, 0, 166, 120, 4, 100, 61, 3, 62, 29, 42, 180, 0, 22, 180, 0, 168, 182, 0, 160]
abbrev dktX1_fewest_0 : List UInt8 := dkwX1_fewest_0 ++ dktX1_fewest_1
theorem dksX1_fewest_0 : cX1_fewest.data.toList.drop 0 = dktX1_fewest_0 := by decide +kernel
theorem dksX1_fewest_1 : cX1_fewest.data.toList.drop 24 = dktX1_fewest_1 := dk_seg dksX1_fewest_0 24 rfl rfl
theorem dksX1_fewest_2 : cX1_fewest.data.toList.drop 47 = dktX1_fewest_2 := dk_seg dksX1_fewest_1 23 rfl rfl
theorem dksX1_fewest_3 : cX1_fewest.data.toList.drop 70 = dktX1_fewest_3 := dk_seg dksX1_fewest_2 23 rfl rfl
theorem dksX1_fewest_4 : cX1_fewest.data.toList.drop 94 = dktX1_fewest_4 := dk_seg dksX1_fewest_3 24 rfl rfl
theorem dX1_fewest_0 : decode cX1_fewest 0 = .ok (.iconst 0, 1) := dk_3 (dk_at dksX1_fewest_0 0 rfl rfl)
theorem dX1_fewest_1 : decode cX1_fewest 1 = .ok (.istore_n 1, 1) := dk_60 (dk_at dksX1_fewest_0 1 rfl rfl)
theorem dX1_fewest_2 : decode cX1_fewest 2 = .ok (.iconst 1, 1) := dk_4 (dk_at dksX1_fewest_0 2 rfl rfl)
theorem dX1_fewest_3 : decode cX1_fewest 3 = .ok (.aload_n 0, 1) := dk_42 (dk_at dksX1_fewest_0 3 rfl rfl)
theorem dX1_fewest_4 : decode cX1_fewest 4 = .ok (.invokevirtual 166, 3) := dk_182 0 166 (dk_at dksX1_fewest_0 4 rfl rfl)
theorem dX1_fewest_7 : decode cX1_fewest 7 = .ok (.ishl, 1) := dk_120 (dk_at dksX1_fewest_0 7 rfl rfl)
theorem dX1_fewest_8 : decode cX1_fewest 8 = .ok (.iconst 1, 1) := dk_4 (dk_at dksX1_fewest_0 8 rfl rfl)
theorem dX1_fewest_9 : decode cX1_fewest 9 = .ok (.isub, 1) := dk_100 (dk_at dksX1_fewest_0 9 rfl rfl)
theorem dX1_fewest_10 : decode cX1_fewest 10 = .ok (.istore_n 2, 1) := dk_61 (dk_at dksX1_fewest_0 10 rfl rfl)
theorem dX1_fewest_11 : decode cX1_fewest 11 = .ok (.iconst 0, 1) := dk_3 (dk_at dksX1_fewest_0 11 rfl rfl)
theorem dX1_fewest_12 : decode cX1_fewest 12 = .ok (.istore_n 3, 1) := dk_62 (dk_at dksX1_fewest_0 12 rfl rfl)
theorem dX1_fewest_13 : decode cX1_fewest 13 = .ok (.iload_n 3, 1) := dk_29 (dk_at dksX1_fewest_0 13 rfl rfl)
theorem dX1_fewest_14 : decode cX1_fewest 14 = .ok (.aload_n 0, 1) := dk_42 (dk_at dksX1_fewest_0 14 rfl rfl)
theorem dX1_fewest_15 : decode cX1_fewest 15 = .ok (.getfield 22, 3) := dk_180 0 22 (dk_at dksX1_fewest_0 15 rfl rfl)
theorem dX1_fewest_18 : decode cX1_fewest 18 = .ok (.getfield 168, 3) := dk_180 0 168 (dk_at dksX1_fewest_0 18 rfl rfl)
theorem dX1_fewest_21 : decode cX1_fewest 21 = .ok (.invokevirtual 160, 3) := dk_182 0 160 (dk_at dksX1_fewest_0 21 rfl rfl)
theorem dX1_fewest_24 : decode cX1_fewest 24 = .ok (.if_icmp .ge 77, 3) := dk_162 0 77 (dk_at dksX1_fewest_1 0 rfl rfl)
theorem dX1_fewest_27 : decode cX1_fewest 27 = .ok (.iload_n 2, 1) := dk_28 (dk_at dksX1_fewest_1 3 rfl rfl)
theorem dX1_fewest_28 : decode cX1_fewest 28 = .ok (.invokestatic 283, 3) := dk_184 1 27 (dk_at dksX1_fewest_1 4 rfl rfl)
theorem dX1_fewest_31 : decode cX1_fewest 31 = .ok (.istore 4, 2) := dk_54 4 (dk_at dksX1_fewest_1 7 rfl rfl)
theorem dX1_fewest_33 : decode cX1_fewest 33 = .ok (.iconst 0, 1) := dk_3 (dk_at dksX1_fewest_1 9 rfl rfl)
theorem dX1_fewest_34 : decode cX1_fewest 34 = .ok (.istore 5, 2) := dk_54 5 (dk_at dksX1_fewest_1 10 rfl rfl)
theorem dX1_fewest_36 : decode cX1_fewest 36 = .ok (.iload 5, 2) := dk_21 5 (dk_at dksX1_fewest_1 12 rfl rfl)
theorem dX1_fewest_38 : decode cX1_fewest 38 = .ok (.iload_n 2, 1) := dk_28 (dk_at dksX1_fewest_1 14 rfl rfl)
theorem dX1_fewest_39 : decode cX1_fewest 39 = .ok (.if_icmp .ge 39, 3) := dk_162 0 39 (dk_at dksX1_fewest_1 15 rfl rfl)
theorem dX1_fewest_42 : decode cX1_fewest 42 = .ok (.aload_n 0, 1) := dk_42 (dk_at dksX1_fewest_1 18 rfl rfl)
theorem dX1_fewest_43 : decode cX1_fewest 43 = .ok (.iload_n 3, 1) := dk_29 (dk_at dksX1_fewest_1 19 rfl rfl)
theorem dX1_fewest_44 : decode cX1_fewest 44 = .ok (.iload 5, 2) := dk_21 5 (dk_at dksX1_fewest_1 20 rfl rfl)
theorem dX1_fewest_46 : decode cX1_fewest 46 = .ok (.iconst 0, 1) := dk_3 (dk_at dksX1_fewest_1 22 rfl rfl)
theorem dX1_fewest_47 : decode cX1_fewest 47 = .ok (.invokevirtual 352, 3) := dk_182 1 96 (dk_at dksX1_fewest_2 0 rfl rfl)
theorem dX1_fewest_50 : decode cX1_fewest 50 = .ok (.aload_n 0, 1) := dk_42 (dk_at dksX1_fewest_2 3 rfl rfl)
theorem dX1_fewest_51 : decode cX1_fewest 51 = .ok (.iload_n 3, 1) := dk_29 (dk_at dksX1_fewest_2 4 rfl rfl)
theorem dX1_fewest_52 : decode cX1_fewest 52 = .ok (.iload_n 2, 1) := dk_28 (dk_at dksX1_fewest_2 5 rfl rfl)
theorem dX1_fewest_53 : decode cX1_fewest 53 = .ok (.iconst 0, 1) := dk_3 (dk_at dksX1_fewest_2 6 rfl rfl)
theorem dX1_fewest_54 : decode cX1_fewest 54 = .ok (.invokevirtual 352, 3) := dk_182 1 96 (dk_at dksX1_fewest_2 7 rfl rfl)
theorem dX1_fewest_57 : decode cX1_fewest 57 = .ok (.if_icmp .ne 15, 3) := dk_160 0 15 (dk_at dksX1_fewest_2 10 rfl rfl)
theorem dX1_fewest_60 : decode cX1_fewest 60 = .ok (.iload 4, 2) := dk_21 4 (dk_at dksX1_fewest_2 13 rfl rfl)
theorem dX1_fewest_62 : decode cX1_fewest 62 = .ok (.iload 5, 2) := dk_21 5 (dk_at dksX1_fewest_2 15 rfl rfl)
theorem dX1_fewest_64 : decode cX1_fewest 64 = .ok (.invokestatic 283, 3) := dk_184 1 27 (dk_at dksX1_fewest_2 17 rfl rfl)
theorem dX1_fewest_67 : decode cX1_fewest 67 = .ok (.invokestatic 372, 3) := dk_184 1 116 (dk_at dksX1_fewest_2 20 rfl rfl)
theorem dX1_fewest_70 : decode cX1_fewest 70 = .ok (.istore 4, 2) := dk_54 4 (dk_at dksX1_fewest_3 0 rfl rfl)
theorem dX1_fewest_72 : decode cX1_fewest 72 = .ok (.iinc 5 1, 3) := dk_132 5 1 (dk_at dksX1_fewest_3 2 rfl rfl)
theorem dX1_fewest_75 : decode cX1_fewest 75 = .ok (.goto (-39), 3) := dk_167 255 217 (dk_at dksX1_fewest_3 5 rfl rfl)
theorem dX1_fewest_78 : decode cX1_fewest 78 = .ok (.iload_n 1, 1) := dk_27 (dk_at dksX1_fewest_3 8 rfl rfl)
theorem dX1_fewest_79 : decode cX1_fewest 79 = .ok (.aload_n 0, 1) := dk_42 (dk_at dksX1_fewest_3 9 rfl rfl)
theorem dX1_fewest_80 : decode cX1_fewest 80 = .ok (.iload_n 3, 1) := dk_29 (dk_at dksX1_fewest_3 10 rfl rfl)
theorem dX1_fewest_81 : decode cX1_fewest 81 = .ok (.invokevirtual 314, 3) := dk_182 1 58 (dk_at dksX1_fewest_3 11 rfl rfl)
theorem dX1_fewest_84 : decode cX1_fewest 84 = .ok (.ifCond .le 8, 3) := dk_158 0 8 (dk_at dksX1_fewest_3 14 rfl rfl)
theorem dX1_fewest_87 : decode cX1_fewest 87 = .ok (.iload 4, 2) := dk_21 4 (dk_at dksX1_fewest_3 17 rfl rfl)
theorem dX1_fewest_89 : decode cX1_fewest 89 = .ok (.goto 4, 3) := dk_167 0 4 (dk_at dksX1_fewest_3 19 rfl rfl)
theorem dX1_fewest_92 : decode cX1_fewest 92 = .ok (.iconst 0, 1) := dk_3 (dk_at dksX1_fewest_3 22 rfl rfl)
theorem dX1_fewest_93 : decode cX1_fewest 93 = .ok (.iadd, 1) := dk_96 (dk_at dksX1_fewest_3 23 rfl rfl)
theorem dX1_fewest_94 : decode cX1_fewest 94 = .ok (.istore_n 1, 1) := dk_60 (dk_at dksX1_fewest_4 0 rfl rfl)
theorem dX1_fewest_95 : decode cX1_fewest 95 = .ok (.iinc 3 1, 3) := dk_132 3 1 (dk_at dksX1_fewest_4 1 rfl rfl)
theorem dX1_fewest_98 : decode cX1_fewest 98 = .ok (.goto (-85), 3) := dk_167 255 171 (dk_at dksX1_fewest_4 4 rfl rfl)
theorem dX1_fewest_101 : decode cX1_fewest 101 = .ok (.iload_n 1, 1) := dk_27 (dk_at dksX1_fewest_4 7 rfl rfl)
theorem dX1_fewest_102 : decode cX1_fewest 102 = .ok (.ireturn, 1) := dk_172 (dk_at dksX1_fewest_4 8 rfl rfl)
abbrev cX1_gives : ByteArray := prog_1_method_46_code
def yX1_gives : MethodName := ⟨RX1, "gives", "(IJ)I"⟩
def dkwX1_gives_2 : List UInt8 := [120, 167, 0, 4, 3, 128, 54, 4, 132, 5, 1, 167, 255, 215, 21, 4, 172]
abbrev dktX1_gives_2 : List UInt8 := dkwX1_gives_2 ++ []
def dkwX1_gives_1 : List UInt8 := [180, 0, 168, 182, 0, 160, 162, 0, 32, 21, 4, 27, 32, 21, 5, 184, 1, 129, 158, 0, 10, 4, 21, 5]
abbrev dktX1_gives_1 : List UInt8 := dkwX1_gives_1 ++ dktX1_gives_2
def dkwX1_gives_0 : List UInt8 := [42, 27, 32, 182, 1, 125, 154, 0, 5, 2, 172, 3, 54, 4, 3, 54, 5, 21, 5, 42, 180, 0, 22]
abbrev dktX1_gives_0 : List UInt8 := dkwX1_gives_0 ++ dktX1_gives_1
theorem dksX1_gives_0 : cX1_gives.data.toList.drop 0 = dktX1_gives_0 := by decide +kernel
theorem dksX1_gives_1 : cX1_gives.data.toList.drop 23 = dktX1_gives_1 := dk_seg dksX1_gives_0 23 rfl rfl
theorem dksX1_gives_2 : cX1_gives.data.toList.drop 47 = dktX1_gives_2 := dk_seg dksX1_gives_1 24 rfl rfl
theorem dX1_gives_0 : decode cX1_gives 0 = .ok (.aload_n 0, 1) := dk_42 (dk_at dksX1_gives_0 0 rfl rfl)
theorem dX1_gives_1 : decode cX1_gives 1 = .ok (.iload_n 1, 1) := dk_27 (dk_at dksX1_gives_0 1 rfl rfl)
theorem dX1_gives_2 : decode cX1_gives 2 = .ok (.lload_n 2, 1) := dk_32 (dk_at dksX1_gives_0 2 rfl rfl)
theorem dX1_gives_3 : decode cX1_gives 3 = .ok (.invokevirtual 381, 3) := dk_182 1 125 (dk_at dksX1_gives_0 3 rfl rfl)
theorem dX1_gives_6 : decode cX1_gives 6 = .ok (.ifCond .ne 5, 3) := dk_154 0 5 (dk_at dksX1_gives_0 6 rfl rfl)
theorem dX1_gives_9 : decode cX1_gives 9 = .ok (.iconst (-1), 1) := dk_2 (dk_at dksX1_gives_0 9 rfl rfl)
theorem dX1_gives_10 : decode cX1_gives 10 = .ok (.ireturn, 1) := dk_172 (dk_at dksX1_gives_0 10 rfl rfl)
theorem dX1_gives_11 : decode cX1_gives 11 = .ok (.iconst 0, 1) := dk_3 (dk_at dksX1_gives_0 11 rfl rfl)
theorem dX1_gives_12 : decode cX1_gives 12 = .ok (.istore 4, 2) := dk_54 4 (dk_at dksX1_gives_0 12 rfl rfl)
theorem dX1_gives_14 : decode cX1_gives 14 = .ok (.iconst 0, 1) := dk_3 (dk_at dksX1_gives_0 14 rfl rfl)
theorem dX1_gives_15 : decode cX1_gives 15 = .ok (.istore 5, 2) := dk_54 5 (dk_at dksX1_gives_0 15 rfl rfl)
theorem dX1_gives_17 : decode cX1_gives 17 = .ok (.iload 5, 2) := dk_21 5 (dk_at dksX1_gives_0 17 rfl rfl)
theorem dX1_gives_19 : decode cX1_gives 19 = .ok (.aload_n 0, 1) := dk_42 (dk_at dksX1_gives_0 19 rfl rfl)
theorem dX1_gives_20 : decode cX1_gives 20 = .ok (.getfield 22, 3) := dk_180 0 22 (dk_at dksX1_gives_0 20 rfl rfl)
theorem dX1_gives_23 : decode cX1_gives 23 = .ok (.getfield 168, 3) := dk_180 0 168 (dk_at dksX1_gives_1 0 rfl rfl)
theorem dX1_gives_26 : decode cX1_gives 26 = .ok (.invokevirtual 160, 3) := dk_182 0 160 (dk_at dksX1_gives_1 3 rfl rfl)
theorem dX1_gives_29 : decode cX1_gives 29 = .ok (.if_icmp .ge 32, 3) := dk_162 0 32 (dk_at dksX1_gives_1 6 rfl rfl)
theorem dX1_gives_32 : decode cX1_gives 32 = .ok (.iload 4, 2) := dk_21 4 (dk_at dksX1_gives_1 9 rfl rfl)
theorem dX1_gives_34 : decode cX1_gives 34 = .ok (.iload_n 1, 1) := dk_27 (dk_at dksX1_gives_1 11 rfl rfl)
theorem dX1_gives_35 : decode cX1_gives 35 = .ok (.lload_n 2, 1) := dk_32 (dk_at dksX1_gives_1 12 rfl rfl)
theorem dX1_gives_36 : decode cX1_gives 36 = .ok (.iload 5, 2) := dk_21 5 (dk_at dksX1_gives_1 13 rfl rfl)
theorem dX1_gives_38 : decode cX1_gives 38 = .ok (.invokestatic 385, 3) := dk_184 1 129 (dk_at dksX1_gives_1 15 rfl rfl)
theorem dX1_gives_41 : decode cX1_gives 41 = .ok (.ifCond .le 10, 3) := dk_158 0 10 (dk_at dksX1_gives_1 18 rfl rfl)
theorem dX1_gives_44 : decode cX1_gives 44 = .ok (.iconst 1, 1) := dk_4 (dk_at dksX1_gives_1 21 rfl rfl)
theorem dX1_gives_45 : decode cX1_gives 45 = .ok (.iload 5, 2) := dk_21 5 (dk_at dksX1_gives_1 22 rfl rfl)
theorem dX1_gives_47 : decode cX1_gives 47 = .ok (.ishl, 1) := dk_120 (dk_at dksX1_gives_2 0 rfl rfl)
theorem dX1_gives_48 : decode cX1_gives 48 = .ok (.goto 4, 3) := dk_167 0 4 (dk_at dksX1_gives_2 1 rfl rfl)
theorem dX1_gives_51 : decode cX1_gives 51 = .ok (.iconst 0, 1) := dk_3 (dk_at dksX1_gives_2 4 rfl rfl)
theorem dX1_gives_52 : decode cX1_gives 52 = .ok (.ior, 1) := dk_128 (dk_at dksX1_gives_2 5 rfl rfl)
theorem dX1_gives_53 : decode cX1_gives 53 = .ok (.istore 4, 2) := dk_54 4 (dk_at dksX1_gives_2 6 rfl rfl)
theorem dX1_gives_55 : decode cX1_gives 55 = .ok (.iinc 5 1, 3) := dk_132 5 1 (dk_at dksX1_gives_2 8 rfl rfl)
theorem dX1_gives_58 : decode cX1_gives 58 = .ok (.goto (-41), 3) := dk_167 255 215 (dk_at dksX1_gives_2 11 rfl rfl)
theorem dX1_gives_61 : decode cX1_gives 61 = .ok (.iload 4, 2) := dk_21 4 (dk_at dksX1_gives_2 14 rfl rfl)
theorem dX1_gives_63 : decode cX1_gives 63 = .ok (.ireturn, 1) := dk_172 (dk_at dksX1_gives_2 16 rfl rfl)
abbrev cX1_areCodes : ByteArray := prog_1_method_44_code
def yX1_areCodes : MethodName := ⟨RX1, "areCodes", "(IJ)Z"⟩
def dkwX1_areCodes_2 : List UInt8 := [167, 255, 225, 4, 172]
abbrev dktX1_areCodes_2 : List UInt8 := dkwX1_areCodes_2 ++ []
def dkwX1_areCodes_1 : List UInt8 := [184, 1, 121, 42, 180, 0, 22, 180, 0, 168, 182, 0, 160, 122, 153, 0, 5, 3, 172, 132, 4, 1]
abbrev dktX1_areCodes_1 : List UInt8 := dkwX1_areCodes_1 ++ dktX1_areCodes_2
def dkwX1_areCodes_0 : List UInt8 := [27, 3, 16, 7, 184, 0, 107, 154, 0, 5, 3, 172, 3, 54, 4, 21, 4, 27, 162, 0, 31, 32, 21, 4]
abbrev dktX1_areCodes_0 : List UInt8 := dkwX1_areCodes_0 ++ dktX1_areCodes_1
theorem dksX1_areCodes_0 : cX1_areCodes.data.toList.drop 0 = dktX1_areCodes_0 := by decide +kernel
theorem dksX1_areCodes_1 : cX1_areCodes.data.toList.drop 24 = dktX1_areCodes_1 := dk_seg dksX1_areCodes_0 24 rfl rfl
theorem dksX1_areCodes_2 : cX1_areCodes.data.toList.drop 46 = dktX1_areCodes_2 := dk_seg dksX1_areCodes_1 22 rfl rfl
theorem dX1_areCodes_0 : decode cX1_areCodes 0 = .ok (.iload_n 1, 1) := dk_27 (dk_at dksX1_areCodes_0 0 rfl rfl)
theorem dX1_areCodes_1 : decode cX1_areCodes 1 = .ok (.iconst 0, 1) := dk_3 (dk_at dksX1_areCodes_0 1 rfl rfl)
theorem dX1_areCodes_2 : decode cX1_areCodes 2 = .ok (.bipush 7, 2) := dk_16 7 (dk_at dksX1_areCodes_0 2 rfl rfl)
theorem dX1_areCodes_4 : decode cX1_areCodes 4 = .ok (.invokestatic 107, 3) := dk_184 0 107 (dk_at dksX1_areCodes_0 4 rfl rfl)
theorem dX1_areCodes_7 : decode cX1_areCodes 7 = .ok (.ifCond .ne 5, 3) := dk_154 0 5 (dk_at dksX1_areCodes_0 7 rfl rfl)
theorem dX1_areCodes_10 : decode cX1_areCodes 10 = .ok (.iconst 0, 1) := dk_3 (dk_at dksX1_areCodes_0 10 rfl rfl)
theorem dX1_areCodes_11 : decode cX1_areCodes 11 = .ok (.ireturn, 1) := dk_172 (dk_at dksX1_areCodes_0 11 rfl rfl)
theorem dX1_areCodes_12 : decode cX1_areCodes 12 = .ok (.iconst 0, 1) := dk_3 (dk_at dksX1_areCodes_0 12 rfl rfl)
theorem dX1_areCodes_13 : decode cX1_areCodes 13 = .ok (.istore 4, 2) := dk_54 4 (dk_at dksX1_areCodes_0 13 rfl rfl)
theorem dX1_areCodes_15 : decode cX1_areCodes 15 = .ok (.iload 4, 2) := dk_21 4 (dk_at dksX1_areCodes_0 15 rfl rfl)
theorem dX1_areCodes_17 : decode cX1_areCodes 17 = .ok (.iload_n 1, 1) := dk_27 (dk_at dksX1_areCodes_0 17 rfl rfl)
theorem dX1_areCodes_18 : decode cX1_areCodes 18 = .ok (.if_icmp .ge 31, 3) := dk_162 0 31 (dk_at dksX1_areCodes_0 18 rfl rfl)
theorem dX1_areCodes_21 : decode cX1_areCodes 21 = .ok (.lload_n 2, 1) := dk_32 (dk_at dksX1_areCodes_0 21 rfl rfl)
theorem dX1_areCodes_22 : decode cX1_areCodes 22 = .ok (.iload 4, 2) := dk_21 4 (dk_at dksX1_areCodes_0 22 rfl rfl)
theorem dX1_areCodes_24 : decode cX1_areCodes 24 = .ok (.invokestatic 377, 3) := dk_184 1 121 (dk_at dksX1_areCodes_1 0 rfl rfl)
theorem dX1_areCodes_27 : decode cX1_areCodes 27 = .ok (.aload_n 0, 1) := dk_42 (dk_at dksX1_areCodes_1 3 rfl rfl)
theorem dX1_areCodes_28 : decode cX1_areCodes 28 = .ok (.getfield 22, 3) := dk_180 0 22 (dk_at dksX1_areCodes_1 4 rfl rfl)
theorem dX1_areCodes_31 : decode cX1_areCodes 31 = .ok (.getfield 168, 3) := dk_180 0 168 (dk_at dksX1_areCodes_1 7 rfl rfl)
theorem dX1_areCodes_34 : decode cX1_areCodes 34 = .ok (.invokevirtual 160, 3) := dk_182 0 160 (dk_at dksX1_areCodes_1 10 rfl rfl)
theorem dX1_areCodes_37 : decode cX1_areCodes 37 = .ok (.ishr, 1) := dk_122 (dk_at dksX1_areCodes_1 13 rfl rfl)
theorem dX1_areCodes_38 : decode cX1_areCodes 38 = .ok (.ifCond .eq 5, 3) := dk_153 0 5 (dk_at dksX1_areCodes_1 14 rfl rfl)
theorem dX1_areCodes_41 : decode cX1_areCodes 41 = .ok (.iconst 0, 1) := dk_3 (dk_at dksX1_areCodes_1 17 rfl rfl)
theorem dX1_areCodes_42 : decode cX1_areCodes 42 = .ok (.ireturn, 1) := dk_172 (dk_at dksX1_areCodes_1 18 rfl rfl)
theorem dX1_areCodes_43 : decode cX1_areCodes 43 = .ok (.iinc 4 1, 3) := dk_132 4 1 (dk_at dksX1_areCodes_1 19 rfl rfl)
theorem dX1_areCodes_46 : decode cX1_areCodes 46 = .ok (.goto (-31), 3) := dk_167 255 225 (dk_at dksX1_areCodes_2 0 rfl rfl)
theorem dX1_areCodes_49 : decode cX1_areCodes 49 = .ok (.iconst 1, 1) := dk_4 (dk_at dksX1_areCodes_2 3 rfl rfl)
theorem dX1_areCodes_50 : decode cX1_areCodes 50 = .ok (.ireturn, 1) := dk_172 (dk_at dksX1_areCodes_2 4 rfl rfl)
abbrev cX1_code : ByteArray := prog_1_method_43_code
def yX1_code : MethodName := ⟨RX1, "code", "(JI)I"⟩
def dkwX1_code_0 : List UInt8 := [30, 16, 8, 28, 104, 123, 20, 1, 119, 127, 136, 172]
abbrev dktX1_code_0 : List UInt8 := dkwX1_code_0 ++ []
theorem dksX1_code_0 : cX1_code.data.toList.drop 0 = dktX1_code_0 := by decide +kernel
theorem dX1_code_0 : decode cX1_code 0 = .ok (.lload_n 0, 1) := dk_30 (dk_at dksX1_code_0 0 rfl rfl)
theorem dX1_code_1 : decode cX1_code 1 = .ok (.bipush 8, 2) := dk_16 8 (dk_at dksX1_code_0 1 rfl rfl)
theorem dX1_code_3 : decode cX1_code 3 = .ok (.iload_n 2, 1) := dk_28 (dk_at dksX1_code_0 3 rfl rfl)
theorem dX1_code_4 : decode cX1_code 4 = .ok (.imul, 1) := dk_104 (dk_at dksX1_code_0 4 rfl rfl)
theorem dX1_code_5 : decode cX1_code 5 = .ok (.lshr, 1) := dk_123 (dk_at dksX1_code_0 5 rfl rfl)
theorem dX1_code_6 : decode cX1_code 6 = .ok (.ldc2_w 375, 3) := dk_20 1 119 (dk_at dksX1_code_0 6 rfl rfl)
theorem dX1_code_9 : decode cX1_code 9 = .ok (.land, 1) := dk_127 (dk_at dksX1_code_0 9 rfl rfl)
theorem dX1_code_10 : decode cX1_code 10 = .ok (.l2i, 1) := dk_136 (dk_at dksX1_code_0 10 rfl rfl)
theorem dX1_code_11 : decode cX1_code 11 = .ok (.ireturn, 1) := dk_172 (dk_at dksX1_code_0 11 rfl rfl)
abbrev cX1_makes : ByteArray := prog_1_method_45_code
def yX1_makes : MethodName := ⟨RX1, "makes", "(IJI)I"⟩
def dkwX1_makes_2 : List UInt8 := [167, 255, 226, 21, 5, 4, 29, 120, 160, 0, 6, 21, 4, 172, 132, 4, 1, 167, 255, 195, 2, 172]
abbrev dktX1_makes_2 : List UInt8 := dkwX1_makes_2 ++ []
def dkwX1_makes_1 : List UInt8 := [21, 4, 21, 6, 184, 1, 23, 153, 0, 14, 21, 5, 31, 21, 6, 184, 1, 121, 130, 54, 5, 132, 6, 1]
abbrev dktX1_makes_1 : List UInt8 := dkwX1_makes_1 ++ dktX1_makes_2
def dkwX1_makes_0 : List UInt8 := [4, 54, 4, 21, 4, 4, 26, 120, 162, 0, 59, 3, 54, 5, 3, 54, 6, 21, 6, 26, 162, 0, 30]
abbrev dktX1_makes_0 : List UInt8 := dkwX1_makes_0 ++ dktX1_makes_1
theorem dksX1_makes_0 : cX1_makes.data.toList.drop 0 = dktX1_makes_0 := by decide +kernel
theorem dksX1_makes_1 : cX1_makes.data.toList.drop 23 = dktX1_makes_1 := dk_seg dksX1_makes_0 23 rfl rfl
theorem dksX1_makes_2 : cX1_makes.data.toList.drop 47 = dktX1_makes_2 := dk_seg dksX1_makes_1 24 rfl rfl
theorem dX1_makes_0 : decode cX1_makes 0 = .ok (.iconst 1, 1) := dk_4 (dk_at dksX1_makes_0 0 rfl rfl)
theorem dX1_makes_1 : decode cX1_makes 1 = .ok (.istore 4, 2) := dk_54 4 (dk_at dksX1_makes_0 1 rfl rfl)
theorem dX1_makes_3 : decode cX1_makes 3 = .ok (.iload 4, 2) := dk_21 4 (dk_at dksX1_makes_0 3 rfl rfl)
theorem dX1_makes_5 : decode cX1_makes 5 = .ok (.iconst 1, 1) := dk_4 (dk_at dksX1_makes_0 5 rfl rfl)
theorem dX1_makes_6 : decode cX1_makes 6 = .ok (.iload_n 0, 1) := dk_26 (dk_at dksX1_makes_0 6 rfl rfl)
theorem dX1_makes_7 : decode cX1_makes 7 = .ok (.ishl, 1) := dk_120 (dk_at dksX1_makes_0 7 rfl rfl)
theorem dX1_makes_8 : decode cX1_makes 8 = .ok (.if_icmp .ge 59, 3) := dk_162 0 59 (dk_at dksX1_makes_0 8 rfl rfl)
theorem dX1_makes_11 : decode cX1_makes 11 = .ok (.iconst 0, 1) := dk_3 (dk_at dksX1_makes_0 11 rfl rfl)
theorem dX1_makes_12 : decode cX1_makes 12 = .ok (.istore 5, 2) := dk_54 5 (dk_at dksX1_makes_0 12 rfl rfl)
theorem dX1_makes_14 : decode cX1_makes 14 = .ok (.iconst 0, 1) := dk_3 (dk_at dksX1_makes_0 14 rfl rfl)
theorem dX1_makes_15 : decode cX1_makes 15 = .ok (.istore 6, 2) := dk_54 6 (dk_at dksX1_makes_0 15 rfl rfl)
theorem dX1_makes_17 : decode cX1_makes 17 = .ok (.iload 6, 2) := dk_21 6 (dk_at dksX1_makes_0 17 rfl rfl)
theorem dX1_makes_19 : decode cX1_makes 19 = .ok (.iload_n 0, 1) := dk_26 (dk_at dksX1_makes_0 19 rfl rfl)
theorem dX1_makes_20 : decode cX1_makes 20 = .ok (.if_icmp .ge 30, 3) := dk_162 0 30 (dk_at dksX1_makes_0 20 rfl rfl)
theorem dX1_makes_23 : decode cX1_makes 23 = .ok (.iload 4, 2) := dk_21 4 (dk_at dksX1_makes_1 0 rfl rfl)
theorem dX1_makes_25 : decode cX1_makes 25 = .ok (.iload 6, 2) := dk_21 6 (dk_at dksX1_makes_1 2 rfl rfl)
theorem dX1_makes_27 : decode cX1_makes 27 = .ok (.invokestatic 279, 3) := dk_184 1 23 (dk_at dksX1_makes_1 4 rfl rfl)
theorem dX1_makes_30 : decode cX1_makes 30 = .ok (.ifCond .eq 14, 3) := dk_153 0 14 (dk_at dksX1_makes_1 7 rfl rfl)
theorem dX1_makes_33 : decode cX1_makes 33 = .ok (.iload 5, 2) := dk_21 5 (dk_at dksX1_makes_1 10 rfl rfl)
theorem dX1_makes_35 : decode cX1_makes 35 = .ok (.lload_n 1, 1) := dk_31 (dk_at dksX1_makes_1 12 rfl rfl)
theorem dX1_makes_36 : decode cX1_makes 36 = .ok (.iload 6, 2) := dk_21 6 (dk_at dksX1_makes_1 13 rfl rfl)
theorem dX1_makes_38 : decode cX1_makes 38 = .ok (.invokestatic 377, 3) := dk_184 1 121 (dk_at dksX1_makes_1 15 rfl rfl)
theorem dX1_makes_41 : decode cX1_makes 41 = .ok (.ixor, 1) := dk_130 (dk_at dksX1_makes_1 18 rfl rfl)
theorem dX1_makes_42 : decode cX1_makes 42 = .ok (.istore 5, 2) := dk_54 5 (dk_at dksX1_makes_1 19 rfl rfl)
theorem dX1_makes_44 : decode cX1_makes 44 = .ok (.iinc 6 1, 3) := dk_132 6 1 (dk_at dksX1_makes_1 21 rfl rfl)
theorem dX1_makes_47 : decode cX1_makes 47 = .ok (.goto (-30), 3) := dk_167 255 226 (dk_at dksX1_makes_2 0 rfl rfl)
theorem dX1_makes_50 : decode cX1_makes 50 = .ok (.iload 5, 2) := dk_21 5 (dk_at dksX1_makes_2 3 rfl rfl)
theorem dX1_makes_52 : decode cX1_makes 52 = .ok (.iconst 1, 1) := dk_4 (dk_at dksX1_makes_2 5 rfl rfl)
theorem dX1_makes_53 : decode cX1_makes 53 = .ok (.iload_n 3, 1) := dk_29 (dk_at dksX1_makes_2 6 rfl rfl)
theorem dX1_makes_54 : decode cX1_makes 54 = .ok (.ishl, 1) := dk_120 (dk_at dksX1_makes_2 7 rfl rfl)
theorem dX1_makes_55 : decode cX1_makes 55 = .ok (.if_icmp .ne 6, 3) := dk_160 0 6 (dk_at dksX1_makes_2 8 rfl rfl)
theorem dX1_makes_58 : decode cX1_makes 58 = .ok (.iload 4, 2) := dk_21 4 (dk_at dksX1_makes_2 11 rfl rfl)
theorem dX1_makes_60 : decode cX1_makes 60 = .ok (.ireturn, 1) := dk_172 (dk_at dksX1_makes_2 13 rfl rfl)
theorem dX1_makes_61 : decode cX1_makes 61 = .ok (.iinc 4 1, 3) := dk_132 4 1 (dk_at dksX1_makes_2 14 rfl rfl)
theorem dX1_makes_64 : decode cX1_makes 64 = .ok (.goto (-61), 3) := dk_167 255 195 (dk_at dksX1_makes_2 17 rfl rfl)
theorem dX1_makes_67 : decode cX1_makes 67 = .ok (.iconst (-1), 1) := dk_2 (dk_at dksX1_makes_2 20 rfl rfl)
theorem dX1_makes_68 : decode cX1_makes 68 = .ok (.ireturn, 1) := dk_172 (dk_at dksX1_makes_2 21 rfl rfl)
abbrev cX1_shows : ByteArray := prog_1_method_47_code
def yX1_shows : MethodName := ⟨RX1, "shows", "(IJI)I"⟩
def dkwX1_shows_1 : List UInt8 := [184, 1, 129, 54, 5, 21, 5, 156, 0, 8, 16, 254, 167, 0, 5, 21, 5, 172]
abbrev dktX1_shows_1 : List UInt8 := dkwX1_shows_1 ++ []
def dkwX1_shows_0 : List UInt8 := [42, 27, 32, 182, 1, 125, 153, 0, 12, 42, 21, 4, 182, 1, 107, 154, 0, 5, 2, 172, 27, 32, 21, 4]
abbrev dktX1_shows_0 : List UInt8 := dkwX1_shows_0 ++ dktX1_shows_1
theorem dksX1_shows_0 : cX1_shows.data.toList.drop 0 = dktX1_shows_0 := by decide +kernel
theorem dksX1_shows_1 : cX1_shows.data.toList.drop 24 = dktX1_shows_1 := dk_seg dksX1_shows_0 24 rfl rfl
theorem dX1_shows_0 : decode cX1_shows 0 = .ok (.aload_n 0, 1) := dk_42 (dk_at dksX1_shows_0 0 rfl rfl)
theorem dX1_shows_1 : decode cX1_shows 1 = .ok (.iload_n 1, 1) := dk_27 (dk_at dksX1_shows_0 1 rfl rfl)
theorem dX1_shows_2 : decode cX1_shows 2 = .ok (.lload_n 2, 1) := dk_32 (dk_at dksX1_shows_0 2 rfl rfl)
theorem dX1_shows_3 : decode cX1_shows 3 = .ok (.invokevirtual 381, 3) := dk_182 1 125 (dk_at dksX1_shows_0 3 rfl rfl)
theorem dX1_shows_6 : decode cX1_shows 6 = .ok (.ifCond .eq 12, 3) := dk_153 0 12 (dk_at dksX1_shows_0 6 rfl rfl)
theorem dX1_shows_9 : decode cX1_shows 9 = .ok (.aload_n 0, 1) := dk_42 (dk_at dksX1_shows_0 9 rfl rfl)
theorem dX1_shows_10 : decode cX1_shows 10 = .ok (.iload 4, 2) := dk_21 4 (dk_at dksX1_shows_0 10 rfl rfl)
theorem dX1_shows_12 : decode cX1_shows 12 = .ok (.invokevirtual 363, 3) := dk_182 1 107 (dk_at dksX1_shows_0 12 rfl rfl)
theorem dX1_shows_15 : decode cX1_shows 15 = .ok (.ifCond .ne 5, 3) := dk_154 0 5 (dk_at dksX1_shows_0 15 rfl rfl)
theorem dX1_shows_18 : decode cX1_shows 18 = .ok (.iconst (-1), 1) := dk_2 (dk_at dksX1_shows_0 18 rfl rfl)
theorem dX1_shows_19 : decode cX1_shows 19 = .ok (.ireturn, 1) := dk_172 (dk_at dksX1_shows_0 19 rfl rfl)
theorem dX1_shows_20 : decode cX1_shows 20 = .ok (.iload_n 1, 1) := dk_27 (dk_at dksX1_shows_0 20 rfl rfl)
theorem dX1_shows_21 : decode cX1_shows 21 = .ok (.lload_n 2, 1) := dk_32 (dk_at dksX1_shows_0 21 rfl rfl)
theorem dX1_shows_22 : decode cX1_shows 22 = .ok (.iload 4, 2) := dk_21 4 (dk_at dksX1_shows_0 22 rfl rfl)
theorem dX1_shows_24 : decode cX1_shows 24 = .ok (.invokestatic 385, 3) := dk_184 1 129 (dk_at dksX1_shows_1 0 rfl rfl)
theorem dX1_shows_27 : decode cX1_shows 27 = .ok (.istore 5, 2) := dk_54 5 (dk_at dksX1_shows_1 3 rfl rfl)
theorem dX1_shows_29 : decode cX1_shows 29 = .ok (.iload 5, 2) := dk_21 5 (dk_at dksX1_shows_1 5 rfl rfl)
theorem dX1_shows_31 : decode cX1_shows 31 = .ok (.ifCond .ge 8, 3) := dk_156 0 8 (dk_at dksX1_shows_1 7 rfl rfl)
theorem dX1_shows_34 : decode cX1_shows 34 = .ok (.bipush (-2), 2) := dk_16 254 (dk_at dksX1_shows_1 10 rfl rfl)
theorem dX1_shows_36 : decode cX1_shows 36 = .ok (.goto 5, 3) := dk_167 0 5 (dk_at dksX1_shows_1 12 rfl rfl)
theorem dX1_shows_39 : decode cX1_shows 39 = .ok (.iload 5, 2) := dk_21 5 (dk_at dksX1_shows_1 15 rfl rfl)
theorem dX1_shows_41 : decode cX1_shows 41 = .ok (.ireturn, 1) := dk_172 (dk_at dksX1_shows_1 17 rfl rfl)
abbrev cX1_rumour : ByteArray := prog_1_method_50_code
def yX1_rumour : MethodName := ⟨RX1, "rumour", "(II)I"⟩
def dkwX1_rumour_1 : List UInt8 := [62, 29, 156, 0, 8, 16, 254, 167, 0, 4, 29, 172]
abbrev dktX1_rumour_1 : List UInt8 := dkwX1_rumour_1 ++ []
def dkwX1_rumour_0 : List UInt8 := [42, 27, 182, 0, 198, 153, 0, 11, 42, 28, 182, 0, 198, 154, 0, 5, 2, 172, 42, 27, 28, 182, 1, 135]
abbrev dktX1_rumour_0 : List UInt8 := dkwX1_rumour_0 ++ dktX1_rumour_1
theorem dksX1_rumour_0 : cX1_rumour.data.toList.drop 0 = dktX1_rumour_0 := by decide +kernel
theorem dksX1_rumour_1 : cX1_rumour.data.toList.drop 24 = dktX1_rumour_1 := dk_seg dksX1_rumour_0 24 rfl rfl
theorem dX1_rumour_0 : decode cX1_rumour 0 = .ok (.aload_n 0, 1) := dk_42 (dk_at dksX1_rumour_0 0 rfl rfl)
theorem dX1_rumour_1 : decode cX1_rumour 1 = .ok (.iload_n 1, 1) := dk_27 (dk_at dksX1_rumour_0 1 rfl rfl)
theorem dX1_rumour_2 : decode cX1_rumour 2 = .ok (.invokevirtual 198, 3) := dk_182 0 198 (dk_at dksX1_rumour_0 2 rfl rfl)
theorem dX1_rumour_5 : decode cX1_rumour 5 = .ok (.ifCond .eq 11, 3) := dk_153 0 11 (dk_at dksX1_rumour_0 5 rfl rfl)
theorem dX1_rumour_8 : decode cX1_rumour 8 = .ok (.aload_n 0, 1) := dk_42 (dk_at dksX1_rumour_0 8 rfl rfl)
theorem dX1_rumour_9 : decode cX1_rumour 9 = .ok (.iload_n 2, 1) := dk_28 (dk_at dksX1_rumour_0 9 rfl rfl)
theorem dX1_rumour_10 : decode cX1_rumour 10 = .ok (.invokevirtual 198, 3) := dk_182 0 198 (dk_at dksX1_rumour_0 10 rfl rfl)
theorem dX1_rumour_13 : decode cX1_rumour 13 = .ok (.ifCond .ne 5, 3) := dk_154 0 5 (dk_at dksX1_rumour_0 13 rfl rfl)
theorem dX1_rumour_16 : decode cX1_rumour 16 = .ok (.iconst (-1), 1) := dk_2 (dk_at dksX1_rumour_0 16 rfl rfl)
theorem dX1_rumour_17 : decode cX1_rumour 17 = .ok (.ireturn, 1) := dk_172 (dk_at dksX1_rumour_0 17 rfl rfl)
theorem dX1_rumour_18 : decode cX1_rumour 18 = .ok (.aload_n 0, 1) := dk_42 (dk_at dksX1_rumour_0 18 rfl rfl)
theorem dX1_rumour_19 : decode cX1_rumour 19 = .ok (.iload_n 1, 1) := dk_27 (dk_at dksX1_rumour_0 19 rfl rfl)
theorem dX1_rumour_20 : decode cX1_rumour 20 = .ok (.iload_n 2, 1) := dk_28 (dk_at dksX1_rumour_0 20 rfl rfl)
theorem dX1_rumour_21 : decode cX1_rumour 21 = .ok (.invokevirtual 391, 3) := dk_182 1 135 (dk_at dksX1_rumour_0 21 rfl rfl)
theorem dX1_rumour_24 : decode cX1_rumour 24 = .ok (.istore_n 3, 1) := dk_62 (dk_at dksX1_rumour_1 0 rfl rfl)
theorem dX1_rumour_25 : decode cX1_rumour 25 = .ok (.iload_n 3, 1) := dk_29 (dk_at dksX1_rumour_1 1 rfl rfl)
theorem dX1_rumour_26 : decode cX1_rumour 26 = .ok (.ifCond .ge 8, 3) := dk_156 0 8 (dk_at dksX1_rumour_1 2 rfl rfl)
theorem dX1_rumour_29 : decode cX1_rumour 29 = .ok (.bipush (-2), 2) := dk_16 254 (dk_at dksX1_rumour_1 5 rfl rfl)
theorem dX1_rumour_31 : decode cX1_rumour 31 = .ok (.goto 4, 3) := dk_167 0 4 (dk_at dksX1_rumour_1 7 rfl rfl)
theorem dX1_rumour_34 : decode cX1_rumour 34 = .ok (.iload_n 3, 1) := dk_29 (dk_at dksX1_rumour_1 10 rfl rfl)
theorem dX1_rumour_35 : decode cX1_rumour 35 = .ok (.ireturn, 1) := dk_172 (dk_at dksX1_rumour_1 11 rfl rfl)
abbrev cX1_noons : ByteArray := prog_1_method_49_code
def yX1_noons : MethodName := ⟨RX1, "noons", "(II)I"⟩
def dkwX1_noons_1 : List UInt8 := [21, 4, 172, 42, 29, 182, 1, 133, 62, 132, 4, 1, 167, 255, 226, 2, 172]
abbrev dktX1_noons_1 : List UInt8 := dkwX1_noons_1 ++ []
def dkwX1_noons_0 : List UInt8 := [28, 62, 3, 54, 4, 21, 4, 42, 182, 0, 166, 163, 0, 27, 29, 155, 0, 23, 29, 27, 160, 0, 6]
abbrev dktX1_noons_0 : List UInt8 := dkwX1_noons_0 ++ dktX1_noons_1
theorem dksX1_noons_0 : cX1_noons.data.toList.drop 0 = dktX1_noons_0 := by decide +kernel
theorem dksX1_noons_1 : cX1_noons.data.toList.drop 23 = dktX1_noons_1 := dk_seg dksX1_noons_0 23 rfl rfl
theorem dX1_noons_0 : decode cX1_noons 0 = .ok (.iload_n 2, 1) := dk_28 (dk_at dksX1_noons_0 0 rfl rfl)
theorem dX1_noons_1 : decode cX1_noons 1 = .ok (.istore_n 3, 1) := dk_62 (dk_at dksX1_noons_0 1 rfl rfl)
theorem dX1_noons_2 : decode cX1_noons 2 = .ok (.iconst 0, 1) := dk_3 (dk_at dksX1_noons_0 2 rfl rfl)
theorem dX1_noons_3 : decode cX1_noons 3 = .ok (.istore 4, 2) := dk_54 4 (dk_at dksX1_noons_0 3 rfl rfl)
theorem dX1_noons_5 : decode cX1_noons 5 = .ok (.iload 4, 2) := dk_21 4 (dk_at dksX1_noons_0 5 rfl rfl)
theorem dX1_noons_7 : decode cX1_noons 7 = .ok (.aload_n 0, 1) := dk_42 (dk_at dksX1_noons_0 7 rfl rfl)
theorem dX1_noons_8 : decode cX1_noons 8 = .ok (.invokevirtual 166, 3) := dk_182 0 166 (dk_at dksX1_noons_0 8 rfl rfl)
theorem dX1_noons_11 : decode cX1_noons 11 = .ok (.if_icmp .gt 27, 3) := dk_163 0 27 (dk_at dksX1_noons_0 11 rfl rfl)
theorem dX1_noons_14 : decode cX1_noons 14 = .ok (.iload_n 3, 1) := dk_29 (dk_at dksX1_noons_0 14 rfl rfl)
theorem dX1_noons_15 : decode cX1_noons 15 = .ok (.ifCond .lt 23, 3) := dk_155 0 23 (dk_at dksX1_noons_0 15 rfl rfl)
theorem dX1_noons_18 : decode cX1_noons 18 = .ok (.iload_n 3, 1) := dk_29 (dk_at dksX1_noons_0 18 rfl rfl)
theorem dX1_noons_19 : decode cX1_noons 19 = .ok (.iload_n 1, 1) := dk_27 (dk_at dksX1_noons_0 19 rfl rfl)
theorem dX1_noons_20 : decode cX1_noons 20 = .ok (.if_icmp .ne 6, 3) := dk_160 0 6 (dk_at dksX1_noons_0 20 rfl rfl)
theorem dX1_noons_23 : decode cX1_noons 23 = .ok (.iload 4, 2) := dk_21 4 (dk_at dksX1_noons_1 0 rfl rfl)
theorem dX1_noons_25 : decode cX1_noons 25 = .ok (.ireturn, 1) := dk_172 (dk_at dksX1_noons_1 2 rfl rfl)
theorem dX1_noons_26 : decode cX1_noons 26 = .ok (.aload_n 0, 1) := dk_42 (dk_at dksX1_noons_1 3 rfl rfl)
theorem dX1_noons_27 : decode cX1_noons 27 = .ok (.iload_n 3, 1) := dk_29 (dk_at dksX1_noons_1 4 rfl rfl)
theorem dX1_noons_28 : decode cX1_noons 28 = .ok (.invokevirtual 389, 3) := dk_182 1 133 (dk_at dksX1_noons_1 5 rfl rfl)
theorem dX1_noons_31 : decode cX1_noons 31 = .ok (.istore_n 3, 1) := dk_62 (dk_at dksX1_noons_1 8 rfl rfl)
theorem dX1_noons_32 : decode cX1_noons 32 = .ok (.iinc 4 1, 3) := dk_132 4 1 (dk_at dksX1_noons_1 9 rfl rfl)
theorem dX1_noons_35 : decode cX1_noons 35 = .ok (.goto (-30), 3) := dk_167 255 226 (dk_at dksX1_noons_1 12 rfl rfl)
theorem dX1_noons_38 : decode cX1_noons 38 = .ok (.iconst (-1), 1) := dk_2 (dk_at dksX1_noons_1 15 rfl rfl)
theorem dX1_noons_39 : decode cX1_noons 39 = .ok (.ireturn, 1) := dk_172 (dk_at dksX1_noons_1 16 rfl rfl)
abbrev cX1_asks : ByteArray := prog_1_method_48_code
def yX1_asks : MethodName := ⟨RX1, "asks", "(I)I"⟩
def dkwX1_asks_0 : List UInt8 := [42, 180, 0, 22, 180, 0, 156, 27, 182, 0, 171, 192, 0, 205, 180, 0, 217, 172]
abbrev dktX1_asks_0 : List UInt8 := dkwX1_asks_0 ++ []
theorem dksX1_asks_0 : cX1_asks.data.toList.drop 0 = dktX1_asks_0 := by decide +kernel
theorem dX1_asks_0 : decode cX1_asks 0 = .ok (.aload_n 0, 1) := dk_42 (dk_at dksX1_asks_0 0 rfl rfl)
theorem dX1_asks_1 : decode cX1_asks 1 = .ok (.getfield 22, 3) := dk_180 0 22 (dk_at dksX1_asks_0 1 rfl rfl)
theorem dX1_asks_4 : decode cX1_asks 4 = .ok (.getfield 156, 3) := dk_180 0 156 (dk_at dksX1_asks_0 4 rfl rfl)
theorem dX1_asks_7 : decode cX1_asks 7 = .ok (.iload_n 1, 1) := dk_27 (dk_at dksX1_asks_0 7 rfl rfl)
theorem dX1_asks_8 : decode cX1_asks 8 = .ok (.invokevirtual 171, 3) := dk_182 0 171 (dk_at dksX1_asks_0 8 rfl rfl)
theorem dX1_asks_11 : decode cX1_asks 11 = .ok (.checkcast 205, 3) := dk_192 0 205 (dk_at dksX1_asks_0 11 rfl rfl)
theorem dX1_asks_14 : decode cX1_asks 14 = .ok (.getfield 217, 3) := dk_180 0 217 (dk_at dksX1_asks_0 14 rfl rfl)
theorem dX1_asks_17 : decode cX1_asks 17 = .ok (.ireturn, 1) := dk_172 (dk_at dksX1_asks_0 17 rfl rfl)
abbrev cX1_differ : ByteArray := prog_1_method_52_code
def yX1_differ : MethodName := ⟨RX1, "differ", "(III)I"⟩
def dkwX1_differ_5 : List UInt8 := [167, 255, 175, 16, 254, 172]
abbrev dktX1_differ_5 : List UInt8 := dkwX1_differ_5 ++ []
def dkwX1_differ_4 : List UInt8 := [159, 0, 19, 29, 154, 0, 8, 21, 4, 167, 0, 9, 42, 21, 4, 182, 1, 133, 172, 132, 4, 1]
abbrev dktX1_differ_4 : List UInt8 := dkwX1_differ_4 ++ dktX1_differ_5
def dkwX1_differ_3 : List UInt8 := [21, 4, 182, 1, 133, 182, 1, 138, 54, 6, 21, 5, 155, 0, 31, 21, 6, 155, 0, 26, 21, 5, 21, 6]
abbrev dktX1_differ_3 : List UInt8 := dkwX1_differ_3 ++ dktX1_differ_4
def dkwX1_differ_2 : List UInt8 := [182, 1, 133, 156, 0, 6, 167, 0, 60, 42, 27, 28, 21, 4, 182, 1, 138, 54, 5, 42, 27, 28, 42]
abbrev dktX1_differ_2 : List UInt8 := dkwX1_differ_2 ++ dktX1_differ_3
def dkwX1_differ_1 : List UInt8 := [184, 0, 107, 154, 0, 5, 2, 172, 3, 54, 4, 21, 4, 42, 182, 0, 166, 162, 0, 78, 42, 21, 4]
abbrev dktX1_differ_1 : List UInt8 := dkwX1_differ_1 ++ dktX1_differ_2
def dkwX1_differ_0 : List UInt8 := [42, 27, 182, 0, 198, 153, 0, 25, 42, 28, 182, 0, 198, 153, 0, 17, 27, 28, 159, 0, 12, 29, 3, 4]
abbrev dktX1_differ_0 : List UInt8 := dkwX1_differ_0 ++ dktX1_differ_1
theorem dksX1_differ_0 : cX1_differ.data.toList.drop 0 = dktX1_differ_0 := by decide +kernel
theorem dksX1_differ_1 : cX1_differ.data.toList.drop 24 = dktX1_differ_1 := dk_seg dksX1_differ_0 24 rfl rfl
theorem dksX1_differ_2 : cX1_differ.data.toList.drop 47 = dktX1_differ_2 := dk_seg dksX1_differ_1 23 rfl rfl
theorem dksX1_differ_3 : cX1_differ.data.toList.drop 70 = dktX1_differ_3 := dk_seg dksX1_differ_2 23 rfl rfl
theorem dksX1_differ_4 : cX1_differ.data.toList.drop 94 = dktX1_differ_4 := dk_seg dksX1_differ_3 24 rfl rfl
theorem dksX1_differ_5 : cX1_differ.data.toList.drop 116 = dktX1_differ_5 := dk_seg dksX1_differ_4 22 rfl rfl
theorem dX1_differ_0 : decode cX1_differ 0 = .ok (.aload_n 0, 1) := dk_42 (dk_at dksX1_differ_0 0 rfl rfl)
theorem dX1_differ_1 : decode cX1_differ 1 = .ok (.iload_n 1, 1) := dk_27 (dk_at dksX1_differ_0 1 rfl rfl)
theorem dX1_differ_2 : decode cX1_differ 2 = .ok (.invokevirtual 198, 3) := dk_182 0 198 (dk_at dksX1_differ_0 2 rfl rfl)
theorem dX1_differ_5 : decode cX1_differ 5 = .ok (.ifCond .eq 25, 3) := dk_153 0 25 (dk_at dksX1_differ_0 5 rfl rfl)
theorem dX1_differ_8 : decode cX1_differ 8 = .ok (.aload_n 0, 1) := dk_42 (dk_at dksX1_differ_0 8 rfl rfl)
theorem dX1_differ_9 : decode cX1_differ 9 = .ok (.iload_n 2, 1) := dk_28 (dk_at dksX1_differ_0 9 rfl rfl)
theorem dX1_differ_10 : decode cX1_differ 10 = .ok (.invokevirtual 198, 3) := dk_182 0 198 (dk_at dksX1_differ_0 10 rfl rfl)
theorem dX1_differ_13 : decode cX1_differ 13 = .ok (.ifCond .eq 17, 3) := dk_153 0 17 (dk_at dksX1_differ_0 13 rfl rfl)
theorem dX1_differ_16 : decode cX1_differ 16 = .ok (.iload_n 1, 1) := dk_27 (dk_at dksX1_differ_0 16 rfl rfl)
theorem dX1_differ_17 : decode cX1_differ 17 = .ok (.iload_n 2, 1) := dk_28 (dk_at dksX1_differ_0 17 rfl rfl)
theorem dX1_differ_18 : decode cX1_differ 18 = .ok (.if_icmp .eq 12, 3) := dk_159 0 12 (dk_at dksX1_differ_0 18 rfl rfl)
theorem dX1_differ_21 : decode cX1_differ 21 = .ok (.iload_n 3, 1) := dk_29 (dk_at dksX1_differ_0 21 rfl rfl)
theorem dX1_differ_22 : decode cX1_differ 22 = .ok (.iconst 0, 1) := dk_3 (dk_at dksX1_differ_0 22 rfl rfl)
theorem dX1_differ_23 : decode cX1_differ 23 = .ok (.iconst 1, 1) := dk_4 (dk_at dksX1_differ_0 23 rfl rfl)
theorem dX1_differ_24 : decode cX1_differ 24 = .ok (.invokestatic 107, 3) := dk_184 0 107 (dk_at dksX1_differ_1 0 rfl rfl)
theorem dX1_differ_27 : decode cX1_differ 27 = .ok (.ifCond .ne 5, 3) := dk_154 0 5 (dk_at dksX1_differ_1 3 rfl rfl)
theorem dX1_differ_30 : decode cX1_differ 30 = .ok (.iconst (-1), 1) := dk_2 (dk_at dksX1_differ_1 6 rfl rfl)
theorem dX1_differ_31 : decode cX1_differ 31 = .ok (.ireturn, 1) := dk_172 (dk_at dksX1_differ_1 7 rfl rfl)
theorem dX1_differ_32 : decode cX1_differ 32 = .ok (.iconst 0, 1) := dk_3 (dk_at dksX1_differ_1 8 rfl rfl)
theorem dX1_differ_33 : decode cX1_differ 33 = .ok (.istore 4, 2) := dk_54 4 (dk_at dksX1_differ_1 9 rfl rfl)
theorem dX1_differ_35 : decode cX1_differ 35 = .ok (.iload 4, 2) := dk_21 4 (dk_at dksX1_differ_1 11 rfl rfl)
theorem dX1_differ_37 : decode cX1_differ 37 = .ok (.aload_n 0, 1) := dk_42 (dk_at dksX1_differ_1 13 rfl rfl)
theorem dX1_differ_38 : decode cX1_differ 38 = .ok (.invokevirtual 166, 3) := dk_182 0 166 (dk_at dksX1_differ_1 14 rfl rfl)
theorem dX1_differ_41 : decode cX1_differ 41 = .ok (.if_icmp .ge 78, 3) := dk_162 0 78 (dk_at dksX1_differ_1 17 rfl rfl)
theorem dX1_differ_44 : decode cX1_differ 44 = .ok (.aload_n 0, 1) := dk_42 (dk_at dksX1_differ_1 20 rfl rfl)
theorem dX1_differ_45 : decode cX1_differ 45 = .ok (.iload 4, 2) := dk_21 4 (dk_at dksX1_differ_1 21 rfl rfl)
theorem dX1_differ_47 : decode cX1_differ 47 = .ok (.invokevirtual 389, 3) := dk_182 1 133 (dk_at dksX1_differ_2 0 rfl rfl)
theorem dX1_differ_50 : decode cX1_differ 50 = .ok (.ifCond .ge 6, 3) := dk_156 0 6 (dk_at dksX1_differ_2 3 rfl rfl)
theorem dX1_differ_53 : decode cX1_differ 53 = .ok (.goto 60, 3) := dk_167 0 60 (dk_at dksX1_differ_2 6 rfl rfl)
theorem dX1_differ_56 : decode cX1_differ 56 = .ok (.aload_n 0, 1) := dk_42 (dk_at dksX1_differ_2 9 rfl rfl)
theorem dX1_differ_57 : decode cX1_differ 57 = .ok (.iload_n 1, 1) := dk_27 (dk_at dksX1_differ_2 10 rfl rfl)
theorem dX1_differ_58 : decode cX1_differ 58 = .ok (.iload_n 2, 1) := dk_28 (dk_at dksX1_differ_2 11 rfl rfl)
theorem dX1_differ_59 : decode cX1_differ 59 = .ok (.iload 4, 2) := dk_21 4 (dk_at dksX1_differ_2 12 rfl rfl)
theorem dX1_differ_61 : decode cX1_differ 61 = .ok (.invokevirtual 394, 3) := dk_182 1 138 (dk_at dksX1_differ_2 14 rfl rfl)
theorem dX1_differ_64 : decode cX1_differ 64 = .ok (.istore 5, 2) := dk_54 5 (dk_at dksX1_differ_2 17 rfl rfl)
theorem dX1_differ_66 : decode cX1_differ 66 = .ok (.aload_n 0, 1) := dk_42 (dk_at dksX1_differ_2 19 rfl rfl)
theorem dX1_differ_67 : decode cX1_differ 67 = .ok (.iload_n 1, 1) := dk_27 (dk_at dksX1_differ_2 20 rfl rfl)
theorem dX1_differ_68 : decode cX1_differ 68 = .ok (.iload_n 2, 1) := dk_28 (dk_at dksX1_differ_2 21 rfl rfl)
theorem dX1_differ_69 : decode cX1_differ 69 = .ok (.aload_n 0, 1) := dk_42 (dk_at dksX1_differ_2 22 rfl rfl)
theorem dX1_differ_70 : decode cX1_differ 70 = .ok (.iload 4, 2) := dk_21 4 (dk_at dksX1_differ_3 0 rfl rfl)
theorem dX1_differ_72 : decode cX1_differ 72 = .ok (.invokevirtual 389, 3) := dk_182 1 133 (dk_at dksX1_differ_3 2 rfl rfl)
theorem dX1_differ_75 : decode cX1_differ 75 = .ok (.invokevirtual 394, 3) := dk_182 1 138 (dk_at dksX1_differ_3 5 rfl rfl)
theorem dX1_differ_78 : decode cX1_differ 78 = .ok (.istore 6, 2) := dk_54 6 (dk_at dksX1_differ_3 8 rfl rfl)
theorem dX1_differ_80 : decode cX1_differ 80 = .ok (.iload 5, 2) := dk_21 5 (dk_at dksX1_differ_3 10 rfl rfl)
theorem dX1_differ_82 : decode cX1_differ 82 = .ok (.ifCond .lt 31, 3) := dk_155 0 31 (dk_at dksX1_differ_3 12 rfl rfl)
theorem dX1_differ_85 : decode cX1_differ 85 = .ok (.iload 6, 2) := dk_21 6 (dk_at dksX1_differ_3 15 rfl rfl)
theorem dX1_differ_87 : decode cX1_differ 87 = .ok (.ifCond .lt 26, 3) := dk_155 0 26 (dk_at dksX1_differ_3 17 rfl rfl)
theorem dX1_differ_90 : decode cX1_differ 90 = .ok (.iload 5, 2) := dk_21 5 (dk_at dksX1_differ_3 20 rfl rfl)
theorem dX1_differ_92 : decode cX1_differ 92 = .ok (.iload 6, 2) := dk_21 6 (dk_at dksX1_differ_3 22 rfl rfl)
theorem dX1_differ_94 : decode cX1_differ 94 = .ok (.if_icmp .eq 19, 3) := dk_159 0 19 (dk_at dksX1_differ_4 0 rfl rfl)
theorem dX1_differ_97 : decode cX1_differ 97 = .ok (.iload_n 3, 1) := dk_29 (dk_at dksX1_differ_4 3 rfl rfl)
theorem dX1_differ_98 : decode cX1_differ 98 = .ok (.ifCond .ne 8, 3) := dk_154 0 8 (dk_at dksX1_differ_4 4 rfl rfl)
theorem dX1_differ_101 : decode cX1_differ 101 = .ok (.iload 4, 2) := dk_21 4 (dk_at dksX1_differ_4 7 rfl rfl)
theorem dX1_differ_103 : decode cX1_differ 103 = .ok (.goto 9, 3) := dk_167 0 9 (dk_at dksX1_differ_4 9 rfl rfl)
theorem dX1_differ_106 : decode cX1_differ 106 = .ok (.aload_n 0, 1) := dk_42 (dk_at dksX1_differ_4 12 rfl rfl)
theorem dX1_differ_107 : decode cX1_differ 107 = .ok (.iload 4, 2) := dk_21 4 (dk_at dksX1_differ_4 13 rfl rfl)
theorem dX1_differ_109 : decode cX1_differ 109 = .ok (.invokevirtual 389, 3) := dk_182 1 133 (dk_at dksX1_differ_4 15 rfl rfl)
theorem dX1_differ_112 : decode cX1_differ 112 = .ok (.ireturn, 1) := dk_172 (dk_at dksX1_differ_4 18 rfl rfl)
theorem dX1_differ_113 : decode cX1_differ 113 = .ok (.iinc 4 1, 3) := dk_132 4 1 (dk_at dksX1_differ_4 19 rfl rfl)
theorem dX1_differ_116 : decode cX1_differ 116 = .ok (.goto (-81), 3) := dk_167 255 175 (dk_at dksX1_differ_5 0 rfl rfl)
theorem dX1_differ_119 : decode cX1_differ 119 = .ok (.bipush (-2), 2) := dk_16 254 (dk_at dksX1_differ_5 3 rfl rfl)
theorem dX1_differ_121 : decode cX1_differ 121 = .ok (.ireturn, 1) := dk_172 (dk_at dksX1_differ_5 5 rfl rfl)
abbrev cX1_holds : ByteArray := prog_1_method_51_code
def yX1_holds : MethodName := ⟨RX1, "holds", "(III)I"⟩
def dkwX1_holds_2 : List UInt8 := [27, 167, 0, 4, 28, 172]
abbrev dktX1_holds_2 : List UInt8 := dkwX1_holds_2 ++ []
def dkwX1_holds_1 : List UInt8 := [156, 0, 7, 2, 167, 0, 25, 21, 5, 155, 0, 15, 21, 4, 155, 0, 14, 21, 4, 21, 5, 163, 0, 7]
abbrev dktX1_holds_1 : List UInt8 := dkwX1_holds_1 ++ dktX1_holds_2
def dkwX1_holds_0 : List UInt8 := [42, 27, 29, 182, 1, 135, 54, 4, 42, 28, 29, 182, 1, 135, 54, 5, 21, 4, 156, 0, 12, 21, 5]
abbrev dktX1_holds_0 : List UInt8 := dkwX1_holds_0 ++ dktX1_holds_1
theorem dksX1_holds_0 : cX1_holds.data.toList.drop 0 = dktX1_holds_0 := by decide +kernel
theorem dksX1_holds_1 : cX1_holds.data.toList.drop 23 = dktX1_holds_1 := dk_seg dksX1_holds_0 23 rfl rfl
theorem dksX1_holds_2 : cX1_holds.data.toList.drop 47 = dktX1_holds_2 := dk_seg dksX1_holds_1 24 rfl rfl
theorem dX1_holds_0 : decode cX1_holds 0 = .ok (.aload_n 0, 1) := dk_42 (dk_at dksX1_holds_0 0 rfl rfl)
theorem dX1_holds_1 : decode cX1_holds 1 = .ok (.iload_n 1, 1) := dk_27 (dk_at dksX1_holds_0 1 rfl rfl)
theorem dX1_holds_2 : decode cX1_holds 2 = .ok (.iload_n 3, 1) := dk_29 (dk_at dksX1_holds_0 2 rfl rfl)
theorem dX1_holds_3 : decode cX1_holds 3 = .ok (.invokevirtual 391, 3) := dk_182 1 135 (dk_at dksX1_holds_0 3 rfl rfl)
theorem dX1_holds_6 : decode cX1_holds 6 = .ok (.istore 4, 2) := dk_54 4 (dk_at dksX1_holds_0 6 rfl rfl)
theorem dX1_holds_8 : decode cX1_holds 8 = .ok (.aload_n 0, 1) := dk_42 (dk_at dksX1_holds_0 8 rfl rfl)
theorem dX1_holds_9 : decode cX1_holds 9 = .ok (.iload_n 2, 1) := dk_28 (dk_at dksX1_holds_0 9 rfl rfl)
theorem dX1_holds_10 : decode cX1_holds 10 = .ok (.iload_n 3, 1) := dk_29 (dk_at dksX1_holds_0 10 rfl rfl)
theorem dX1_holds_11 : decode cX1_holds 11 = .ok (.invokevirtual 391, 3) := dk_182 1 135 (dk_at dksX1_holds_0 11 rfl rfl)
theorem dX1_holds_14 : decode cX1_holds 14 = .ok (.istore 5, 2) := dk_54 5 (dk_at dksX1_holds_0 14 rfl rfl)
theorem dX1_holds_16 : decode cX1_holds 16 = .ok (.iload 4, 2) := dk_21 4 (dk_at dksX1_holds_0 16 rfl rfl)
theorem dX1_holds_18 : decode cX1_holds 18 = .ok (.ifCond .ge 12, 3) := dk_156 0 12 (dk_at dksX1_holds_0 18 rfl rfl)
theorem dX1_holds_21 : decode cX1_holds 21 = .ok (.iload 5, 2) := dk_21 5 (dk_at dksX1_holds_0 21 rfl rfl)
theorem dX1_holds_23 : decode cX1_holds 23 = .ok (.ifCond .ge 7, 3) := dk_156 0 7 (dk_at dksX1_holds_1 0 rfl rfl)
theorem dX1_holds_26 : decode cX1_holds 26 = .ok (.iconst (-1), 1) := dk_2 (dk_at dksX1_holds_1 3 rfl rfl)
theorem dX1_holds_27 : decode cX1_holds 27 = .ok (.goto 25, 3) := dk_167 0 25 (dk_at dksX1_holds_1 4 rfl rfl)
theorem dX1_holds_30 : decode cX1_holds 30 = .ok (.iload 5, 2) := dk_21 5 (dk_at dksX1_holds_1 7 rfl rfl)
theorem dX1_holds_32 : decode cX1_holds 32 = .ok (.ifCond .lt 15, 3) := dk_155 0 15 (dk_at dksX1_holds_1 9 rfl rfl)
theorem dX1_holds_35 : decode cX1_holds 35 = .ok (.iload 4, 2) := dk_21 4 (dk_at dksX1_holds_1 12 rfl rfl)
theorem dX1_holds_37 : decode cX1_holds 37 = .ok (.ifCond .lt 14, 3) := dk_155 0 14 (dk_at dksX1_holds_1 14 rfl rfl)
theorem dX1_holds_40 : decode cX1_holds 40 = .ok (.iload 4, 2) := dk_21 4 (dk_at dksX1_holds_1 17 rfl rfl)
theorem dX1_holds_42 : decode cX1_holds 42 = .ok (.iload 5, 2) := dk_21 5 (dk_at dksX1_holds_1 19 rfl rfl)
theorem dX1_holds_44 : decode cX1_holds 44 = .ok (.if_icmp .gt 7, 3) := dk_163 0 7 (dk_at dksX1_holds_1 21 rfl rfl)
theorem dX1_holds_47 : decode cX1_holds 47 = .ok (.iload_n 1, 1) := dk_27 (dk_at dksX1_holds_2 0 rfl rfl)
theorem dX1_holds_48 : decode cX1_holds 48 = .ok (.goto 4, 3) := dk_167 0 4 (dk_at dksX1_holds_2 1 rfl rfl)
theorem dX1_holds_51 : decode cX1_holds 51 = .ok (.iload_n 2, 1) := dk_28 (dk_at dksX1_holds_2 4 rfl rfl)
theorem dX1_holds_52 : decode cX1_holds 52 = .ok (.ireturn, 1) := dk_172 (dk_at dksX1_holds_2 5 rfl rfl)
abbrev cX1_ignorant : ByteArray := prog_1_method_53_code
def yX1_ignorant : MethodName := ⟨RX1, "ignorant", "(I)I"⟩
def dkwX1_ignorant_4 : List UInt8 := [3, 128, 61, 132, 3, 1, 167, 255, 170, 28, 172]
abbrev dktX1_ignorant_4 : List UInt8 := dkwX1_ignorant_4 ++ []
def dkwX1_ignorant_3 : List UInt8 := [21, 4, 155, 0, 16, 42, 180, 0, 48, 21, 4, 27, 182, 1, 141, 156, 0, 9, 4, 29, 120, 167, 0, 4]
abbrev dktX1_ignorant_3 : List UInt8 := dkwX1_ignorant_3 ++ dktX1_ignorant_4
def dkwX1_ignorant_2 : List UInt8 := [21, 4, 27, 182, 1, 141, 156, 0, 17, 42, 21, 4, 182, 1, 133, 54, 4, 132, 5, 1, 167, 255, 218, 28]
abbrev dktX1_ignorant_2 : List UInt8 := dkwX1_ignorant_2 ++ dktX1_ignorant_3
def dkwX1_ignorant_1 : List UInt8 := [54, 4, 3, 54, 5, 21, 5, 42, 182, 0, 166, 162, 0, 35, 21, 4, 155, 0, 30, 42, 180, 0, 48]
abbrev dktX1_ignorant_1 : List UInt8 := dkwX1_ignorant_1 ++ dktX1_ignorant_2
def dkwX1_ignorant_0 : List UInt8 := [42, 27, 182, 1, 107, 154, 0, 5, 2, 172, 3, 61, 3, 62, 29, 42, 182, 0, 166, 162, 0, 84, 29]
abbrev dktX1_ignorant_0 : List UInt8 := dkwX1_ignorant_0 ++ dktX1_ignorant_1
theorem dksX1_ignorant_0 : cX1_ignorant.data.toList.drop 0 = dktX1_ignorant_0 := by decide +kernel
theorem dksX1_ignorant_1 : cX1_ignorant.data.toList.drop 23 = dktX1_ignorant_1 := dk_seg dksX1_ignorant_0 23 rfl rfl
theorem dksX1_ignorant_2 : cX1_ignorant.data.toList.drop 46 = dktX1_ignorant_2 := dk_seg dksX1_ignorant_1 23 rfl rfl
theorem dksX1_ignorant_3 : cX1_ignorant.data.toList.drop 70 = dktX1_ignorant_3 := dk_seg dksX1_ignorant_2 24 rfl rfl
theorem dksX1_ignorant_4 : cX1_ignorant.data.toList.drop 94 = dktX1_ignorant_4 := dk_seg dksX1_ignorant_3 24 rfl rfl
theorem dX1_ignorant_0 : decode cX1_ignorant 0 = .ok (.aload_n 0, 1) := dk_42 (dk_at dksX1_ignorant_0 0 rfl rfl)
theorem dX1_ignorant_1 : decode cX1_ignorant 1 = .ok (.iload_n 1, 1) := dk_27 (dk_at dksX1_ignorant_0 1 rfl rfl)
theorem dX1_ignorant_2 : decode cX1_ignorant 2 = .ok (.invokevirtual 363, 3) := dk_182 1 107 (dk_at dksX1_ignorant_0 2 rfl rfl)
theorem dX1_ignorant_5 : decode cX1_ignorant 5 = .ok (.ifCond .ne 5, 3) := dk_154 0 5 (dk_at dksX1_ignorant_0 5 rfl rfl)
theorem dX1_ignorant_8 : decode cX1_ignorant 8 = .ok (.iconst (-1), 1) := dk_2 (dk_at dksX1_ignorant_0 8 rfl rfl)
theorem dX1_ignorant_9 : decode cX1_ignorant 9 = .ok (.ireturn, 1) := dk_172 (dk_at dksX1_ignorant_0 9 rfl rfl)
theorem dX1_ignorant_10 : decode cX1_ignorant 10 = .ok (.iconst 0, 1) := dk_3 (dk_at dksX1_ignorant_0 10 rfl rfl)
theorem dX1_ignorant_11 : decode cX1_ignorant 11 = .ok (.istore_n 2, 1) := dk_61 (dk_at dksX1_ignorant_0 11 rfl rfl)
theorem dX1_ignorant_12 : decode cX1_ignorant 12 = .ok (.iconst 0, 1) := dk_3 (dk_at dksX1_ignorant_0 12 rfl rfl)
theorem dX1_ignorant_13 : decode cX1_ignorant 13 = .ok (.istore_n 3, 1) := dk_62 (dk_at dksX1_ignorant_0 13 rfl rfl)
theorem dX1_ignorant_14 : decode cX1_ignorant 14 = .ok (.iload_n 3, 1) := dk_29 (dk_at dksX1_ignorant_0 14 rfl rfl)
theorem dX1_ignorant_15 : decode cX1_ignorant 15 = .ok (.aload_n 0, 1) := dk_42 (dk_at dksX1_ignorant_0 15 rfl rfl)
theorem dX1_ignorant_16 : decode cX1_ignorant 16 = .ok (.invokevirtual 166, 3) := dk_182 0 166 (dk_at dksX1_ignorant_0 16 rfl rfl)
theorem dX1_ignorant_19 : decode cX1_ignorant 19 = .ok (.if_icmp .ge 84, 3) := dk_162 0 84 (dk_at dksX1_ignorant_0 19 rfl rfl)
theorem dX1_ignorant_22 : decode cX1_ignorant 22 = .ok (.iload_n 3, 1) := dk_29 (dk_at dksX1_ignorant_0 22 rfl rfl)
theorem dX1_ignorant_23 : decode cX1_ignorant 23 = .ok (.istore 4, 2) := dk_54 4 (dk_at dksX1_ignorant_1 0 rfl rfl)
theorem dX1_ignorant_25 : decode cX1_ignorant 25 = .ok (.iconst 0, 1) := dk_3 (dk_at dksX1_ignorant_1 2 rfl rfl)
theorem dX1_ignorant_26 : decode cX1_ignorant 26 = .ok (.istore 5, 2) := dk_54 5 (dk_at dksX1_ignorant_1 3 rfl rfl)
theorem dX1_ignorant_28 : decode cX1_ignorant 28 = .ok (.iload 5, 2) := dk_21 5 (dk_at dksX1_ignorant_1 5 rfl rfl)
theorem dX1_ignorant_30 : decode cX1_ignorant 30 = .ok (.aload_n 0, 1) := dk_42 (dk_at dksX1_ignorant_1 7 rfl rfl)
theorem dX1_ignorant_31 : decode cX1_ignorant 31 = .ok (.invokevirtual 166, 3) := dk_182 0 166 (dk_at dksX1_ignorant_1 8 rfl rfl)
theorem dX1_ignorant_34 : decode cX1_ignorant 34 = .ok (.if_icmp .ge 35, 3) := dk_162 0 35 (dk_at dksX1_ignorant_1 11 rfl rfl)
theorem dX1_ignorant_37 : decode cX1_ignorant 37 = .ok (.iload 4, 2) := dk_21 4 (dk_at dksX1_ignorant_1 14 rfl rfl)
theorem dX1_ignorant_39 : decode cX1_ignorant 39 = .ok (.ifCond .lt 30, 3) := dk_155 0 30 (dk_at dksX1_ignorant_1 16 rfl rfl)
theorem dX1_ignorant_42 : decode cX1_ignorant 42 = .ok (.aload_n 0, 1) := dk_42 (dk_at dksX1_ignorant_1 19 rfl rfl)
theorem dX1_ignorant_43 : decode cX1_ignorant 43 = .ok (.getfield 48, 3) := dk_180 0 48 (dk_at dksX1_ignorant_1 20 rfl rfl)
theorem dX1_ignorant_46 : decode cX1_ignorant 46 = .ok (.iload 4, 2) := dk_21 4 (dk_at dksX1_ignorant_2 0 rfl rfl)
theorem dX1_ignorant_48 : decode cX1_ignorant 48 = .ok (.iload_n 1, 1) := dk_27 (dk_at dksX1_ignorant_2 2 rfl rfl)
theorem dX1_ignorant_49 : decode cX1_ignorant 49 = .ok (.invokevirtual 397, 3) := dk_182 1 141 (dk_at dksX1_ignorant_2 3 rfl rfl)
theorem dX1_ignorant_52 : decode cX1_ignorant 52 = .ok (.ifCond .ge 17, 3) := dk_156 0 17 (dk_at dksX1_ignorant_2 6 rfl rfl)
theorem dX1_ignorant_55 : decode cX1_ignorant 55 = .ok (.aload_n 0, 1) := dk_42 (dk_at dksX1_ignorant_2 9 rfl rfl)
theorem dX1_ignorant_56 : decode cX1_ignorant 56 = .ok (.iload 4, 2) := dk_21 4 (dk_at dksX1_ignorant_2 10 rfl rfl)
theorem dX1_ignorant_58 : decode cX1_ignorant 58 = .ok (.invokevirtual 389, 3) := dk_182 1 133 (dk_at dksX1_ignorant_2 12 rfl rfl)
theorem dX1_ignorant_61 : decode cX1_ignorant 61 = .ok (.istore 4, 2) := dk_54 4 (dk_at dksX1_ignorant_2 15 rfl rfl)
theorem dX1_ignorant_63 : decode cX1_ignorant 63 = .ok (.iinc 5 1, 3) := dk_132 5 1 (dk_at dksX1_ignorant_2 17 rfl rfl)
theorem dX1_ignorant_66 : decode cX1_ignorant 66 = .ok (.goto (-38), 3) := dk_167 255 218 (dk_at dksX1_ignorant_2 20 rfl rfl)
theorem dX1_ignorant_69 : decode cX1_ignorant 69 = .ok (.iload_n 2, 1) := dk_28 (dk_at dksX1_ignorant_2 23 rfl rfl)
theorem dX1_ignorant_70 : decode cX1_ignorant 70 = .ok (.iload 4, 2) := dk_21 4 (dk_at dksX1_ignorant_3 0 rfl rfl)
theorem dX1_ignorant_72 : decode cX1_ignorant 72 = .ok (.ifCond .lt 16, 3) := dk_155 0 16 (dk_at dksX1_ignorant_3 2 rfl rfl)
theorem dX1_ignorant_75 : decode cX1_ignorant 75 = .ok (.aload_n 0, 1) := dk_42 (dk_at dksX1_ignorant_3 5 rfl rfl)
theorem dX1_ignorant_76 : decode cX1_ignorant 76 = .ok (.getfield 48, 3) := dk_180 0 48 (dk_at dksX1_ignorant_3 6 rfl rfl)
theorem dX1_ignorant_79 : decode cX1_ignorant 79 = .ok (.iload 4, 2) := dk_21 4 (dk_at dksX1_ignorant_3 9 rfl rfl)
theorem dX1_ignorant_81 : decode cX1_ignorant 81 = .ok (.iload_n 1, 1) := dk_27 (dk_at dksX1_ignorant_3 11 rfl rfl)
theorem dX1_ignorant_82 : decode cX1_ignorant 82 = .ok (.invokevirtual 397, 3) := dk_182 1 141 (dk_at dksX1_ignorant_3 12 rfl rfl)
theorem dX1_ignorant_85 : decode cX1_ignorant 85 = .ok (.ifCond .ge 9, 3) := dk_156 0 9 (dk_at dksX1_ignorant_3 15 rfl rfl)
theorem dX1_ignorant_88 : decode cX1_ignorant 88 = .ok (.iconst 1, 1) := dk_4 (dk_at dksX1_ignorant_3 18 rfl rfl)
theorem dX1_ignorant_89 : decode cX1_ignorant 89 = .ok (.iload_n 3, 1) := dk_29 (dk_at dksX1_ignorant_3 19 rfl rfl)
theorem dX1_ignorant_90 : decode cX1_ignorant 90 = .ok (.ishl, 1) := dk_120 (dk_at dksX1_ignorant_3 20 rfl rfl)
theorem dX1_ignorant_91 : decode cX1_ignorant 91 = .ok (.goto 4, 3) := dk_167 0 4 (dk_at dksX1_ignorant_3 21 rfl rfl)
theorem dX1_ignorant_94 : decode cX1_ignorant 94 = .ok (.iconst 0, 1) := dk_3 (dk_at dksX1_ignorant_4 0 rfl rfl)
theorem dX1_ignorant_95 : decode cX1_ignorant 95 = .ok (.ior, 1) := dk_128 (dk_at dksX1_ignorant_4 1 rfl rfl)
theorem dX1_ignorant_96 : decode cX1_ignorant 96 = .ok (.istore_n 2, 1) := dk_61 (dk_at dksX1_ignorant_4 2 rfl rfl)
theorem dX1_ignorant_97 : decode cX1_ignorant 97 = .ok (.iinc 3 1, 3) := dk_132 3 1 (dk_at dksX1_ignorant_4 3 rfl rfl)
theorem dX1_ignorant_100 : decode cX1_ignorant 100 = .ok (.goto (-86), 3) := dk_167 255 170 (dk_at dksX1_ignorant_4 6 rfl rfl)
theorem dX1_ignorant_103 : decode cX1_ignorant 103 = .ok (.iload_n 2, 1) := dk_28 (dk_at dksX1_ignorant_4 9 rfl rfl)
theorem dX1_ignorant_104 : decode cX1_ignorant 104 = .ok (.ireturn, 1) := dk_172 (dk_at dksX1_ignorant_4 10 rfl rfl)
abbrev cX1_spy : ByteArray := prog_1_method_54_code
def yX1_spy : MethodName := ⟨RX1, "spy", "(II)I"⟩
def dkwX1_spy_3 : List UInt8 := [167, 255, 214, 29, 172]
abbrev dktX1_spy_3 : List UInt8 := dkwX1_spy_3 ++ []
def dkwX1_spy_2 : List UInt8 := [180, 0, 48, 21, 4, 28, 182, 1, 141, 155, 0, 7, 4, 167, 0, 4, 3, 96, 62, 132, 4, 1]
abbrev dktX1_spy_2 : List UInt8 := dkwX1_spy_2 ++ dktX1_spy_3
def dkwX1_spy_1 : List UInt8 := [62, 3, 54, 4, 21, 4, 42, 182, 0, 166, 162, 0, 39, 29, 27, 21, 4, 184, 1, 23, 153, 0, 20, 42]
abbrev dktX1_spy_1 : List UInt8 := dkwX1_spy_1 ++ dktX1_spy_2
def dkwX1_spy_0 : List UInt8 := [27, 155, 0, 20, 27, 42, 182, 0, 166, 122, 154, 0, 11, 42, 28, 182, 1, 107, 154, 0, 5, 2, 172, 3]
abbrev dktX1_spy_0 : List UInt8 := dkwX1_spy_0 ++ dktX1_spy_1
theorem dksX1_spy_0 : cX1_spy.data.toList.drop 0 = dktX1_spy_0 := by decide +kernel
theorem dksX1_spy_1 : cX1_spy.data.toList.drop 24 = dktX1_spy_1 := dk_seg dksX1_spy_0 24 rfl rfl
theorem dksX1_spy_2 : cX1_spy.data.toList.drop 48 = dktX1_spy_2 := dk_seg dksX1_spy_1 24 rfl rfl
theorem dksX1_spy_3 : cX1_spy.data.toList.drop 70 = dktX1_spy_3 := dk_seg dksX1_spy_2 22 rfl rfl
theorem dX1_spy_0 : decode cX1_spy 0 = .ok (.iload_n 1, 1) := dk_27 (dk_at dksX1_spy_0 0 rfl rfl)
theorem dX1_spy_1 : decode cX1_spy 1 = .ok (.ifCond .lt 20, 3) := dk_155 0 20 (dk_at dksX1_spy_0 1 rfl rfl)
theorem dX1_spy_4 : decode cX1_spy 4 = .ok (.iload_n 1, 1) := dk_27 (dk_at dksX1_spy_0 4 rfl rfl)
theorem dX1_spy_5 : decode cX1_spy 5 = .ok (.aload_n 0, 1) := dk_42 (dk_at dksX1_spy_0 5 rfl rfl)
theorem dX1_spy_6 : decode cX1_spy 6 = .ok (.invokevirtual 166, 3) := dk_182 0 166 (dk_at dksX1_spy_0 6 rfl rfl)
theorem dX1_spy_9 : decode cX1_spy 9 = .ok (.ishr, 1) := dk_122 (dk_at dksX1_spy_0 9 rfl rfl)
theorem dX1_spy_10 : decode cX1_spy 10 = .ok (.ifCond .ne 11, 3) := dk_154 0 11 (dk_at dksX1_spy_0 10 rfl rfl)
theorem dX1_spy_13 : decode cX1_spy 13 = .ok (.aload_n 0, 1) := dk_42 (dk_at dksX1_spy_0 13 rfl rfl)
theorem dX1_spy_14 : decode cX1_spy 14 = .ok (.iload_n 2, 1) := dk_28 (dk_at dksX1_spy_0 14 rfl rfl)
theorem dX1_spy_15 : decode cX1_spy 15 = .ok (.invokevirtual 363, 3) := dk_182 1 107 (dk_at dksX1_spy_0 15 rfl rfl)
theorem dX1_spy_18 : decode cX1_spy 18 = .ok (.ifCond .ne 5, 3) := dk_154 0 5 (dk_at dksX1_spy_0 18 rfl rfl)
theorem dX1_spy_21 : decode cX1_spy 21 = .ok (.iconst (-1), 1) := dk_2 (dk_at dksX1_spy_0 21 rfl rfl)
theorem dX1_spy_22 : decode cX1_spy 22 = .ok (.ireturn, 1) := dk_172 (dk_at dksX1_spy_0 22 rfl rfl)
theorem dX1_spy_23 : decode cX1_spy 23 = .ok (.iconst 0, 1) := dk_3 (dk_at dksX1_spy_0 23 rfl rfl)
theorem dX1_spy_24 : decode cX1_spy 24 = .ok (.istore_n 3, 1) := dk_62 (dk_at dksX1_spy_1 0 rfl rfl)
theorem dX1_spy_25 : decode cX1_spy 25 = .ok (.iconst 0, 1) := dk_3 (dk_at dksX1_spy_1 1 rfl rfl)
theorem dX1_spy_26 : decode cX1_spy 26 = .ok (.istore 4, 2) := dk_54 4 (dk_at dksX1_spy_1 2 rfl rfl)
theorem dX1_spy_28 : decode cX1_spy 28 = .ok (.iload 4, 2) := dk_21 4 (dk_at dksX1_spy_1 4 rfl rfl)
theorem dX1_spy_30 : decode cX1_spy 30 = .ok (.aload_n 0, 1) := dk_42 (dk_at dksX1_spy_1 6 rfl rfl)
theorem dX1_spy_31 : decode cX1_spy 31 = .ok (.invokevirtual 166, 3) := dk_182 0 166 (dk_at dksX1_spy_1 7 rfl rfl)
theorem dX1_spy_34 : decode cX1_spy 34 = .ok (.if_icmp .ge 39, 3) := dk_162 0 39 (dk_at dksX1_spy_1 10 rfl rfl)
theorem dX1_spy_37 : decode cX1_spy 37 = .ok (.iload_n 3, 1) := dk_29 (dk_at dksX1_spy_1 13 rfl rfl)
theorem dX1_spy_38 : decode cX1_spy 38 = .ok (.iload_n 1, 1) := dk_27 (dk_at dksX1_spy_1 14 rfl rfl)
theorem dX1_spy_39 : decode cX1_spy 39 = .ok (.iload 4, 2) := dk_21 4 (dk_at dksX1_spy_1 15 rfl rfl)
theorem dX1_spy_41 : decode cX1_spy 41 = .ok (.invokestatic 279, 3) := dk_184 1 23 (dk_at dksX1_spy_1 17 rfl rfl)
theorem dX1_spy_44 : decode cX1_spy 44 = .ok (.ifCond .eq 20, 3) := dk_153 0 20 (dk_at dksX1_spy_1 20 rfl rfl)
theorem dX1_spy_47 : decode cX1_spy 47 = .ok (.aload_n 0, 1) := dk_42 (dk_at dksX1_spy_1 23 rfl rfl)
theorem dX1_spy_48 : decode cX1_spy 48 = .ok (.getfield 48, 3) := dk_180 0 48 (dk_at dksX1_spy_2 0 rfl rfl)
theorem dX1_spy_51 : decode cX1_spy 51 = .ok (.iload 4, 2) := dk_21 4 (dk_at dksX1_spy_2 3 rfl rfl)
theorem dX1_spy_53 : decode cX1_spy 53 = .ok (.iload_n 2, 1) := dk_28 (dk_at dksX1_spy_2 5 rfl rfl)
theorem dX1_spy_54 : decode cX1_spy 54 = .ok (.invokevirtual 397, 3) := dk_182 1 141 (dk_at dksX1_spy_2 6 rfl rfl)
theorem dX1_spy_57 : decode cX1_spy 57 = .ok (.ifCond .lt 7, 3) := dk_155 0 7 (dk_at dksX1_spy_2 9 rfl rfl)
theorem dX1_spy_60 : decode cX1_spy 60 = .ok (.iconst 1, 1) := dk_4 (dk_at dksX1_spy_2 12 rfl rfl)
theorem dX1_spy_61 : decode cX1_spy 61 = .ok (.goto 4, 3) := dk_167 0 4 (dk_at dksX1_spy_2 13 rfl rfl)
theorem dX1_spy_64 : decode cX1_spy 64 = .ok (.iconst 0, 1) := dk_3 (dk_at dksX1_spy_2 16 rfl rfl)
theorem dX1_spy_65 : decode cX1_spy 65 = .ok (.iadd, 1) := dk_96 (dk_at dksX1_spy_2 17 rfl rfl)
theorem dX1_spy_66 : decode cX1_spy 66 = .ok (.istore_n 3, 1) := dk_62 (dk_at dksX1_spy_2 18 rfl rfl)
theorem dX1_spy_67 : decode cX1_spy 67 = .ok (.iinc 4 1, 3) := dk_132 4 1 (dk_at dksX1_spy_2 19 rfl rfl)
theorem dX1_spy_70 : decode cX1_spy 70 = .ok (.goto (-42), 3) := dk_167 255 214 (dk_at dksX1_spy_3 0 rfl rfl)
theorem dX1_spy_73 : decode cX1_spy 73 = .ok (.iload_n 3, 1) := dk_29 (dk_at dksX1_spy_3 3 rfl rfl)
theorem dX1_spy_74 : decode cX1_spy 74 = .ok (.ireturn, 1) := dk_172 (dk_at dksX1_spy_3 4 rfl rfl)
abbrev cX1_hear : ByteArray := prog_1_method_56_code
def yX1_hear : MethodName := ⟨RX1, "hear", "(II)I"⟩
def dkwX1_hear_2 : List UInt8 := [2, 172]
abbrev dktX1_hear_2 : List UInt8 := dkwX1_hear_2 ++ []
def dkwX1_hear_1 : List UInt8 := [184, 0, 107, 153, 0, 21, 28, 3, 5, 184, 0, 107, 153, 0, 12, 42, 27, 28, 182, 1, 144, 167, 0, 4]
abbrev dktX1_hear_1 : List UInt8 := dkwX1_hear_1 ++ dktX1_hear_2
def dkwX1_hear_0 : List UInt8 := [42, 180, 0, 136, 16, 24, 162, 0, 41, 27, 3, 42, 180, 0, 22, 180, 0, 247, 182, 0, 160, 4, 100]
abbrev dktX1_hear_0 : List UInt8 := dkwX1_hear_0 ++ dktX1_hear_1
theorem dksX1_hear_0 : cX1_hear.data.toList.drop 0 = dktX1_hear_0 := by decide +kernel
theorem dksX1_hear_1 : cX1_hear.data.toList.drop 23 = dktX1_hear_1 := dk_seg dksX1_hear_0 23 rfl rfl
theorem dksX1_hear_2 : cX1_hear.data.toList.drop 47 = dktX1_hear_2 := dk_seg dksX1_hear_1 24 rfl rfl
theorem dX1_hear_0 : decode cX1_hear 0 = .ok (.aload_n 0, 1) := dk_42 (dk_at dksX1_hear_0 0 rfl rfl)
theorem dX1_hear_1 : decode cX1_hear 1 = .ok (.getfield 136, 3) := dk_180 0 136 (dk_at dksX1_hear_0 1 rfl rfl)
theorem dX1_hear_4 : decode cX1_hear 4 = .ok (.bipush 24, 2) := dk_16 24 (dk_at dksX1_hear_0 4 rfl rfl)
theorem dX1_hear_6 : decode cX1_hear 6 = .ok (.if_icmp .ge 41, 3) := dk_162 0 41 (dk_at dksX1_hear_0 6 rfl rfl)
theorem dX1_hear_9 : decode cX1_hear 9 = .ok (.iload_n 1, 1) := dk_27 (dk_at dksX1_hear_0 9 rfl rfl)
theorem dX1_hear_10 : decode cX1_hear 10 = .ok (.iconst 0, 1) := dk_3 (dk_at dksX1_hear_0 10 rfl rfl)
theorem dX1_hear_11 : decode cX1_hear 11 = .ok (.aload_n 0, 1) := dk_42 (dk_at dksX1_hear_0 11 rfl rfl)
theorem dX1_hear_12 : decode cX1_hear 12 = .ok (.getfield 22, 3) := dk_180 0 22 (dk_at dksX1_hear_0 12 rfl rfl)
theorem dX1_hear_15 : decode cX1_hear 15 = .ok (.getfield 247, 3) := dk_180 0 247 (dk_at dksX1_hear_0 15 rfl rfl)
theorem dX1_hear_18 : decode cX1_hear 18 = .ok (.invokevirtual 160, 3) := dk_182 0 160 (dk_at dksX1_hear_0 18 rfl rfl)
theorem dX1_hear_21 : decode cX1_hear 21 = .ok (.iconst 1, 1) := dk_4 (dk_at dksX1_hear_0 21 rfl rfl)
theorem dX1_hear_22 : decode cX1_hear 22 = .ok (.isub, 1) := dk_100 (dk_at dksX1_hear_0 22 rfl rfl)
theorem dX1_hear_23 : decode cX1_hear 23 = .ok (.invokestatic 107, 3) := dk_184 0 107 (dk_at dksX1_hear_1 0 rfl rfl)
theorem dX1_hear_26 : decode cX1_hear 26 = .ok (.ifCond .eq 21, 3) := dk_153 0 21 (dk_at dksX1_hear_1 3 rfl rfl)
theorem dX1_hear_29 : decode cX1_hear 29 = .ok (.iload_n 2, 1) := dk_28 (dk_at dksX1_hear_1 6 rfl rfl)
theorem dX1_hear_30 : decode cX1_hear 30 = .ok (.iconst 0, 1) := dk_3 (dk_at dksX1_hear_1 7 rfl rfl)
theorem dX1_hear_31 : decode cX1_hear 31 = .ok (.iconst 2, 1) := dk_5 (dk_at dksX1_hear_1 8 rfl rfl)
theorem dX1_hear_32 : decode cX1_hear 32 = .ok (.invokestatic 107, 3) := dk_184 0 107 (dk_at dksX1_hear_1 9 rfl rfl)
theorem dX1_hear_35 : decode cX1_hear 35 = .ok (.ifCond .eq 12, 3) := dk_153 0 12 (dk_at dksX1_hear_1 12 rfl rfl)
theorem dX1_hear_38 : decode cX1_hear 38 = .ok (.aload_n 0, 1) := dk_42 (dk_at dksX1_hear_1 15 rfl rfl)
theorem dX1_hear_39 : decode cX1_hear 39 = .ok (.iload_n 1, 1) := dk_27 (dk_at dksX1_hear_1 16 rfl rfl)
theorem dX1_hear_40 : decode cX1_hear 40 = .ok (.iload_n 2, 1) := dk_28 (dk_at dksX1_hear_1 17 rfl rfl)
theorem dX1_hear_41 : decode cX1_hear 41 = .ok (.invokevirtual 400, 3) := dk_182 1 144 (dk_at dksX1_hear_1 18 rfl rfl)
theorem dX1_hear_44 : decode cX1_hear 44 = .ok (.goto 4, 3) := dk_167 0 4 (dk_at dksX1_hear_1 21 rfl rfl)
theorem dX1_hear_47 : decode cX1_hear 47 = .ok (.iconst (-1), 1) := dk_2 (dk_at dksX1_hear_2 0 rfl rfl)
theorem dX1_hear_48 : decode cX1_hear 48 = .ok (.ireturn, 1) := dk_172 (dk_at dksX1_hear_2 1 rfl rfl)
abbrev cX1_hears : ByteArray := prog_1_method_55_code
def yX1_hears : MethodName := ⟨RX1, "hears", "(II)I"⟩
def dkwX1_hears_1 : List UInt8 := [180, 0, 136, 4, 96, 181, 0, 136, 42, 180, 0, 136, 4, 100, 172]
abbrev dktX1_hears_1 : List UInt8 := dkwX1_hears_1 ++ []
def dkwX1_hears_0 : List UInt8 := [42, 180, 0, 84, 42, 180, 0, 136, 27, 79, 42, 180, 0, 87, 42, 180, 0, 136, 28, 79, 42, 89]
abbrev dktX1_hears_0 : List UInt8 := dkwX1_hears_0 ++ dktX1_hears_1
theorem dksX1_hears_0 : cX1_hears.data.toList.drop 0 = dktX1_hears_0 := by decide +kernel
theorem dksX1_hears_1 : cX1_hears.data.toList.drop 22 = dktX1_hears_1 := dk_seg dksX1_hears_0 22 rfl rfl
theorem dX1_hears_0 : decode cX1_hears 0 = .ok (.aload_n 0, 1) := dk_42 (dk_at dksX1_hears_0 0 rfl rfl)
theorem dX1_hears_1 : decode cX1_hears 1 = .ok (.getfield 84, 3) := dk_180 0 84 (dk_at dksX1_hears_0 1 rfl rfl)
theorem dX1_hears_4 : decode cX1_hears 4 = .ok (.aload_n 0, 1) := dk_42 (dk_at dksX1_hears_0 4 rfl rfl)
theorem dX1_hears_5 : decode cX1_hears 5 = .ok (.getfield 136, 3) := dk_180 0 136 (dk_at dksX1_hears_0 5 rfl rfl)
theorem dX1_hears_8 : decode cX1_hears 8 = .ok (.iload_n 1, 1) := dk_27 (dk_at dksX1_hears_0 8 rfl rfl)
theorem dX1_hears_9 : decode cX1_hears 9 = .ok (.iastore, 1) := dk_79 (dk_at dksX1_hears_0 9 rfl rfl)
theorem dX1_hears_10 : decode cX1_hears 10 = .ok (.aload_n 0, 1) := dk_42 (dk_at dksX1_hears_0 10 rfl rfl)
theorem dX1_hears_11 : decode cX1_hears 11 = .ok (.getfield 87, 3) := dk_180 0 87 (dk_at dksX1_hears_0 11 rfl rfl)
theorem dX1_hears_14 : decode cX1_hears 14 = .ok (.aload_n 0, 1) := dk_42 (dk_at dksX1_hears_0 14 rfl rfl)
theorem dX1_hears_15 : decode cX1_hears 15 = .ok (.getfield 136, 3) := dk_180 0 136 (dk_at dksX1_hears_0 15 rfl rfl)
theorem dX1_hears_18 : decode cX1_hears 18 = .ok (.iload_n 2, 1) := dk_28 (dk_at dksX1_hears_0 18 rfl rfl)
theorem dX1_hears_19 : decode cX1_hears 19 = .ok (.iastore, 1) := dk_79 (dk_at dksX1_hears_0 19 rfl rfl)
theorem dX1_hears_20 : decode cX1_hears 20 = .ok (.aload_n 0, 1) := dk_42 (dk_at dksX1_hears_0 20 rfl rfl)
theorem dX1_hears_21 : decode cX1_hears 21 = .ok (.dup, 1) := dk_89 (dk_at dksX1_hears_0 21 rfl rfl)
theorem dX1_hears_22 : decode cX1_hears 22 = .ok (.getfield 136, 3) := dk_180 0 136 (dk_at dksX1_hears_1 0 rfl rfl)
theorem dX1_hears_25 : decode cX1_hears 25 = .ok (.iconst 1, 1) := dk_4 (dk_at dksX1_hears_1 3 rfl rfl)
theorem dX1_hears_26 : decode cX1_hears 26 = .ok (.iadd, 1) := dk_96 (dk_at dksX1_hears_1 4 rfl rfl)
theorem dX1_hears_27 : decode cX1_hears 27 = .ok (.putfield 136, 3) := dk_181 0 136 (dk_at dksX1_hears_1 5 rfl rfl)
theorem dX1_hears_30 : decode cX1_hears 30 = .ok (.aload_n 0, 1) := dk_42 (dk_at dksX1_hears_1 8 rfl rfl)
theorem dX1_hears_31 : decode cX1_hears 31 = .ok (.getfield 136, 3) := dk_180 0 136 (dk_at dksX1_hears_1 9 rfl rfl)
theorem dX1_hears_34 : decode cX1_hears 34 = .ok (.iconst 1, 1) := dk_4 (dk_at dksX1_hears_1 12 rfl rfl)
theorem dX1_hears_35 : decode cX1_hears 35 = .ok (.isub, 1) := dk_100 (dk_at dksX1_hears_1 13 rfl rfl)
theorem dX1_hears_36 : decode cX1_hears 36 = .ok (.ireturn, 1) := dk_172 (dk_at dksX1_hears_1 14 rfl rfl)
abbrev cX1_strike : ByteArray := prog_1_method_57_code
def yX1_strike : MethodName := ⟨RX1, "strike", "(I)I"⟩
def dkwX1_strike_1 : List UInt8 := [2, 27, 182, 1, 144, 167, 0, 4, 2, 172]
abbrev dktX1_strike_1 : List UInt8 := dkwX1_strike_1 ++ []
def dkwX1_strike_0 : List UInt8 := [42, 180, 0, 136, 16, 24, 162, 0, 26, 27, 3, 42, 180, 0, 136, 4, 100, 184, 0, 107, 153, 0, 12, 42]
abbrev dktX1_strike_0 : List UInt8 := dkwX1_strike_0 ++ dktX1_strike_1
theorem dksX1_strike_0 : cX1_strike.data.toList.drop 0 = dktX1_strike_0 := by decide +kernel
theorem dksX1_strike_1 : cX1_strike.data.toList.drop 24 = dktX1_strike_1 := dk_seg dksX1_strike_0 24 rfl rfl
theorem dX1_strike_0 : decode cX1_strike 0 = .ok (.aload_n 0, 1) := dk_42 (dk_at dksX1_strike_0 0 rfl rfl)
theorem dX1_strike_1 : decode cX1_strike 1 = .ok (.getfield 136, 3) := dk_180 0 136 (dk_at dksX1_strike_0 1 rfl rfl)
theorem dX1_strike_4 : decode cX1_strike 4 = .ok (.bipush 24, 2) := dk_16 24 (dk_at dksX1_strike_0 4 rfl rfl)
theorem dX1_strike_6 : decode cX1_strike 6 = .ok (.if_icmp .ge 26, 3) := dk_162 0 26 (dk_at dksX1_strike_0 6 rfl rfl)
theorem dX1_strike_9 : decode cX1_strike 9 = .ok (.iload_n 1, 1) := dk_27 (dk_at dksX1_strike_0 9 rfl rfl)
theorem dX1_strike_10 : decode cX1_strike 10 = .ok (.iconst 0, 1) := dk_3 (dk_at dksX1_strike_0 10 rfl rfl)
theorem dX1_strike_11 : decode cX1_strike 11 = .ok (.aload_n 0, 1) := dk_42 (dk_at dksX1_strike_0 11 rfl rfl)
theorem dX1_strike_12 : decode cX1_strike 12 = .ok (.getfield 136, 3) := dk_180 0 136 (dk_at dksX1_strike_0 12 rfl rfl)
theorem dX1_strike_15 : decode cX1_strike 15 = .ok (.iconst 1, 1) := dk_4 (dk_at dksX1_strike_0 15 rfl rfl)
theorem dX1_strike_16 : decode cX1_strike 16 = .ok (.isub, 1) := dk_100 (dk_at dksX1_strike_0 16 rfl rfl)
theorem dX1_strike_17 : decode cX1_strike 17 = .ok (.invokestatic 107, 3) := dk_184 0 107 (dk_at dksX1_strike_0 17 rfl rfl)
theorem dX1_strike_20 : decode cX1_strike 20 = .ok (.ifCond .eq 12, 3) := dk_153 0 12 (dk_at dksX1_strike_0 20 rfl rfl)
theorem dX1_strike_23 : decode cX1_strike 23 = .ok (.aload_n 0, 1) := dk_42 (dk_at dksX1_strike_0 23 rfl rfl)
theorem dX1_strike_24 : decode cX1_strike 24 = .ok (.iconst (-1), 1) := dk_2 (dk_at dksX1_strike_1 0 rfl rfl)
theorem dX1_strike_25 : decode cX1_strike 25 = .ok (.iload_n 1, 1) := dk_27 (dk_at dksX1_strike_1 1 rfl rfl)
theorem dX1_strike_26 : decode cX1_strike 26 = .ok (.invokevirtual 400, 3) := dk_182 1 144 (dk_at dksX1_strike_1 2 rfl rfl)
theorem dX1_strike_29 : decode cX1_strike 29 = .ok (.goto 4, 3) := dk_167 0 4 (dk_at dksX1_strike_1 5 rfl rfl)
theorem dX1_strike_32 : decode cX1_strike 32 = .ok (.iconst (-1), 1) := dk_2 (dk_at dksX1_strike_1 8 rfl rfl)
theorem dX1_strike_33 : decode cX1_strike 33 = .ok (.ireturn, 1) := dk_172 (dk_at dksX1_strike_1 9 rfl rfl)
abbrev cX1_known : ByteArray := prog_1_method_58_code
def yX1_known : MethodName := ⟨RX1, "known", "(I)Z"⟩
def dkwX1_known_0 : List UInt8 := [27, 2, 42, 180, 0, 136, 184, 0, 107, 154, 0, 5, 3, 172, 42, 27, 181, 0, 93, 4, 172]
abbrev dktX1_known_0 : List UInt8 := dkwX1_known_0 ++ []
theorem dksX1_known_0 : cX1_known.data.toList.drop 0 = dktX1_known_0 := by decide +kernel
theorem dX1_known_0 : decode cX1_known 0 = .ok (.iload_n 1, 1) := dk_27 (dk_at dksX1_known_0 0 rfl rfl)
theorem dX1_known_1 : decode cX1_known 1 = .ok (.iconst (-1), 1) := dk_2 (dk_at dksX1_known_0 1 rfl rfl)
theorem dX1_known_2 : decode cX1_known 2 = .ok (.aload_n 0, 1) := dk_42 (dk_at dksX1_known_0 2 rfl rfl)
theorem dX1_known_3 : decode cX1_known 3 = .ok (.getfield 136, 3) := dk_180 0 136 (dk_at dksX1_known_0 3 rfl rfl)
theorem dX1_known_6 : decode cX1_known 6 = .ok (.invokestatic 107, 3) := dk_184 0 107 (dk_at dksX1_known_0 6 rfl rfl)
theorem dX1_known_9 : decode cX1_known 9 = .ok (.ifCond .ne 5, 3) := dk_154 0 5 (dk_at dksX1_known_0 9 rfl rfl)
theorem dX1_known_12 : decode cX1_known 12 = .ok (.iconst 0, 1) := dk_3 (dk_at dksX1_known_0 12 rfl rfl)
theorem dX1_known_13 : decode cX1_known 13 = .ok (.ireturn, 1) := dk_172 (dk_at dksX1_known_0 13 rfl rfl)
theorem dX1_known_14 : decode cX1_known 14 = .ok (.aload_n 0, 1) := dk_42 (dk_at dksX1_known_0 14 rfl rfl)
theorem dX1_known_15 : decode cX1_known 15 = .ok (.iload_n 1, 1) := dk_27 (dk_at dksX1_known_0 15 rfl rfl)
theorem dX1_known_16 : decode cX1_known 16 = .ok (.putfield 93, 3) := dk_181 0 93 (dk_at dksX1_known_0 16 rfl rfl)
theorem dX1_known_19 : decode cX1_known 19 = .ok (.iconst 1, 1) := dk_4 (dk_at dksX1_known_0 19 rfl rfl)
theorem dX1_known_20 : decode cX1_known 20 = .ok (.ireturn, 1) := dk_172 (dk_at dksX1_known_0 20 rfl rfl)
abbrev cX1_fits : ByteArray := prog_1_method_61_code
def yX1_fits : MethodName := ⟨RX1, "fits", "()I"⟩
def dkwX1_fits_6 : List UInt8 := [61, 132, 3, 1, 167, 255, 214, 28, 172]
abbrev dktX1_fits_6 : List UInt8 := dkwX1_fits_6 ++ []
def dkwX1_fits_5 : List UInt8 := [29, 182, 0, 171, 192, 1, 161, 180, 1, 163, 182, 1, 157, 153, 0, 9, 4, 29, 120, 167, 0, 4, 3, 128]
abbrev dktX1_fits_5 : List UInt8 := dkwX1_fits_5 ++ dktX1_fits_6
def dkwX1_fits_4 : List UInt8 := [4, 27, 120, 167, 0, 4, 3, 61, 3, 62, 29, 27, 162, 0, 43, 28, 42, 42, 180, 0, 22, 180, 1, 154]
abbrev dktX1_fits_4 : List UInt8 := dkwX1_fits_4 ++ dktX1_fits_5
def dkwX1_fits_3 : List UInt8 := [180, 0, 22, 180, 1, 154, 182, 0, 160, 60, 42, 42, 180, 0, 22, 180, 0, 131, 182, 1, 157, 153, 0, 9]
abbrev dktX1_fits_3 : List UInt8 := dkwX1_fits_3 ++ dktX1_fits_4
def dkwX1_fits_2 : List UInt8 := [46, 156, 0, 15, 42, 180, 0, 90, 42, 180, 0, 87, 27, 46, 4, 84, 132, 1, 255, 167, 255, 219, 42]
abbrev dktX1_fits_2 : List UInt8 := dkwX1_fits_2 ++ dktX1_fits_3
def dkwX1_fits_1 : List UInt8 := [182, 1, 151, 4, 100, 60, 27, 155, 0, 39, 42, 180, 0, 90, 27, 51, 154, 0, 24, 42, 180, 0, 84, 27]
abbrev dktX1_fits_1 : List UInt8 := dkwX1_fits_1 ++ dktX1_fits_2
def dkwX1_fits_0 : List UInt8 := [3, 60, 27, 42, 182, 1, 151, 162, 0, 16, 42, 180, 0, 90, 27, 3, 84, 132, 1, 1, 167, 255, 238, 42]
abbrev dktX1_fits_0 : List UInt8 := dkwX1_fits_0 ++ dktX1_fits_1
theorem dksX1_fits_0 : cX1_fits.data.toList.drop 0 = dktX1_fits_0 := by decide +kernel
theorem dksX1_fits_1 : cX1_fits.data.toList.drop 24 = dktX1_fits_1 := dk_seg dksX1_fits_0 24 rfl rfl
theorem dksX1_fits_2 : cX1_fits.data.toList.drop 48 = dktX1_fits_2 := dk_seg dksX1_fits_1 24 rfl rfl
theorem dksX1_fits_3 : cX1_fits.data.toList.drop 71 = dktX1_fits_3 := dk_seg dksX1_fits_2 23 rfl rfl
theorem dksX1_fits_4 : cX1_fits.data.toList.drop 95 = dktX1_fits_4 := dk_seg dksX1_fits_3 24 rfl rfl
theorem dksX1_fits_5 : cX1_fits.data.toList.drop 119 = dktX1_fits_5 := dk_seg dksX1_fits_4 24 rfl rfl
theorem dksX1_fits_6 : cX1_fits.data.toList.drop 143 = dktX1_fits_6 := dk_seg dksX1_fits_5 24 rfl rfl
theorem dX1_fits_0 : decode cX1_fits 0 = .ok (.iconst 0, 1) := dk_3 (dk_at dksX1_fits_0 0 rfl rfl)
theorem dX1_fits_1 : decode cX1_fits 1 = .ok (.istore_n 1, 1) := dk_60 (dk_at dksX1_fits_0 1 rfl rfl)
theorem dX1_fits_2 : decode cX1_fits 2 = .ok (.iload_n 1, 1) := dk_27 (dk_at dksX1_fits_0 2 rfl rfl)
theorem dX1_fits_3 : decode cX1_fits 3 = .ok (.aload_n 0, 1) := dk_42 (dk_at dksX1_fits_0 3 rfl rfl)
theorem dX1_fits_4 : decode cX1_fits 4 = .ok (.invokevirtual 407, 3) := dk_182 1 151 (dk_at dksX1_fits_0 4 rfl rfl)
theorem dX1_fits_7 : decode cX1_fits 7 = .ok (.if_icmp .ge 16, 3) := dk_162 0 16 (dk_at dksX1_fits_0 7 rfl rfl)
theorem dX1_fits_10 : decode cX1_fits 10 = .ok (.aload_n 0, 1) := dk_42 (dk_at dksX1_fits_0 10 rfl rfl)
theorem dX1_fits_11 : decode cX1_fits 11 = .ok (.getfield 90, 3) := dk_180 0 90 (dk_at dksX1_fits_0 11 rfl rfl)
theorem dX1_fits_14 : decode cX1_fits 14 = .ok (.iload_n 1, 1) := dk_27 (dk_at dksX1_fits_0 14 rfl rfl)
theorem dX1_fits_15 : decode cX1_fits 15 = .ok (.iconst 0, 1) := dk_3 (dk_at dksX1_fits_0 15 rfl rfl)
theorem dX1_fits_16 : decode cX1_fits 16 = .ok (.bastore, 1) := dk_84 (dk_at dksX1_fits_0 16 rfl rfl)
theorem dX1_fits_17 : decode cX1_fits 17 = .ok (.iinc 1 1, 3) := dk_132 1 1 (dk_at dksX1_fits_0 17 rfl rfl)
theorem dX1_fits_20 : decode cX1_fits 20 = .ok (.goto (-18), 3) := dk_167 255 238 (dk_at dksX1_fits_0 20 rfl rfl)
theorem dX1_fits_23 : decode cX1_fits 23 = .ok (.aload_n 0, 1) := dk_42 (dk_at dksX1_fits_0 23 rfl rfl)
theorem dX1_fits_24 : decode cX1_fits 24 = .ok (.invokevirtual 407, 3) := dk_182 1 151 (dk_at dksX1_fits_1 0 rfl rfl)
theorem dX1_fits_27 : decode cX1_fits 27 = .ok (.iconst 1, 1) := dk_4 (dk_at dksX1_fits_1 3 rfl rfl)
theorem dX1_fits_28 : decode cX1_fits 28 = .ok (.isub, 1) := dk_100 (dk_at dksX1_fits_1 4 rfl rfl)
theorem dX1_fits_29 : decode cX1_fits 29 = .ok (.istore_n 1, 1) := dk_60 (dk_at dksX1_fits_1 5 rfl rfl)
theorem dX1_fits_30 : decode cX1_fits 30 = .ok (.iload_n 1, 1) := dk_27 (dk_at dksX1_fits_1 6 rfl rfl)
theorem dX1_fits_31 : decode cX1_fits 31 = .ok (.ifCond .lt 39, 3) := dk_155 0 39 (dk_at dksX1_fits_1 7 rfl rfl)
theorem dX1_fits_34 : decode cX1_fits 34 = .ok (.aload_n 0, 1) := dk_42 (dk_at dksX1_fits_1 10 rfl rfl)
theorem dX1_fits_35 : decode cX1_fits 35 = .ok (.getfield 90, 3) := dk_180 0 90 (dk_at dksX1_fits_1 11 rfl rfl)
theorem dX1_fits_38 : decode cX1_fits 38 = .ok (.iload_n 1, 1) := dk_27 (dk_at dksX1_fits_1 14 rfl rfl)
theorem dX1_fits_39 : decode cX1_fits 39 = .ok (.baload, 1) := dk_51 (dk_at dksX1_fits_1 15 rfl rfl)
theorem dX1_fits_40 : decode cX1_fits 40 = .ok (.ifCond .ne 24, 3) := dk_154 0 24 (dk_at dksX1_fits_1 16 rfl rfl)
theorem dX1_fits_43 : decode cX1_fits 43 = .ok (.aload_n 0, 1) := dk_42 (dk_at dksX1_fits_1 19 rfl rfl)
theorem dX1_fits_44 : decode cX1_fits 44 = .ok (.getfield 84, 3) := dk_180 0 84 (dk_at dksX1_fits_1 20 rfl rfl)
theorem dX1_fits_47 : decode cX1_fits 47 = .ok (.iload_n 1, 1) := dk_27 (dk_at dksX1_fits_1 23 rfl rfl)
theorem dX1_fits_48 : decode cX1_fits 48 = .ok (.iaload, 1) := dk_46 (dk_at dksX1_fits_2 0 rfl rfl)
theorem dX1_fits_49 : decode cX1_fits 49 = .ok (.ifCond .ge 15, 3) := dk_156 0 15 (dk_at dksX1_fits_2 1 rfl rfl)
theorem dX1_fits_52 : decode cX1_fits 52 = .ok (.aload_n 0, 1) := dk_42 (dk_at dksX1_fits_2 4 rfl rfl)
theorem dX1_fits_53 : decode cX1_fits 53 = .ok (.getfield 90, 3) := dk_180 0 90 (dk_at dksX1_fits_2 5 rfl rfl)
theorem dX1_fits_56 : decode cX1_fits 56 = .ok (.aload_n 0, 1) := dk_42 (dk_at dksX1_fits_2 8 rfl rfl)
theorem dX1_fits_57 : decode cX1_fits 57 = .ok (.getfield 87, 3) := dk_180 0 87 (dk_at dksX1_fits_2 9 rfl rfl)
theorem dX1_fits_60 : decode cX1_fits 60 = .ok (.iload_n 1, 1) := dk_27 (dk_at dksX1_fits_2 12 rfl rfl)
theorem dX1_fits_61 : decode cX1_fits 61 = .ok (.iaload, 1) := dk_46 (dk_at dksX1_fits_2 13 rfl rfl)
theorem dX1_fits_62 : decode cX1_fits 62 = .ok (.iconst 1, 1) := dk_4 (dk_at dksX1_fits_2 14 rfl rfl)
theorem dX1_fits_63 : decode cX1_fits 63 = .ok (.bastore, 1) := dk_84 (dk_at dksX1_fits_2 15 rfl rfl)
theorem dX1_fits_64 : decode cX1_fits 64 = .ok (.iinc 1 (-1), 3) := dk_132 1 255 (dk_at dksX1_fits_2 16 rfl rfl)
theorem dX1_fits_67 : decode cX1_fits 67 = .ok (.goto (-37), 3) := dk_167 255 219 (dk_at dksX1_fits_2 19 rfl rfl)
theorem dX1_fits_70 : decode cX1_fits 70 = .ok (.aload_n 0, 1) := dk_42 (dk_at dksX1_fits_2 22 rfl rfl)
theorem dX1_fits_71 : decode cX1_fits 71 = .ok (.getfield 22, 3) := dk_180 0 22 (dk_at dksX1_fits_3 0 rfl rfl)
theorem dX1_fits_74 : decode cX1_fits 74 = .ok (.getfield 410, 3) := dk_180 1 154 (dk_at dksX1_fits_3 3 rfl rfl)
theorem dX1_fits_77 : decode cX1_fits 77 = .ok (.invokevirtual 160, 3) := dk_182 0 160 (dk_at dksX1_fits_3 6 rfl rfl)
theorem dX1_fits_80 : decode cX1_fits 80 = .ok (.istore_n 1, 1) := dk_60 (dk_at dksX1_fits_3 9 rfl rfl)
theorem dX1_fits_81 : decode cX1_fits 81 = .ok (.aload_n 0, 1) := dk_42 (dk_at dksX1_fits_3 10 rfl rfl)
theorem dX1_fits_82 : decode cX1_fits 82 = .ok (.aload_n 0, 1) := dk_42 (dk_at dksX1_fits_3 11 rfl rfl)
theorem dX1_fits_83 : decode cX1_fits 83 = .ok (.getfield 22, 3) := dk_180 0 22 (dk_at dksX1_fits_3 12 rfl rfl)
theorem dX1_fits_86 : decode cX1_fits 86 = .ok (.getfield 131, 3) := dk_180 0 131 (dk_at dksX1_fits_3 15 rfl rfl)
theorem dX1_fits_89 : decode cX1_fits 89 = .ok (.invokevirtual 413, 3) := dk_182 1 157 (dk_at dksX1_fits_3 18 rfl rfl)
theorem dX1_fits_92 : decode cX1_fits 92 = .ok (.ifCond .eq 9, 3) := dk_153 0 9 (dk_at dksX1_fits_3 21 rfl rfl)
theorem dX1_fits_95 : decode cX1_fits 95 = .ok (.iconst 1, 1) := dk_4 (dk_at dksX1_fits_4 0 rfl rfl)
theorem dX1_fits_96 : decode cX1_fits 96 = .ok (.iload_n 1, 1) := dk_27 (dk_at dksX1_fits_4 1 rfl rfl)
theorem dX1_fits_97 : decode cX1_fits 97 = .ok (.ishl, 1) := dk_120 (dk_at dksX1_fits_4 2 rfl rfl)
theorem dX1_fits_98 : decode cX1_fits 98 = .ok (.goto 4, 3) := dk_167 0 4 (dk_at dksX1_fits_4 3 rfl rfl)
theorem dX1_fits_101 : decode cX1_fits 101 = .ok (.iconst 0, 1) := dk_3 (dk_at dksX1_fits_4 6 rfl rfl)
theorem dX1_fits_102 : decode cX1_fits 102 = .ok (.istore_n 2, 1) := dk_61 (dk_at dksX1_fits_4 7 rfl rfl)
theorem dX1_fits_103 : decode cX1_fits 103 = .ok (.iconst 0, 1) := dk_3 (dk_at dksX1_fits_4 8 rfl rfl)
theorem dX1_fits_104 : decode cX1_fits 104 = .ok (.istore_n 3, 1) := dk_62 (dk_at dksX1_fits_4 9 rfl rfl)
theorem dX1_fits_105 : decode cX1_fits 105 = .ok (.iload_n 3, 1) := dk_29 (dk_at dksX1_fits_4 10 rfl rfl)
theorem dX1_fits_106 : decode cX1_fits 106 = .ok (.iload_n 1, 1) := dk_27 (dk_at dksX1_fits_4 11 rfl rfl)
theorem dX1_fits_107 : decode cX1_fits 107 = .ok (.if_icmp .ge 43, 3) := dk_162 0 43 (dk_at dksX1_fits_4 12 rfl rfl)
theorem dX1_fits_110 : decode cX1_fits 110 = .ok (.iload_n 2, 1) := dk_28 (dk_at dksX1_fits_4 15 rfl rfl)
theorem dX1_fits_111 : decode cX1_fits 111 = .ok (.aload_n 0, 1) := dk_42 (dk_at dksX1_fits_4 16 rfl rfl)
theorem dX1_fits_112 : decode cX1_fits 112 = .ok (.aload_n 0, 1) := dk_42 (dk_at dksX1_fits_4 17 rfl rfl)
theorem dX1_fits_113 : decode cX1_fits 113 = .ok (.getfield 22, 3) := dk_180 0 22 (dk_at dksX1_fits_4 18 rfl rfl)
theorem dX1_fits_116 : decode cX1_fits 116 = .ok (.getfield 410, 3) := dk_180 1 154 (dk_at dksX1_fits_4 21 rfl rfl)
theorem dX1_fits_119 : decode cX1_fits 119 = .ok (.iload_n 3, 1) := dk_29 (dk_at dksX1_fits_5 0 rfl rfl)
theorem dX1_fits_120 : decode cX1_fits 120 = .ok (.invokevirtual 171, 3) := dk_182 0 171 (dk_at dksX1_fits_5 1 rfl rfl)
theorem dX1_fits_123 : decode cX1_fits 123 = .ok (.checkcast 417, 3) := dk_192 1 161 (dk_at dksX1_fits_5 4 rfl rfl)
theorem dX1_fits_126 : decode cX1_fits 126 = .ok (.getfield 419, 3) := dk_180 1 163 (dk_at dksX1_fits_5 7 rfl rfl)
theorem dX1_fits_129 : decode cX1_fits 129 = .ok (.invokevirtual 413, 3) := dk_182 1 157 (dk_at dksX1_fits_5 10 rfl rfl)
theorem dX1_fits_132 : decode cX1_fits 132 = .ok (.ifCond .eq 9, 3) := dk_153 0 9 (dk_at dksX1_fits_5 13 rfl rfl)
theorem dX1_fits_135 : decode cX1_fits 135 = .ok (.iconst 1, 1) := dk_4 (dk_at dksX1_fits_5 16 rfl rfl)
theorem dX1_fits_136 : decode cX1_fits 136 = .ok (.iload_n 3, 1) := dk_29 (dk_at dksX1_fits_5 17 rfl rfl)
theorem dX1_fits_137 : decode cX1_fits 137 = .ok (.ishl, 1) := dk_120 (dk_at dksX1_fits_5 18 rfl rfl)
theorem dX1_fits_138 : decode cX1_fits 138 = .ok (.goto 4, 3) := dk_167 0 4 (dk_at dksX1_fits_5 19 rfl rfl)
theorem dX1_fits_141 : decode cX1_fits 141 = .ok (.iconst 0, 1) := dk_3 (dk_at dksX1_fits_5 22 rfl rfl)
theorem dX1_fits_142 : decode cX1_fits 142 = .ok (.ior, 1) := dk_128 (dk_at dksX1_fits_5 23 rfl rfl)
theorem dX1_fits_143 : decode cX1_fits 143 = .ok (.istore_n 2, 1) := dk_61 (dk_at dksX1_fits_6 0 rfl rfl)
theorem dX1_fits_144 : decode cX1_fits 144 = .ok (.iinc 3 1, 3) := dk_132 3 1 (dk_at dksX1_fits_6 1 rfl rfl)
theorem dX1_fits_147 : decode cX1_fits 147 = .ok (.goto (-42), 3) := dk_167 255 214 (dk_at dksX1_fits_6 4 rfl rfl)
theorem dX1_fits_150 : decode cX1_fits 150 = .ok (.iload_n 2, 1) := dk_28 (dk_at dksX1_fits_6 7 rfl rfl)
theorem dX1_fits_151 : decode cX1_fits 151 = .ok (.ireturn, 1) := dk_172 (dk_at dksX1_fits_6 8 rfl rfl)
abbrev cX1_knownBy : ByteArray := prog_1_method_59_code
def yX1_knownBy : MethodName := ⟨RX1, "knownBy", "()I"⟩
def dkwX1_knownBy_0 : List UInt8 := [42, 180, 0, 93, 156, 0, 10, 42, 180, 0, 136, 167, 0, 7, 42, 180, 0, 93, 172]
abbrev dktX1_knownBy_0 : List UInt8 := dkwX1_knownBy_0 ++ []
theorem dksX1_knownBy_0 : cX1_knownBy.data.toList.drop 0 = dktX1_knownBy_0 := by decide +kernel
theorem dX1_knownBy_0 : decode cX1_knownBy 0 = .ok (.aload_n 0, 1) := dk_42 (dk_at dksX1_knownBy_0 0 rfl rfl)
theorem dX1_knownBy_1 : decode cX1_knownBy 1 = .ok (.getfield 93, 3) := dk_180 0 93 (dk_at dksX1_knownBy_0 1 rfl rfl)
theorem dX1_knownBy_4 : decode cX1_knownBy 4 = .ok (.ifCond .ge 10, 3) := dk_156 0 10 (dk_at dksX1_knownBy_0 4 rfl rfl)
theorem dX1_knownBy_7 : decode cX1_knownBy 7 = .ok (.aload_n 0, 1) := dk_42 (dk_at dksX1_knownBy_0 7 rfl rfl)
theorem dX1_knownBy_8 : decode cX1_knownBy 8 = .ok (.getfield 136, 3) := dk_180 0 136 (dk_at dksX1_knownBy_0 8 rfl rfl)
theorem dX1_knownBy_11 : decode cX1_knownBy 11 = .ok (.goto 7, 3) := dk_167 0 7 (dk_at dksX1_knownBy_0 11 rfl rfl)
theorem dX1_knownBy_14 : decode cX1_knownBy 14 = .ok (.aload_n 0, 1) := dk_42 (dk_at dksX1_knownBy_0 14 rfl rfl)
theorem dX1_knownBy_15 : decode cX1_knownBy 15 = .ok (.getfield 93, 3) := dk_180 0 93 (dk_at dksX1_knownBy_0 15 rfl rfl)
theorem dX1_knownBy_18 : decode cX1_knownBy 18 = .ok (.ireturn, 1) := dk_172 (dk_at dksX1_knownBy_0 18 rfl rfl)
abbrev cX1_isFit : ByteArray := prog_1_method_60_code
def yX1_isFit : MethodName := ⟨RX1, "isFit", "(LMinistryDesks$Node;)Z"⟩
def dkwX1_isFit_3 : List UInt8 := [46, 159, 0, 5, 3, 172, 132, 2, 1, 167, 255, 202, 4, 172]
abbrev dktX1_isFit_3 : List UInt8 := dkwX1_isFit_3 ++ []
def dkwX1_isFit_2 : List UInt8 := [28, 46, 155, 0, 28, 42, 180, 0, 52, 180, 0, 250, 42, 180, 0, 84, 28, 46, 46, 42, 180, 0, 87, 28]
abbrev dktX1_isFit_2 : List UInt8 := dkwX1_isFit_2 ++ dktX1_isFit_3
def dkwX1_isFit_1 : List UInt8 := [87, 3, 61, 28, 42, 182, 1, 151, 162, 0, 52, 42, 180, 0, 90, 28, 51, 154, 0, 37, 42, 180, 0, 84]
abbrev dktX1_isFit_1 : List UInt8 := dkwX1_isFit_1 ++ dktX1_isFit_2
def dkwX1_isFit_0 : List UInt8 := [42, 180, 0, 52, 42, 180, 0, 40, 43, 182, 1, 147, 182, 0, 96, 42, 180, 0, 52, 16, 61, 182, 0, 237]
abbrev dktX1_isFit_0 : List UInt8 := dkwX1_isFit_0 ++ dktX1_isFit_1
theorem dksX1_isFit_0 : cX1_isFit.data.toList.drop 0 = dktX1_isFit_0 := by decide +kernel
theorem dksX1_isFit_1 : cX1_isFit.data.toList.drop 24 = dktX1_isFit_1 := dk_seg dksX1_isFit_0 24 rfl rfl
theorem dksX1_isFit_2 : cX1_isFit.data.toList.drop 48 = dktX1_isFit_2 := dk_seg dksX1_isFit_1 24 rfl rfl
theorem dksX1_isFit_3 : cX1_isFit.data.toList.drop 72 = dktX1_isFit_3 := dk_seg dksX1_isFit_2 24 rfl rfl
theorem dX1_isFit_0 : decode cX1_isFit 0 = .ok (.aload_n 0, 1) := dk_42 (dk_at dksX1_isFit_0 0 rfl rfl)
theorem dX1_isFit_1 : decode cX1_isFit 1 = .ok (.getfield 52, 3) := dk_180 0 52 (dk_at dksX1_isFit_0 1 rfl rfl)
theorem dX1_isFit_4 : decode cX1_isFit 4 = .ok (.aload_n 0, 1) := dk_42 (dk_at dksX1_isFit_0 4 rfl rfl)
theorem dX1_isFit_5 : decode cX1_isFit 5 = .ok (.getfield 40, 3) := dk_180 0 40 (dk_at dksX1_isFit_0 5 rfl rfl)
theorem dX1_isFit_8 : decode cX1_isFit 8 = .ok (.aload_n 1, 1) := dk_43 (dk_at dksX1_isFit_0 8 rfl rfl)
theorem dX1_isFit_9 : decode cX1_isFit 9 = .ok (.invokevirtual 403, 3) := dk_182 1 147 (dk_at dksX1_isFit_0 9 rfl rfl)
theorem dX1_isFit_12 : decode cX1_isFit 12 = .ok (.invokevirtual 96, 3) := dk_182 0 96 (dk_at dksX1_isFit_0 12 rfl rfl)
theorem dX1_isFit_15 : decode cX1_isFit 15 = .ok (.aload_n 0, 1) := dk_42 (dk_at dksX1_isFit_0 15 rfl rfl)
theorem dX1_isFit_16 : decode cX1_isFit 16 = .ok (.getfield 52, 3) := dk_180 0 52 (dk_at dksX1_isFit_0 16 rfl rfl)
theorem dX1_isFit_19 : decode cX1_isFit 19 = .ok (.bipush 61, 2) := dk_16 61 (dk_at dksX1_isFit_0 19 rfl rfl)
theorem dX1_isFit_21 : decode cX1_isFit 21 = .ok (.invokevirtual 237, 3) := dk_182 0 237 (dk_at dksX1_isFit_0 21 rfl rfl)
theorem dX1_isFit_24 : decode cX1_isFit 24 = .ok (.pop, 1) := dk_87 (dk_at dksX1_isFit_1 0 rfl rfl)
theorem dX1_isFit_25 : decode cX1_isFit 25 = .ok (.iconst 0, 1) := dk_3 (dk_at dksX1_isFit_1 1 rfl rfl)
theorem dX1_isFit_26 : decode cX1_isFit 26 = .ok (.istore_n 2, 1) := dk_61 (dk_at dksX1_isFit_1 2 rfl rfl)
theorem dX1_isFit_27 : decode cX1_isFit 27 = .ok (.iload_n 2, 1) := dk_28 (dk_at dksX1_isFit_1 3 rfl rfl)
theorem dX1_isFit_28 : decode cX1_isFit 28 = .ok (.aload_n 0, 1) := dk_42 (dk_at dksX1_isFit_1 4 rfl rfl)
theorem dX1_isFit_29 : decode cX1_isFit 29 = .ok (.invokevirtual 407, 3) := dk_182 1 151 (dk_at dksX1_isFit_1 5 rfl rfl)
theorem dX1_isFit_32 : decode cX1_isFit 32 = .ok (.if_icmp .ge 52, 3) := dk_162 0 52 (dk_at dksX1_isFit_1 8 rfl rfl)
theorem dX1_isFit_35 : decode cX1_isFit 35 = .ok (.aload_n 0, 1) := dk_42 (dk_at dksX1_isFit_1 11 rfl rfl)
theorem dX1_isFit_36 : decode cX1_isFit 36 = .ok (.getfield 90, 3) := dk_180 0 90 (dk_at dksX1_isFit_1 12 rfl rfl)
theorem dX1_isFit_39 : decode cX1_isFit 39 = .ok (.iload_n 2, 1) := dk_28 (dk_at dksX1_isFit_1 15 rfl rfl)
theorem dX1_isFit_40 : decode cX1_isFit 40 = .ok (.baload, 1) := dk_51 (dk_at dksX1_isFit_1 16 rfl rfl)
theorem dX1_isFit_41 : decode cX1_isFit 41 = .ok (.ifCond .ne 37, 3) := dk_154 0 37 (dk_at dksX1_isFit_1 17 rfl rfl)
theorem dX1_isFit_44 : decode cX1_isFit 44 = .ok (.aload_n 0, 1) := dk_42 (dk_at dksX1_isFit_1 20 rfl rfl)
theorem dX1_isFit_45 : decode cX1_isFit 45 = .ok (.getfield 84, 3) := dk_180 0 84 (dk_at dksX1_isFit_1 21 rfl rfl)
theorem dX1_isFit_48 : decode cX1_isFit 48 = .ok (.iload_n 2, 1) := dk_28 (dk_at dksX1_isFit_2 0 rfl rfl)
theorem dX1_isFit_49 : decode cX1_isFit 49 = .ok (.iaload, 1) := dk_46 (dk_at dksX1_isFit_2 1 rfl rfl)
theorem dX1_isFit_50 : decode cX1_isFit 50 = .ok (.ifCond .lt 28, 3) := dk_155 0 28 (dk_at dksX1_isFit_2 2 rfl rfl)
theorem dX1_isFit_53 : decode cX1_isFit 53 = .ok (.aload_n 0, 1) := dk_42 (dk_at dksX1_isFit_2 5 rfl rfl)
theorem dX1_isFit_54 : decode cX1_isFit 54 = .ok (.getfield 52, 3) := dk_180 0 52 (dk_at dksX1_isFit_2 6 rfl rfl)
theorem dX1_isFit_57 : decode cX1_isFit 57 = .ok (.getfield 250, 3) := dk_180 0 250 (dk_at dksX1_isFit_2 9 rfl rfl)
theorem dX1_isFit_60 : decode cX1_isFit 60 = .ok (.aload_n 0, 1) := dk_42 (dk_at dksX1_isFit_2 12 rfl rfl)
theorem dX1_isFit_61 : decode cX1_isFit 61 = .ok (.getfield 84, 3) := dk_180 0 84 (dk_at dksX1_isFit_2 13 rfl rfl)
theorem dX1_isFit_64 : decode cX1_isFit 64 = .ok (.iload_n 2, 1) := dk_28 (dk_at dksX1_isFit_2 16 rfl rfl)
theorem dX1_isFit_65 : decode cX1_isFit 65 = .ok (.iaload, 1) := dk_46 (dk_at dksX1_isFit_2 17 rfl rfl)
theorem dX1_isFit_66 : decode cX1_isFit 66 = .ok (.iaload, 1) := dk_46 (dk_at dksX1_isFit_2 18 rfl rfl)
theorem dX1_isFit_67 : decode cX1_isFit 67 = .ok (.aload_n 0, 1) := dk_42 (dk_at dksX1_isFit_2 19 rfl rfl)
theorem dX1_isFit_68 : decode cX1_isFit 68 = .ok (.getfield 87, 3) := dk_180 0 87 (dk_at dksX1_isFit_2 20 rfl rfl)
theorem dX1_isFit_71 : decode cX1_isFit 71 = .ok (.iload_n 2, 1) := dk_28 (dk_at dksX1_isFit_2 23 rfl rfl)
theorem dX1_isFit_72 : decode cX1_isFit 72 = .ok (.iaload, 1) := dk_46 (dk_at dksX1_isFit_3 0 rfl rfl)
theorem dX1_isFit_73 : decode cX1_isFit 73 = .ok (.if_icmp .eq 5, 3) := dk_159 0 5 (dk_at dksX1_isFit_3 1 rfl rfl)
theorem dX1_isFit_76 : decode cX1_isFit 76 = .ok (.iconst 0, 1) := dk_3 (dk_at dksX1_isFit_3 4 rfl rfl)
theorem dX1_isFit_77 : decode cX1_isFit 77 = .ok (.ireturn, 1) := dk_172 (dk_at dksX1_isFit_3 5 rfl rfl)
theorem dX1_isFit_78 : decode cX1_isFit 78 = .ok (.iinc 2 1, 3) := dk_132 2 1 (dk_at dksX1_isFit_3 6 rfl rfl)
theorem dX1_isFit_81 : decode cX1_isFit 81 = .ok (.goto (-54), 3) := dk_167 255 202 (dk_at dksX1_isFit_3 9 rfl rfl)
theorem dX1_isFit_84 : decode cX1_isFit 84 = .ok (.iconst 1, 1) := dk_4 (dk_at dksX1_isFit_3 12 rfl rfl)
theorem dX1_isFit_85 : decode cX1_isFit 85 = .ok (.ireturn, 1) := dk_172 (dk_at dksX1_isFit_3 13 rfl rfl)
abbrev cX1_tried : ByteArray := prog_1_method_63_code
def yX1_tried : MethodName := ⟨RX1, "tried", "(III)I"⟩
def dkwX1_tried_2 : List UInt8 := [46, 172]
abbrev dktX1_tried_2 : List UInt8 := dkwX1_tried_2 ++ []
def dkwX1_tried_1 : List UInt8 := [180, 0, 40, 182, 0, 96, 42, 180, 0, 52, 42, 180, 0, 48, 180, 0, 234, 182, 0, 237, 180, 0, 211, 29]
abbrev dktX1_tried_1 : List UInt8 := dkwX1_tried_1 ++ dktX1_tried_2
def dkwX1_tried_0 : List UInt8 := [42, 29, 182, 0, 198, 153, 0, 12, 42, 27, 28, 182, 1, 184, 154, 0, 5, 2, 172, 42, 180, 0, 52, 42]
abbrev dktX1_tried_0 : List UInt8 := dkwX1_tried_0 ++ dktX1_tried_1
theorem dksX1_tried_0 : cX1_tried.data.toList.drop 0 = dktX1_tried_0 := by decide +kernel
theorem dksX1_tried_1 : cX1_tried.data.toList.drop 24 = dktX1_tried_1 := dk_seg dksX1_tried_0 24 rfl rfl
theorem dksX1_tried_2 : cX1_tried.data.toList.drop 48 = dktX1_tried_2 := dk_seg dksX1_tried_1 24 rfl rfl
theorem dX1_tried_0 : decode cX1_tried 0 = .ok (.aload_n 0, 1) := dk_42 (dk_at dksX1_tried_0 0 rfl rfl)
theorem dX1_tried_1 : decode cX1_tried 1 = .ok (.iload_n 3, 1) := dk_29 (dk_at dksX1_tried_0 1 rfl rfl)
theorem dX1_tried_2 : decode cX1_tried 2 = .ok (.invokevirtual 198, 3) := dk_182 0 198 (dk_at dksX1_tried_0 2 rfl rfl)
theorem dX1_tried_5 : decode cX1_tried 5 = .ok (.ifCond .eq 12, 3) := dk_153 0 12 (dk_at dksX1_tried_0 5 rfl rfl)
theorem dX1_tried_8 : decode cX1_tried 8 = .ok (.aload_n 0, 1) := dk_42 (dk_at dksX1_tried_0 8 rfl rfl)
theorem dX1_tried_9 : decode cX1_tried 9 = .ok (.iload_n 1, 1) := dk_27 (dk_at dksX1_tried_0 9 rfl rfl)
theorem dX1_tried_10 : decode cX1_tried 10 = .ok (.iload_n 2, 1) := dk_28 (dk_at dksX1_tried_0 10 rfl rfl)
theorem dX1_tried_11 : decode cX1_tried 11 = .ok (.invokevirtual 440, 3) := dk_182 1 184 (dk_at dksX1_tried_0 11 rfl rfl)
theorem dX1_tried_14 : decode cX1_tried 14 = .ok (.ifCond .ne 5, 3) := dk_154 0 5 (dk_at dksX1_tried_0 14 rfl rfl)
theorem dX1_tried_17 : decode cX1_tried 17 = .ok (.iconst (-1), 1) := dk_2 (dk_at dksX1_tried_0 17 rfl rfl)
theorem dX1_tried_18 : decode cX1_tried 18 = .ok (.ireturn, 1) := dk_172 (dk_at dksX1_tried_0 18 rfl rfl)
theorem dX1_tried_19 : decode cX1_tried 19 = .ok (.aload_n 0, 1) := dk_42 (dk_at dksX1_tried_0 19 rfl rfl)
theorem dX1_tried_20 : decode cX1_tried 20 = .ok (.getfield 52, 3) := dk_180 0 52 (dk_at dksX1_tried_0 20 rfl rfl)
theorem dX1_tried_23 : decode cX1_tried 23 = .ok (.aload_n 0, 1) := dk_42 (dk_at dksX1_tried_0 23 rfl rfl)
theorem dX1_tried_24 : decode cX1_tried 24 = .ok (.getfield 40, 3) := dk_180 0 40 (dk_at dksX1_tried_1 0 rfl rfl)
theorem dX1_tried_27 : decode cX1_tried 27 = .ok (.invokevirtual 96, 3) := dk_182 0 96 (dk_at dksX1_tried_1 3 rfl rfl)
theorem dX1_tried_30 : decode cX1_tried 30 = .ok (.aload_n 0, 1) := dk_42 (dk_at dksX1_tried_1 6 rfl rfl)
theorem dX1_tried_31 : decode cX1_tried 31 = .ok (.getfield 52, 3) := dk_180 0 52 (dk_at dksX1_tried_1 7 rfl rfl)
theorem dX1_tried_34 : decode cX1_tried 34 = .ok (.aload_n 0, 1) := dk_42 (dk_at dksX1_tried_1 10 rfl rfl)
theorem dX1_tried_35 : decode cX1_tried 35 = .ok (.getfield 48, 3) := dk_180 0 48 (dk_at dksX1_tried_1 11 rfl rfl)
theorem dX1_tried_38 : decode cX1_tried 38 = .ok (.getfield 234, 3) := dk_180 0 234 (dk_at dksX1_tried_1 14 rfl rfl)
theorem dX1_tried_41 : decode cX1_tried 41 = .ok (.invokevirtual 237, 3) := dk_182 0 237 (dk_at dksX1_tried_1 17 rfl rfl)
theorem dX1_tried_44 : decode cX1_tried 44 = .ok (.getfield 211, 3) := dk_180 0 211 (dk_at dksX1_tried_1 20 rfl rfl)
theorem dX1_tried_47 : decode cX1_tried 47 = .ok (.iload_n 3, 1) := dk_29 (dk_at dksX1_tried_1 23 rfl rfl)
theorem dX1_tried_48 : decode cX1_tried 48 = .ok (.iaload, 1) := dk_46 (dk_at dksX1_tried_2 0 rfl rfl)
theorem dX1_tried_49 : decode cX1_tried 49 = .ok (.ireturn, 1) := dk_172 (dk_at dksX1_tried_2 1 rfl rfl)
abbrev cX1_lays : ByteArray := prog_1_method_62_code
def yX1_lays : MethodName := ⟨RX1, "lays", "(II)Z"⟩
def dkwX1_lays_6 : List UInt8 := [181, 1, 181, 28, 3, 42, 180, 0, 22, 180, 1, 0, 182, 0, 160, 4, 100, 184, 0, 107, 172, 3, 172]
abbrev dktX1_lays_6 : List UInt8 := dkwX1_lays_6 ++ []
def dkwX1_lays_5 : List UInt8 := [167, 0, 4, 3, 172, 42, 180, 0, 40, 28, 181, 1, 178, 42, 28, 182, 0, 198, 172, 42, 180, 0, 40, 28]
abbrev dktX1_lays_5 : List UInt8 := dkwX1_lays_5 ++ dktX1_lays_6
def dkwX1_lays_4 : List UInt8 := [154, 0, 7, 4, 167, 0, 4, 3, 172, 42, 180, 0, 40, 4, 181, 1, 175, 28, 154, 0, 7, 4]
abbrev dktX1_lays_4 : List UInt8 := dkwX1_lays_4 ++ dktX1_lays_5
def dkwX1_lays_3 : List UInt8 := [181, 1, 169, 28, 154, 0, 7, 4, 167, 0, 4, 3, 172, 42, 180, 0, 40, 4, 181, 1, 172, 28]
abbrev dktX1_lays_3 : List UInt8 := dkwX1_lays_3 ++ dktX1_lays_4
def dkwX1_lays_2 : List UInt8 := [42, 180, 0, 40, 4, 181, 1, 166, 28, 154, 0, 7, 4, 167, 0, 4, 3, 172, 42, 180, 0, 40, 4]
abbrev dktX1_lays_2 : List UInt8 := dkwX1_lays_2 ++ dktX1_lays_3
def dkwX1_lays_1 : List UInt8 := [170, 0, 0, 0, 0, 0, 0, 152, 0, 0, 0, 0, 0, 0, 0, 5, 0, 0, 0, 40, 0, 0, 0, 58, 0, 0, 0, 76, 0, 0, 0, 94, 0, 0, 0, 112, 0, 0, 0, 126]
abbrev dktX1_lays_1 : List UInt8 := dkwX1_lays_1 ++ dktX1_lays_2
def dkwX1_lays_0 : List UInt8 := [42, 180, 0, 40, 42, 180, 0, 22, 180, 0, 131, 182, 1, 147, 87, 27]
abbrev dktX1_lays_0 : List UInt8 := dkwX1_lays_0 ++ dktX1_lays_1
theorem dksX1_lays_0 : cX1_lays.data.toList.drop 0 = dktX1_lays_0 := by decide +kernel
theorem dksX1_lays_1 : cX1_lays.data.toList.drop 16 = dktX1_lays_1 := dk_seg dksX1_lays_0 16 rfl rfl
theorem dksX1_lays_2 : cX1_lays.data.toList.drop 56 = dktX1_lays_2 := dk_seg dksX1_lays_1 40 rfl rfl
theorem dksX1_lays_3 : cX1_lays.data.toList.drop 79 = dktX1_lays_3 := dk_seg dksX1_lays_2 23 rfl rfl
theorem dksX1_lays_4 : cX1_lays.data.toList.drop 101 = dktX1_lays_4 := dk_seg dksX1_lays_3 22 rfl rfl
theorem dksX1_lays_5 : cX1_lays.data.toList.drop 123 = dktX1_lays_5 := dk_seg dksX1_lays_4 22 rfl rfl
theorem dksX1_lays_6 : cX1_lays.data.toList.drop 147 = dktX1_lays_6 := dk_seg dksX1_lays_5 24 rfl rfl
theorem dX1_lays_0 : decode cX1_lays 0 = .ok (.aload_n 0, 1) := dk_42 (dk_at dksX1_lays_0 0 rfl rfl)
theorem dX1_lays_1 : decode cX1_lays 1 = .ok (.getfield 40, 3) := dk_180 0 40 (dk_at dksX1_lays_0 1 rfl rfl)
theorem dX1_lays_4 : decode cX1_lays 4 = .ok (.aload_n 0, 1) := dk_42 (dk_at dksX1_lays_0 4 rfl rfl)
theorem dX1_lays_5 : decode cX1_lays 5 = .ok (.getfield 22, 3) := dk_180 0 22 (dk_at dksX1_lays_0 5 rfl rfl)
theorem dX1_lays_8 : decode cX1_lays 8 = .ok (.getfield 131, 3) := dk_180 0 131 (dk_at dksX1_lays_0 8 rfl rfl)
theorem dX1_lays_11 : decode cX1_lays 11 = .ok (.invokevirtual 403, 3) := dk_182 1 147 (dk_at dksX1_lays_0 11 rfl rfl)
theorem dX1_lays_14 : decode cX1_lays 14 = .ok (.pop, 1) := dk_87 (dk_at dksX1_lays_0 14 rfl rfl)
theorem dX1_lays_15 : decode cX1_lays 15 = .ok (.iload_n 1, 1) := dk_27 (dk_at dksX1_lays_0 15 rfl rfl)
theorem dX1_lays_16 : decode cX1_lays 16 = .ok (.tableswitch 152 0 5 #[40, 58, 76, 94, 112, 126], 40) := by decide +kernel
theorem dX1_lays_56 : decode cX1_lays 56 = .ok (.aload_n 0, 1) := dk_42 (dk_at dksX1_lays_2 0 rfl rfl)
theorem dX1_lays_57 : decode cX1_lays 57 = .ok (.getfield 40, 3) := dk_180 0 40 (dk_at dksX1_lays_2 1 rfl rfl)
theorem dX1_lays_60 : decode cX1_lays 60 = .ok (.iconst 1, 1) := dk_4 (dk_at dksX1_lays_2 4 rfl rfl)
theorem dX1_lays_61 : decode cX1_lays 61 = .ok (.putfield 422, 3) := dk_181 1 166 (dk_at dksX1_lays_2 5 rfl rfl)
theorem dX1_lays_64 : decode cX1_lays 64 = .ok (.iload_n 2, 1) := dk_28 (dk_at dksX1_lays_2 8 rfl rfl)
theorem dX1_lays_65 : decode cX1_lays 65 = .ok (.ifCond .ne 7, 3) := dk_154 0 7 (dk_at dksX1_lays_2 9 rfl rfl)
theorem dX1_lays_68 : decode cX1_lays 68 = .ok (.iconst 1, 1) := dk_4 (dk_at dksX1_lays_2 12 rfl rfl)
theorem dX1_lays_69 : decode cX1_lays 69 = .ok (.goto 4, 3) := dk_167 0 4 (dk_at dksX1_lays_2 13 rfl rfl)
theorem dX1_lays_72 : decode cX1_lays 72 = .ok (.iconst 0, 1) := dk_3 (dk_at dksX1_lays_2 16 rfl rfl)
theorem dX1_lays_73 : decode cX1_lays 73 = .ok (.ireturn, 1) := dk_172 (dk_at dksX1_lays_2 17 rfl rfl)
theorem dX1_lays_74 : decode cX1_lays 74 = .ok (.aload_n 0, 1) := dk_42 (dk_at dksX1_lays_2 18 rfl rfl)
theorem dX1_lays_75 : decode cX1_lays 75 = .ok (.getfield 40, 3) := dk_180 0 40 (dk_at dksX1_lays_2 19 rfl rfl)
theorem dX1_lays_78 : decode cX1_lays 78 = .ok (.iconst 1, 1) := dk_4 (dk_at dksX1_lays_2 22 rfl rfl)
theorem dX1_lays_79 : decode cX1_lays 79 = .ok (.putfield 425, 3) := dk_181 1 169 (dk_at dksX1_lays_3 0 rfl rfl)
theorem dX1_lays_82 : decode cX1_lays 82 = .ok (.iload_n 2, 1) := dk_28 (dk_at dksX1_lays_3 3 rfl rfl)
theorem dX1_lays_83 : decode cX1_lays 83 = .ok (.ifCond .ne 7, 3) := dk_154 0 7 (dk_at dksX1_lays_3 4 rfl rfl)
theorem dX1_lays_86 : decode cX1_lays 86 = .ok (.iconst 1, 1) := dk_4 (dk_at dksX1_lays_3 7 rfl rfl)
theorem dX1_lays_87 : decode cX1_lays 87 = .ok (.goto 4, 3) := dk_167 0 4 (dk_at dksX1_lays_3 8 rfl rfl)
theorem dX1_lays_90 : decode cX1_lays 90 = .ok (.iconst 0, 1) := dk_3 (dk_at dksX1_lays_3 11 rfl rfl)
theorem dX1_lays_91 : decode cX1_lays 91 = .ok (.ireturn, 1) := dk_172 (dk_at dksX1_lays_3 12 rfl rfl)
theorem dX1_lays_92 : decode cX1_lays 92 = .ok (.aload_n 0, 1) := dk_42 (dk_at dksX1_lays_3 13 rfl rfl)
theorem dX1_lays_93 : decode cX1_lays 93 = .ok (.getfield 40, 3) := dk_180 0 40 (dk_at dksX1_lays_3 14 rfl rfl)
theorem dX1_lays_96 : decode cX1_lays 96 = .ok (.iconst 1, 1) := dk_4 (dk_at dksX1_lays_3 17 rfl rfl)
theorem dX1_lays_97 : decode cX1_lays 97 = .ok (.putfield 428, 3) := dk_181 1 172 (dk_at dksX1_lays_3 18 rfl rfl)
theorem dX1_lays_100 : decode cX1_lays 100 = .ok (.iload_n 2, 1) := dk_28 (dk_at dksX1_lays_3 21 rfl rfl)
theorem dX1_lays_101 : decode cX1_lays 101 = .ok (.ifCond .ne 7, 3) := dk_154 0 7 (dk_at dksX1_lays_4 0 rfl rfl)
theorem dX1_lays_104 : decode cX1_lays 104 = .ok (.iconst 1, 1) := dk_4 (dk_at dksX1_lays_4 3 rfl rfl)
theorem dX1_lays_105 : decode cX1_lays 105 = .ok (.goto 4, 3) := dk_167 0 4 (dk_at dksX1_lays_4 4 rfl rfl)
theorem dX1_lays_108 : decode cX1_lays 108 = .ok (.iconst 0, 1) := dk_3 (dk_at dksX1_lays_4 7 rfl rfl)
theorem dX1_lays_109 : decode cX1_lays 109 = .ok (.ireturn, 1) := dk_172 (dk_at dksX1_lays_4 8 rfl rfl)
theorem dX1_lays_110 : decode cX1_lays 110 = .ok (.aload_n 0, 1) := dk_42 (dk_at dksX1_lays_4 9 rfl rfl)
theorem dX1_lays_111 : decode cX1_lays 111 = .ok (.getfield 40, 3) := dk_180 0 40 (dk_at dksX1_lays_4 10 rfl rfl)
theorem dX1_lays_114 : decode cX1_lays 114 = .ok (.iconst 1, 1) := dk_4 (dk_at dksX1_lays_4 13 rfl rfl)
theorem dX1_lays_115 : decode cX1_lays 115 = .ok (.putfield 431, 3) := dk_181 1 175 (dk_at dksX1_lays_4 14 rfl rfl)
theorem dX1_lays_118 : decode cX1_lays 118 = .ok (.iload_n 2, 1) := dk_28 (dk_at dksX1_lays_4 17 rfl rfl)
theorem dX1_lays_119 : decode cX1_lays 119 = .ok (.ifCond .ne 7, 3) := dk_154 0 7 (dk_at dksX1_lays_4 18 rfl rfl)
theorem dX1_lays_122 : decode cX1_lays 122 = .ok (.iconst 1, 1) := dk_4 (dk_at dksX1_lays_4 21 rfl rfl)
theorem dX1_lays_123 : decode cX1_lays 123 = .ok (.goto 4, 3) := dk_167 0 4 (dk_at dksX1_lays_5 0 rfl rfl)
theorem dX1_lays_126 : decode cX1_lays 126 = .ok (.iconst 0, 1) := dk_3 (dk_at dksX1_lays_5 3 rfl rfl)
theorem dX1_lays_127 : decode cX1_lays 127 = .ok (.ireturn, 1) := dk_172 (dk_at dksX1_lays_5 4 rfl rfl)
theorem dX1_lays_128 : decode cX1_lays 128 = .ok (.aload_n 0, 1) := dk_42 (dk_at dksX1_lays_5 5 rfl rfl)
theorem dX1_lays_129 : decode cX1_lays 129 = .ok (.getfield 40, 3) := dk_180 0 40 (dk_at dksX1_lays_5 6 rfl rfl)
theorem dX1_lays_132 : decode cX1_lays 132 = .ok (.iload_n 2, 1) := dk_28 (dk_at dksX1_lays_5 9 rfl rfl)
theorem dX1_lays_133 : decode cX1_lays 133 = .ok (.putfield 434, 3) := dk_181 1 178 (dk_at dksX1_lays_5 10 rfl rfl)
theorem dX1_lays_136 : decode cX1_lays 136 = .ok (.aload_n 0, 1) := dk_42 (dk_at dksX1_lays_5 13 rfl rfl)
theorem dX1_lays_137 : decode cX1_lays 137 = .ok (.iload_n 2, 1) := dk_28 (dk_at dksX1_lays_5 14 rfl rfl)
theorem dX1_lays_138 : decode cX1_lays 138 = .ok (.invokevirtual 198, 3) := dk_182 0 198 (dk_at dksX1_lays_5 15 rfl rfl)
theorem dX1_lays_141 : decode cX1_lays 141 = .ok (.ireturn, 1) := dk_172 (dk_at dksX1_lays_5 18 rfl rfl)
theorem dX1_lays_142 : decode cX1_lays 142 = .ok (.aload_n 0, 1) := dk_42 (dk_at dksX1_lays_5 19 rfl rfl)
theorem dX1_lays_143 : decode cX1_lays 143 = .ok (.getfield 40, 3) := dk_180 0 40 (dk_at dksX1_lays_5 20 rfl rfl)
theorem dX1_lays_146 : decode cX1_lays 146 = .ok (.iload_n 2, 1) := dk_28 (dk_at dksX1_lays_5 23 rfl rfl)
theorem dX1_lays_147 : decode cX1_lays 147 = .ok (.putfield 437, 3) := dk_181 1 181 (dk_at dksX1_lays_6 0 rfl rfl)
theorem dX1_lays_150 : decode cX1_lays 150 = .ok (.iload_n 2, 1) := dk_28 (dk_at dksX1_lays_6 3 rfl rfl)
theorem dX1_lays_151 : decode cX1_lays 151 = .ok (.iconst 0, 1) := dk_3 (dk_at dksX1_lays_6 4 rfl rfl)
theorem dX1_lays_152 : decode cX1_lays 152 = .ok (.aload_n 0, 1) := dk_42 (dk_at dksX1_lays_6 5 rfl rfl)
theorem dX1_lays_153 : decode cX1_lays 153 = .ok (.getfield 22, 3) := dk_180 0 22 (dk_at dksX1_lays_6 6 rfl rfl)
theorem dX1_lays_156 : decode cX1_lays 156 = .ok (.getfield 256, 3) := dk_180 1 0 (dk_at dksX1_lays_6 9 rfl rfl)
theorem dX1_lays_159 : decode cX1_lays 159 = .ok (.invokevirtual 160, 3) := dk_182 0 160 (dk_at dksX1_lays_6 12 rfl rfl)
theorem dX1_lays_162 : decode cX1_lays 162 = .ok (.iconst 1, 1) := dk_4 (dk_at dksX1_lays_6 15 rfl rfl)
theorem dX1_lays_163 : decode cX1_lays 163 = .ok (.isub, 1) := dk_100 (dk_at dksX1_lays_6 16 rfl rfl)
theorem dX1_lays_164 : decode cX1_lays 164 = .ok (.invokestatic 107, 3) := dk_184 0 107 (dk_at dksX1_lays_6 17 rfl rfl)
theorem dX1_lays_167 : decode cX1_lays 167 = .ok (.ireturn, 1) := dk_172 (dk_at dksX1_lays_6 20 rfl rfl)
theorem dX1_lays_168 : decode cX1_lays 168 = .ok (.iconst 0, 1) := dk_3 (dk_at dksX1_lays_6 21 rfl rfl)
theorem dX1_lays_169 : decode cX1_lays 169 = .ok (.ireturn, 1) := dk_172 (dk_at dksX1_lays_6 22 rfl rfl)
abbrev cX1_keep : ByteArray := prog_1_method_64_code
def yX1_keep : MethodName := ⟨RX1, "keep", "()I"⟩
def dkwX1_keep_0 : List UInt8 := [42, 4, 181, 0, 139, 42, 180, 0, 55, 42, 180, 0, 48, 182, 1, 187, 42, 180, 0, 48, 180, 0, 234, 172]
abbrev dktX1_keep_0 : List UInt8 := dkwX1_keep_0 ++ []
theorem dksX1_keep_0 : cX1_keep.data.toList.drop 0 = dktX1_keep_0 := by decide +kernel
theorem dX1_keep_0 : decode cX1_keep 0 = .ok (.aload_n 0, 1) := dk_42 (dk_at dksX1_keep_0 0 rfl rfl)
theorem dX1_keep_1 : decode cX1_keep 1 = .ok (.iconst 1, 1) := dk_4 (dk_at dksX1_keep_0 1 rfl rfl)
theorem dX1_keep_2 : decode cX1_keep 2 = .ok (.putfield 139, 3) := dk_181 0 139 (dk_at dksX1_keep_0 2 rfl rfl)
theorem dX1_keep_5 : decode cX1_keep 5 = .ok (.aload_n 0, 1) := dk_42 (dk_at dksX1_keep_0 5 rfl rfl)
theorem dX1_keep_6 : decode cX1_keep 6 = .ok (.getfield 55, 3) := dk_180 0 55 (dk_at dksX1_keep_0 6 rfl rfl)
theorem dX1_keep_9 : decode cX1_keep 9 = .ok (.aload_n 0, 1) := dk_42 (dk_at dksX1_keep_0 9 rfl rfl)
theorem dX1_keep_10 : decode cX1_keep 10 = .ok (.getfield 48, 3) := dk_180 0 48 (dk_at dksX1_keep_0 10 rfl rfl)
theorem dX1_keep_13 : decode cX1_keep 13 = .ok (.invokevirtual 443, 3) := dk_182 1 187 (dk_at dksX1_keep_0 13 rfl rfl)
theorem dX1_keep_16 : decode cX1_keep 16 = .ok (.aload_n 0, 1) := dk_42 (dk_at dksX1_keep_0 16 rfl rfl)
theorem dX1_keep_17 : decode cX1_keep 17 = .ok (.getfield 48, 3) := dk_180 0 48 (dk_at dksX1_keep_0 17 rfl rfl)
theorem dX1_keep_20 : decode cX1_keep 20 = .ok (.getfield 234, 3) := dk_180 0 234 (dk_at dksX1_keep_0 20 rfl rfl)
theorem dX1_keep_23 : decode cX1_keep 23 = .ok (.ireturn, 1) := dk_172 (dk_at dksX1_keep_0 23 rfl rfl)
abbrev cX1_back : ByteArray := prog_1_method_65_code
def yX1_back : MethodName := ⟨RX1, "back", "()I"⟩
def dkwX1_back_1 : List UInt8 := [180, 0, 234, 172]
abbrev dktX1_back_1 : List UInt8 := dkwX1_back_1 ++ []
def dkwX1_back_0 : List UInt8 := [42, 180, 0, 139, 154, 0, 5, 2, 172, 42, 180, 0, 48, 42, 180, 0, 55, 182, 1, 187, 42, 180, 0, 48]
abbrev dktX1_back_0 : List UInt8 := dkwX1_back_0 ++ dktX1_back_1
theorem dksX1_back_0 : cX1_back.data.toList.drop 0 = dktX1_back_0 := by decide +kernel
theorem dksX1_back_1 : cX1_back.data.toList.drop 24 = dktX1_back_1 := dk_seg dksX1_back_0 24 rfl rfl
theorem dX1_back_0 : decode cX1_back 0 = .ok (.aload_n 0, 1) := dk_42 (dk_at dksX1_back_0 0 rfl rfl)
theorem dX1_back_1 : decode cX1_back 1 = .ok (.getfield 139, 3) := dk_180 0 139 (dk_at dksX1_back_0 1 rfl rfl)
theorem dX1_back_4 : decode cX1_back 4 = .ok (.ifCond .ne 5, 3) := dk_154 0 5 (dk_at dksX1_back_0 4 rfl rfl)
theorem dX1_back_7 : decode cX1_back 7 = .ok (.iconst (-1), 1) := dk_2 (dk_at dksX1_back_0 7 rfl rfl)
theorem dX1_back_8 : decode cX1_back 8 = .ok (.ireturn, 1) := dk_172 (dk_at dksX1_back_0 8 rfl rfl)
theorem dX1_back_9 : decode cX1_back 9 = .ok (.aload_n 0, 1) := dk_42 (dk_at dksX1_back_0 9 rfl rfl)
theorem dX1_back_10 : decode cX1_back 10 = .ok (.getfield 48, 3) := dk_180 0 48 (dk_at dksX1_back_0 10 rfl rfl)
theorem dX1_back_13 : decode cX1_back 13 = .ok (.aload_n 0, 1) := dk_42 (dk_at dksX1_back_0 13 rfl rfl)
theorem dX1_back_14 : decode cX1_back 14 = .ok (.getfield 55, 3) := dk_180 0 55 (dk_at dksX1_back_0 14 rfl rfl)
theorem dX1_back_17 : decode cX1_back 17 = .ok (.invokevirtual 443, 3) := dk_182 1 187 (dk_at dksX1_back_0 17 rfl rfl)
theorem dX1_back_20 : decode cX1_back 20 = .ok (.aload_n 0, 1) := dk_42 (dk_at dksX1_back_0 20 rfl rfl)
theorem dX1_back_21 : decode cX1_back 21 = .ok (.getfield 48, 3) := dk_180 0 48 (dk_at dksX1_back_0 21 rfl rfl)
theorem dX1_back_24 : decode cX1_back 24 = .ok (.getfield 234, 3) := dk_180 0 234 (dk_at dksX1_back_1 0 rfl rfl)
theorem dX1_back_27 : decode cX1_back 27 = .ok (.ireturn, 1) := dk_172 (dk_at dksX1_back_1 3 rfl rfl)
abbrev cX1_count : ByteArray := prog_1_method_66_code
def yX1_count : MethodName := ⟨RX1, "count", "(I)I"⟩
def dkwX1_count_6 : List UInt8 := [29, 46, 96, 61, 132, 3, 1, 167, 255, 233, 28, 172, 2, 172]
abbrev dktX1_count_6 : List UInt8 := dkwX1_count_6 ++ []
def dkwX1_count_5 : List UInt8 := [172, 42, 182, 1, 151, 172, 3, 62, 29, 42, 182, 0, 166, 162, 0, 21, 28, 42, 180, 0, 48, 180, 0, 211]
abbrev dktX1_count_5 : List UInt8 := dkwX1_count_5 ++ dktX1_count_6
def dkwX1_count_4 : List UInt8 := [182, 0, 160, 172, 42, 180, 0, 22, 180, 1, 191, 172, 42, 180, 0, 48, 180, 0, 234, 172, 42, 180, 0, 136]
abbrev dktX1_count_4 : List UInt8 := dkwX1_count_4 ++ dktX1_count_5
def dkwX1_count_3 : List UInt8 := [182, 0, 160, 172, 42, 180, 0, 22, 180, 0, 247, 182, 0, 160, 172, 42, 180, 0, 22, 180, 1, 154]
abbrev dktX1_count_3 : List UInt8 := dkwX1_count_3 ++ dktX1_count_4
def dkwX1_count_2 : List UInt8 := [42, 182, 0, 166, 172, 42, 180, 0, 22, 180, 0, 168, 182, 0, 160, 172, 42, 180, 0, 22, 180, 1, 0]
abbrev dktX1_count_2 : List UInt8 := dkwX1_count_2 ++ dktX1_count_3
def dkwX1_count_1 : List UInt8 := [170, 0, 0, 0, 158, 0, 0, 0, 0, 0, 0, 0, 9, 0, 0, 0, 53, 0, 0, 0, 58, 0, 0, 0, 69, 0, 0, 0, 80, 0, 0, 0, 91, 0, 0, 0, 102, 0, 0, 0, 110, 0, 0, 0, 118, 0, 0, 0, 123, 0, 0, 0, 128]
abbrev dktX1_count_1 : List UInt8 := dkwX1_count_1 ++ dktX1_count_2
def dkwX1_count_0 : List UInt8 := [3, 61, 27]
abbrev dktX1_count_0 : List UInt8 := dkwX1_count_0 ++ dktX1_count_1
theorem dksX1_count_0 : cX1_count.data.toList.drop 0 = dktX1_count_0 := by decide +kernel
theorem dksX1_count_1 : cX1_count.data.toList.drop 3 = dktX1_count_1 := dk_seg dksX1_count_0 3 rfl rfl
theorem dksX1_count_2 : cX1_count.data.toList.drop 56 = dktX1_count_2 := dk_seg dksX1_count_1 53 rfl rfl
theorem dksX1_count_3 : cX1_count.data.toList.drop 79 = dktX1_count_3 := dk_seg dksX1_count_2 23 rfl rfl
theorem dksX1_count_4 : cX1_count.data.toList.drop 101 = dktX1_count_4 := dk_seg dksX1_count_3 22 rfl rfl
theorem dksX1_count_5 : cX1_count.data.toList.drop 125 = dktX1_count_5 := dk_seg dksX1_count_4 24 rfl rfl
theorem dksX1_count_6 : cX1_count.data.toList.drop 149 = dktX1_count_6 := dk_seg dksX1_count_5 24 rfl rfl
theorem dX1_count_0 : decode cX1_count 0 = .ok (.iconst 0, 1) := dk_3 (dk_at dksX1_count_0 0 rfl rfl)
theorem dX1_count_1 : decode cX1_count 1 = .ok (.istore_n 2, 1) := dk_61 (dk_at dksX1_count_0 1 rfl rfl)
theorem dX1_count_2 : decode cX1_count 2 = .ok (.iload_n 1, 1) := dk_27 (dk_at dksX1_count_0 2 rfl rfl)
theorem dX1_count_3 : decode cX1_count 3 = .ok (.tableswitch 158 0 9 #[53, 58, 69, 80, 91, 102, 110, 118, 123, 128], 53) := by decide +kernel
theorem dX1_count_56 : decode cX1_count 56 = .ok (.aload_n 0, 1) := dk_42 (dk_at dksX1_count_2 0 rfl rfl)
theorem dX1_count_57 : decode cX1_count 57 = .ok (.invokevirtual 166, 3) := dk_182 0 166 (dk_at dksX1_count_2 1 rfl rfl)
theorem dX1_count_60 : decode cX1_count 60 = .ok (.ireturn, 1) := dk_172 (dk_at dksX1_count_2 4 rfl rfl)
theorem dX1_count_61 : decode cX1_count 61 = .ok (.aload_n 0, 1) := dk_42 (dk_at dksX1_count_2 5 rfl rfl)
theorem dX1_count_62 : decode cX1_count 62 = .ok (.getfield 22, 3) := dk_180 0 22 (dk_at dksX1_count_2 6 rfl rfl)
theorem dX1_count_65 : decode cX1_count 65 = .ok (.getfield 168, 3) := dk_180 0 168 (dk_at dksX1_count_2 9 rfl rfl)
theorem dX1_count_68 : decode cX1_count 68 = .ok (.invokevirtual 160, 3) := dk_182 0 160 (dk_at dksX1_count_2 12 rfl rfl)
theorem dX1_count_71 : decode cX1_count 71 = .ok (.ireturn, 1) := dk_172 (dk_at dksX1_count_2 15 rfl rfl)
theorem dX1_count_72 : decode cX1_count 72 = .ok (.aload_n 0, 1) := dk_42 (dk_at dksX1_count_2 16 rfl rfl)
theorem dX1_count_73 : decode cX1_count 73 = .ok (.getfield 22, 3) := dk_180 0 22 (dk_at dksX1_count_2 17 rfl rfl)
theorem dX1_count_76 : decode cX1_count 76 = .ok (.getfield 256, 3) := dk_180 1 0 (dk_at dksX1_count_2 20 rfl rfl)
theorem dX1_count_79 : decode cX1_count 79 = .ok (.invokevirtual 160, 3) := dk_182 0 160 (dk_at dksX1_count_3 0 rfl rfl)
theorem dX1_count_82 : decode cX1_count 82 = .ok (.ireturn, 1) := dk_172 (dk_at dksX1_count_3 3 rfl rfl)
theorem dX1_count_83 : decode cX1_count 83 = .ok (.aload_n 0, 1) := dk_42 (dk_at dksX1_count_3 4 rfl rfl)
theorem dX1_count_84 : decode cX1_count 84 = .ok (.getfield 22, 3) := dk_180 0 22 (dk_at dksX1_count_3 5 rfl rfl)
theorem dX1_count_87 : decode cX1_count 87 = .ok (.getfield 247, 3) := dk_180 0 247 (dk_at dksX1_count_3 8 rfl rfl)
theorem dX1_count_90 : decode cX1_count 90 = .ok (.invokevirtual 160, 3) := dk_182 0 160 (dk_at dksX1_count_3 11 rfl rfl)
theorem dX1_count_93 : decode cX1_count 93 = .ok (.ireturn, 1) := dk_172 (dk_at dksX1_count_3 14 rfl rfl)
theorem dX1_count_94 : decode cX1_count 94 = .ok (.aload_n 0, 1) := dk_42 (dk_at dksX1_count_3 15 rfl rfl)
theorem dX1_count_95 : decode cX1_count 95 = .ok (.getfield 22, 3) := dk_180 0 22 (dk_at dksX1_count_3 16 rfl rfl)
theorem dX1_count_98 : decode cX1_count 98 = .ok (.getfield 410, 3) := dk_180 1 154 (dk_at dksX1_count_3 19 rfl rfl)
theorem dX1_count_101 : decode cX1_count 101 = .ok (.invokevirtual 160, 3) := dk_182 0 160 (dk_at dksX1_count_4 0 rfl rfl)
theorem dX1_count_104 : decode cX1_count 104 = .ok (.ireturn, 1) := dk_172 (dk_at dksX1_count_4 3 rfl rfl)
theorem dX1_count_105 : decode cX1_count 105 = .ok (.aload_n 0, 1) := dk_42 (dk_at dksX1_count_4 4 rfl rfl)
theorem dX1_count_106 : decode cX1_count 106 = .ok (.getfield 22, 3) := dk_180 0 22 (dk_at dksX1_count_4 5 rfl rfl)
theorem dX1_count_109 : decode cX1_count 109 = .ok (.getfield 447, 3) := dk_180 1 191 (dk_at dksX1_count_4 8 rfl rfl)
theorem dX1_count_112 : decode cX1_count 112 = .ok (.ireturn, 1) := dk_172 (dk_at dksX1_count_4 11 rfl rfl)
theorem dX1_count_113 : decode cX1_count 113 = .ok (.aload_n 0, 1) := dk_42 (dk_at dksX1_count_4 12 rfl rfl)
theorem dX1_count_114 : decode cX1_count 114 = .ok (.getfield 48, 3) := dk_180 0 48 (dk_at dksX1_count_4 13 rfl rfl)
theorem dX1_count_117 : decode cX1_count 117 = .ok (.getfield 234, 3) := dk_180 0 234 (dk_at dksX1_count_4 16 rfl rfl)
theorem dX1_count_120 : decode cX1_count 120 = .ok (.ireturn, 1) := dk_172 (dk_at dksX1_count_4 19 rfl rfl)
theorem dX1_count_121 : decode cX1_count 121 = .ok (.aload_n 0, 1) := dk_42 (dk_at dksX1_count_4 20 rfl rfl)
theorem dX1_count_122 : decode cX1_count 122 = .ok (.getfield 136, 3) := dk_180 0 136 (dk_at dksX1_count_4 21 rfl rfl)
theorem dX1_count_125 : decode cX1_count 125 = .ok (.ireturn, 1) := dk_172 (dk_at dksX1_count_5 0 rfl rfl)
theorem dX1_count_126 : decode cX1_count 126 = .ok (.aload_n 0, 1) := dk_42 (dk_at dksX1_count_5 1 rfl rfl)
theorem dX1_count_127 : decode cX1_count 127 = .ok (.invokevirtual 407, 3) := dk_182 1 151 (dk_at dksX1_count_5 2 rfl rfl)
theorem dX1_count_130 : decode cX1_count 130 = .ok (.ireturn, 1) := dk_172 (dk_at dksX1_count_5 5 rfl rfl)
theorem dX1_count_131 : decode cX1_count 131 = .ok (.iconst 0, 1) := dk_3 (dk_at dksX1_count_5 6 rfl rfl)
theorem dX1_count_132 : decode cX1_count 132 = .ok (.istore_n 3, 1) := dk_62 (dk_at dksX1_count_5 7 rfl rfl)
theorem dX1_count_133 : decode cX1_count 133 = .ok (.iload_n 3, 1) := dk_29 (dk_at dksX1_count_5 8 rfl rfl)
theorem dX1_count_134 : decode cX1_count 134 = .ok (.aload_n 0, 1) := dk_42 (dk_at dksX1_count_5 9 rfl rfl)
theorem dX1_count_135 : decode cX1_count 135 = .ok (.invokevirtual 166, 3) := dk_182 0 166 (dk_at dksX1_count_5 10 rfl rfl)
theorem dX1_count_138 : decode cX1_count 138 = .ok (.if_icmp .ge 21, 3) := dk_162 0 21 (dk_at dksX1_count_5 13 rfl rfl)
theorem dX1_count_141 : decode cX1_count 141 = .ok (.iload_n 2, 1) := dk_28 (dk_at dksX1_count_5 16 rfl rfl)
theorem dX1_count_142 : decode cX1_count 142 = .ok (.aload_n 0, 1) := dk_42 (dk_at dksX1_count_5 17 rfl rfl)
theorem dX1_count_143 : decode cX1_count 143 = .ok (.getfield 48, 3) := dk_180 0 48 (dk_at dksX1_count_5 18 rfl rfl)
theorem dX1_count_146 : decode cX1_count 146 = .ok (.getfield 211, 3) := dk_180 0 211 (dk_at dksX1_count_5 21 rfl rfl)
theorem dX1_count_149 : decode cX1_count 149 = .ok (.iload_n 3, 1) := dk_29 (dk_at dksX1_count_6 0 rfl rfl)
theorem dX1_count_150 : decode cX1_count 150 = .ok (.iaload, 1) := dk_46 (dk_at dksX1_count_6 1 rfl rfl)
theorem dX1_count_151 : decode cX1_count 151 = .ok (.iadd, 1) := dk_96 (dk_at dksX1_count_6 2 rfl rfl)
theorem dX1_count_152 : decode cX1_count 152 = .ok (.istore_n 2, 1) := dk_61 (dk_at dksX1_count_6 3 rfl rfl)
theorem dX1_count_153 : decode cX1_count 153 = .ok (.iinc 3 1, 3) := dk_132 3 1 (dk_at dksX1_count_6 4 rfl rfl)
theorem dX1_count_156 : decode cX1_count 156 = .ok (.goto (-23), 3) := dk_167 255 233 (dk_at dksX1_count_6 7 rfl rfl)
theorem dX1_count_159 : decode cX1_count 159 = .ok (.iload_n 2, 1) := dk_28 (dk_at dksX1_count_6 10 rfl rfl)
theorem dX1_count_160 : decode cX1_count 160 = .ok (.ireturn, 1) := dk_172 (dk_at dksX1_count_6 11 rfl rfl)
theorem dX1_count_161 : decode cX1_count 161 = .ok (.iconst (-1), 1) := dk_2 (dk_at dksX1_count_6 12 rfl rfl)
theorem dX1_count_162 : decode cX1_count 162 = .ok (.ireturn, 1) := dk_172 (dk_at dksX1_count_6 13 rfl rfl)
abbrev cX1_look : ByteArray := prog_1_method_15_code
def yX1_look : MethodName := ⟨RX1, "look", "(II)I"⟩
def dkwX1_look_5 : List UInt8 := [27, 182, 0, 220, 172, 187, 0, 223, 89, 183, 0, 225, 191]
abbrev dktX1_look_5 : List UInt8 := dkwX1_look_5 ++ []
def dkwX1_look_4 : List UInt8 := [46, 172, 42, 180, 0, 22, 180, 0, 156, 27, 182, 0, 171, 192, 0, 205, 180, 0, 217, 172, 42, 180, 0, 48]
abbrev dktX1_look_4 : List UInt8 := dkwX1_look_4 ++ dktX1_look_5
def dkwX1_look_3 : List UInt8 := [180, 0, 208, 27, 46, 172, 42, 180, 0, 48, 180, 0, 211, 27, 46, 172, 42, 180, 0, 48, 180, 0, 214, 27]
abbrev dktX1_look_3 : List UInt8 := dkwX1_look_3 ++ dktX1_look_4
def dkwX1_look_2 : List UInt8 := [42, 180, 0, 22, 180, 0, 156, 27, 182, 0, 171, 192, 0, 205, 180, 0, 207, 172, 42, 180, 0, 48]
abbrev dktX1_look_2 : List UInt8 := dkwX1_look_2 ++ dktX1_look_3
def dkwX1_look_1 : List UInt8 := [170, 0, 0, 0, 0, 0, 114, 0, 0, 0, 0, 0, 0, 0, 5, 0, 0, 0, 39, 0, 0, 0, 57, 0, 0, 0, 67, 0, 0, 0, 77, 0, 0, 0, 87, 0, 0, 0, 105]
abbrev dktX1_look_1 : List UInt8 := dkwX1_look_1 ++ dktX1_look_2
def dkwX1_look_0 : List UInt8 := [42, 27, 182, 0, 198, 154, 0, 11, 187, 0, 202, 89, 183, 0, 204, 191, 28]
abbrev dktX1_look_0 : List UInt8 := dkwX1_look_0 ++ dktX1_look_1
theorem dksX1_look_0 : cX1_look.data.toList.drop 0 = dktX1_look_0 := by decide +kernel
theorem dksX1_look_1 : cX1_look.data.toList.drop 17 = dktX1_look_1 := dk_seg dksX1_look_0 17 rfl rfl
theorem dksX1_look_2 : cX1_look.data.toList.drop 56 = dktX1_look_2 := dk_seg dksX1_look_1 39 rfl rfl
theorem dksX1_look_3 : cX1_look.data.toList.drop 78 = dktX1_look_3 := dk_seg dksX1_look_2 22 rfl rfl
theorem dksX1_look_4 : cX1_look.data.toList.drop 102 = dktX1_look_4 := dk_seg dksX1_look_3 24 rfl rfl
theorem dksX1_look_5 : cX1_look.data.toList.drop 126 = dktX1_look_5 := dk_seg dksX1_look_4 24 rfl rfl
theorem dX1_look_0 : decode cX1_look 0 = .ok (.aload_n 0, 1) := dk_42 (dk_at dksX1_look_0 0 rfl rfl)
theorem dX1_look_1 : decode cX1_look 1 = .ok (.iload_n 1, 1) := dk_27 (dk_at dksX1_look_0 1 rfl rfl)
theorem dX1_look_2 : decode cX1_look 2 = .ok (.invokevirtual 198, 3) := dk_182 0 198 (dk_at dksX1_look_0 2 rfl rfl)
theorem dX1_look_5 : decode cX1_look 5 = .ok (.ifCond .ne 11, 3) := dk_154 0 11 (dk_at dksX1_look_0 5 rfl rfl)
theorem dX1_look_8 : decode cX1_look 8 = .ok (.new 202, 3) := dk_187 0 202 (dk_at dksX1_look_0 8 rfl rfl)
theorem dX1_look_11 : decode cX1_look 11 = .ok (.dup, 1) := dk_89 (dk_at dksX1_look_0 11 rfl rfl)
theorem dX1_look_12 : decode cX1_look 12 = .ok (.invokespecial 204, 3) := dk_183 0 204 (dk_at dksX1_look_0 12 rfl rfl)
theorem dX1_look_15 : decode cX1_look 15 = .ok (.athrow, 1) := dk_191 (dk_at dksX1_look_0 15 rfl rfl)
theorem dX1_look_16 : decode cX1_look 16 = .ok (.iload_n 2, 1) := dk_28 (dk_at dksX1_look_0 16 rfl rfl)
theorem dX1_look_17 : decode cX1_look 17 = .ok (.tableswitch 114 0 5 #[39, 57, 67, 77, 87, 105], 39) := by decide +kernel
theorem dX1_look_56 : decode cX1_look 56 = .ok (.aload_n 0, 1) := dk_42 (dk_at dksX1_look_2 0 rfl rfl)
theorem dX1_look_57 : decode cX1_look 57 = .ok (.getfield 22, 3) := dk_180 0 22 (dk_at dksX1_look_2 1 rfl rfl)
theorem dX1_look_60 : decode cX1_look 60 = .ok (.getfield 156, 3) := dk_180 0 156 (dk_at dksX1_look_2 4 rfl rfl)
theorem dX1_look_63 : decode cX1_look 63 = .ok (.iload_n 1, 1) := dk_27 (dk_at dksX1_look_2 7 rfl rfl)
theorem dX1_look_64 : decode cX1_look 64 = .ok (.invokevirtual 171, 3) := dk_182 0 171 (dk_at dksX1_look_2 8 rfl rfl)
theorem dX1_look_67 : decode cX1_look 67 = .ok (.checkcast 205, 3) := dk_192 0 205 (dk_at dksX1_look_2 11 rfl rfl)
theorem dX1_look_70 : decode cX1_look 70 = .ok (.getfield 207, 3) := dk_180 0 207 (dk_at dksX1_look_2 14 rfl rfl)
theorem dX1_look_73 : decode cX1_look 73 = .ok (.ireturn, 1) := dk_172 (dk_at dksX1_look_2 17 rfl rfl)
theorem dX1_look_74 : decode cX1_look 74 = .ok (.aload_n 0, 1) := dk_42 (dk_at dksX1_look_2 18 rfl rfl)
theorem dX1_look_75 : decode cX1_look 75 = .ok (.getfield 48, 3) := dk_180 0 48 (dk_at dksX1_look_2 19 rfl rfl)
theorem dX1_look_78 : decode cX1_look 78 = .ok (.getfield 208, 3) := dk_180 0 208 (dk_at dksX1_look_3 0 rfl rfl)
theorem dX1_look_81 : decode cX1_look 81 = .ok (.iload_n 1, 1) := dk_27 (dk_at dksX1_look_3 3 rfl rfl)
theorem dX1_look_82 : decode cX1_look 82 = .ok (.iaload, 1) := dk_46 (dk_at dksX1_look_3 4 rfl rfl)
theorem dX1_look_83 : decode cX1_look 83 = .ok (.ireturn, 1) := dk_172 (dk_at dksX1_look_3 5 rfl rfl)
theorem dX1_look_84 : decode cX1_look 84 = .ok (.aload_n 0, 1) := dk_42 (dk_at dksX1_look_3 6 rfl rfl)
theorem dX1_look_85 : decode cX1_look 85 = .ok (.getfield 48, 3) := dk_180 0 48 (dk_at dksX1_look_3 7 rfl rfl)
theorem dX1_look_88 : decode cX1_look 88 = .ok (.getfield 211, 3) := dk_180 0 211 (dk_at dksX1_look_3 10 rfl rfl)
theorem dX1_look_91 : decode cX1_look 91 = .ok (.iload_n 1, 1) := dk_27 (dk_at dksX1_look_3 13 rfl rfl)
theorem dX1_look_92 : decode cX1_look 92 = .ok (.iaload, 1) := dk_46 (dk_at dksX1_look_3 14 rfl rfl)
theorem dX1_look_93 : decode cX1_look 93 = .ok (.ireturn, 1) := dk_172 (dk_at dksX1_look_3 15 rfl rfl)
theorem dX1_look_94 : decode cX1_look 94 = .ok (.aload_n 0, 1) := dk_42 (dk_at dksX1_look_3 16 rfl rfl)
theorem dX1_look_95 : decode cX1_look 95 = .ok (.getfield 48, 3) := dk_180 0 48 (dk_at dksX1_look_3 17 rfl rfl)
theorem dX1_look_98 : decode cX1_look 98 = .ok (.getfield 214, 3) := dk_180 0 214 (dk_at dksX1_look_3 20 rfl rfl)
theorem dX1_look_101 : decode cX1_look 101 = .ok (.iload_n 1, 1) := dk_27 (dk_at dksX1_look_3 23 rfl rfl)
theorem dX1_look_102 : decode cX1_look 102 = .ok (.iaload, 1) := dk_46 (dk_at dksX1_look_4 0 rfl rfl)
theorem dX1_look_103 : decode cX1_look 103 = .ok (.ireturn, 1) := dk_172 (dk_at dksX1_look_4 1 rfl rfl)
theorem dX1_look_104 : decode cX1_look 104 = .ok (.aload_n 0, 1) := dk_42 (dk_at dksX1_look_4 2 rfl rfl)
theorem dX1_look_105 : decode cX1_look 105 = .ok (.getfield 22, 3) := dk_180 0 22 (dk_at dksX1_look_4 3 rfl rfl)
theorem dX1_look_108 : decode cX1_look 108 = .ok (.getfield 156, 3) := dk_180 0 156 (dk_at dksX1_look_4 6 rfl rfl)
theorem dX1_look_111 : decode cX1_look 111 = .ok (.iload_n 1, 1) := dk_27 (dk_at dksX1_look_4 9 rfl rfl)
theorem dX1_look_112 : decode cX1_look 112 = .ok (.invokevirtual 171, 3) := dk_182 0 171 (dk_at dksX1_look_4 10 rfl rfl)
theorem dX1_look_115 : decode cX1_look 115 = .ok (.checkcast 205, 3) := dk_192 0 205 (dk_at dksX1_look_4 13 rfl rfl)
theorem dX1_look_118 : decode cX1_look 118 = .ok (.getfield 217, 3) := dk_180 0 217 (dk_at dksX1_look_4 16 rfl rfl)
theorem dX1_look_121 : decode cX1_look 121 = .ok (.ireturn, 1) := dk_172 (dk_at dksX1_look_4 19 rfl rfl)
theorem dX1_look_122 : decode cX1_look 122 = .ok (.aload_n 0, 1) := dk_42 (dk_at dksX1_look_4 20 rfl rfl)
theorem dX1_look_123 : decode cX1_look 123 = .ok (.getfield 48, 3) := dk_180 0 48 (dk_at dksX1_look_4 21 rfl rfl)
theorem dX1_look_126 : decode cX1_look 126 = .ok (.iload_n 1, 1) := dk_27 (dk_at dksX1_look_5 0 rfl rfl)
theorem dX1_look_127 : decode cX1_look 127 = .ok (.invokevirtual 220, 3) := dk_182 0 220 (dk_at dksX1_look_5 1 rfl rfl)
theorem dX1_look_130 : decode cX1_look 130 = .ok (.ireturn, 1) := dk_172 (dk_at dksX1_look_5 4 rfl rfl)
theorem dX1_look_131 : decode cX1_look 131 = .ok (.new 223, 3) := dk_187 0 223 (dk_at dksX1_look_5 5 rfl rfl)
theorem dX1_look_134 : decode cX1_look 134 = .ok (.dup, 1) := dk_89 (dk_at dksX1_look_5 8 rfl rfl)
theorem dX1_look_135 : decode cX1_look 135 = .ok (.invokespecial 225, 3) := dk_183 0 225 (dk_at dksX1_look_5 9 rfl rfl)
theorem dX1_look_138 : decode cX1_look 138 = .ok (.athrow, 1) := dk_191 (dk_at dksX1_look_5 12 rfl rfl)
theorem q161 : (Jvm.Cond.initialized "MinistryDesks") ∈ lw_all := lw_g (lw_at lw_m1 1 rfl) rfl
theorem q204 : (Jvm.Cond.instantiable "MinistryDesks" (28 : Nat)) ∈ lw_all := lw_g (lw_at lw_m1 44 rfl) rfl
theorem q206 : (Jvm.Cond.instanceMethod ({ cls := "MinistryDesks", name := "<init>", desc := "()V" } : Jvm.MethodName)) ∈ lw_all := lw_g (lw_at lw_m1 46 rfl) rfl
theorem q207 : (Jvm.Cond.code ({ cls := "MinistryDesks", name := "<init>", desc := "()V" } : Jvm.MethodName) prog_1_method_1_code (1 : Nat) (Option.none : Option Jvm.ClassFile.FieldType)) ∈ lw_all := lw_g (lw_at lw_m1 47 rfl) rfl
theorem q208 : (Jvm.Cond.methodLink "MinistryDesks" (5 : Nat) ({ cls := "java/lang/Object", name := "<init>", desc := "()V" } : Jvm.MethodName)) ∈ lw_all := lw_g (lw_at lw_m1 48 rfl) rfl
theorem q211 : (Jvm.Cond.classLink "MinistryDesks" (19 : Nat) "MinistryDesks$House") ∈ lw_all := lw_g (lw_at lw_m1 51 rfl) rfl
theorem q213 : (Jvm.Cond.methodLinkNest "MinistryDesks" (21 : Nat) ({ cls := "MinistryDesks$House", name := "<init>", desc := "()V" } : Jvm.MethodName) "MinistryDesks") ∈ lw_tbl := lw_at lw_m1 53 rfl
theorem q246 : (Jvm.Cond.fieldLinkNest "MinistryDesks" (156 : Nat) "MinistryDesks$House" "desks" "Ljava/util/ArrayList;" "MinistryDesks") ∈ lw_tbl := lw_at lw_m1 86 rfl
theorem q249 : (Jvm.Cond.fieldLinkNest "MinistryDesks" (168 : Nat) "MinistryDesks$House" "facts" "Ljava/util/ArrayList;" "MinistryDesks") ∈ lw_tbl := lw_at lw_m1 89 rfl
theorem q253 : (Jvm.Cond.fieldLinkNest "MinistryDesks" (256 : Nat) "MinistryDesks$House" "comings" "Ljava/util/ArrayList;" "MinistryDesks") ∈ lw_tbl := lw_at lw_m1 93 rfl
theorem q257 : (Jvm.Cond.fieldLinkNest "MinistryDesks" (247 : Nat) "MinistryDesks$House" "questions" "Ljava/util/ArrayList;" "MinistryDesks") ∈ lw_tbl := lw_at lw_m1 97 rfl
theorem q264 : (Jvm.Cond.fieldLinkNest "MinistryDesks" (410 : Nat) "MinistryDesks$House" "mays" "Ljava/util/ArrayList;" "MinistryDesks") ∈ lw_tbl := lw_at lw_m1 104 rfl
theorem q265 : (Jvm.Cond.fieldLinkNest "MinistryDesks" (131 : Nat) "MinistryDesks$House" "keep" "LMinistryDesks$Node;" "MinistryDesks") ∈ lw_tbl := lw_at lw_m1 105 rfl
theorem q267 : (Jvm.Cond.fieldLinkNest "MinistryDesks" (189 : Nat) "MinistryDesks$House" "want" "LMinistryDesks$Node;" "MinistryDesks") ∈ lw_tbl := lw_at lw_m1 107 rfl
theorem q274 : (Jvm.Cond.fieldLinkNest "MinistryDesks" (447 : Nat) "MinistryDesks$House" "knots" "I" "MinistryDesks") ∈ lw_tbl := lw_at lw_m1 114 rfl
theorem q275 : (Jvm.Cond.fieldLinkNest "MinistryDesks" (143 : Nat) "MinistryDesks$House" "lines" "I" "MinistryDesks") ∈ lw_tbl := lw_at lw_m1 115 rfl
theorem q303 : (Jvm.Cond.classLink "MinistryDesks" (26 : Nat) "MinistryDesks$Scene") ∈ lw_all := lw_g (lw_at lw_m1 143 rfl) rfl
theorem q305 : (Jvm.Cond.methodLinkNest "MinistryDesks" (28 : Nat) ({ cls := "MinistryDesks$Scene", name := "<init>", desc := "()V" } : Jvm.MethodName) "MinistryDesks") ∈ lw_tbl := lw_at lw_m1 145 rfl
theorem q313 : (Jvm.Cond.fieldLinkNest "MinistryDesks" (186 : Nat) "MinistryDesks$Scene" "error" "Z" "MinistryDesks") ∈ lw_tbl := lw_at lw_m1 153 rfl
theorem q320 : (Jvm.Cond.classLink "MinistryDesks" (33 : Nat) "MinistryDesks$Change") ∈ lw_all := lw_g (lw_at lw_m1 160 rfl) rfl
theorem q322 : (Jvm.Cond.methodLinkNest "MinistryDesks" (35 : Nat) ({ cls := "MinistryDesks$Change", name := "<init>", desc := "()V" } : Jvm.MethodName) "MinistryDesks") ∈ lw_tbl := lw_at lw_m1 162 rfl
theorem q327 : (Jvm.Cond.fieldLinkNest "MinistryDesks" (135 : Nat) "MinistryDesks$Change" "keep" "LMinistryDesks$Node;" "MinistryDesks") ∈ lw_tbl := lw_at lw_m1 167 rfl
theorem q331 : (Jvm.Cond.fieldLinkNest "MinistryDesks" (422 : Nat) "MinistryDesks$Change" "nobodyAsks" "Z" "MinistryDesks") ∈ lw_tbl := lw_at lw_m1 171 rfl
theorem q334 : (Jvm.Cond.fieldLinkNest "MinistryDesks" (425 : Nat) "MinistryDesks$Change" "noFires" "Z" "MinistryDesks") ∈ lw_tbl := lw_at lw_m1 174 rfl
theorem q337 : (Jvm.Cond.fieldLinkNest "MinistryDesks" (428 : Nat) "MinistryDesks$Change" "more" "Z" "MinistryDesks") ∈ lw_tbl := lw_at lw_m1 177 rfl
theorem q340 : (Jvm.Cond.fieldLinkNest "MinistryDesks" (431 : Nat) "MinistryDesks$Change" "firstGoes" "Z" "MinistryDesks") ∈ lw_tbl := lw_at lw_m1 180 rfl
theorem q343 : (Jvm.Cond.fieldLinkNest "MinistryDesks" (434 : Nat) "MinistryDesks$Change" "silent" "I" "MinistryDesks") ∈ lw_tbl := lw_at lw_m1 183 rfl
theorem q346 : (Jvm.Cond.fieldLinkNest "MinistryDesks" (437 : Nat) "MinistryDesks$Change" "without" "I" "MinistryDesks") ∈ lw_tbl := lw_at lw_m1 186 rfl
theorem q362 : (Jvm.Cond.classLink "MinistryDesks" (43 : Nat) "MinistryDesks$Run") ∈ lw_all := lw_g (lw_at lw_m1 202 rfl) rfl
theorem q364 : (Jvm.Cond.methodLinkNest "MinistryDesks" (45 : Nat) ({ cls := "MinistryDesks$Run", name := "<init>", desc := "(LMinistryDesks;)V" } : Jvm.MethodName) "MinistryDesks") ∈ lw_tbl := lw_at lw_m1 204 rfl
theorem q370 : (Jvm.Cond.fieldLinkNest "MinistryDesks" (234 : Nat) "MinistryDesks$Run" "day" "I" "MinistryDesks") ∈ lw_tbl := lw_at lw_m1 210 rfl
theorem q372 : (Jvm.Cond.fieldLinkNest "MinistryDesks" (208 : Nat) "MinistryDesks$Run" "many" "[I" "MinistryDesks") ∈ lw_tbl := lw_at lw_m1 212 rfl
theorem q374 : (Jvm.Cond.fieldLinkNest "MinistryDesks" (211 : Nat) "MinistryDesks$Run" "loss" "[I" "MinistryDesks") ∈ lw_tbl := lw_at lw_m1 214 rfl
theorem q376 : (Jvm.Cond.fieldLinkNest "MinistryDesks" (214 : Nat) "MinistryDesks$Run" "fell" "[I" "MinistryDesks") ∈ lw_tbl := lw_at lw_m1 216 rfl
theorem q379 : (Jvm.Cond.fieldLinkNest "MinistryDesks" (226 : Nat) "MinistryDesks$Run" "fact" "[I" "MinistryDesks") ∈ lw_tbl := lw_at lw_m1 219 rfl
theorem q381 : (Jvm.Cond.fieldLinkNest "MinistryDesks" (228 : Nat) "MinistryDesks$Run" "till" "[I" "MinistryDesks") ∈ lw_tbl := lw_at lw_m1 221 rfl
theorem q383 : (Jvm.Cond.fieldLinkNest "MinistryDesks" (231 : Nat) "MinistryDesks$Run" "since" "[I" "MinistryDesks") ∈ lw_tbl := lw_at lw_m1 223 rfl
theorem q390 : (Jvm.Cond.fieldLinkNest "MinistryDesks" (250 : Nat) "MinistryDesks$Run" "answer" "[I" "MinistryDesks") ∈ lw_tbl := lw_at lw_m1 230 rfl
theorem q392 : (Jvm.Cond.fieldLinkNest "MinistryDesks" (244 : Nat) "MinistryDesks$Run" "gone" "[I" "MinistryDesks") ∈ lw_tbl := lw_at lw_m1 232 rfl
theorem q394 : (Jvm.Cond.fieldLinkNest "MinistryDesks" (241 : Nat) "MinistryDesks$Run" "went" "I" "MinistryDesks") ∈ lw_tbl := lw_at lw_m1 234 rfl
theorem q435 : (Jvm.Cond.methodLink "MinistryDesks" (96 : Nat) ({ cls := "MinistryDesks$Run", name := "begin", desc := "(LMinistryDesks$Change;)V" } : Jvm.MethodName)) ∈ lw_all := lw_g (lw_at lw_m2 35 rfl) rfl
theorem q439 : (Jvm.Cond.fieldLink "MinistryDesks" (11 : Nat) "MinistryDesks" "tape" "[B") ∈ lw_all := lw_g (lw_at lw_m2 39 rfl) rfl
theorem q441 : (Jvm.Cond.fieldLink "MinistryDesks" (100 : Nat) "MinistryDesks" "taped" "I") ∈ lw_all := lw_g (lw_at lw_m2 41 rfl) rfl
theorem q442 : (Jvm.Cond.fieldLink "MinistryDesks" (111 : Nat) "MinistryDesks" "fault" "I") ∈ lw_all := lw_g (lw_at lw_m2 42 rfl) rfl
theorem q443 : (Jvm.Cond.fieldLink "MinistryDesks" (15 : Nat) "MinistryDesks" "faultPlace" "I") ∈ lw_all := lw_g (lw_at lw_m2 43 rfl) rfl
theorem q444 : (Jvm.Cond.fieldLink "MinistryDesks" (22 : Nat) "MinistryDesks" "house" "LMinistryDesks$House;") ∈ lw_all := lw_g (lw_at lw_m2 44 rfl) rfl
theorem q446 : (Jvm.Cond.fieldLink "MinistryDesks" (29 : Nat) "MinistryDesks" "scene" "LMinistryDesks$Scene;") ∈ lw_all := lw_g (lw_at lw_m2 46 rfl) rfl
theorem q448 : (Jvm.Cond.fieldLink "MinistryDesks" (36 : Nat) "MinistryDesks" "plain" "LMinistryDesks$Change;") ∈ lw_all := lw_g (lw_at lw_m2 48 rfl) rfl
theorem q449 : (Jvm.Cond.fieldLink "MinistryDesks" (40 : Nat) "MinistryDesks" "change" "LMinistryDesks$Change;") ∈ lw_all := lw_g (lw_at lw_m2 49 rfl) rfl
theorem q450 : (Jvm.Cond.fieldLink "MinistryDesks" (48 : Nat) "MinistryDesks" "truth" "LMinistryDesks$Run;") ∈ lw_all := lw_g (lw_at lw_m2 50 rfl) rfl
theorem q451 : (Jvm.Cond.fieldLink "MinistryDesks" (52 : Nat) "MinistryDesks" "trial" "LMinistryDesks$Run;") ∈ lw_all := lw_g (lw_at lw_m2 51 rfl) rfl
theorem q452 : (Jvm.Cond.fieldLink "MinistryDesks" (55 : Nat) "MinistryDesks" "image" "LMinistryDesks$Run;") ∈ lw_all := lw_g (lw_at lw_m2 52 rfl) rfl
theorem q453 : (Jvm.Cond.fieldLink "MinistryDesks" (253 : Nat) "MinistryDesks" "points" "I") ∈ lw_all := lw_g (lw_at lw_m2 53 rfl) rfl
theorem q454 : (Jvm.Cond.fieldLink "MinistryDesks" (58 : Nat) "MinistryDesks" "pointKind" "[I") ∈ lw_all := lw_g (lw_at lw_m2 54 rfl) rfl
theorem q455 : (Jvm.Cond.fieldLink "MinistryDesks" (62 : Nat) "MinistryDesks" "pointOf" "[I") ∈ lw_all := lw_g (lw_at lw_m2 55 rfl) rfl
theorem q456 : (Jvm.Cond.fieldLink "MinistryDesks" (65 : Nat) "MinistryDesks" "pointDay" "[I") ∈ lw_all := lw_g (lw_at lw_m2 56 rfl) rfl
theorem q457 : (Jvm.Cond.fieldLink "MinistryDesks" (68 : Nat) "MinistryDesks" "tillAt" "[I") ∈ lw_all := lw_g (lw_at lw_m2 57 rfl) rfl
theorem q458 : (Jvm.Cond.fieldLink "MinistryDesks" (71 : Nat) "MinistryDesks" "most" "[I") ∈ lw_all := lw_g (lw_at lw_m2 58 rfl) rfl
theorem q459 : (Jvm.Cond.fieldLink "MinistryDesks" (74 : Nat) "MinistryDesks" "counts" "[I") ∈ lw_all := lw_g (lw_at lw_m2 59 rfl) rfl
theorem q460 : (Jvm.Cond.fieldLink "MinistryDesks" (332 : Nat) "MinistryDesks" "times" "I") ∈ lw_all := lw_g (lw_at lw_m2 60 rfl) rfl
theorem q461 : (Jvm.Cond.fieldLink "MinistryDesks" (335 : Nat) "MinistryDesks" "wanted" "I") ∈ lw_all := lw_g (lw_at lw_m2 61 rfl) rfl
theorem q462 : (Jvm.Cond.fieldLink "MinistryDesks" (77 : Nat) "MinistryDesks" "come" "[Z") ∈ lw_all := lw_g (lw_at lw_m2 62 rfl) rfl
theorem q463 : (Jvm.Cond.fieldLink "MinistryDesks" (81 : Nat) "MinistryDesks" "shares" "[I") ∈ lw_all := lw_g (lw_at lw_m2 63 rfl) rfl
theorem q464 : (Jvm.Cond.fieldLink "MinistryDesks" (84 : Nat) "MinistryDesks" "heardOf" "[I") ∈ lw_all := lw_g (lw_at lw_m2 64 rfl) rfl
theorem q465 : (Jvm.Cond.fieldLink "MinistryDesks" (87 : Nat) "MinistryDesks" "heardAs" "[I") ∈ lw_all := lw_g (lw_at lw_m2 65 rfl) rfl
theorem q466 : (Jvm.Cond.fieldLink "MinistryDesks" (90 : Nat) "MinistryDesks" "struck" "[Z") ∈ lw_all := lw_g (lw_at lw_m2 66 rfl) rfl
theorem q467 : (Jvm.Cond.fieldLink "MinistryDesks" (136 : Nat) "MinistryDesks" "heard" "I") ∈ lw_all := lw_g (lw_at lw_m2 67 rfl) rfl
theorem q468 : (Jvm.Cond.fieldLink "MinistryDesks" (93 : Nat) "MinistryDesks" "seen" "I") ∈ lw_all := lw_g (lw_at lw_m2 68 rfl) rfl
theorem q469 : (Jvm.Cond.fieldLink "MinistryDesks" (139 : Nat) "MinistryDesks" "hasImage" "Z") ∈ lw_all := lw_g (lw_at lw_m2 69 rfl) rfl
theorem q470 : (Jvm.Cond.laysFinal "MinistryDesks" "MinistryDesks" "tape" "[B") ∈ lw_all := lw_g (lw_at lw_m2 70 rfl) rfl
theorem q471 : (Jvm.Cond.soleField "MinistryDesks" "tape") ∈ lw_all := lw_g (lw_at lw_m2 71 rfl) rfl
theorem q472 : (Jvm.Cond.lays "MinistryDesks" "MinistryDesks" "taped" "I") ∈ lw_all := lw_g (lw_at lw_m2 72 rfl) rfl
theorem q473 : (Jvm.Cond.soleField "MinistryDesks" "taped") ∈ lw_all := lw_g (lw_at lw_m2 73 rfl) rfl
theorem q474 : (Jvm.Cond.lays "MinistryDesks" "MinistryDesks" "fault" "I") ∈ lw_all := lw_g (lw_at lw_m2 74 rfl) rfl
theorem q475 : (Jvm.Cond.soleField "MinistryDesks" "fault") ∈ lw_all := lw_g (lw_at lw_m2 75 rfl) rfl
theorem q476 : (Jvm.Cond.lays "MinistryDesks" "MinistryDesks" "faultPlace" "I") ∈ lw_all := lw_g (lw_at lw_m2 76 rfl) rfl
theorem q477 : (Jvm.Cond.soleField "MinistryDesks" "faultPlace") ∈ lw_all := lw_g (lw_at lw_m2 77 rfl) rfl
theorem q478 : (Jvm.Cond.lays "MinistryDesks" "MinistryDesks" "house" "LMinistryDesks$House;") ∈ lw_all := lw_g (lw_at lw_m2 78 rfl) rfl
theorem q479 : (Jvm.Cond.soleField "MinistryDesks" "house") ∈ lw_all := lw_g (lw_at lw_m2 79 rfl) rfl
theorem q480 : (Jvm.Cond.laysFinal "MinistryDesks" "MinistryDesks" "scene" "LMinistryDesks$Scene;") ∈ lw_all := lw_g (lw_at lw_m2 80 rfl) rfl
theorem q481 : (Jvm.Cond.soleField "MinistryDesks" "scene") ∈ lw_all := lw_g (lw_at lw_m2 81 rfl) rfl
theorem q482 : (Jvm.Cond.laysFinal "MinistryDesks" "MinistryDesks" "plain" "LMinistryDesks$Change;") ∈ lw_all := lw_g (lw_at lw_m2 82 rfl) rfl
theorem q483 : (Jvm.Cond.soleField "MinistryDesks" "plain") ∈ lw_all := lw_g (lw_at lw_m2 83 rfl) rfl
theorem q484 : (Jvm.Cond.laysFinal "MinistryDesks" "MinistryDesks" "change" "LMinistryDesks$Change;") ∈ lw_all := lw_g (lw_at lw_m2 84 rfl) rfl
theorem q485 : (Jvm.Cond.soleField "MinistryDesks" "change") ∈ lw_all := lw_g (lw_at lw_m2 85 rfl) rfl
theorem q486 : (Jvm.Cond.laysFinal "MinistryDesks" "MinistryDesks" "truth" "LMinistryDesks$Run;") ∈ lw_all := lw_g (lw_at lw_m2 86 rfl) rfl
theorem q487 : (Jvm.Cond.soleField "MinistryDesks" "truth") ∈ lw_all := lw_g (lw_at lw_m2 87 rfl) rfl
theorem q488 : (Jvm.Cond.laysFinal "MinistryDesks" "MinistryDesks" "trial" "LMinistryDesks$Run;") ∈ lw_all := lw_g (lw_at lw_m2 88 rfl) rfl
theorem q489 : (Jvm.Cond.soleField "MinistryDesks" "trial") ∈ lw_all := lw_g (lw_at lw_m2 89 rfl) rfl
theorem q490 : (Jvm.Cond.laysFinal "MinistryDesks" "MinistryDesks" "image" "LMinistryDesks$Run;") ∈ lw_all := lw_g (lw_at lw_m2 90 rfl) rfl
theorem q491 : (Jvm.Cond.soleField "MinistryDesks" "image") ∈ lw_all := lw_g (lw_at lw_m2 91 rfl) rfl
theorem q492 : (Jvm.Cond.lays "MinistryDesks" "MinistryDesks" "points" "I") ∈ lw_all := lw_g (lw_at lw_m2 92 rfl) rfl
theorem q493 : (Jvm.Cond.soleField "MinistryDesks" "points") ∈ lw_all := lw_g (lw_at lw_m2 93 rfl) rfl
theorem q494 : (Jvm.Cond.laysFinal "MinistryDesks" "MinistryDesks" "pointKind" "[I") ∈ lw_all := lw_g (lw_at lw_m2 94 rfl) rfl
theorem q495 : (Jvm.Cond.soleField "MinistryDesks" "pointKind") ∈ lw_all := lw_g (lw_at lw_m2 95 rfl) rfl
theorem q496 : (Jvm.Cond.laysFinal "MinistryDesks" "MinistryDesks" "pointOf" "[I") ∈ lw_all := lw_g (lw_at lw_m2 96 rfl) rfl
theorem q497 : (Jvm.Cond.soleField "MinistryDesks" "pointOf") ∈ lw_all := lw_g (lw_at lw_m2 97 rfl) rfl
theorem q498 : (Jvm.Cond.laysFinal "MinistryDesks" "MinistryDesks" "pointDay" "[I") ∈ lw_all := lw_g (lw_at lw_m2 98 rfl) rfl
theorem q499 : (Jvm.Cond.soleField "MinistryDesks" "pointDay") ∈ lw_all := lw_g (lw_at lw_m2 99 rfl) rfl
theorem q500 : (Jvm.Cond.laysFinal "MinistryDesks" "MinistryDesks" "tillAt" "[I") ∈ lw_all := lw_g (lw_at lw_m2 100 rfl) rfl
theorem q501 : (Jvm.Cond.soleField "MinistryDesks" "tillAt") ∈ lw_all := lw_g (lw_at lw_m2 101 rfl) rfl
theorem q502 : (Jvm.Cond.laysFinal "MinistryDesks" "MinistryDesks" "most" "[I") ∈ lw_all := lw_g (lw_at lw_m2 102 rfl) rfl
theorem q503 : (Jvm.Cond.soleField "MinistryDesks" "most") ∈ lw_all := lw_g (lw_at lw_m2 103 rfl) rfl
theorem q504 : (Jvm.Cond.laysFinal "MinistryDesks" "MinistryDesks" "counts" "[I") ∈ lw_all := lw_g (lw_at lw_m2 104 rfl) rfl
theorem q505 : (Jvm.Cond.soleField "MinistryDesks" "counts") ∈ lw_all := lw_g (lw_at lw_m2 105 rfl) rfl
theorem q506 : (Jvm.Cond.lays "MinistryDesks" "MinistryDesks" "times" "I") ∈ lw_all := lw_g (lw_at lw_m2 106 rfl) rfl
theorem q507 : (Jvm.Cond.soleField "MinistryDesks" "times") ∈ lw_all := lw_g (lw_at lw_m2 107 rfl) rfl
theorem q508 : (Jvm.Cond.lays "MinistryDesks" "MinistryDesks" "wanted" "I") ∈ lw_all := lw_g (lw_at lw_m2 108 rfl) rfl
theorem q509 : (Jvm.Cond.soleField "MinistryDesks" "wanted") ∈ lw_all := lw_g (lw_at lw_m2 109 rfl) rfl
theorem q510 : (Jvm.Cond.laysFinal "MinistryDesks" "MinistryDesks" "come" "[Z") ∈ lw_all := lw_g (lw_at lw_m2 110 rfl) rfl
theorem q511 : (Jvm.Cond.soleField "MinistryDesks" "come") ∈ lw_all := lw_g (lw_at lw_m2 111 rfl) rfl
theorem q512 : (Jvm.Cond.laysFinal "MinistryDesks" "MinistryDesks" "shares" "[I") ∈ lw_all := lw_g (lw_at lw_m2 112 rfl) rfl
theorem q513 : (Jvm.Cond.soleField "MinistryDesks" "shares") ∈ lw_all := lw_g (lw_at lw_m2 113 rfl) rfl
theorem q514 : (Jvm.Cond.laysFinal "MinistryDesks" "MinistryDesks" "heardOf" "[I") ∈ lw_all := lw_g (lw_at lw_m2 114 rfl) rfl
theorem q515 : (Jvm.Cond.soleField "MinistryDesks" "heardOf") ∈ lw_all := lw_g (lw_at lw_m2 115 rfl) rfl
theorem q516 : (Jvm.Cond.laysFinal "MinistryDesks" "MinistryDesks" "heardAs" "[I") ∈ lw_all := lw_g (lw_at lw_m2 116 rfl) rfl
theorem q517 : (Jvm.Cond.soleField "MinistryDesks" "heardAs") ∈ lw_all := lw_g (lw_at lw_m2 117 rfl) rfl
theorem q518 : (Jvm.Cond.laysFinal "MinistryDesks" "MinistryDesks" "struck" "[Z") ∈ lw_all := lw_g (lw_at lw_m2 118 rfl) rfl
theorem q519 : (Jvm.Cond.soleField "MinistryDesks" "struck") ∈ lw_all := lw_g (lw_at lw_m2 119 rfl) rfl
theorem q520 : (Jvm.Cond.lays "MinistryDesks" "MinistryDesks" "heard" "I") ∈ lw_all := lw_g (lw_at lw_m2 120 rfl) rfl
theorem q521 : (Jvm.Cond.soleField "MinistryDesks" "heard") ∈ lw_all := lw_g (lw_at lw_m2 121 rfl) rfl
theorem q522 : (Jvm.Cond.lays "MinistryDesks" "MinistryDesks" "seen" "I") ∈ lw_all := lw_g (lw_at lw_m2 122 rfl) rfl
theorem q523 : (Jvm.Cond.soleField "MinistryDesks" "seen") ∈ lw_all := lw_g (lw_at lw_m2 123 rfl) rfl
theorem q524 : (Jvm.Cond.lays "MinistryDesks" "MinistryDesks" "hasImage" "Z") ∈ lw_all := lw_g (lw_at lw_m2 124 rfl) rfl
theorem q525 : (Jvm.Cond.soleField "MinistryDesks" "hasImage") ∈ lw_all := lw_g (lw_at lw_m2 125 rfl) rfl
theorem q526 : (Jvm.Cond.superclass "MinistryDesks" "java/lang/Object") ∈ lw_all := lw_g (lw_at lw_m2 126 rfl) rfl
theorem q528 : (Jvm.Cond.instanceMethod ({ cls := "MinistryDesks", name := "feed", desc := "(IIIII)I" } : Jvm.MethodName)) ∈ lw_all := lw_g (lw_at lw_m2 128 rfl) rfl
theorem q529 : (Jvm.Cond.selects "MinistryDesks" ({ cls := "MinistryDesks", name := "feed", desc := "(IIIII)I" } : Jvm.MethodName) ({ cls := "MinistryDesks", name := "feed", desc := "(IIIII)I" } : Jvm.MethodName)) ∈ lw_all := lw_g (lw_at lw_m2 129 rfl) rfl
theorem q530 : (Jvm.Cond.code ({ cls := "MinistryDesks", name := "feed", desc := "(IIIII)I" } : Jvm.MethodName) prog_1_method_4_code (6 : Nat) (Option.some Jvm.ClassFile.FieldType.int)) ∈ lw_all := lw_g (lw_at lw_m2 130 rfl) rfl
theorem q531 : (Jvm.Cond.methodLink "MinistryDesks" (103 : Nat) ({ cls := "MinistryDesks", name := "four", desc := "(I)V" } : Jvm.MethodName)) ∈ lw_all := lw_g (lw_at lw_m2 131 rfl) rfl
theorem q532 : (Jvm.Cond.privateMethod ({ cls := "MinistryDesks", name := "four", desc := "(I)V" } : Jvm.MethodName)) ∈ lw_tbl := lw_at lw_m2 132 rfl
theorem q533 : (Jvm.Cond.instanceMethod ({ cls := "MinistryDesks", name := "four", desc := "(I)V" } : Jvm.MethodName)) ∈ lw_all := lw_g (lw_at lw_m2 133 rfl) rfl
theorem q534 : (Jvm.Cond.code ({ cls := "MinistryDesks", name := "four", desc := "(I)V" } : Jvm.MethodName) prog_1_method_5_code (3 : Nat) (Option.none : Option Jvm.ClassFile.FieldType)) ∈ lw_all := lw_g (lw_at lw_m2 134 rfl) rfl
theorem q536 : (Jvm.Cond.instanceMethod ({ cls := "MinistryDesks", name := "text", desc := "(I)I" } : Jvm.MethodName)) ∈ lw_all := lw_g (lw_at lw_m2 136 rfl) rfl
theorem q537 : (Jvm.Cond.selects "MinistryDesks" ({ cls := "MinistryDesks", name := "text", desc := "(I)I" } : Jvm.MethodName) ({ cls := "MinistryDesks", name := "text", desc := "(I)I" } : Jvm.MethodName)) ∈ lw_all := lw_g (lw_at lw_m2 137 rfl) rfl
theorem q538 : (Jvm.Cond.codeWith ({ cls := "MinistryDesks", name := "text", desc := "(I)I" } : Jvm.MethodName) prog_1_method_6_code (3 : Nat) (Option.some Jvm.ClassFile.FieldType.int) [((30 : Nat), (46 : Nat), (49 : Nat), (123 : Nat))]) ∈ lw_all := lw_g (lw_at lw_m2 138 rfl) rfl
theorem q539 : (Jvm.Cond.classLink "MinistryDesks" (123 : Nat) "MinistryDesks$Fault") ∈ lw_all := lw_g (lw_at lw_m2 139 rfl) rfl
theorem q540 : (Jvm.Cond.methodLink "MinistryDesks" (107 : Nat) ({ cls := "MinistryDesks", name := "isIn", desc := "(III)Z" } : Jvm.MethodName)) ∈ lw_all := lw_g (lw_at lw_m2 140 rfl) rfl
theorem q541 : (Jvm.Cond.static ({ cls := "MinistryDesks", name := "isIn", desc := "(III)Z" } : Jvm.MethodName)) ∈ lw_all := lw_g (lw_at lw_m2 141 rfl) rfl
theorem q542 : (Jvm.Cond.code ({ cls := "MinistryDesks", name := "isIn", desc := "(III)Z" } : Jvm.MethodName) prog_1_method_2_code (3 : Nat) (Option.some Jvm.ClassFile.FieldType.boolean)) ∈ lw_all := lw_g (lw_at lw_m2 142 rfl) rfl
theorem q543 : (Jvm.Cond.classLink "MinistryDesks" (114 : Nat) "MinistryDesks$Reader") ∈ lw_all := lw_g (lw_at lw_m2 143 rfl) rfl
theorem q545 : (Jvm.Cond.methodLink "MinistryDesks" (116 : Nat) ({ cls := "MinistryDesks$Reader", name := "<init>", desc := "(LMinistryDesks;I)V" } : Jvm.MethodName)) ∈ lw_all := lw_g (lw_at lw_m2 145 rfl) rfl
theorem q576 : (Jvm.Cond.methodLink "MinistryDesks" (119 : Nat) ({ cls := "MinistryDesks$Reader", name := "text", desc := "()LMinistryDesks$House;" } : Jvm.MethodName)) ∈ lw_all := lw_g (lw_at lw_m2 176 rfl) rfl
theorem q778 : (Jvm.Cond.fieldLinkNest "MinistryDesks" (125 : Nat) "MinistryDesks$Fault" "kind" "I" "MinistryDesks") ∈ lw_tbl := lw_at lw_m3 138 rfl
theorem q780 : (Jvm.Cond.fieldLinkNest "MinistryDesks" (128 : Nat) "MinistryDesks$Fault" "place" "I" "MinistryDesks") ∈ lw_tbl := lw_at lw_m3 140 rfl
theorem q854 : (Jvm.Cond.fieldLinkNest "MinistryDesks" (207 : Nat) "MinistryDesks$Desk" "lines" "I" "MinistryDesks") ∈ lw_tbl := lw_at lw_m3 214 rfl
theorem q857 : (Jvm.Cond.fieldLinkNest "MinistryDesks" (217 : Nat) "MinistryDesks$Desk" "asks" "I" "MinistryDesks") ∈ lw_tbl := lw_at lw_m3 217 rfl
theorem q896 : (Jvm.Cond.selects "MinistryDesks" ({ cls := "java/lang/Object", name := "getClass", desc := "()Ljava/lang/Class;" } : Jvm.MethodName) ({ cls := "java/lang/Object", name := "getClass", desc := "()Ljava/lang/Class;" } : Jvm.MethodName)) ∈ lw_all := lw_g (lw_at lw_m4 16 rfl) rfl
theorem q955 : (Jvm.Cond.fieldLinkNest "MinistryDesks" (177 : Nat) "MinistryDesks$Fact" "worth" "I" "MinistryDesks") ∈ lw_tbl := lw_at lw_m4 75 rfl
theorem q969 : (Jvm.Cond.fieldLinkNest "MinistryDesks" (269 : Nat) "MinistryDesks$Coming" "day" "I" "MinistryDesks") ∈ lw_tbl := lw_at lw_m4 89 rfl
theorem q972 : (Jvm.Cond.fieldLinkNest "MinistryDesks" (270 : Nat) "MinistryDesks$Coming" "desk" "I" "MinistryDesks") ∈ lw_tbl := lw_at lw_m4 92 rfl
theorem q975 : (Jvm.Cond.fieldLinkNest "MinistryDesks" (261 : Nat) "MinistryDesks$Coming" "fact" "I" "MinistryDesks") ∈ lw_tbl := lw_at lw_m4 95 rfl
theorem q978 : (Jvm.Cond.fieldLinkNest "MinistryDesks" (263 : Nat) "MinistryDesks$Coming" "till" "I" "MinistryDesks") ∈ lw_tbl := lw_at lw_m4 98 rfl
theorem q996 : (Jvm.Cond.fieldLinkNest "MinistryDesks" (274 : Nat) "MinistryDesks$Question" "day" "I" "MinistryDesks") ∈ lw_tbl := lw_at lw_m4 116 rfl
theorem q999 : (Jvm.Cond.fieldLinkNest "MinistryDesks" (275 : Nat) "MinistryDesks$Question" "desk" "I" "MinistryDesks") ∈ lw_tbl := lw_at lw_m4 119 rfl
theorem q1002 : (Jvm.Cond.fieldLinkNest "MinistryDesks" (300 : Nat) "MinistryDesks$Question" "fact" "I" "MinistryDesks") ∈ lw_tbl := lw_at lw_m4 122 rfl
theorem q1004 : (Jvm.Cond.fieldLinkNest "MinistryDesks" (316 : Nat) "MinistryDesks$Question" "odds" "I" "MinistryDesks") ∈ lw_tbl := lw_at lw_m4 124 rfl
theorem q1156 : (Jvm.Cond.fieldLinkNest "MinistryDesks" (419 : Nat) "MinistryDesks$May" "sum" "LMinistryDesks$Node;" "MinistryDesks") ∈ lw_tbl := lw_at lw_m5 36 rfl
theorem q1163 : (Jvm.Cond.instanceMethod ({ cls := "MinistryDesks", name := "fault", desc := "(I)I" } : Jvm.MethodName)) ∈ lw_all := lw_g (lw_at lw_m5 43 rfl) rfl
theorem q1164 : (Jvm.Cond.selects "MinistryDesks" ({ cls := "MinistryDesks", name := "fault", desc := "(I)I" } : Jvm.MethodName) ({ cls := "MinistryDesks", name := "fault", desc := "(I)I" } : Jvm.MethodName)) ∈ lw_all := lw_g (lw_at lw_m5 44 rfl) rfl
theorem q1165 : (Jvm.Cond.code ({ cls := "MinistryDesks", name := "fault", desc := "(I)I" } : Jvm.MethodName) prog_1_method_7_code (2 : Nat) (Option.some Jvm.ClassFile.FieldType.int)) ∈ lw_all := lw_g (lw_at lw_m5 45 rfl) rfl
theorem q1167 : (Jvm.Cond.instanceMethod ({ cls := "MinistryDesks", name := "named", desc := "(II)I" } : Jvm.MethodName)) ∈ lw_all := lw_g (lw_at lw_m5 47 rfl) rfl
theorem q1168 : (Jvm.Cond.selects "MinistryDesks" ({ cls := "MinistryDesks", name := "named", desc := "(II)I" } : Jvm.MethodName) ({ cls := "MinistryDesks", name := "named", desc := "(II)I" } : Jvm.MethodName)) ∈ lw_all := lw_g (lw_at lw_m5 48 rfl) rfl
theorem q1169 : (Jvm.Cond.code ({ cls := "MinistryDesks", name := "named", desc := "(II)I" } : Jvm.MethodName) prog_1_method_8_code (3 : Nat) (Option.some Jvm.ClassFile.FieldType.int)) ∈ lw_all := lw_g (lw_at lw_m5 49 rfl) rfl
theorem q1170 : (Jvm.Cond.methodLink "MinistryDesks" (146 : Nat) ({ cls := "MinistryDesks$House", name := "desk", desc := "(I)I" } : Jvm.MethodName)) ∈ lw_all := lw_g (lw_at lw_m5 50 rfl) rfl
theorem q1171 : (Jvm.Cond.methodLink "MinistryDesks" (150 : Nat) ({ cls := "MinistryDesks$House", name := "fact", desc := "(I)I" } : Jvm.MethodName)) ∈ lw_all := lw_g (lw_at lw_m5 51 rfl) rfl
theorem q1172 : (Jvm.Cond.methodLink "MinistryDesks" (153 : Nat) ({ cls := "MinistryDesks$House", name := "may", desc := "(I)I" } : Jvm.MethodName)) ∈ lw_all := lw_g (lw_at lw_m5 52 rfl) rfl
theorem q1174 : (Jvm.Cond.instanceMethod ({ cls := "MinistryDesks", name := "law", desc := "(IIIII)J" } : Jvm.MethodName)) ∈ lw_all := lw_g (lw_at lw_m5 54 rfl) rfl
theorem q1175 : (Jvm.Cond.selects "MinistryDesks" ({ cls := "MinistryDesks", name := "law", desc := "(IIIII)J" } : Jvm.MethodName) ({ cls := "MinistryDesks", name := "law", desc := "(IIIII)J" } : Jvm.MethodName)) ∈ lw_all := lw_g (lw_at lw_m5 55 rfl) rfl
theorem q1176 : (Jvm.Cond.code ({ cls := "MinistryDesks", name := "law", desc := "(IIIII)J" } : Jvm.MethodName) prog_1_method_14_code (10 : Nat) (Option.some Jvm.ClassFile.FieldType.long)) ∈ lw_all := lw_g (lw_at lw_m5 56 rfl) rfl
theorem q1177 : (Jvm.Cond.constantLong "MinistryDesks" (192 : Nat) (-9223372036854775808 : Int64)) ∈ lw_all := lw_g (lw_at lw_m5 57 rfl) rfl
theorem q1178 : (Jvm.Cond.methodLink "MinistryDesks" (194 : Nat) ({ cls := "MinistryDesks$Scene", name := "lay", desc := "(IIIIII)V" } : Jvm.MethodName)) ∈ lw_all := lw_g (lw_at lw_m5 58 rfl) rfl
theorem q1182 : (Jvm.Cond.interfaceEntry "MinistryDesks" (180 : Nat)) ∈ lw_tbl := lw_at lw_m5 62 rfl
theorem q1183 : (Jvm.Cond.methodLink "MinistryDesks" (180 : Nat) ({ cls := "MinistryDesks$Node", name := "value", desc := "(LMinistryDesks$Scene;)J" } : Jvm.MethodName)) ∈ lw_all := lw_g (lw_at lw_m5 63 rfl) rfl
theorem q1243 : (Jvm.Cond.instanceMethod ({ cls := "MinistryDesks", name := "line", desc := "(III)I" } : Jvm.MethodName)) ∈ lw_all := lw_g (lw_at lw_m5 123 rfl) rfl
theorem q1244 : (Jvm.Cond.selects "MinistryDesks" ({ cls := "MinistryDesks", name := "line", desc := "(III)I" } : Jvm.MethodName) ({ cls := "MinistryDesks", name := "line", desc := "(III)I" } : Jvm.MethodName)) ∈ lw_all := lw_g (lw_at lw_m5 124 rfl) rfl
theorem q1245 : (Jvm.Cond.code ({ cls := "MinistryDesks", name := "line", desc := "(III)I" } : Jvm.MethodName) prog_1_method_16_code (5 : Nat) (Option.some Jvm.ClassFile.FieldType.int)) ∈ lw_all := lw_g (lw_at lw_m5 125 rfl) rfl
theorem q1246 : (Jvm.Cond.methodLink "MinistryDesks" (198 : Nat) ({ cls := "MinistryDesks", name := "isDesk", desc := "(I)Z" } : Jvm.MethodName)) ∈ lw_all := lw_g (lw_at lw_m5 126 rfl) rfl
theorem q1247 : (Jvm.Cond.privateMethod ({ cls := "MinistryDesks", name := "isDesk", desc := "(I)Z" } : Jvm.MethodName)) ∈ lw_tbl := lw_at lw_m5 127 rfl
theorem q1248 : (Jvm.Cond.instanceMethod ({ cls := "MinistryDesks", name := "isDesk", desc := "(I)Z" } : Jvm.MethodName)) ∈ lw_all := lw_g (lw_at lw_m5 128 rfl) rfl
theorem q1249 : (Jvm.Cond.code ({ cls := "MinistryDesks", name := "isDesk", desc := "(I)Z" } : Jvm.MethodName) prog_1_method_10_code (2 : Nat) (Option.some Jvm.ClassFile.FieldType.boolean)) ∈ lw_all := lw_g (lw_at lw_m5 129 rfl) rfl
theorem q1250 : (Jvm.Cond.methodLink "MinistryDesks" (166 : Nat) ({ cls := "MinistryDesks", name := "desks", desc := "()I" } : Jvm.MethodName)) ∈ lw_all := lw_g (lw_at lw_m5 130 rfl) rfl
theorem q1251 : (Jvm.Cond.privateMethod ({ cls := "MinistryDesks", name := "desks", desc := "()I" } : Jvm.MethodName)) ∈ lw_tbl := lw_at lw_m5 131 rfl
theorem q1252 : (Jvm.Cond.instanceMethod ({ cls := "MinistryDesks", name := "desks", desc := "()I" } : Jvm.MethodName)) ∈ lw_all := lw_g (lw_at lw_m5 132 rfl) rfl
theorem q1253 : (Jvm.Cond.code ({ cls := "MinistryDesks", name := "desks", desc := "()I" } : Jvm.MethodName) prog_1_method_9_code (1 : Nat) (Option.some Jvm.ClassFile.FieldType.int)) ∈ lw_all := lw_g (lw_at lw_m5 133 rfl) rfl
theorem q1254 : (Jvm.Cond.methodLink "MinistryDesks" (160 : Nat) ({ cls := "java/util/ArrayList", name := "size", desc := "()I" } : Jvm.MethodName)) ∈ lw_all := lw_g (lw_at lw_m5 134 rfl) rfl
theorem q1256 : (Jvm.Cond.instanceMethod ({ cls := "MinistryDesks", name := "days", desc := "(I)I" } : Jvm.MethodName)) ∈ lw_all := lw_g (lw_at lw_m5 136 rfl) rfl
theorem q1257 : (Jvm.Cond.selects "MinistryDesks" ({ cls := "MinistryDesks", name := "days", desc := "(I)I" } : Jvm.MethodName) ({ cls := "MinistryDesks", name := "days", desc := "(I)I" } : Jvm.MethodName)) ∈ lw_all := lw_g (lw_at lw_m5 137 rfl) rfl
theorem q1258 : (Jvm.Cond.code ({ cls := "MinistryDesks", name := "days", desc := "(I)I" } : Jvm.MethodName) prog_1_method_17_code (2 : Nat) (Option.some Jvm.ClassFile.FieldType.int)) ∈ lw_all := lw_g (lw_at lw_m5 138 rfl) rfl
theorem q1259 : (Jvm.Cond.methodLink "MinistryDesks" (237 : Nat) ({ cls := "MinistryDesks$Run", name := "to", desc := "(I)LMinistryDesks$Run;" } : Jvm.MethodName)) ∈ lw_all := lw_g (lw_at lw_m5 139 rfl) rfl
theorem q1313 : (Jvm.Cond.privateMethod ({ cls := "MinistryDesks", name := "worth", desc := "(I)I" } : Jvm.MethodName)) ∈ lw_tbl := lw_at lw_m5 193 rfl
theorem q1314 : (Jvm.Cond.instanceMethod ({ cls := "MinistryDesks", name := "worth", desc := "(I)I" } : Jvm.MethodName)) ∈ lw_all := lw_g (lw_at lw_m5 194 rfl) rfl
theorem q1315 : (Jvm.Cond.code ({ cls := "MinistryDesks", name := "worth", desc := "(I)I" } : Jvm.MethodName) prog_1_method_12_code (2 : Nat) (Option.some Jvm.ClassFile.FieldType.int)) ∈ lw_all := lw_g (lw_at lw_m5 195 rfl) rfl
theorem q1316 : (Jvm.Cond.methodLink "MinistryDesks" (171 : Nat) ({ cls := "java/util/ArrayList", name := "get", desc := "(I)Ljava/lang/Object;" } : Jvm.MethodName)) ∈ lw_all := lw_g (lw_at lw_m5 196 rfl) rfl
theorem q1317 : (Jvm.Cond.classLink "MinistryDesks" (175 : Nat) "MinistryDesks$Fact") ∈ lw_all := lw_g (lw_at lw_m5 197 rfl) rfl
theorem q1327 : (Jvm.Cond.static ({ cls := "MinistryDesks", name := "isOf", desc := "(II)Z" } : Jvm.MethodName)) ∈ lw_all := lw_g (lw_at lw_m5 207 rfl) rfl
theorem q1328 : (Jvm.Cond.code ({ cls := "MinistryDesks", name := "isOf", desc := "(II)Z" } : Jvm.MethodName) prog_1_method_3_code (2 : Nat) (Option.some Jvm.ClassFile.FieldType.boolean)) ∈ lw_all := lw_g (lw_at lw_m5 208 rfl) rfl
theorem q1336 : (Jvm.Cond.privateMethod ({ cls := "MinistryDesks", name := "value", desc := "(LMinistryDesks$Node;J)J" } : Jvm.MethodName)) ∈ lw_tbl := lw_at lw_m5 216 rfl
theorem q1337 : (Jvm.Cond.instanceMethod ({ cls := "MinistryDesks", name := "value", desc := "(LMinistryDesks$Node;J)J" } : Jvm.MethodName)) ∈ lw_all := lw_g (lw_at lw_m5 217 rfl) rfl
theorem q1338 : (Jvm.Cond.code ({ cls := "MinistryDesks", name := "value", desc := "(LMinistryDesks$Node;J)J" } : Jvm.MethodName) prog_1_method_13_code (6 : Nat) (Option.some Jvm.ClassFile.FieldType.long)) ∈ lw_all := lw_g (lw_at lw_m5 218 rfl) rfl
theorem q1370 : (Jvm.Cond.instanceMethod ({ cls := "MinistryDesks", name := "went", desc := "(II)I" } : Jvm.MethodName)) ∈ lw_all := lw_g (lw_at lw_m6 10 rfl) rfl
theorem q1371 : (Jvm.Cond.selects "MinistryDesks" ({ cls := "MinistryDesks", name := "went", desc := "(II)I" } : Jvm.MethodName) ({ cls := "MinistryDesks", name := "went", desc := "(II)I" } : Jvm.MethodName)) ∈ lw_all := lw_g (lw_at lw_m6 11 rfl) rfl
theorem q1372 : (Jvm.Cond.code ({ cls := "MinistryDesks", name := "went", desc := "(II)I" } : Jvm.MethodName) prog_1_method_18_code (4 : Nat) (Option.some Jvm.ClassFile.FieldType.int)) ∈ lw_all := lw_g (lw_at lw_m6 12 rfl) rfl
theorem q1374 : (Jvm.Cond.instanceMethod ({ cls := "MinistryDesks", name := "answer", desc := "(I)I" } : Jvm.MethodName)) ∈ lw_all := lw_g (lw_at lw_m6 14 rfl) rfl
theorem q1375 : (Jvm.Cond.selects "MinistryDesks" ({ cls := "MinistryDesks", name := "answer", desc := "(I)I" } : Jvm.MethodName) ({ cls := "MinistryDesks", name := "answer", desc := "(I)I" } : Jvm.MethodName)) ∈ lw_all := lw_g (lw_at lw_m6 15 rfl) rfl
theorem q1376 : (Jvm.Cond.code ({ cls := "MinistryDesks", name := "answer", desc := "(I)I" } : Jvm.MethodName) prog_1_method_19_code (2 : Nat) (Option.some Jvm.ClassFile.FieldType.int)) ∈ lw_all := lw_g (lw_at lw_m6 16 rfl) rfl
theorem q1378 : (Jvm.Cond.instanceMethod ({ cls := "MinistryDesks", name := "best", desc := "(I)I" } : Jvm.MethodName)) ∈ lw_all := lw_g (lw_at lw_m6 18 rfl) rfl
theorem q1379 : (Jvm.Cond.selects "MinistryDesks" ({ cls := "MinistryDesks", name := "best", desc := "(I)I" } : Jvm.MethodName) ({ cls := "MinistryDesks", name := "best", desc := "(I)I" } : Jvm.MethodName)) ∈ lw_all := lw_g (lw_at lw_m6 19 rfl) rfl
theorem q1380 : (Jvm.Cond.code ({ cls := "MinistryDesks", name := "best", desc := "(I)I" } : Jvm.MethodName) prog_1_method_33_code (2 : Nat) (Option.some Jvm.ClassFile.FieldType.int)) ∈ lw_all := lw_g (lw_at lw_m6 20 rfl) rfl
theorem q1381 : (Jvm.Cond.methodLink "MinistryDesks" (329 : Nat) ({ cls := "MinistryDesks", name := "layBest", desc := "(I)V" } : Jvm.MethodName)) ∈ lw_all := lw_g (lw_at lw_m6 21 rfl) rfl
theorem q1382 : (Jvm.Cond.privateMethod ({ cls := "MinistryDesks", name := "layBest", desc := "(I)V" } : Jvm.MethodName)) ∈ lw_tbl := lw_at lw_m6 22 rfl
theorem q1383 : (Jvm.Cond.instanceMethod ({ cls := "MinistryDesks", name := "layBest", desc := "(I)V" } : Jvm.MethodName)) ∈ lw_all := lw_g (lw_at lw_m6 23 rfl) rfl
theorem q1384 : (Jvm.Cond.code ({ cls := "MinistryDesks", name := "layBest", desc := "(I)V" } : Jvm.MethodName) prog_1_method_32_code (2 : Nat) (Option.none : Option Jvm.ClassFile.FieldType)) ∈ lw_all := lw_g (lw_at lw_m6 24 rfl) rfl
theorem q1385 : (Jvm.Cond.methodLink "MinistryDesks" (319 : Nat) ({ cls := "MinistryDesks", name := "layPoints", desc := "(I)V" } : Jvm.MethodName)) ∈ lw_all := lw_g (lw_at lw_m6 25 rfl) rfl
theorem q1386 : (Jvm.Cond.privateMethod ({ cls := "MinistryDesks", name := "layPoints", desc := "(I)V" } : Jvm.MethodName)) ∈ lw_tbl := lw_at lw_m6 26 rfl
theorem q1387 : (Jvm.Cond.instanceMethod ({ cls := "MinistryDesks", name := "layPoints", desc := "(I)V" } : Jvm.MethodName)) ∈ lw_all := lw_g (lw_at lw_m6 27 rfl) rfl
theorem q1388 : (Jvm.Cond.code ({ cls := "MinistryDesks", name := "layPoints", desc := "(I)V" } : Jvm.MethodName) prog_1_method_21_code (4 : Nat) (Option.none : Option Jvm.ClassFile.FieldType)) ∈ lw_all := lw_g (lw_at lw_m6 28 rfl) rfl
theorem q1389 : (Jvm.Cond.methodLink "MinistryDesks" (265 : Nat) ({ cls := "MinistryDesks", name := "addPoint", desc := "(III)V" } : Jvm.MethodName)) ∈ lw_all := lw_g (lw_at lw_m6 29 rfl) rfl
theorem q1390 : (Jvm.Cond.privateMethod ({ cls := "MinistryDesks", name := "addPoint", desc := "(III)V" } : Jvm.MethodName)) ∈ lw_tbl := lw_at lw_m6 30 rfl
theorem q1391 : (Jvm.Cond.instanceMethod ({ cls := "MinistryDesks", name := "addPoint", desc := "(III)V" } : Jvm.MethodName)) ∈ lw_all := lw_g (lw_at lw_m6 31 rfl) rfl
theorem q1392 : (Jvm.Cond.code ({ cls := "MinistryDesks", name := "addPoint", desc := "(III)V" } : Jvm.MethodName) prog_1_method_20_code (5 : Nat) (Option.none : Option Jvm.ClassFile.FieldType)) ∈ lw_all := lw_g (lw_at lw_m6 32 rfl) rfl
theorem q1393 : (Jvm.Cond.classLink "MinistryDesks" (259 : Nat) "MinistryDesks$Coming") ∈ lw_all := lw_g (lw_at lw_m6 33 rfl) rfl
theorem q1394 : (Jvm.Cond.classLink "MinistryDesks" (272 : Nat) "MinistryDesks$Question") ∈ lw_all := lw_g (lw_at lw_m6 34 rfl) rfl
theorem q1395 : (Jvm.Cond.methodLink "MinistryDesks" (322 : Nat) ({ cls := "MinistryDesks", name := "layCounts", desc := "(Z)V" } : Jvm.MethodName)) ∈ lw_all := lw_g (lw_at lw_m6 35 rfl) rfl
theorem q1396 : (Jvm.Cond.privateMethod ({ cls := "MinistryDesks", name := "layCounts", desc := "(Z)V" } : Jvm.MethodName)) ∈ lw_tbl := lw_at lw_m6 36 rfl
theorem q1397 : (Jvm.Cond.instanceMethod ({ cls := "MinistryDesks", name := "layCounts", desc := "(Z)V" } : Jvm.MethodName)) ∈ lw_all := lw_g (lw_at lw_m6 37 rfl) rfl
theorem q1398 : (Jvm.Cond.code ({ cls := "MinistryDesks", name := "layCounts", desc := "(Z)V" } : Jvm.MethodName) prog_1_method_31_code (4 : Nat) (Option.none : Option Jvm.ClassFile.FieldType)) ∈ lw_all := lw_g (lw_at lw_m6 38 rfl) rfl
theorem q1399 : (Jvm.Cond.methodLink "MinistryDesks" (314 : Nat) ({ cls := "MinistryDesks", name := "worth", desc := "(I)I" } : Jvm.MethodName)) ∈ lw_all := lw_g (lw_at lw_m6 39 rfl) rfl
theorem q1400 : (Jvm.Cond.methodLink "MinistryDesks" (326 : Nat) ({ cls := "MinistryDesks", name := "layMost", desc := "(I)V" } : Jvm.MethodName)) ∈ lw_all := lw_g (lw_at lw_m6 40 rfl) rfl
theorem q1401 : (Jvm.Cond.privateMethod ({ cls := "MinistryDesks", name := "layMost", desc := "(I)V" } : Jvm.MethodName)) ∈ lw_tbl := lw_at lw_m6 41 rfl
theorem q1402 : (Jvm.Cond.instanceMethod ({ cls := "MinistryDesks", name := "layMost", desc := "(I)V" } : Jvm.MethodName)) ∈ lw_all := lw_g (lw_at lw_m6 42 rfl) rfl
theorem q1403 : (Jvm.Cond.code ({ cls := "MinistryDesks", name := "layMost", desc := "(I)V" } : Jvm.MethodName) prog_1_method_30_code (8 : Nat) (Option.none : Option Jvm.ClassFile.FieldType)) ∈ lw_all := lw_g (lw_at lw_m6 43 rfl) rfl
theorem q1404 : (Jvm.Cond.methodLink "MinistryDesks" (288 : Nat) ({ cls := "MinistryDesks", name := "at", desc := "(IIZ)I" } : Jvm.MethodName)) ∈ lw_all := lw_g (lw_at lw_m6 44 rfl) rfl
theorem q1405 : (Jvm.Cond.static ({ cls := "MinistryDesks", name := "at", desc := "(IIZ)I" } : Jvm.MethodName)) ∈ lw_all := lw_g (lw_at lw_m6 45 rfl) rfl
theorem q1406 : (Jvm.Cond.code ({ cls := "MinistryDesks", name := "at", desc := "(IIZ)I" } : Jvm.MethodName) prog_1_method_22_code (3 : Nat) (Option.some Jvm.ClassFile.FieldType.int)) ∈ lw_all := lw_g (lw_at lw_m6 46 rfl) rfl
theorem q1407 : (Jvm.Cond.methodLink "MinistryDesks" (301 : Nat) ({ cls := "MinistryDesks", name := "isTime", desc := "(IIIZ)Z" } : Jvm.MethodName)) ∈ lw_all := lw_g (lw_at lw_m6 47 rfl) rfl
theorem q1408 : (Jvm.Cond.privateMethod ({ cls := "MinistryDesks", name := "isTime", desc := "(IIIZ)Z" } : Jvm.MethodName)) ∈ lw_tbl := lw_at lw_m6 48 rfl
theorem q1409 : (Jvm.Cond.instanceMethod ({ cls := "MinistryDesks", name := "isTime", desc := "(IIIZ)Z" } : Jvm.MethodName)) ∈ lw_all := lw_g (lw_at lw_m6 49 rfl) rfl
theorem q1410 : (Jvm.Cond.code ({ cls := "MinistryDesks", name := "isTime", desc := "(IIIZ)Z" } : Jvm.MethodName) prog_1_method_24_code (5 : Nat) (Option.some Jvm.ClassFile.FieldType.boolean)) ∈ lw_all := lw_g (lw_at lw_m6 50 rfl) rfl
theorem q1411 : (Jvm.Cond.methodLink "MinistryDesks" (276 : Nat) ({ cls := "MinistryDesks", name := "comingFact", desc := "(I)I" } : Jvm.MethodName)) ∈ lw_all := lw_g (lw_at lw_m6 51 rfl) rfl
theorem q1412 : (Jvm.Cond.privateMethod ({ cls := "MinistryDesks", name := "comingFact", desc := "(I)I" } : Jvm.MethodName)) ∈ lw_tbl := lw_at lw_m6 52 rfl
theorem q1413 : (Jvm.Cond.instanceMethod ({ cls := "MinistryDesks", name := "comingFact", desc := "(I)I" } : Jvm.MethodName)) ∈ lw_all := lw_g (lw_at lw_m6 53 rfl) rfl
theorem q1414 : (Jvm.Cond.code ({ cls := "MinistryDesks", name := "comingFact", desc := "(I)I" } : Jvm.MethodName) prog_1_method_25_code (2 : Nat) (Option.some Jvm.ClassFile.FieldType.int)) ∈ lw_all := lw_g (lw_at lw_m6 54 rfl) rfl
theorem q1415 : (Jvm.Cond.methodLink "MinistryDesks" (279 : Nat) ({ cls := "MinistryDesks", name := "isOf", desc := "(II)Z" } : Jvm.MethodName)) ∈ lw_all := lw_g (lw_at lw_m6 55 rfl) rfl
theorem q1416 : (Jvm.Cond.methodLink "MinistryDesks" (283 : Nat) ({ cls := "java/lang/Integer", name := "bitCount", desc := "(I)I" } : Jvm.MethodName)) ∈ lw_all := lw_g (lw_at lw_m6 56 rfl) rfl
theorem q1422 : (Jvm.Cond.classLink "MinistryDesks" (205 : Nat) "MinistryDesks$Desk") ∈ lw_all := lw_g (lw_at lw_m6 62 rfl) rfl
theorem q1423 : (Jvm.Cond.methodLink "MinistryDesks" (305 : Nat) ({ cls := "MinistryDesks", name := "choice", desc := "(II)I" } : Jvm.MethodName)) ∈ lw_all := lw_g (lw_at lw_m6 63 rfl) rfl
theorem q1424 : (Jvm.Cond.privateMethod ({ cls := "MinistryDesks", name := "choice", desc := "(II)I" } : Jvm.MethodName)) ∈ lw_tbl := lw_at lw_m6 64 rfl
theorem q1425 : (Jvm.Cond.instanceMethod ({ cls := "MinistryDesks", name := "choice", desc := "(II)I" } : Jvm.MethodName)) ∈ lw_all := lw_g (lw_at lw_m6 65 rfl) rfl
theorem q1426 : (Jvm.Cond.code ({ cls := "MinistryDesks", name := "choice", desc := "(II)I" } : Jvm.MethodName) prog_1_method_27_code (5 : Nat) (Option.some Jvm.ClassFile.FieldType.int)) ∈ lw_all := lw_g (lw_at lw_m6 66 rfl) rfl
theorem q1427 : (Jvm.Cond.methodLink "MinistryDesks" (292 : Nat) ({ cls := "MinistryDesks", name := "behind", desc := "(III)I" } : Jvm.MethodName)) ∈ lw_all := lw_g (lw_at lw_m6 67 rfl) rfl
theorem q1428 : (Jvm.Cond.privateMethod ({ cls := "MinistryDesks", name := "behind", desc := "(III)I" } : Jvm.MethodName)) ∈ lw_tbl := lw_at lw_m6 68 rfl
theorem q1429 : (Jvm.Cond.instanceMethod ({ cls := "MinistryDesks", name := "behind", desc := "(III)I" } : Jvm.MethodName)) ∈ lw_all := lw_g (lw_at lw_m6 69 rfl) rfl
theorem q1430 : (Jvm.Cond.code ({ cls := "MinistryDesks", name := "behind", desc := "(III)I" } : Jvm.MethodName) prog_1_method_26_code (4 : Nat) (Option.some Jvm.ClassFile.FieldType.int)) ∈ lw_all := lw_g (lw_at lw_m6 70 rfl) rfl
theorem q1431 : (Jvm.Cond.methodLink "MinistryDesks" (308 : Nat) ({ cls := "MinistryDesks", name := "gain", desc := "(II)I" } : Jvm.MethodName)) ∈ lw_all := lw_g (lw_at lw_m6 71 rfl) rfl
theorem q1432 : (Jvm.Cond.privateMethod ({ cls := "MinistryDesks", name := "gain", desc := "(II)I" } : Jvm.MethodName)) ∈ lw_tbl := lw_at lw_m6 72 rfl
theorem q1433 : (Jvm.Cond.instanceMethod ({ cls := "MinistryDesks", name := "gain", desc := "(II)I" } : Jvm.MethodName)) ∈ lw_all := lw_g (lw_at lw_m6 73 rfl) rfl
theorem q1434 : (Jvm.Cond.code ({ cls := "MinistryDesks", name := "gain", desc := "(II)I" } : Jvm.MethodName) prog_1_method_29_code (4 : Nat) (Option.some Jvm.ClassFile.FieldType.int)) ∈ lw_all := lw_g (lw_at lw_m6 74 rfl) rfl
theorem q1435 : (Jvm.Cond.methodLink "MinistryDesks" (311 : Nat) ({ cls := "MinistryDesks", name := "next", desc := "(III)I" } : Jvm.MethodName)) ∈ lw_all := lw_g (lw_at lw_m6 75 rfl) rfl
theorem q1436 : (Jvm.Cond.privateMethod ({ cls := "MinistryDesks", name := "next", desc := "(III)I" } : Jvm.MethodName)) ∈ lw_tbl := lw_at lw_m6 76 rfl
theorem q1437 : (Jvm.Cond.instanceMethod ({ cls := "MinistryDesks", name := "next", desc := "(III)I" } : Jvm.MethodName)) ∈ lw_all := lw_g (lw_at lw_m6 77 rfl) rfl
theorem q1438 : (Jvm.Cond.code ({ cls := "MinistryDesks", name := "next", desc := "(III)I" } : Jvm.MethodName) prog_1_method_28_code (4 : Nat) (Option.some Jvm.ClassFile.FieldType.int)) ∈ lw_all := lw_g (lw_at lw_m6 78 rfl) rfl
theorem q1439 : (Jvm.Cond.methodLink "MinistryDesks" (296 : Nat) ({ cls := "MinistryDesks", name := "dawned", desc := "(II)I" } : Jvm.MethodName)) ∈ lw_all := lw_g (lw_at lw_m6 79 rfl) rfl
theorem q1440 : (Jvm.Cond.privateMethod ({ cls := "MinistryDesks", name := "dawned", desc := "(II)I" } : Jvm.MethodName)) ∈ lw_tbl := lw_at lw_m6 80 rfl
theorem q1441 : (Jvm.Cond.instanceMethod ({ cls := "MinistryDesks", name := "dawned", desc := "(II)I" } : Jvm.MethodName)) ∈ lw_all := lw_g (lw_at lw_m6 81 rfl) rfl
theorem q1442 : (Jvm.Cond.code ({ cls := "MinistryDesks", name := "dawned", desc := "(II)I" } : Jvm.MethodName) prog_1_method_23_code (5 : Nat) (Option.some Jvm.ClassFile.FieldType.int)) ∈ lw_all := lw_g (lw_at lw_m6 82 rfl) rfl
theorem q1444 : (Jvm.Cond.instanceMethod ({ cls := "MinistryDesks", name := "goes", desc := "(II)I" } : Jvm.MethodName)) ∈ lw_all := lw_g (lw_at lw_m6 84 rfl) rfl
theorem q1445 : (Jvm.Cond.selects "MinistryDesks" ({ cls := "MinistryDesks", name := "goes", desc := "(II)I" } : Jvm.MethodName) ({ cls := "MinistryDesks", name := "goes", desc := "(II)I" } : Jvm.MethodName)) ∈ lw_all := lw_g (lw_at lw_m6 85 rfl) rfl
theorem q1446 : (Jvm.Cond.code ({ cls := "MinistryDesks", name := "goes", desc := "(II)I" } : Jvm.MethodName) prog_1_method_35_code (3 : Nat) (Option.some Jvm.ClassFile.FieldType.int)) ∈ lw_all := lw_g (lw_at lw_m6 86 rfl) rfl
theorem q1447 : (Jvm.Cond.methodLink "MinistryDesks" (338 : Nat) ({ cls := "MinistryDesks", name := "goAlong", desc := "(II[Z)I" } : Jvm.MethodName)) ∈ lw_all := lw_g (lw_at lw_m6 87 rfl) rfl
theorem q1448 : (Jvm.Cond.privateMethod ({ cls := "MinistryDesks", name := "goAlong", desc := "(II[Z)I" } : Jvm.MethodName)) ∈ lw_tbl := lw_at lw_m6 88 rfl
theorem q1449 : (Jvm.Cond.instanceMethod ({ cls := "MinistryDesks", name := "goAlong", desc := "(II[Z)I" } : Jvm.MethodName)) ∈ lw_all := lw_g (lw_at lw_m6 89 rfl) rfl
theorem q1450 : (Jvm.Cond.code ({ cls := "MinistryDesks", name := "goAlong", desc := "(II[Z)I" } : Jvm.MethodName) prog_1_method_34_code (9 : Nat) (Option.some Jvm.ClassFile.FieldType.int)) ∈ lw_all := lw_g (lw_at lw_m6 90 rfl) rfl
theorem q1452 : (Jvm.Cond.instanceMethod ({ cls := "MinistryDesks", name := "knew", desc := "(III)I" } : Jvm.MethodName)) ∈ lw_all := lw_g (lw_at lw_m6 92 rfl) rfl
theorem q1453 : (Jvm.Cond.selects "MinistryDesks" ({ cls := "MinistryDesks", name := "knew", desc := "(III)I" } : Jvm.MethodName) ({ cls := "MinistryDesks", name := "knew", desc := "(III)I" } : Jvm.MethodName)) ∈ lw_all := lw_g (lw_at lw_m6 93 rfl) rfl
theorem q1454 : (Jvm.Cond.code ({ cls := "MinistryDesks", name := "knew", desc := "(III)I" } : Jvm.MethodName) prog_1_method_36_code (7 : Nat) (Option.some Jvm.ClassFile.FieldType.int)) ∈ lw_all := lw_g (lw_at lw_m6 94 rfl) rfl
theorem q1455 : (Jvm.Cond.constantLong "MinistryDesks" (342 : Nat) (1103515245 : Int64)) ∈ lw_all := lw_g (lw_at lw_m6 95 rfl) rfl
theorem q1456 : (Jvm.Cond.constantLong "MinistryDesks" (344 : Nat) (12345 : Int64)) ∈ lw_all := lw_g (lw_at lw_m6 96 rfl) rfl
theorem q1457 : (Jvm.Cond.constantLong "MinistryDesks" (346 : Nat) (2147483647 : Int64)) ∈ lw_all := lw_g (lw_at lw_m6 97 rfl) rfl
theorem q1458 : (Jvm.Cond.constantLong "MinistryDesks" (348 : Nat) (65536 : Int64)) ∈ lw_all := lw_g (lw_at lw_m6 98 rfl) rfl
theorem q1459 : (Jvm.Cond.constantLong "MinistryDesks" (350 : Nat) (100 : Int64)) ∈ lw_all := lw_g (lw_at lw_m6 99 rfl) rfl
theorem q1461 : (Jvm.Cond.instanceMethod ({ cls := "MinistryDesks", name := "share", desc := "(ZI)I" } : Jvm.MethodName)) ∈ lw_all := lw_g (lw_at lw_m6 101 rfl) rfl
theorem q1462 : (Jvm.Cond.selects "MinistryDesks" ({ cls := "MinistryDesks", name := "share", desc := "(ZI)I" } : Jvm.MethodName) ({ cls := "MinistryDesks", name := "share", desc := "(ZI)I" } : Jvm.MethodName)) ∈ lw_all := lw_g (lw_at lw_m6 102 rfl) rfl
theorem q1463 : (Jvm.Cond.code ({ cls := "MinistryDesks", name := "share", desc := "(ZI)I" } : Jvm.MethodName) prog_1_method_41_code (6 : Nat) (Option.some Jvm.ClassFile.FieldType.int)) ∈ lw_all := lw_g (lw_at lw_m6 103 rfl) rfl
theorem q1464 : (Jvm.Cond.methodLink "MinistryDesks" (363 : Nat) ({ cls := "MinistryDesks", name := "isFact", desc := "(I)Z" } : Jvm.MethodName)) ∈ lw_all := lw_g (lw_at lw_m6 104 rfl) rfl
theorem q1465 : (Jvm.Cond.privateMethod ({ cls := "MinistryDesks", name := "isFact", desc := "(I)Z" } : Jvm.MethodName)) ∈ lw_tbl := lw_at lw_m6 105 rfl
theorem q1466 : (Jvm.Cond.instanceMethod ({ cls := "MinistryDesks", name := "isFact", desc := "(I)Z" } : Jvm.MethodName)) ∈ lw_all := lw_g (lw_at lw_m6 106 rfl) rfl
theorem q1467 : (Jvm.Cond.code ({ cls := "MinistryDesks", name := "isFact", desc := "(I)Z" } : Jvm.MethodName) prog_1_method_11_code (2 : Nat) (Option.some Jvm.ClassFile.FieldType.boolean)) ∈ lw_all := lw_g (lw_at lw_m6 107 rfl) rfl
theorem q1468 : (Jvm.Cond.methodLink "MinistryDesks" (366 : Nat) ({ cls := "MinistryDesks", name := "layShares", desc := "(Z)V" } : Jvm.MethodName)) ∈ lw_all := lw_g (lw_at lw_m6 108 rfl) rfl
theorem q1469 : (Jvm.Cond.privateMethod ({ cls := "MinistryDesks", name := "layShares", desc := "(Z)V" } : Jvm.MethodName)) ∈ lw_tbl := lw_at lw_m6 109 rfl
theorem q1470 : (Jvm.Cond.instanceMethod ({ cls := "MinistryDesks", name := "layShares", desc := "(Z)V" } : Jvm.MethodName)) ∈ lw_all := lw_g (lw_at lw_m6 110 rfl) rfl
theorem q1471 : (Jvm.Cond.code ({ cls := "MinistryDesks", name := "layShares", desc := "(Z)V" } : Jvm.MethodName) prog_1_method_39_code (8 : Nat) (Option.none : Option Jvm.ClassFile.FieldType)) ∈ lw_all := lw_g (lw_at lw_m6 111 rfl) rfl
theorem q1472 : (Jvm.Cond.methodLink "MinistryDesks" (352 : Nat) ({ cls := "MinistryDesks", name := "shareOf", desc := "(IIZ)I" } : Jvm.MethodName)) ∈ lw_all := lw_g (lw_at lw_m6 112 rfl) rfl
theorem q1473 : (Jvm.Cond.privateMethod ({ cls := "MinistryDesks", name := "shareOf", desc := "(IIZ)I" } : Jvm.MethodName)) ∈ lw_tbl := lw_at lw_m6 113 rfl
theorem q1474 : (Jvm.Cond.instanceMethod ({ cls := "MinistryDesks", name := "shareOf", desc := "(IIZ)I" } : Jvm.MethodName)) ∈ lw_all := lw_g (lw_at lw_m6 114 rfl) rfl
theorem q1475 : (Jvm.Cond.code ({ cls := "MinistryDesks", name := "shareOf", desc := "(IIZ)I" } : Jvm.MethodName) prog_1_method_37_code (10 : Nat) (Option.some Jvm.ClassFile.FieldType.int)) ∈ lw_all := lw_g (lw_at lw_m6 115 rfl) rfl
theorem q1476 : (Jvm.Cond.methodLink "MinistryDesks" (355 : Nat) ({ cls := "MinistryDesks", name := "keeping", desc := "(II)I" } : Jvm.MethodName)) ∈ lw_all := lw_g (lw_at lw_m6 116 rfl) rfl
theorem q1477 : (Jvm.Cond.privateMethod ({ cls := "MinistryDesks", name := "keeping", desc := "(II)I" } : Jvm.MethodName)) ∈ lw_tbl := lw_at lw_m6 117 rfl
theorem q1478 : (Jvm.Cond.instanceMethod ({ cls := "MinistryDesks", name := "keeping", desc := "(II)I" } : Jvm.MethodName)) ∈ lw_all := lw_g (lw_at lw_m6 118 rfl) rfl
theorem q1479 : (Jvm.Cond.code ({ cls := "MinistryDesks", name := "keeping", desc := "(II)I" } : Jvm.MethodName) prog_1_method_38_code (6 : Nat) (Option.some Jvm.ClassFile.FieldType.int)) ∈ lw_all := lw_g (lw_at lw_m6 119 rfl) rfl
theorem q1480 : (Jvm.Cond.methodLink "MinistryDesks" (358 : Nat) ({ cls := "java/lang/Math", name := "max", desc := "(II)I" } : Jvm.MethodName)) ∈ lw_all := lw_g (lw_at lw_m6 120 rfl) rfl
theorem q1481 : (Jvm.Cond.methodLink "MinistryDesks" (369 : Nat) ({ cls := "MinistryDesks", name := "allFree", desc := "()I" } : Jvm.MethodName)) ∈ lw_all := lw_g (lw_at lw_m6 121 rfl) rfl
theorem q1482 : (Jvm.Cond.privateMethod ({ cls := "MinistryDesks", name := "allFree", desc := "()I" } : Jvm.MethodName)) ∈ lw_tbl := lw_at lw_m6 122 rfl
theorem q1483 : (Jvm.Cond.instanceMethod ({ cls := "MinistryDesks", name := "allFree", desc := "()I" } : Jvm.MethodName)) ∈ lw_all := lw_g (lw_at lw_m6 123 rfl) rfl
theorem q1484 : (Jvm.Cond.code ({ cls := "MinistryDesks", name := "allFree", desc := "()I" } : Jvm.MethodName) prog_1_method_40_code (3 : Nat) (Option.some Jvm.ClassFile.FieldType.int)) ∈ lw_all := lw_g (lw_at lw_m6 124 rfl) rfl
theorem q1486 : (Jvm.Cond.instanceMethod ({ cls := "MinistryDesks", name := "fewest", desc := "()I" } : Jvm.MethodName)) ∈ lw_all := lw_g (lw_at lw_m6 126 rfl) rfl
theorem q1487 : (Jvm.Cond.selects "MinistryDesks" ({ cls := "MinistryDesks", name := "fewest", desc := "()I" } : Jvm.MethodName) ({ cls := "MinistryDesks", name := "fewest", desc := "()I" } : Jvm.MethodName)) ∈ lw_all := lw_g (lw_at lw_m6 127 rfl) rfl
theorem q1488 : (Jvm.Cond.code ({ cls := "MinistryDesks", name := "fewest", desc := "()I" } : Jvm.MethodName) prog_1_method_42_code (6 : Nat) (Option.some Jvm.ClassFile.FieldType.int)) ∈ lw_all := lw_g (lw_at lw_m6 128 rfl) rfl
theorem q1489 : (Jvm.Cond.methodLink "MinistryDesks" (372 : Nat) ({ cls := "java/lang/Math", name := "min", desc := "(II)I" } : Jvm.MethodName)) ∈ lw_all := lw_g (lw_at lw_m6 129 rfl) rfl
theorem q1491 : (Jvm.Cond.instanceMethod ({ cls := "MinistryDesks", name := "gives", desc := "(IJ)I" } : Jvm.MethodName)) ∈ lw_all := lw_g (lw_at lw_m6 131 rfl) rfl
theorem q1492 : (Jvm.Cond.selects "MinistryDesks" ({ cls := "MinistryDesks", name := "gives", desc := "(IJ)I" } : Jvm.MethodName) ({ cls := "MinistryDesks", name := "gives", desc := "(IJ)I" } : Jvm.MethodName)) ∈ lw_all := lw_g (lw_at lw_m6 132 rfl) rfl
theorem q1493 : (Jvm.Cond.code ({ cls := "MinistryDesks", name := "gives", desc := "(IJ)I" } : Jvm.MethodName) prog_1_method_46_code (6 : Nat) (Option.some Jvm.ClassFile.FieldType.int)) ∈ lw_all := lw_g (lw_at lw_m6 133 rfl) rfl
theorem q1494 : (Jvm.Cond.methodLink "MinistryDesks" (381 : Nat) ({ cls := "MinistryDesks", name := "areCodes", desc := "(IJ)Z" } : Jvm.MethodName)) ∈ lw_all := lw_g (lw_at lw_m6 134 rfl) rfl
theorem q1495 : (Jvm.Cond.privateMethod ({ cls := "MinistryDesks", name := "areCodes", desc := "(IJ)Z" } : Jvm.MethodName)) ∈ lw_tbl := lw_at lw_m6 135 rfl
theorem q1496 : (Jvm.Cond.instanceMethod ({ cls := "MinistryDesks", name := "areCodes", desc := "(IJ)Z" } : Jvm.MethodName)) ∈ lw_all := lw_g (lw_at lw_m6 136 rfl) rfl
theorem q1497 : (Jvm.Cond.code ({ cls := "MinistryDesks", name := "areCodes", desc := "(IJ)Z" } : Jvm.MethodName) prog_1_method_44_code (5 : Nat) (Option.some Jvm.ClassFile.FieldType.boolean)) ∈ lw_all := lw_g (lw_at lw_m6 137 rfl) rfl
theorem q1498 : (Jvm.Cond.methodLink "MinistryDesks" (377 : Nat) ({ cls := "MinistryDesks", name := "code", desc := "(JI)I" } : Jvm.MethodName)) ∈ lw_all := lw_g (lw_at lw_m6 138 rfl) rfl
theorem q1499 : (Jvm.Cond.static ({ cls := "MinistryDesks", name := "code", desc := "(JI)I" } : Jvm.MethodName)) ∈ lw_all := lw_g (lw_at lw_m6 139 rfl) rfl
theorem q1500 : (Jvm.Cond.code ({ cls := "MinistryDesks", name := "code", desc := "(JI)I" } : Jvm.MethodName) prog_1_method_43_code (3 : Nat) (Option.some Jvm.ClassFile.FieldType.int)) ∈ lw_all := lw_g (lw_at lw_m6 140 rfl) rfl
theorem q1501 : (Jvm.Cond.constantLong "MinistryDesks" (375 : Nat) (255 : Int64)) ∈ lw_all := lw_g (lw_at lw_m6 141 rfl) rfl
theorem q1502 : (Jvm.Cond.methodLink "MinistryDesks" (385 : Nat) ({ cls := "MinistryDesks", name := "makes", desc := "(IJI)I" } : Jvm.MethodName)) ∈ lw_all := lw_g (lw_at lw_m6 142 rfl) rfl
theorem q1503 : (Jvm.Cond.static ({ cls := "MinistryDesks", name := "makes", desc := "(IJI)I" } : Jvm.MethodName)) ∈ lw_all := lw_g (lw_at lw_m6 143 rfl) rfl
theorem q1504 : (Jvm.Cond.code ({ cls := "MinistryDesks", name := "makes", desc := "(IJI)I" } : Jvm.MethodName) prog_1_method_45_code (7 : Nat) (Option.some Jvm.ClassFile.FieldType.int)) ∈ lw_all := lw_g (lw_at lw_m6 144 rfl) rfl
theorem q1506 : (Jvm.Cond.instanceMethod ({ cls := "MinistryDesks", name := "shows", desc := "(IJI)I" } : Jvm.MethodName)) ∈ lw_all := lw_g (lw_at lw_m6 146 rfl) rfl
theorem q1507 : (Jvm.Cond.selects "MinistryDesks" ({ cls := "MinistryDesks", name := "shows", desc := "(IJI)I" } : Jvm.MethodName) ({ cls := "MinistryDesks", name := "shows", desc := "(IJI)I" } : Jvm.MethodName)) ∈ lw_all := lw_g (lw_at lw_m6 147 rfl) rfl
theorem q1508 : (Jvm.Cond.code ({ cls := "MinistryDesks", name := "shows", desc := "(IJI)I" } : Jvm.MethodName) prog_1_method_47_code (6 : Nat) (Option.some Jvm.ClassFile.FieldType.int)) ∈ lw_all := lw_g (lw_at lw_m6 148 rfl) rfl
theorem q1510 : (Jvm.Cond.instanceMethod ({ cls := "MinistryDesks", name := "rumour", desc := "(II)I" } : Jvm.MethodName)) ∈ lw_all := lw_g (lw_at lw_m6 150 rfl) rfl
theorem q1511 : (Jvm.Cond.selects "MinistryDesks" ({ cls := "MinistryDesks", name := "rumour", desc := "(II)I" } : Jvm.MethodName) ({ cls := "MinistryDesks", name := "rumour", desc := "(II)I" } : Jvm.MethodName)) ∈ lw_all := lw_g (lw_at lw_m6 151 rfl) rfl
theorem q1512 : (Jvm.Cond.code ({ cls := "MinistryDesks", name := "rumour", desc := "(II)I" } : Jvm.MethodName) prog_1_method_50_code (4 : Nat) (Option.some Jvm.ClassFile.FieldType.int)) ∈ lw_all := lw_g (lw_at lw_m6 152 rfl) rfl
theorem q1513 : (Jvm.Cond.methodLink "MinistryDesks" (391 : Nat) ({ cls := "MinistryDesks", name := "noons", desc := "(II)I" } : Jvm.MethodName)) ∈ lw_all := lw_g (lw_at lw_m6 153 rfl) rfl
theorem q1514 : (Jvm.Cond.privateMethod ({ cls := "MinistryDesks", name := "noons", desc := "(II)I" } : Jvm.MethodName)) ∈ lw_tbl := lw_at lw_m6 154 rfl
theorem q1515 : (Jvm.Cond.instanceMethod ({ cls := "MinistryDesks", name := "noons", desc := "(II)I" } : Jvm.MethodName)) ∈ lw_all := lw_g (lw_at lw_m6 155 rfl) rfl
theorem q1516 : (Jvm.Cond.code ({ cls := "MinistryDesks", name := "noons", desc := "(II)I" } : Jvm.MethodName) prog_1_method_49_code (5 : Nat) (Option.some Jvm.ClassFile.FieldType.int)) ∈ lw_all := lw_g (lw_at lw_m6 156 rfl) rfl
theorem q1517 : (Jvm.Cond.methodLink "MinistryDesks" (389 : Nat) ({ cls := "MinistryDesks", name := "asks", desc := "(I)I" } : Jvm.MethodName)) ∈ lw_all := lw_g (lw_at lw_m6 157 rfl) rfl
theorem q1518 : (Jvm.Cond.privateMethod ({ cls := "MinistryDesks", name := "asks", desc := "(I)I" } : Jvm.MethodName)) ∈ lw_tbl := lw_at lw_m6 158 rfl
theorem q1519 : (Jvm.Cond.instanceMethod ({ cls := "MinistryDesks", name := "asks", desc := "(I)I" } : Jvm.MethodName)) ∈ lw_all := lw_g (lw_at lw_m6 159 rfl) rfl
theorem q1520 : (Jvm.Cond.code ({ cls := "MinistryDesks", name := "asks", desc := "(I)I" } : Jvm.MethodName) prog_1_method_48_code (2 : Nat) (Option.some Jvm.ClassFile.FieldType.int)) ∈ lw_all := lw_g (lw_at lw_m6 160 rfl) rfl
theorem q1522 : (Jvm.Cond.instanceMethod ({ cls := "MinistryDesks", name := "differ", desc := "(III)I" } : Jvm.MethodName)) ∈ lw_all := lw_g (lw_at lw_m6 162 rfl) rfl
theorem q1523 : (Jvm.Cond.selects "MinistryDesks" ({ cls := "MinistryDesks", name := "differ", desc := "(III)I" } : Jvm.MethodName) ({ cls := "MinistryDesks", name := "differ", desc := "(III)I" } : Jvm.MethodName)) ∈ lw_all := lw_g (lw_at lw_m6 163 rfl) rfl
theorem q1524 : (Jvm.Cond.code ({ cls := "MinistryDesks", name := "differ", desc := "(III)I" } : Jvm.MethodName) prog_1_method_52_code (7 : Nat) (Option.some Jvm.ClassFile.FieldType.int)) ∈ lw_all := lw_g (lw_at lw_m6 164 rfl) rfl
theorem q1525 : (Jvm.Cond.methodLink "MinistryDesks" (394 : Nat) ({ cls := "MinistryDesks", name := "holds", desc := "(III)I" } : Jvm.MethodName)) ∈ lw_all := lw_g (lw_at lw_m6 165 rfl) rfl
theorem q1526 : (Jvm.Cond.privateMethod ({ cls := "MinistryDesks", name := "holds", desc := "(III)I" } : Jvm.MethodName)) ∈ lw_tbl := lw_at lw_m6 166 rfl
theorem q1527 : (Jvm.Cond.instanceMethod ({ cls := "MinistryDesks", name := "holds", desc := "(III)I" } : Jvm.MethodName)) ∈ lw_all := lw_g (lw_at lw_m6 167 rfl) rfl
theorem q1528 : (Jvm.Cond.code ({ cls := "MinistryDesks", name := "holds", desc := "(III)I" } : Jvm.MethodName) prog_1_method_51_code (6 : Nat) (Option.some Jvm.ClassFile.FieldType.int)) ∈ lw_all := lw_g (lw_at lw_m6 168 rfl) rfl
theorem q1530 : (Jvm.Cond.instanceMethod ({ cls := "MinistryDesks", name := "ignorant", desc := "(I)I" } : Jvm.MethodName)) ∈ lw_all := lw_g (lw_at lw_m6 170 rfl) rfl
theorem q1531 : (Jvm.Cond.selects "MinistryDesks" ({ cls := "MinistryDesks", name := "ignorant", desc := "(I)I" } : Jvm.MethodName) ({ cls := "MinistryDesks", name := "ignorant", desc := "(I)I" } : Jvm.MethodName)) ∈ lw_all := lw_g (lw_at lw_m6 171 rfl) rfl
theorem q1532 : (Jvm.Cond.code ({ cls := "MinistryDesks", name := "ignorant", desc := "(I)I" } : Jvm.MethodName) prog_1_method_53_code (6 : Nat) (Option.some Jvm.ClassFile.FieldType.int)) ∈ lw_all := lw_g (lw_at lw_m6 172 rfl) rfl
theorem q1533 : (Jvm.Cond.methodLink "MinistryDesks" (397 : Nat) ({ cls := "MinistryDesks$Run", name := "lineOf", desc := "(II)I" } : Jvm.MethodName)) ∈ lw_all := lw_g (lw_at lw_m6 173 rfl) rfl
theorem q1535 : (Jvm.Cond.instanceMethod ({ cls := "MinistryDesks", name := "spy", desc := "(II)I" } : Jvm.MethodName)) ∈ lw_all := lw_g (lw_at lw_m6 175 rfl) rfl
theorem q1536 : (Jvm.Cond.selects "MinistryDesks" ({ cls := "MinistryDesks", name := "spy", desc := "(II)I" } : Jvm.MethodName) ({ cls := "MinistryDesks", name := "spy", desc := "(II)I" } : Jvm.MethodName)) ∈ lw_all := lw_g (lw_at lw_m6 176 rfl) rfl
theorem q1537 : (Jvm.Cond.code ({ cls := "MinistryDesks", name := "spy", desc := "(II)I" } : Jvm.MethodName) prog_1_method_54_code (5 : Nat) (Option.some Jvm.ClassFile.FieldType.int)) ∈ lw_all := lw_g (lw_at lw_m6 177 rfl) rfl
theorem q1539 : (Jvm.Cond.instanceMethod ({ cls := "MinistryDesks", name := "hear", desc := "(II)I" } : Jvm.MethodName)) ∈ lw_all := lw_g (lw_at lw_m6 179 rfl) rfl
theorem q1540 : (Jvm.Cond.selects "MinistryDesks" ({ cls := "MinistryDesks", name := "hear", desc := "(II)I" } : Jvm.MethodName) ({ cls := "MinistryDesks", name := "hear", desc := "(II)I" } : Jvm.MethodName)) ∈ lw_all := lw_g (lw_at lw_m6 180 rfl) rfl
theorem q1541 : (Jvm.Cond.code ({ cls := "MinistryDesks", name := "hear", desc := "(II)I" } : Jvm.MethodName) prog_1_method_56_code (3 : Nat) (Option.some Jvm.ClassFile.FieldType.int)) ∈ lw_all := lw_g (lw_at lw_m6 181 rfl) rfl
theorem q1542 : (Jvm.Cond.methodLink "MinistryDesks" (400 : Nat) ({ cls := "MinistryDesks", name := "hears", desc := "(II)I" } : Jvm.MethodName)) ∈ lw_all := lw_g (lw_at lw_m6 182 rfl) rfl
theorem q1543 : (Jvm.Cond.privateMethod ({ cls := "MinistryDesks", name := "hears", desc := "(II)I" } : Jvm.MethodName)) ∈ lw_tbl := lw_at lw_m6 183 rfl
theorem q1544 : (Jvm.Cond.instanceMethod ({ cls := "MinistryDesks", name := "hears", desc := "(II)I" } : Jvm.MethodName)) ∈ lw_all := lw_g (lw_at lw_m6 184 rfl) rfl
theorem q1545 : (Jvm.Cond.code ({ cls := "MinistryDesks", name := "hears", desc := "(II)I" } : Jvm.MethodName) prog_1_method_55_code (3 : Nat) (Option.some Jvm.ClassFile.FieldType.int)) ∈ lw_all := lw_g (lw_at lw_m6 185 rfl) rfl
theorem q1547 : (Jvm.Cond.instanceMethod ({ cls := "MinistryDesks", name := "strike", desc := "(I)I" } : Jvm.MethodName)) ∈ lw_all := lw_g (lw_at lw_m6 187 rfl) rfl
theorem q1548 : (Jvm.Cond.selects "MinistryDesks" ({ cls := "MinistryDesks", name := "strike", desc := "(I)I" } : Jvm.MethodName) ({ cls := "MinistryDesks", name := "strike", desc := "(I)I" } : Jvm.MethodName)) ∈ lw_all := lw_g (lw_at lw_m6 188 rfl) rfl
theorem q1549 : (Jvm.Cond.code ({ cls := "MinistryDesks", name := "strike", desc := "(I)I" } : Jvm.MethodName) prog_1_method_57_code (2 : Nat) (Option.some Jvm.ClassFile.FieldType.int)) ∈ lw_all := lw_g (lw_at lw_m6 189 rfl) rfl
theorem q1551 : (Jvm.Cond.instanceMethod ({ cls := "MinistryDesks", name := "known", desc := "(I)Z" } : Jvm.MethodName)) ∈ lw_all := lw_g (lw_at lw_m6 191 rfl) rfl
theorem q1552 : (Jvm.Cond.selects "MinistryDesks" ({ cls := "MinistryDesks", name := "known", desc := "(I)Z" } : Jvm.MethodName) ({ cls := "MinistryDesks", name := "known", desc := "(I)Z" } : Jvm.MethodName)) ∈ lw_all := lw_g (lw_at lw_m6 192 rfl) rfl
theorem q1553 : (Jvm.Cond.code ({ cls := "MinistryDesks", name := "known", desc := "(I)Z" } : Jvm.MethodName) prog_1_method_58_code (2 : Nat) (Option.some Jvm.ClassFile.FieldType.boolean)) ∈ lw_all := lw_g (lw_at lw_m6 193 rfl) rfl
theorem q1555 : (Jvm.Cond.instanceMethod ({ cls := "MinistryDesks", name := "fits", desc := "()I" } : Jvm.MethodName)) ∈ lw_all := lw_g (lw_at lw_m6 195 rfl) rfl
theorem q1556 : (Jvm.Cond.selects "MinistryDesks" ({ cls := "MinistryDesks", name := "fits", desc := "()I" } : Jvm.MethodName) ({ cls := "MinistryDesks", name := "fits", desc := "()I" } : Jvm.MethodName)) ∈ lw_all := lw_g (lw_at lw_m6 196 rfl) rfl
theorem q1557 : (Jvm.Cond.code ({ cls := "MinistryDesks", name := "fits", desc := "()I" } : Jvm.MethodName) prog_1_method_61_code (4 : Nat) (Option.some Jvm.ClassFile.FieldType.int)) ∈ lw_all := lw_g (lw_at lw_m6 197 rfl) rfl
theorem q1558 : (Jvm.Cond.methodLink "MinistryDesks" (407 : Nat) ({ cls := "MinistryDesks", name := "knownBy", desc := "()I" } : Jvm.MethodName)) ∈ lw_all := lw_g (lw_at lw_m6 198 rfl) rfl
theorem q1559 : (Jvm.Cond.privateMethod ({ cls := "MinistryDesks", name := "knownBy", desc := "()I" } : Jvm.MethodName)) ∈ lw_tbl := lw_at lw_m6 199 rfl
theorem q1560 : (Jvm.Cond.instanceMethod ({ cls := "MinistryDesks", name := "knownBy", desc := "()I" } : Jvm.MethodName)) ∈ lw_all := lw_g (lw_at lw_m6 200 rfl) rfl
theorem q1561 : (Jvm.Cond.code ({ cls := "MinistryDesks", name := "knownBy", desc := "()I" } : Jvm.MethodName) prog_1_method_59_code (1 : Nat) (Option.some Jvm.ClassFile.FieldType.int)) ∈ lw_all := lw_g (lw_at lw_m6 201 rfl) rfl
theorem q1562 : (Jvm.Cond.methodLink "MinistryDesks" (413 : Nat) ({ cls := "MinistryDesks", name := "isFit", desc := "(LMinistryDesks$Node;)Z" } : Jvm.MethodName)) ∈ lw_all := lw_g (lw_at lw_m6 202 rfl) rfl
theorem q1563 : (Jvm.Cond.privateMethod ({ cls := "MinistryDesks", name := "isFit", desc := "(LMinistryDesks$Node;)Z" } : Jvm.MethodName)) ∈ lw_tbl := lw_at lw_m6 203 rfl
theorem q1564 : (Jvm.Cond.instanceMethod ({ cls := "MinistryDesks", name := "isFit", desc := "(LMinistryDesks$Node;)Z" } : Jvm.MethodName)) ∈ lw_all := lw_g (lw_at lw_m6 204 rfl) rfl
theorem q1565 : (Jvm.Cond.code ({ cls := "MinistryDesks", name := "isFit", desc := "(LMinistryDesks$Node;)Z" } : Jvm.MethodName) prog_1_method_60_code (3 : Nat) (Option.some Jvm.ClassFile.FieldType.boolean)) ∈ lw_all := lw_g (lw_at lw_m6 205 rfl) rfl
theorem q1566 : (Jvm.Cond.methodLink "MinistryDesks" (403 : Nat) ({ cls := "MinistryDesks$Change", name := "clear", desc := "(LMinistryDesks$Node;)LMinistryDesks$Change;" } : Jvm.MethodName)) ∈ lw_all := lw_g (lw_at lw_m6 206 rfl) rfl
theorem q1570 : (Jvm.Cond.classLink "MinistryDesks" (417 : Nat) "MinistryDesks$May") ∈ lw_all := lw_g (lw_at lw_m6 210 rfl) rfl
theorem q1572 : (Jvm.Cond.instanceMethod ({ cls := "MinistryDesks", name := "tried", desc := "(III)I" } : Jvm.MethodName)) ∈ lw_all := lw_g (lw_at lw_m6 212 rfl) rfl
theorem q1573 : (Jvm.Cond.selects "MinistryDesks" ({ cls := "MinistryDesks", name := "tried", desc := "(III)I" } : Jvm.MethodName) ({ cls := "MinistryDesks", name := "tried", desc := "(III)I" } : Jvm.MethodName)) ∈ lw_all := lw_g (lw_at lw_m6 213 rfl) rfl
theorem q1574 : (Jvm.Cond.code ({ cls := "MinistryDesks", name := "tried", desc := "(III)I" } : Jvm.MethodName) prog_1_method_63_code (4 : Nat) (Option.some Jvm.ClassFile.FieldType.int)) ∈ lw_all := lw_g (lw_at lw_m6 214 rfl) rfl
theorem q1575 : (Jvm.Cond.methodLink "MinistryDesks" (440 : Nat) ({ cls := "MinistryDesks", name := "lays", desc := "(II)Z" } : Jvm.MethodName)) ∈ lw_all := lw_g (lw_at lw_m6 215 rfl) rfl
theorem q1576 : (Jvm.Cond.privateMethod ({ cls := "MinistryDesks", name := "lays", desc := "(II)Z" } : Jvm.MethodName)) ∈ lw_tbl := lw_at lw_m6 216 rfl
theorem q1577 : (Jvm.Cond.instanceMethod ({ cls := "MinistryDesks", name := "lays", desc := "(II)Z" } : Jvm.MethodName)) ∈ lw_all := lw_g (lw_at lw_m6 217 rfl) rfl
theorem q1578 : (Jvm.Cond.code ({ cls := "MinistryDesks", name := "lays", desc := "(II)Z" } : Jvm.MethodName) prog_1_method_62_code (3 : Nat) (Option.some Jvm.ClassFile.FieldType.boolean)) ∈ lw_all := lw_g (lw_at lw_m6 218 rfl) rfl
theorem q1580 : (Jvm.Cond.instanceMethod ({ cls := "MinistryDesks", name := "keep", desc := "()I" } : Jvm.MethodName)) ∈ lw_all := lw_g (lw_at lw_m6 220 rfl) rfl
theorem q1581 : (Jvm.Cond.selects "MinistryDesks" ({ cls := "MinistryDesks", name := "keep", desc := "()I" } : Jvm.MethodName) ({ cls := "MinistryDesks", name := "keep", desc := "()I" } : Jvm.MethodName)) ∈ lw_all := lw_g (lw_at lw_m6 221 rfl) rfl
theorem q1582 : (Jvm.Cond.code ({ cls := "MinistryDesks", name := "keep", desc := "()I" } : Jvm.MethodName) prog_1_method_64_code (1 : Nat) (Option.some Jvm.ClassFile.FieldType.int)) ∈ lw_all := lw_g (lw_at lw_m6 222 rfl) rfl
theorem q1583 : (Jvm.Cond.methodLink "MinistryDesks" (443 : Nat) ({ cls := "MinistryDesks$Run", name := "copy", desc := "(LMinistryDesks$Run;)V" } : Jvm.MethodName)) ∈ lw_all := lw_g (lw_at lw_m6 223 rfl) rfl
theorem q1588 : (Jvm.Cond.instanceMethod ({ cls := "MinistryDesks", name := "back", desc := "()I" } : Jvm.MethodName)) ∈ lw_all := lw_g (lw_at lw_m6 228 rfl) rfl
theorem q1589 : (Jvm.Cond.selects "MinistryDesks" ({ cls := "MinistryDesks", name := "back", desc := "()I" } : Jvm.MethodName) ({ cls := "MinistryDesks", name := "back", desc := "()I" } : Jvm.MethodName)) ∈ lw_all := lw_g (lw_at lw_m6 229 rfl) rfl
theorem q1590 : (Jvm.Cond.code ({ cls := "MinistryDesks", name := "back", desc := "()I" } : Jvm.MethodName) prog_1_method_65_code (1 : Nat) (Option.some Jvm.ClassFile.FieldType.int)) ∈ lw_all := lw_g (lw_at lw_m6 230 rfl) rfl
theorem q1592 : (Jvm.Cond.instanceMethod ({ cls := "MinistryDesks", name := "count", desc := "(I)I" } : Jvm.MethodName)) ∈ lw_all := lw_g (lw_at lw_m6 232 rfl) rfl
theorem q1593 : (Jvm.Cond.selects "MinistryDesks" ({ cls := "MinistryDesks", name := "count", desc := "(I)I" } : Jvm.MethodName) ({ cls := "MinistryDesks", name := "count", desc := "(I)I" } : Jvm.MethodName)) ∈ lw_all := lw_g (lw_at lw_m6 233 rfl) rfl
theorem q1594 : (Jvm.Cond.code ({ cls := "MinistryDesks", name := "count", desc := "(I)I" } : Jvm.MethodName) prog_1_method_66_code (4 : Nat) (Option.some Jvm.ClassFile.FieldType.int)) ∈ lw_all := lw_g (lw_at lw_m6 234 rfl) rfl
theorem q1634 : (Jvm.Cond.instanceMethod ({ cls := "MinistryDesks", name := "look", desc := "(II)I" } : Jvm.MethodName)) ∈ lw_all := lw_g (lw_at lw_m7 34 rfl) rfl
theorem q1635 : (Jvm.Cond.selects "MinistryDesks" ({ cls := "MinistryDesks", name := "look", desc := "(II)I" } : Jvm.MethodName) ({ cls := "MinistryDesks", name := "look", desc := "(II)I" } : Jvm.MethodName)) ∈ lw_all := lw_g (lw_at lw_m7 35 rfl) rfl
theorem q1636 : (Jvm.Cond.code ({ cls := "MinistryDesks", name := "look", desc := "(II)I" } : Jvm.MethodName) prog_1_method_15_code (3 : Nat) (Option.some Jvm.ClassFile.FieldType.int)) ∈ lw_all := lw_g (lw_at lw_m7 36 rfl) rfl
theorem q1637 : (Jvm.Cond.classLink "MinistryDesks" (202 : Nat) "java/lang/IndexOutOfBoundsException") ∈ lw_all := lw_g (lw_at lw_m7 37 rfl) rfl
theorem q1646 : (Jvm.Cond.methodLink "MinistryDesks" (204 : Nat) ({ cls := "java/lang/IndexOutOfBoundsException", name := "<init>", desc := "()V" } : Jvm.MethodName)) ∈ lw_all := lw_g (lw_at lw_m7 46 rfl) rfl
theorem q1658 : (Jvm.Cond.methodLink "MinistryDesks" (220 : Nat) ({ cls := "MinistryDesks$Run", name := "held", desc := "(I)I" } : Jvm.MethodName)) ∈ lw_all := lw_g (lw_at lw_m7 58 rfl) rfl
theorem q1659 : (Jvm.Cond.classLink "MinistryDesks" (223 : Nat) "java/util/NoSuchElementException") ∈ lw_all := lw_g (lw_at lw_m7 59 rfl) rfl
theorem q1668 : (Jvm.Cond.methodLink "MinistryDesks" (225 : Nat) ({ cls := "java/util/NoSuchElementException", name := "<init>", desc := "()V" } : Jvm.MethodName)) ∈ lw_all := lw_g (lw_at lw_m7 68 rfl) rfl
theorem q2403 : (Jvm.Cond.castable "MinistryDesks" "java/lang/Object") ∈ lw_tbl := lw_at lw_m10 83 rfl
theorem in_X1 : ∀ w ∈ wsX10, w ∈ lw_all := lw_in wsX10 [470, 472, 474, 476, 478, 480, 482, 484, 486, 488, 490, 492, 494, 496, 498, 500, 502, 504, 506, 508, 510, 512, 514, 516, 518, 520, 522, 524] (by decide +kernel) (by decide +kernel)

