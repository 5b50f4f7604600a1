set_option maxRecDepth 100000
abbrev cX8_init : ByteArray := prog_17_method_1_code
def yX8_init : MethodName := ⟨RX8, "<init>", "()V"⟩
def dkwX8_init_7 : List UInt8 := [42, 180, 0, 7, 6, 16, 60, 79, 177]
abbrev dktX8_init_7 : List UInt8 := dkwX8_init_7 ++ []
def dkwX8_init_6 : List UInt8 := [188, 10, 181, 0, 62, 42, 8, 188, 10, 181, 0, 65, 42, 3, 182, 0, 68, 42, 180, 0, 7, 3, 5, 79]
abbrev dktX8_init_6 : List UInt8 := dkwX8_init_6 ++ dktX8_init_7
def dkwX8_init_5 : List UInt8 := [188, 10, 181, 0, 53, 42, 16, 8, 188, 10, 181, 0, 56, 42, 16, 80, 188, 10, 181, 0, 59, 42, 8]
abbrev dktX8_init_5 : List UInt8 := dkwX8_init_5 ++ dktX8_init_6
def dkwX8_init_4 : List UInt8 := [188, 10, 181, 0, 44, 42, 16, 9, 188, 10, 181, 0, 47, 42, 16, 9, 188, 10, 181, 0, 50, 42, 16, 8]
abbrev dktX8_init_4 : List UInt8 := dkwX8_init_4 ++ dktX8_init_5
def dkwX8_init_3 : List UInt8 := [181, 0, 30, 42, 17, 3, 132, 188, 8, 181, 0, 34, 42, 2, 181, 0, 37, 42, 2, 181, 0, 41, 42, 6]
abbrev dktX8_init_3 : List UInt8 := dkwX8_init_3 ++ dktX8_init_4
def dkwX8_init_2 : List UInt8 := [2, 79, 89, 6, 2, 79, 181, 0, 24, 42, 17, 0, 240, 188, 11, 181, 0, 27, 42, 17, 3, 132, 188, 8]
abbrev dktX8_init_2 : List UInt8 := dkwX8_init_2 ++ dktX8_init_3
def dkwX8_init_1 : List UInt8 := [181, 0, 17, 42, 7, 188, 10, 181, 0, 21, 42, 7, 188, 10, 89, 3, 2, 79, 89, 4, 2, 79, 89, 5]
abbrev dktX8_init_1 : List UInt8 := dkwX8_init_1 ++ dktX8_init_2
def dkwX8_init_0 : List UInt8 := [42, 183, 0, 1, 42, 17, 32, 208, 188, 10, 181, 0, 7, 42, 16, 80, 188, 11, 181, 0, 13, 42, 10]
abbrev dktX8_init_0 : List UInt8 := dkwX8_init_0 ++ dktX8_init_1
theorem dksX8_init_0 : cX8_init.data.toList.drop 0 = dktX8_init_0 := by decide +kernel
theorem dksX8_init_1 : cX8_init.data.toList.drop 23 = dktX8_init_1 := dk_seg dksX8_init_0 23 rfl rfl
theorem dksX8_init_2 : cX8_init.data.toList.drop 47 = dktX8_init_2 := dk_seg dksX8_init_1 24 rfl rfl
theorem dksX8_init_3 : cX8_init.data.toList.drop 71 = dktX8_init_3 := dk_seg dksX8_init_2 24 rfl rfl
theorem dksX8_init_4 : cX8_init.data.toList.drop 95 = dktX8_init_4 := dk_seg dksX8_init_3 24 rfl rfl
theorem dksX8_init_5 : cX8_init.data.toList.drop 119 = dktX8_init_5 := dk_seg dksX8_init_4 24 rfl rfl
theorem dksX8_init_6 : cX8_init.data.toList.drop 142 = dktX8_init_6 := dk_seg dksX8_init_5 23 rfl rfl
theorem dksX8_init_7 : cX8_init.data.toList.drop 166 = dktX8_init_7 := dk_seg dksX8_init_6 24 rfl rfl
theorem dX8_init_0 : decode cX8_init 0 = .ok (.aload_n 0, 1) := dk_42 (dk_at dksX8_init_0 0 rfl rfl)
theorem dX8_init_1 : decode cX8_init 1 = .ok (.invokespecial 1, 3) := dk_183 0 1 (dk_at dksX8_init_0 1 rfl rfl)
theorem dX8_init_4 : decode cX8_init 4 = .ok (.aload_n 0, 1) := dk_42 (dk_at dksX8_init_0 4 rfl rfl)
theorem dX8_init_5 : decode cX8_init 5 = .ok (.sipush 8400, 3) := dk_17 32 208 (dk_at dksX8_init_0 5 rfl rfl)
theorem dX8_init_8 : decode cX8_init 8 = .ok (.newarray .int, 2) := dk_188_10 (dk_at dksX8_init_0 8 rfl rfl)
theorem dX8_init_10 : decode cX8_init 10 = .ok (.putfield 7, 3) := dk_181 0 7 (dk_at dksX8_init_0 10 rfl rfl)
theorem dX8_init_13 : decode cX8_init 13 = .ok (.aload_n 0, 1) := dk_42 (dk_at dksX8_init_0 13 rfl rfl)
theorem dX8_init_14 : decode cX8_init 14 = .ok (.bipush 80, 2) := dk_16 80 (dk_at dksX8_init_0 14 rfl rfl)
theorem dX8_init_16 : decode cX8_init 16 = .ok (.newarray .long, 2) := dk_188_11 (dk_at dksX8_init_0 16 rfl rfl)
theorem dX8_init_18 : decode cX8_init 18 = .ok (.putfield 13, 3) := dk_181 0 13 (dk_at dksX8_init_0 18 rfl rfl)
theorem dX8_init_21 : decode cX8_init 21 = .ok (.aload_n 0, 1) := dk_42 (dk_at dksX8_init_0 21 rfl rfl)
theorem dX8_init_22 : decode cX8_init 22 = .ok (.lconst 1, 1) := dk_10 (dk_at dksX8_init_0 22 rfl rfl)
theorem dX8_init_23 : decode cX8_init 23 = .ok (.putfield 17, 3) := dk_181 0 17 (dk_at dksX8_init_1 0 rfl rfl)
theorem dX8_init_26 : decode cX8_init 26 = .ok (.aload_n 0, 1) := dk_42 (dk_at dksX8_init_1 3 rfl rfl)
theorem dX8_init_27 : decode cX8_init 27 = .ok (.iconst 4, 1) := dk_7 (dk_at dksX8_init_1 4 rfl rfl)
theorem dX8_init_28 : decode cX8_init 28 = .ok (.newarray .int, 2) := dk_188_10 (dk_at dksX8_init_1 5 rfl rfl)
theorem dX8_init_30 : decode cX8_init 30 = .ok (.putfield 21, 3) := dk_181 0 21 (dk_at dksX8_init_1 7 rfl rfl)
theorem dX8_init_33 : decode cX8_init 33 = .ok (.aload_n 0, 1) := dk_42 (dk_at dksX8_init_1 10 rfl rfl)
theorem dX8_init_34 : decode cX8_init 34 = .ok (.iconst 4, 1) := dk_7 (dk_at dksX8_init_1 11 rfl rfl)
theorem dX8_init_35 : decode cX8_init 35 = .ok (.newarray .int, 2) := dk_188_10 (dk_at dksX8_init_1 12 rfl rfl)
theorem dX8_init_37 : decode cX8_init 37 = .ok (.dup, 1) := dk_89 (dk_at dksX8_init_1 14 rfl rfl)
theorem dX8_init_38 : decode cX8_init 38 = .ok (.iconst 0, 1) := dk_3 (dk_at dksX8_init_1 15 rfl rfl)
theorem dX8_init_39 : decode cX8_init 39 = .ok (.iconst (-1), 1) := dk_2 (dk_at dksX8_init_1 16 rfl rfl)
theorem dX8_init_40 : decode cX8_init 40 = .ok (.iastore, 1) := dk_79 (dk_at dksX8_init_1 17 rfl rfl)
theorem dX8_init_41 : decode cX8_init 41 = .ok (.dup, 1) := dk_89 (dk_at dksX8_init_1 18 rfl rfl)
theorem dX8_init_42 : decode cX8_init 42 = .ok (.iconst 1, 1) := dk_4 (dk_at dksX8_init_1 19 rfl rfl)
theorem dX8_init_43 : decode cX8_init 43 = .ok (.iconst (-1), 1) := dk_2 (dk_at dksX8_init_1 20 rfl rfl)
theorem dX8_init_44 : decode cX8_init 44 = .ok (.iastore, 1) := dk_79 (dk_at dksX8_init_1 21 rfl rfl)
theorem dX8_init_45 : decode cX8_init 45 = .ok (.dup, 1) := dk_89 (dk_at dksX8_init_1 22 rfl rfl)
theorem dX8_init_46 : decode cX8_init 46 = .ok (.iconst 2, 1) := dk_5 (dk_at dksX8_init_1 23 rfl rfl)
theorem dX8_init_47 : decode cX8_init 47 = .ok (.iconst (-1), 1) := dk_2 (dk_at dksX8_init_2 0 rfl rfl)
theorem dX8_init_48 : decode cX8_init 48 = .ok (.iastore, 1) := dk_79 (dk_at dksX8_init_2 1 rfl rfl)
theorem dX8_init_49 : decode cX8_init 49 = .ok (.dup, 1) := dk_89 (dk_at dksX8_init_2 2 rfl rfl)
theorem dX8_init_50 : decode cX8_init 50 = .ok (.iconst 3, 1) := dk_6 (dk_at dksX8_init_2 3 rfl rfl)
theorem dX8_init_51 : decode cX8_init 51 = .ok (.iconst (-1), 1) := dk_2 (dk_at dksX8_init_2 4 rfl rfl)
theorem dX8_init_52 : decode cX8_init 52 = .ok (.iastore, 1) := dk_79 (dk_at dksX8_init_2 5 rfl rfl)
theorem dX8_init_53 : decode cX8_init 53 = .ok (.putfield 24, 3) := dk_181 0 24 (dk_at dksX8_init_2 6 rfl rfl)
theorem dX8_init_56 : decode cX8_init 56 = .ok (.aload_n 0, 1) := dk_42 (dk_at dksX8_init_2 9 rfl rfl)
theorem dX8_init_57 : decode cX8_init 57 = .ok (.sipush 240, 3) := dk_17 0 240 (dk_at dksX8_init_2 10 rfl rfl)
theorem dX8_init_60 : decode cX8_init 60 = .ok (.newarray .long, 2) := dk_188_11 (dk_at dksX8_init_2 13 rfl rfl)
theorem dX8_init_62 : decode cX8_init 62 = .ok (.putfield 27, 3) := dk_181 0 27 (dk_at dksX8_init_2 15 rfl rfl)
theorem dX8_init_65 : decode cX8_init 65 = .ok (.aload_n 0, 1) := dk_42 (dk_at dksX8_init_2 18 rfl rfl)
theorem dX8_init_66 : decode cX8_init 66 = .ok (.sipush 900, 3) := dk_17 3 132 (dk_at dksX8_init_2 19 rfl rfl)
theorem dX8_init_69 : decode cX8_init 69 = .ok (.newarray .byte, 2) := dk_188_8 (dk_at dksX8_init_2 22 rfl rfl)
theorem dX8_init_71 : decode cX8_init 71 = .ok (.putfield 30, 3) := dk_181 0 30 (dk_at dksX8_init_3 0 rfl rfl)
theorem dX8_init_74 : decode cX8_init 74 = .ok (.aload_n 0, 1) := dk_42 (dk_at dksX8_init_3 3 rfl rfl)
theorem dX8_init_75 : decode cX8_init 75 = .ok (.sipush 900, 3) := dk_17 3 132 (dk_at dksX8_init_3 4 rfl rfl)
theorem dX8_init_78 : decode cX8_init 78 = .ok (.newarray .byte, 2) := dk_188_8 (dk_at dksX8_init_3 7 rfl rfl)
theorem dX8_init_80 : decode cX8_init 80 = .ok (.putfield 34, 3) := dk_181 0 34 (dk_at dksX8_init_3 9 rfl rfl)
theorem dX8_init_83 : decode cX8_init 83 = .ok (.aload_n 0, 1) := dk_42 (dk_at dksX8_init_3 12 rfl rfl)
theorem dX8_init_84 : decode cX8_init 84 = .ok (.iconst (-1), 1) := dk_2 (dk_at dksX8_init_3 13 rfl rfl)
theorem dX8_init_85 : decode cX8_init 85 = .ok (.putfield 37, 3) := dk_181 0 37 (dk_at dksX8_init_3 14 rfl rfl)
theorem dX8_init_88 : decode cX8_init 88 = .ok (.aload_n 0, 1) := dk_42 (dk_at dksX8_init_3 17 rfl rfl)
theorem dX8_init_89 : decode cX8_init 89 = .ok (.iconst (-1), 1) := dk_2 (dk_at dksX8_init_3 18 rfl rfl)
theorem dX8_init_90 : decode cX8_init 90 = .ok (.putfield 41, 3) := dk_181 0 41 (dk_at dksX8_init_3 19 rfl rfl)
theorem dX8_init_93 : decode cX8_init 93 = .ok (.aload_n 0, 1) := dk_42 (dk_at dksX8_init_3 22 rfl rfl)
theorem dX8_init_94 : decode cX8_init 94 = .ok (.iconst 3, 1) := dk_6 (dk_at dksX8_init_3 23 rfl rfl)
theorem dX8_init_95 : decode cX8_init 95 = .ok (.newarray .int, 2) := dk_188_10 (dk_at dksX8_init_4 0 rfl rfl)
theorem dX8_init_97 : decode cX8_init 97 = .ok (.putfield 44, 3) := dk_181 0 44 (dk_at dksX8_init_4 2 rfl rfl)
theorem dX8_init_100 : decode cX8_init 100 = .ok (.aload_n 0, 1) := dk_42 (dk_at dksX8_init_4 5 rfl rfl)
theorem dX8_init_101 : decode cX8_init 101 = .ok (.bipush 9, 2) := dk_16 9 (dk_at dksX8_init_4 6 rfl rfl)
theorem dX8_init_103 : decode cX8_init 103 = .ok (.newarray .int, 2) := dk_188_10 (dk_at dksX8_init_4 8 rfl rfl)
theorem dX8_init_105 : decode cX8_init 105 = .ok (.putfield 47, 3) := dk_181 0 47 (dk_at dksX8_init_4 10 rfl rfl)
theorem dX8_init_108 : decode cX8_init 108 = .ok (.aload_n 0, 1) := dk_42 (dk_at dksX8_init_4 13 rfl rfl)
theorem dX8_init_109 : decode cX8_init 109 = .ok (.bipush 9, 2) := dk_16 9 (dk_at dksX8_init_4 14 rfl rfl)
theorem dX8_init_111 : decode cX8_init 111 = .ok (.newarray .int, 2) := dk_188_10 (dk_at dksX8_init_4 16 rfl rfl)
theorem dX8_init_113 : decode cX8_init 113 = .ok (.putfield 50, 3) := dk_181 0 50 (dk_at dksX8_init_4 18 rfl rfl)
theorem dX8_init_116 : decode cX8_init 116 = .ok (.aload_n 0, 1) := dk_42 (dk_at dksX8_init_4 21 rfl rfl)
theorem dX8_init_117 : decode cX8_init 117 = .ok (.bipush 8, 2) := dk_16 8 (dk_at dksX8_init_4 22 rfl rfl)
theorem dX8_init_119 : decode cX8_init 119 = .ok (.newarray .int, 2) := dk_188_10 (dk_at dksX8_init_5 0 rfl rfl)
theorem dX8_init_121 : decode cX8_init 121 = .ok (.putfield 53, 3) := dk_181 0 53 (dk_at dksX8_init_5 2 rfl rfl)
theorem dX8_init_124 : decode cX8_init 124 = .ok (.aload_n 0, 1) := dk_42 (dk_at dksX8_init_5 5 rfl rfl)
theorem dX8_init_125 : decode cX8_init 125 = .ok (.bipush 8, 2) := dk_16 8 (dk_at dksX8_init_5 6 rfl rfl)
theorem dX8_init_127 : decode cX8_init 127 = .ok (.newarray .int, 2) := dk_188_10 (dk_at dksX8_init_5 8 rfl rfl)
theorem dX8_init_129 : decode cX8_init 129 = .ok (.putfield 56, 3) := dk_181 0 56 (dk_at dksX8_init_5 10 rfl rfl)
theorem dX8_init_132 : decode cX8_init 132 = .ok (.aload_n 0, 1) := dk_42 (dk_at dksX8_init_5 13 rfl rfl)
theorem dX8_init_133 : decode cX8_init 133 = .ok (.bipush 80, 2) := dk_16 80 (dk_at dksX8_init_5 14 rfl rfl)
theorem dX8_init_135 : decode cX8_init 135 = .ok (.newarray .int, 2) := dk_188_10 (dk_at dksX8_init_5 16 rfl rfl)
theorem dX8_init_137 : decode cX8_init 137 = .ok (.putfield 59, 3) := dk_181 0 59 (dk_at dksX8_init_5 18 rfl rfl)
theorem dX8_init_140 : decode cX8_init 140 = .ok (.aload_n 0, 1) := dk_42 (dk_at dksX8_init_5 21 rfl rfl)
theorem dX8_init_141 : decode cX8_init 141 = .ok (.iconst 5, 1) := dk_8 (dk_at dksX8_init_5 22 rfl rfl)
theorem dX8_init_142 : decode cX8_init 142 = .ok (.newarray .int, 2) := dk_188_10 (dk_at dksX8_init_6 0 rfl rfl)
theorem dX8_init_144 : decode cX8_init 144 = .ok (.putfield 62, 3) := dk_181 0 62 (dk_at dksX8_init_6 2 rfl rfl)
theorem dX8_init_147 : decode cX8_init 147 = .ok (.aload_n 0, 1) := dk_42 (dk_at dksX8_init_6 5 rfl rfl)
theorem dX8_init_148 : decode cX8_init 148 = .ok (.iconst 5, 1) := dk_8 (dk_at dksX8_init_6 6 rfl rfl)
theorem dX8_init_149 : decode cX8_init 149 = .ok (.newarray .int, 2) := dk_188_10 (dk_at dksX8_init_6 7 rfl rfl)
theorem dX8_init_151 : decode cX8_init 151 = .ok (.putfield 65, 3) := dk_181 0 65 (dk_at dksX8_init_6 9 rfl rfl)
theorem dX8_init_154 : decode cX8_init 154 = .ok (.aload_n 0, 1) := dk_42 (dk_at dksX8_init_6 12 rfl rfl)
theorem dX8_init_155 : decode cX8_init 155 = .ok (.iconst 0, 1) := dk_3 (dk_at dksX8_init_6 13 rfl rfl)
theorem dX8_init_156 : decode cX8_init 156 = .ok (.invokevirtual 68, 3) := dk_182 0 68 (dk_at dksX8_init_6 14 rfl rfl)
theorem dX8_init_159 : decode cX8_init 159 = .ok (.aload_n 0, 1) := dk_42 (dk_at dksX8_init_6 17 rfl rfl)
theorem dX8_init_160 : decode cX8_init 160 = .ok (.getfield 7, 3) := dk_180 0 7 (dk_at dksX8_init_6 18 rfl rfl)
theorem dX8_init_163 : decode cX8_init 163 = .ok (.iconst 0, 1) := dk_3 (dk_at dksX8_init_6 21 rfl rfl)
theorem dX8_init_164 : decode cX8_init 164 = .ok (.iconst 2, 1) := dk_5 (dk_at dksX8_init_6 22 rfl rfl)
theorem dX8_init_165 : decode cX8_init 165 = .ok (.iastore, 1) := dk_79 (dk_at dksX8_init_6 23 rfl rfl)
theorem dX8_init_166 : decode cX8_init 166 = .ok (.aload_n 0, 1) := dk_42 (dk_at dksX8_init_7 0 rfl rfl)
theorem dX8_init_167 : decode cX8_init 167 = .ok (.getfield 7, 3) := dk_180 0 7 (dk_at dksX8_init_7 1 rfl rfl)
theorem dX8_init_170 : decode cX8_init 170 = .ok (.iconst 3, 1) := dk_6 (dk_at dksX8_init_7 4 rfl rfl)
theorem dX8_init_171 : decode cX8_init 171 = .ok (.bipush 60, 2) := dk_16 60 (dk_at dksX8_init_7 5 rfl rfl)
theorem dX8_init_173 : decode cX8_init 173 = .ok (.iastore, 1) := dk_79 (dk_at dksX8_init_7 7 rfl rfl)
theorem dX8_init_174 : decode cX8_init 174 = .ok (.return_, 1) := dk_177 (dk_at dksX8_init_7 8 rfl rfl)
abbrev cX8_plain : ByteArray := prog_17_method_2_code
def yX8_plain : MethodName := ⟨RX8, "plain", "(I)V"⟩
def dkwX8_plain_1 : List UInt8 := [42, 180, 0, 7, 27, 8, 96, 4, 79, 42, 180, 0, 7, 27, 16, 9, 96, 2, 79, 177]
abbrev dktX8_plain_1 : List UInt8 := dkwX8_plain_1 ++ []
def dkwX8_plain_0 : List UInt8 := [3, 61, 28, 17, 5, 120, 162, 0, 18, 42, 180, 0, 7, 27, 28, 96, 3, 79, 132, 2, 1, 167, 255, 237]
abbrev dktX8_plain_0 : List UInt8 := dkwX8_plain_0 ++ dktX8_plain_1
theorem dksX8_plain_0 : cX8_plain.data.toList.drop 0 = dktX8_plain_0 := by decide +kernel
theorem dksX8_plain_1 : cX8_plain.data.toList.drop 24 = dktX8_plain_1 := dk_seg dksX8_plain_0 24 rfl rfl
theorem dX8_plain_0 : decode cX8_plain 0 = .ok (.iconst 0, 1) := dk_3 (dk_at dksX8_plain_0 0 rfl rfl)
theorem dX8_plain_1 : decode cX8_plain 1 = .ok (.istore_n 2, 1) := dk_61 (dk_at dksX8_plain_0 1 rfl rfl)
theorem dX8_plain_2 : decode cX8_plain 2 = .ok (.iload_n 2, 1) := dk_28 (dk_at dksX8_plain_0 2 rfl rfl)
theorem dX8_plain_3 : decode cX8_plain 3 = .ok (.sipush 1400, 3) := dk_17 5 120 (dk_at dksX8_plain_0 3 rfl rfl)
theorem dX8_plain_6 : decode cX8_plain 6 = .ok (.if_icmp .ge 18, 3) := dk_162 0 18 (dk_at dksX8_plain_0 6 rfl rfl)
theorem dX8_plain_9 : decode cX8_plain 9 = .ok (.aload_n 0, 1) := dk_42 (dk_at dksX8_plain_0 9 rfl rfl)
theorem dX8_plain_10 : decode cX8_plain 10 = .ok (.getfield 7, 3) := dk_180 0 7 (dk_at dksX8_plain_0 10 rfl rfl)
theorem dX8_plain_13 : decode cX8_plain 13 = .ok (.iload_n 1, 1) := dk_27 (dk_at dksX8_plain_0 13 rfl rfl)
theorem dX8_plain_14 : decode cX8_plain 14 = .ok (.iload_n 2, 1) := dk_28 (dk_at dksX8_plain_0 14 rfl rfl)
theorem dX8_plain_15 : decode cX8_plain 15 = .ok (.iadd, 1) := dk_96 (dk_at dksX8_plain_0 15 rfl rfl)
theorem dX8_plain_16 : decode cX8_plain 16 = .ok (.iconst 0, 1) := dk_3 (dk_at dksX8_plain_0 16 rfl rfl)
theorem dX8_plain_17 : decode cX8_plain 17 = .ok (.iastore, 1) := dk_79 (dk_at dksX8_plain_0 17 rfl rfl)
theorem dX8_plain_18 : decode cX8_plain 18 = .ok (.iinc 2 1, 3) := dk_132 2 1 (dk_at dksX8_plain_0 18 rfl rfl)
theorem dX8_plain_21 : decode cX8_plain 21 = .ok (.goto (-19), 3) := dk_167 255 237 (dk_at dksX8_plain_0 21 rfl rfl)
theorem dX8_plain_24 : decode cX8_plain 24 = .ok (.aload_n 0, 1) := dk_42 (dk_at dksX8_plain_1 0 rfl rfl)
theorem dX8_plain_25 : decode cX8_plain 25 = .ok (.getfield 7, 3) := dk_180 0 7 (dk_at dksX8_plain_1 1 rfl rfl)
theorem dX8_plain_28 : decode cX8_plain 28 = .ok (.iload_n 1, 1) := dk_27 (dk_at dksX8_plain_1 4 rfl rfl)
theorem dX8_plain_29 : decode cX8_plain 29 = .ok (.iconst 5, 1) := dk_8 (dk_at dksX8_plain_1 5 rfl rfl)
theorem dX8_plain_30 : decode cX8_plain 30 = .ok (.iadd, 1) := dk_96 (dk_at dksX8_plain_1 6 rfl rfl)
theorem dX8_plain_31 : decode cX8_plain 31 = .ok (.iconst 1, 1) := dk_4 (dk_at dksX8_plain_1 7 rfl rfl)
theorem dX8_plain_32 : decode cX8_plain 32 = .ok (.iastore, 1) := dk_79 (dk_at dksX8_plain_1 8 rfl rfl)
theorem dX8_plain_33 : decode cX8_plain 33 = .ok (.aload_n 0, 1) := dk_42 (dk_at dksX8_plain_1 9 rfl rfl)
theorem dX8_plain_34 : decode cX8_plain 34 = .ok (.getfield 7, 3) := dk_180 0 7 (dk_at dksX8_plain_1 10 rfl rfl)
theorem dX8_plain_37 : decode cX8_plain 37 = .ok (.iload_n 1, 1) := dk_27 (dk_at dksX8_plain_1 13 rfl rfl)
theorem dX8_plain_38 : decode cX8_plain 38 = .ok (.bipush 9, 2) := dk_16 9 (dk_at dksX8_plain_1 14 rfl rfl)
theorem dX8_plain_40 : decode cX8_plain 40 = .ok (.iadd, 1) := dk_96 (dk_at dksX8_plain_1 16 rfl rfl)
theorem dX8_plain_41 : decode cX8_plain 41 = .ok (.iconst (-1), 1) := dk_2 (dk_at dksX8_plain_1 17 rfl rfl)
theorem dX8_plain_42 : decode cX8_plain 42 = .ok (.iastore, 1) := dk_79 (dk_at dksX8_plain_1 18 rfl rfl)
theorem dX8_plain_43 : decode cX8_plain 43 = .ok (.return_, 1) := dk_177 (dk_at dksX8_plain_1 19 rfl rfl)
abbrev cX8_status : ByteArray := prog_17_method_3_code
def yX8_status : MethodName := ⟨RX8, "status", "()I"⟩
theorem dX8_status_0 : decode cX8_status 0 = .ok (.aload_n 0, 1) := by decide +kernel
theorem dX8_status_1 : decode cX8_status 1 = .ok (.getfield 72, 3) := by decide +kernel
theorem dX8_status_4 : decode cX8_status 4 = .ok (.ireturn, 1) := by decide +kernel
abbrev cX8_top : ByteArray := prog_17_method_4_code
def yX8_top : MethodName := ⟨RX8, "top", "()J"⟩
theorem dX8_top_0 : decode cX8_top 0 = .ok (.aload_n 0, 1) := by decide +kernel
theorem dX8_top_1 : decode cX8_top 1 = .ok (.getfield 75, 3) := by decide +kernel
theorem dX8_top_4 : decode cX8_top 4 = .ok (.lreturn, 1) := by decide +kernel
abbrev cX8_bottom : ByteArray := prog_17_method_5_code
def yX8_bottom : MethodName := ⟨RX8, "bottom", "()J"⟩
theorem dX8_bottom_0 : decode cX8_bottom 0 = .ok (.aload_n 0, 1) := by decide +kernel
theorem dX8_bottom_1 : decode cX8_bottom 1 = .ok (.getfield 17, 3) := by decide +kernel
theorem dX8_bottom_4 : decode cX8_bottom 4 = .ok (.lreturn, 1) := by decide +kernel
abbrev cX8_tray : ByteArray := prog_17_method_13_code
def yX8_tray : MethodName := ⟨RX8, "tray", "(III)Z"⟩
def dkwX8_tray_3 : List UInt8 := [167, 255, 234, 42, 3, 182, 0, 85, 172]
abbrev dktX8_tray_3 : List UInt8 := dkwX8_tray_3 ++ []
def dkwX8_tray_2 : List UInt8 := [54, 4, 21, 4, 29, 162, 0, 22, 42, 180, 0, 27, 16, 60, 27, 104, 21, 4, 96, 9, 80, 132, 4, 1]
abbrev dktX8_tray_2 : List UInt8 := dkwX8_tray_2 ++ dktX8_tray_3
def dkwX8_tray_1 : List UInt8 := [164, 0, 9, 42, 4, 182, 0, 85, 172, 42, 180, 0, 21, 27, 28, 79, 42, 180, 0, 24, 27, 29, 79, 3]
abbrev dktX8_tray_1 : List UInt8 := dkwX8_tray_1 ++ dktX8_tray_2
def dkwX8_tray_0 : List UInt8 := [27, 184, 0, 89, 153, 0, 22, 28, 155, 0, 18, 28, 6, 163, 0, 13, 29, 155, 0, 9, 29, 16, 60]
abbrev dktX8_tray_0 : List UInt8 := dkwX8_tray_0 ++ dktX8_tray_1
theorem dksX8_tray_0 : cX8_tray.data.toList.drop 0 = dktX8_tray_0 := by decide +kernel
theorem dksX8_tray_1 : cX8_tray.data.toList.drop 23 = dktX8_tray_1 := dk_seg dksX8_tray_0 23 rfl rfl
theorem dksX8_tray_2 : cX8_tray.data.toList.drop 47 = dktX8_tray_2 := dk_seg dksX8_tray_1 24 rfl rfl
theorem dksX8_tray_3 : cX8_tray.data.toList.drop 71 = dktX8_tray_3 := dk_seg dksX8_tray_2 24 rfl rfl
theorem dX8_tray_0 : decode cX8_tray 0 = .ok (.iload_n 1, 1) := dk_27 (dk_at dksX8_tray_0 0 rfl rfl)
theorem dX8_tray_1 : decode cX8_tray 1 = .ok (.invokestatic 89, 3) := dk_184 0 89 (dk_at dksX8_tray_0 1 rfl rfl)
theorem dX8_tray_4 : decode cX8_tray 4 = .ok (.ifCond .eq 22, 3) := dk_153 0 22 (dk_at dksX8_tray_0 4 rfl rfl)
theorem dX8_tray_7 : decode cX8_tray 7 = .ok (.iload_n 2, 1) := dk_28 (dk_at dksX8_tray_0 7 rfl rfl)
theorem dX8_tray_8 : decode cX8_tray 8 = .ok (.ifCond .lt 18, 3) := dk_155 0 18 (dk_at dksX8_tray_0 8 rfl rfl)
theorem dX8_tray_11 : decode cX8_tray 11 = .ok (.iload_n 2, 1) := dk_28 (dk_at dksX8_tray_0 11 rfl rfl)
theorem dX8_tray_12 : decode cX8_tray 12 = .ok (.iconst 3, 1) := dk_6 (dk_at dksX8_tray_0 12 rfl rfl)
theorem dX8_tray_13 : decode cX8_tray 13 = .ok (.if_icmp .gt 13, 3) := dk_163 0 13 (dk_at dksX8_tray_0 13 rfl rfl)
theorem dX8_tray_16 : decode cX8_tray 16 = .ok (.iload_n 3, 1) := dk_29 (dk_at dksX8_tray_0 16 rfl rfl)
theorem dX8_tray_17 : decode cX8_tray 17 = .ok (.ifCond .lt 9, 3) := dk_155 0 9 (dk_at dksX8_tray_0 17 rfl rfl)
theorem dX8_tray_20 : decode cX8_tray 20 = .ok (.iload_n 3, 1) := dk_29 (dk_at dksX8_tray_0 20 rfl rfl)
theorem dX8_tray_21 : decode cX8_tray 21 = .ok (.bipush 60, 2) := dk_16 60 (dk_at dksX8_tray_0 21 rfl rfl)
theorem dX8_tray_23 : decode cX8_tray 23 = .ok (.if_icmp .le 9, 3) := dk_164 0 9 (dk_at dksX8_tray_1 0 rfl rfl)
theorem dX8_tray_26 : decode cX8_tray 26 = .ok (.aload_n 0, 1) := dk_42 (dk_at dksX8_tray_1 3 rfl rfl)
theorem dX8_tray_27 : decode cX8_tray 27 = .ok (.iconst 1, 1) := dk_4 (dk_at dksX8_tray_1 4 rfl rfl)
theorem dX8_tray_28 : decode cX8_tray 28 = .ok (.invokevirtual 85, 3) := dk_182 0 85 (dk_at dksX8_tray_1 5 rfl rfl)
theorem dX8_tray_31 : decode cX8_tray 31 = .ok (.ireturn, 1) := dk_172 (dk_at dksX8_tray_1 8 rfl rfl)
theorem dX8_tray_32 : decode cX8_tray 32 = .ok (.aload_n 0, 1) := dk_42 (dk_at dksX8_tray_1 9 rfl rfl)
theorem dX8_tray_33 : decode cX8_tray 33 = .ok (.getfield 21, 3) := dk_180 0 21 (dk_at dksX8_tray_1 10 rfl rfl)
theorem dX8_tray_36 : decode cX8_tray 36 = .ok (.iload_n 1, 1) := dk_27 (dk_at dksX8_tray_1 13 rfl rfl)
theorem dX8_tray_37 : decode cX8_tray 37 = .ok (.iload_n 2, 1) := dk_28 (dk_at dksX8_tray_1 14 rfl rfl)
theorem dX8_tray_38 : decode cX8_tray 38 = .ok (.iastore, 1) := dk_79 (dk_at dksX8_tray_1 15 rfl rfl)
theorem dX8_tray_39 : decode cX8_tray 39 = .ok (.aload_n 0, 1) := dk_42 (dk_at dksX8_tray_1 16 rfl rfl)
theorem dX8_tray_40 : decode cX8_tray 40 = .ok (.getfield 24, 3) := dk_180 0 24 (dk_at dksX8_tray_1 17 rfl rfl)
theorem dX8_tray_43 : decode cX8_tray 43 = .ok (.iload_n 1, 1) := dk_27 (dk_at dksX8_tray_1 20 rfl rfl)
theorem dX8_tray_44 : decode cX8_tray 44 = .ok (.iload_n 3, 1) := dk_29 (dk_at dksX8_tray_1 21 rfl rfl)
theorem dX8_tray_45 : decode cX8_tray 45 = .ok (.iastore, 1) := dk_79 (dk_at dksX8_tray_1 22 rfl rfl)
theorem dX8_tray_46 : decode cX8_tray 46 = .ok (.iconst 0, 1) := dk_3 (dk_at dksX8_tray_1 23 rfl rfl)
theorem dX8_tray_47 : decode cX8_tray 47 = .ok (.istore 4, 2) := dk_54 4 (dk_at dksX8_tray_2 0 rfl rfl)
theorem dX8_tray_49 : decode cX8_tray 49 = .ok (.iload 4, 2) := dk_21 4 (dk_at dksX8_tray_2 2 rfl rfl)
theorem dX8_tray_51 : decode cX8_tray 51 = .ok (.iload_n 3, 1) := dk_29 (dk_at dksX8_tray_2 4 rfl rfl)
theorem dX8_tray_52 : decode cX8_tray 52 = .ok (.if_icmp .ge 22, 3) := dk_162 0 22 (dk_at dksX8_tray_2 5 rfl rfl)
theorem dX8_tray_55 : decode cX8_tray 55 = .ok (.aload_n 0, 1) := dk_42 (dk_at dksX8_tray_2 8 rfl rfl)
theorem dX8_tray_56 : decode cX8_tray 56 = .ok (.getfield 27, 3) := dk_180 0 27 (dk_at dksX8_tray_2 9 rfl rfl)
theorem dX8_tray_59 : decode cX8_tray 59 = .ok (.bipush 60, 2) := dk_16 60 (dk_at dksX8_tray_2 12 rfl rfl)
theorem dX8_tray_61 : decode cX8_tray 61 = .ok (.iload_n 1, 1) := dk_27 (dk_at dksX8_tray_2 14 rfl rfl)
theorem dX8_tray_62 : decode cX8_tray 62 = .ok (.imul, 1) := dk_104 (dk_at dksX8_tray_2 15 rfl rfl)
theorem dX8_tray_63 : decode cX8_tray 63 = .ok (.iload 4, 2) := dk_21 4 (dk_at dksX8_tray_2 16 rfl rfl)
theorem dX8_tray_65 : decode cX8_tray 65 = .ok (.iadd, 1) := dk_96 (dk_at dksX8_tray_2 18 rfl rfl)
theorem dX8_tray_66 : decode cX8_tray 66 = .ok (.lconst 0, 1) := dk_9 (dk_at dksX8_tray_2 19 rfl rfl)
theorem dX8_tray_67 : decode cX8_tray 67 = .ok (.lastore, 1) := dk_80 (dk_at dksX8_tray_2 20 rfl rfl)
theorem dX8_tray_68 : decode cX8_tray 68 = .ok (.iinc 4 1, 3) := dk_132 4 1 (dk_at dksX8_tray_2 21 rfl rfl)
theorem dX8_tray_71 : decode cX8_tray 71 = .ok (.goto (-22), 3) := dk_167 255 234 (dk_at dksX8_tray_3 0 rfl rfl)
theorem dX8_tray_74 : decode cX8_tray 74 = .ok (.aload_n 0, 1) := dk_42 (dk_at dksX8_tray_3 3 rfl rfl)
theorem dX8_tray_75 : decode cX8_tray 75 = .ok (.iconst 0, 1) := dk_3 (dk_at dksX8_tray_3 4 rfl rfl)
theorem dX8_tray_76 : decode cX8_tray 76 = .ok (.invokevirtual 85, 3) := dk_182 0 85 (dk_at dksX8_tray_3 5 rfl rfl)
theorem dX8_tray_79 : decode cX8_tray 79 = .ok (.ireturn, 1) := dk_172 (dk_at dksX8_tray_3 8 rfl rfl)
abbrev cX8_isTray : ByteArray := prog_17_method_11_code
def yX8_isTray : MethodName := ⟨RX8, "isTray", "(I)Z"⟩
def dkwX8_isTray_0 : List UInt8 := [26, 155, 0, 12, 26, 7, 162, 0, 7, 4, 167, 0, 4, 3, 172]
abbrev dktX8_isTray_0 : List UInt8 := dkwX8_isTray_0 ++ []
theorem dksX8_isTray_0 : cX8_isTray.data.toList.drop 0 = dktX8_isTray_0 := by decide +kernel
theorem dX8_isTray_0 : decode cX8_isTray 0 = .ok (.iload_n 0, 1) := dk_26 (dk_at dksX8_isTray_0 0 rfl rfl)
theorem dX8_isTray_1 : decode cX8_isTray 1 = .ok (.ifCond .lt 12, 3) := dk_155 0 12 (dk_at dksX8_isTray_0 1 rfl rfl)
theorem dX8_isTray_4 : decode cX8_isTray 4 = .ok (.iload_n 0, 1) := dk_26 (dk_at dksX8_isTray_0 4 rfl rfl)
theorem dX8_isTray_5 : decode cX8_isTray 5 = .ok (.iconst 4, 1) := dk_7 (dk_at dksX8_isTray_0 5 rfl rfl)
theorem dX8_isTray_6 : decode cX8_isTray 6 = .ok (.if_icmp .ge 7, 3) := dk_162 0 7 (dk_at dksX8_isTray_0 6 rfl rfl)
theorem dX8_isTray_9 : decode cX8_isTray 9 = .ok (.iconst 1, 1) := dk_4 (dk_at dksX8_isTray_0 9 rfl rfl)
theorem dX8_isTray_10 : decode cX8_isTray 10 = .ok (.goto 4, 3) := dk_167 0 4 (dk_at dksX8_isTray_0 10 rfl rfl)
theorem dX8_isTray_13 : decode cX8_isTray 13 = .ok (.iconst 0, 1) := dk_3 (dk_at dksX8_isTray_0 13 rfl rfl)
theorem dX8_isTray_14 : decode cX8_isTray 14 = .ok (.ireturn, 1) := dk_172 (dk_at dksX8_isTray_0 14 rfl rfl)
abbrev cX8_is : ByteArray := prog_17_method_6_code
def yX8_is : MethodName := ⟨RX8, "is", "(I)Z"⟩
def dkwX8_is_0 : List UInt8 := [42, 27, 181, 0, 72, 27, 154, 0, 7, 4, 167, 0, 4, 3, 172]
abbrev dktX8_is_0 : List UInt8 := dkwX8_is_0 ++ []
theorem dksX8_is_0 : cX8_is.data.toList.drop 0 = dktX8_is_0 := by decide +kernel
theorem dX8_is_0 : decode cX8_is 0 = .ok (.aload_n 0, 1) := dk_42 (dk_at dksX8_is_0 0 rfl rfl)
theorem dX8_is_1 : decode cX8_is 1 = .ok (.iload_n 1, 1) := dk_27 (dk_at dksX8_is_0 1 rfl rfl)
theorem dX8_is_2 : decode cX8_is 2 = .ok (.putfield 72, 3) := dk_181 0 72 (dk_at dksX8_is_0 2 rfl rfl)
theorem dX8_is_5 : decode cX8_is 5 = .ok (.iload_n 1, 1) := dk_27 (dk_at dksX8_is_0 5 rfl rfl)
theorem dX8_is_6 : decode cX8_is 6 = .ok (.ifCond .ne 7, 3) := dk_154 0 7 (dk_at dksX8_is_0 6 rfl rfl)
theorem dX8_is_9 : decode cX8_is 9 = .ok (.iconst 1, 1) := dk_4 (dk_at dksX8_is_0 9 rfl rfl)
theorem dX8_is_10 : decode cX8_is 10 = .ok (.goto 4, 3) := dk_167 0 4 (dk_at dksX8_is_0 10 rfl rfl)
theorem dX8_is_13 : decode cX8_is 13 = .ok (.iconst 0, 1) := dk_3 (dk_at dksX8_is_0 13 rfl rfl)
theorem dX8_is_14 : decode cX8_is 14 = .ok (.ireturn, 1) := dk_172 (dk_at dksX8_is_0 14 rfl rfl)
abbrev cX8_write : ByteArray := prog_17_method_15_code
def yX8_write : MethodName := ⟨RX8, "write", "(IIJ)Z"⟩
def dkwX8_write_1 : List UInt8 := [42, 180, 0, 21, 27, 46, 184, 0, 96, 80, 42, 21, 5, 182, 0, 85, 172]
abbrev dktX8_write_1 : List UInt8 := dkwX8_write_1 ++ []
def dkwX8_write_0 : List UInt8 := [42, 27, 28, 182, 0, 92, 54, 5, 21, 5, 154, 0, 24, 42, 180, 0, 27, 16, 60, 27, 104, 28, 96, 33]
abbrev dktX8_write_0 : List UInt8 := dkwX8_write_0 ++ dktX8_write_1
theorem dksX8_write_0 : cX8_write.data.toList.drop 0 = dktX8_write_0 := by decide +kernel
theorem dksX8_write_1 : cX8_write.data.toList.drop 24 = dktX8_write_1 := dk_seg dksX8_write_0 24 rfl rfl
theorem dX8_write_0 : decode cX8_write 0 = .ok (.aload_n 0, 1) := dk_42 (dk_at dksX8_write_0 0 rfl rfl)
theorem dX8_write_1 : decode cX8_write 1 = .ok (.iload_n 1, 1) := dk_27 (dk_at dksX8_write_0 1 rfl rfl)
theorem dX8_write_2 : decode cX8_write 2 = .ok (.iload_n 2, 1) := dk_28 (dk_at dksX8_write_0 2 rfl rfl)
theorem dX8_write_3 : decode cX8_write 3 = .ok (.invokevirtual 92, 3) := dk_182 0 92 (dk_at dksX8_write_0 3 rfl rfl)
theorem dX8_write_6 : decode cX8_write 6 = .ok (.istore 5, 2) := dk_54 5 (dk_at dksX8_write_0 6 rfl rfl)
theorem dX8_write_8 : decode cX8_write 8 = .ok (.iload 5, 2) := dk_21 5 (dk_at dksX8_write_0 8 rfl rfl)
theorem dX8_write_10 : decode cX8_write 10 = .ok (.ifCond .ne 24, 3) := dk_154 0 24 (dk_at dksX8_write_0 10 rfl rfl)
theorem dX8_write_13 : decode cX8_write 13 = .ok (.aload_n 0, 1) := dk_42 (dk_at dksX8_write_0 13 rfl rfl)
theorem dX8_write_14 : decode cX8_write 14 = .ok (.getfield 27, 3) := dk_180 0 27 (dk_at dksX8_write_0 14 rfl rfl)
theorem dX8_write_17 : decode cX8_write 17 = .ok (.bipush 60, 2) := dk_16 60 (dk_at dksX8_write_0 17 rfl rfl)
theorem dX8_write_19 : decode cX8_write 19 = .ok (.iload_n 1, 1) := dk_27 (dk_at dksX8_write_0 19 rfl rfl)
theorem dX8_write_20 : decode cX8_write 20 = .ok (.imul, 1) := dk_104 (dk_at dksX8_write_0 20 rfl rfl)
theorem dX8_write_21 : decode cX8_write 21 = .ok (.iload_n 2, 1) := dk_28 (dk_at dksX8_write_0 21 rfl rfl)
theorem dX8_write_22 : decode cX8_write 22 = .ok (.iadd, 1) := dk_96 (dk_at dksX8_write_0 22 rfl rfl)
theorem dX8_write_23 : decode cX8_write 23 = .ok (.lload_n 3, 1) := dk_33 (dk_at dksX8_write_0 23 rfl rfl)
theorem dX8_write_24 : decode cX8_write 24 = .ok (.aload_n 0, 1) := dk_42 (dk_at dksX8_write_1 0 rfl rfl)
theorem dX8_write_25 : decode cX8_write 25 = .ok (.getfield 21, 3) := dk_180 0 21 (dk_at dksX8_write_1 1 rfl rfl)
theorem dX8_write_28 : decode cX8_write 28 = .ok (.iload_n 1, 1) := dk_27 (dk_at dksX8_write_1 4 rfl rfl)
theorem dX8_write_29 : decode cX8_write 29 = .ok (.iaload, 1) := dk_46 (dk_at dksX8_write_1 5 rfl rfl)
theorem dX8_write_30 : decode cX8_write 30 = .ok (.invokestatic 96, 3) := dk_184 0 96 (dk_at dksX8_write_1 6 rfl rfl)
theorem dX8_write_33 : decode cX8_write 33 = .ok (.lastore, 1) := dk_80 (dk_at dksX8_write_1 9 rfl rfl)
theorem dX8_write_34 : decode cX8_write 34 = .ok (.aload_n 0, 1) := dk_42 (dk_at dksX8_write_1 10 rfl rfl)
theorem dX8_write_35 : decode cX8_write 35 = .ok (.iload 5, 2) := dk_21 5 (dk_at dksX8_write_1 11 rfl rfl)
theorem dX8_write_37 : decode cX8_write 37 = .ok (.invokevirtual 85, 3) := dk_182 0 85 (dk_at dksX8_write_1 13 rfl rfl)
theorem dX8_write_40 : decode cX8_write 40 = .ok (.ireturn, 1) := dk_172 (dk_at dksX8_write_1 16 rfl rfl)
abbrev cX8_wrongPlace : ByteArray := prog_17_method_14_code
def yX8_wrongPlace : MethodName := ⟨RX8, "wrongPlace", "(II)I"⟩
def dkwX8_wrongPlace_1 : List UInt8 := [167, 0, 22, 28, 155, 0, 13, 28, 42, 180, 0, 24, 27, 46, 161, 0, 7, 6, 167, 0, 4, 3, 172]
abbrev dktX8_wrongPlace_1 : List UInt8 := dkwX8_wrongPlace_1 ++ []
def dkwX8_wrongPlace_0 : List UInt8 := [27, 184, 0, 89, 154, 0, 7, 4, 167, 0, 36, 42, 180, 0, 24, 27, 46, 2, 160, 0, 7, 5]
abbrev dktX8_wrongPlace_0 : List UInt8 := dkwX8_wrongPlace_0 ++ dktX8_wrongPlace_1
theorem dksX8_wrongPlace_0 : cX8_wrongPlace.data.toList.drop 0 = dktX8_wrongPlace_0 := by decide +kernel
theorem dksX8_wrongPlace_1 : cX8_wrongPlace.data.toList.drop 22 = dktX8_wrongPlace_1 := dk_seg dksX8_wrongPlace_0 22 rfl rfl
theorem dX8_wrongPlace_0 : decode cX8_wrongPlace 0 = .ok (.iload_n 1, 1) := dk_27 (dk_at dksX8_wrongPlace_0 0 rfl rfl)
theorem dX8_wrongPlace_1 : decode cX8_wrongPlace 1 = .ok (.invokestatic 89, 3) := dk_184 0 89 (dk_at dksX8_wrongPlace_0 1 rfl rfl)
theorem dX8_wrongPlace_4 : decode cX8_wrongPlace 4 = .ok (.ifCond .ne 7, 3) := dk_154 0 7 (dk_at dksX8_wrongPlace_0 4 rfl rfl)
theorem dX8_wrongPlace_7 : decode cX8_wrongPlace 7 = .ok (.iconst 1, 1) := dk_4 (dk_at dksX8_wrongPlace_0 7 rfl rfl)
theorem dX8_wrongPlace_8 : decode cX8_wrongPlace 8 = .ok (.goto 36, 3) := dk_167 0 36 (dk_at dksX8_wrongPlace_0 8 rfl rfl)
theorem dX8_wrongPlace_11 : decode cX8_wrongPlace 11 = .ok (.aload_n 0, 1) := dk_42 (dk_at dksX8_wrongPlace_0 11 rfl rfl)
theorem dX8_wrongPlace_12 : decode cX8_wrongPlace 12 = .ok (.getfield 24, 3) := dk_180 0 24 (dk_at dksX8_wrongPlace_0 12 rfl rfl)
theorem dX8_wrongPlace_15 : decode cX8_wrongPlace 15 = .ok (.iload_n 1, 1) := dk_27 (dk_at dksX8_wrongPlace_0 15 rfl rfl)
theorem dX8_wrongPlace_16 : decode cX8_wrongPlace 16 = .ok (.iaload, 1) := dk_46 (dk_at dksX8_wrongPlace_0 16 rfl rfl)
theorem dX8_wrongPlace_17 : decode cX8_wrongPlace 17 = .ok (.iconst (-1), 1) := dk_2 (dk_at dksX8_wrongPlace_0 17 rfl rfl)
theorem dX8_wrongPlace_18 : decode cX8_wrongPlace 18 = .ok (.if_icmp .ne 7, 3) := dk_160 0 7 (dk_at dksX8_wrongPlace_0 18 rfl rfl)
theorem dX8_wrongPlace_21 : decode cX8_wrongPlace 21 = .ok (.iconst 2, 1) := dk_5 (dk_at dksX8_wrongPlace_0 21 rfl rfl)
theorem dX8_wrongPlace_22 : decode cX8_wrongPlace 22 = .ok (.goto 22, 3) := dk_167 0 22 (dk_at dksX8_wrongPlace_1 0 rfl rfl)
theorem dX8_wrongPlace_25 : decode cX8_wrongPlace 25 = .ok (.iload_n 2, 1) := dk_28 (dk_at dksX8_wrongPlace_1 3 rfl rfl)
theorem dX8_wrongPlace_26 : decode cX8_wrongPlace 26 = .ok (.ifCond .lt 13, 3) := dk_155 0 13 (dk_at dksX8_wrongPlace_1 4 rfl rfl)
theorem dX8_wrongPlace_29 : decode cX8_wrongPlace 29 = .ok (.iload_n 2, 1) := dk_28 (dk_at dksX8_wrongPlace_1 7 rfl rfl)
theorem dX8_wrongPlace_30 : decode cX8_wrongPlace 30 = .ok (.aload_n 0, 1) := dk_42 (dk_at dksX8_wrongPlace_1 8 rfl rfl)
theorem dX8_wrongPlace_31 : decode cX8_wrongPlace 31 = .ok (.getfield 24, 3) := dk_180 0 24 (dk_at dksX8_wrongPlace_1 9 rfl rfl)
theorem dX8_wrongPlace_34 : decode cX8_wrongPlace 34 = .ok (.iload_n 1, 1) := dk_27 (dk_at dksX8_wrongPlace_1 12 rfl rfl)
theorem dX8_wrongPlace_35 : decode cX8_wrongPlace 35 = .ok (.iaload, 1) := dk_46 (dk_at dksX8_wrongPlace_1 13 rfl rfl)
theorem dX8_wrongPlace_36 : decode cX8_wrongPlace 36 = .ok (.if_icmp .lt 7, 3) := dk_161 0 7 (dk_at dksX8_wrongPlace_1 14 rfl rfl)
theorem dX8_wrongPlace_39 : decode cX8_wrongPlace 39 = .ok (.iconst 3, 1) := dk_6 (dk_at dksX8_wrongPlace_1 17 rfl rfl)
theorem dX8_wrongPlace_40 : decode cX8_wrongPlace 40 = .ok (.goto 4, 3) := dk_167 0 4 (dk_at dksX8_wrongPlace_1 18 rfl rfl)
theorem dX8_wrongPlace_43 : decode cX8_wrongPlace 43 = .ok (.iconst 0, 1) := dk_3 (dk_at dksX8_wrongPlace_1 21 rfl rfl)
theorem dX8_wrongPlace_44 : decode cX8_wrongPlace 44 = .ok (.ireturn, 1) := dk_172 (dk_at dksX8_wrongPlace_1 22 rfl rfl)
abbrev cX8_cut : ByteArray := prog_17_method_12_code
def yX8_cut : MethodName := ⟨RX8, "cut", "(JI)J"⟩
def dkwX8_cut_1 : List UInt8 := [5, 160, 0, 9, 30, 136, 133, 167, 0, 4, 30, 173]
abbrev dktX8_cut_1 : List UInt8 := dkwX8_cut_1 ++ []
def dkwX8_cut_0 : List UInt8 := [28, 154, 0, 10, 30, 136, 145, 133, 167, 0, 27, 28, 4, 160, 0, 10, 30, 136, 147, 133, 167, 0, 15, 28]
abbrev dktX8_cut_0 : List UInt8 := dkwX8_cut_0 ++ dktX8_cut_1
theorem dksX8_cut_0 : cX8_cut.data.toList.drop 0 = dktX8_cut_0 := by decide +kernel
theorem dksX8_cut_1 : cX8_cut.data.toList.drop 24 = dktX8_cut_1 := dk_seg dksX8_cut_0 24 rfl rfl
theorem dX8_cut_0 : decode cX8_cut 0 = .ok (.iload_n 2, 1) := dk_28 (dk_at dksX8_cut_0 0 rfl rfl)
theorem dX8_cut_1 : decode cX8_cut 1 = .ok (.ifCond .ne 10, 3) := dk_154 0 10 (dk_at dksX8_cut_0 1 rfl rfl)
theorem dX8_cut_4 : decode cX8_cut 4 = .ok (.lload_n 0, 1) := dk_30 (dk_at dksX8_cut_0 4 rfl rfl)
theorem dX8_cut_5 : decode cX8_cut 5 = .ok (.l2i, 1) := dk_136 (dk_at dksX8_cut_0 5 rfl rfl)
theorem dX8_cut_6 : decode cX8_cut 6 = .ok (.i2b, 1) := dk_145 (dk_at dksX8_cut_0 6 rfl rfl)
theorem dX8_cut_7 : decode cX8_cut 7 = .ok (.i2l, 1) := dk_133 (dk_at dksX8_cut_0 7 rfl rfl)
theorem dX8_cut_8 : decode cX8_cut 8 = .ok (.goto 27, 3) := dk_167 0 27 (dk_at dksX8_cut_0 8 rfl rfl)
theorem dX8_cut_11 : decode cX8_cut 11 = .ok (.iload_n 2, 1) := dk_28 (dk_at dksX8_cut_0 11 rfl rfl)
theorem dX8_cut_12 : decode cX8_cut 12 = .ok (.iconst 1, 1) := dk_4 (dk_at dksX8_cut_0 12 rfl rfl)
theorem dX8_cut_13 : decode cX8_cut 13 = .ok (.if_icmp .ne 10, 3) := dk_160 0 10 (dk_at dksX8_cut_0 13 rfl rfl)
theorem dX8_cut_16 : decode cX8_cut 16 = .ok (.lload_n 0, 1) := dk_30 (dk_at dksX8_cut_0 16 rfl rfl)
theorem dX8_cut_17 : decode cX8_cut 17 = .ok (.l2i, 1) := dk_136 (dk_at dksX8_cut_0 17 rfl rfl)
theorem dX8_cut_18 : decode cX8_cut 18 = .ok (.i2s, 1) := dk_147 (dk_at dksX8_cut_0 18 rfl rfl)
theorem dX8_cut_19 : decode cX8_cut 19 = .ok (.i2l, 1) := dk_133 (dk_at dksX8_cut_0 19 rfl rfl)
theorem dX8_cut_20 : decode cX8_cut 20 = .ok (.goto 15, 3) := dk_167 0 15 (dk_at dksX8_cut_0 20 rfl rfl)
theorem dX8_cut_23 : decode cX8_cut 23 = .ok (.iload_n 2, 1) := dk_28 (dk_at dksX8_cut_0 23 rfl rfl)
theorem dX8_cut_24 : decode cX8_cut 24 = .ok (.iconst 2, 1) := dk_5 (dk_at dksX8_cut_1 0 rfl rfl)
theorem dX8_cut_25 : decode cX8_cut 25 = .ok (.if_icmp .ne 9, 3) := dk_160 0 9 (dk_at dksX8_cut_1 1 rfl rfl)
theorem dX8_cut_28 : decode cX8_cut 28 = .ok (.lload_n 0, 1) := dk_30 (dk_at dksX8_cut_1 4 rfl rfl)
theorem dX8_cut_29 : decode cX8_cut 29 = .ok (.l2i, 1) := dk_136 (dk_at dksX8_cut_1 5 rfl rfl)
theorem dX8_cut_30 : decode cX8_cut 30 = .ok (.i2l, 1) := dk_133 (dk_at dksX8_cut_1 6 rfl rfl)
theorem dX8_cut_31 : decode cX8_cut 31 = .ok (.goto 4, 3) := dk_167 0 4 (dk_at dksX8_cut_1 7 rfl rfl)
theorem dX8_cut_34 : decode cX8_cut 34 = .ok (.lload_n 0, 1) := dk_30 (dk_at dksX8_cut_1 10 rfl rfl)
theorem dX8_cut_35 : decode cX8_cut 35 = .ok (.lreturn, 1) := dk_173 (dk_at dksX8_cut_1 11 rfl rfl)
abbrev cX8_read : ByteArray := prog_17_method_16_code
def yX8_read : MethodName := ⟨RX8, "read", "(II)J"⟩
def dkwX8_read_1 : List UInt8 := [180, 0, 27, 16, 60, 27, 104, 28, 96, 47, 173]
abbrev dktX8_read_1 : List UInt8 := dkwX8_read_1 ++ []
def dkwX8_read_0 : List UInt8 := [42, 42, 27, 28, 182, 0, 92, 181, 0, 72, 42, 180, 0, 72, 158, 0, 9, 20, 0, 100, 167, 0, 14, 42]
abbrev dktX8_read_0 : List UInt8 := dkwX8_read_0 ++ dktX8_read_1
theorem dksX8_read_0 : cX8_read.data.toList.drop 0 = dktX8_read_0 := by decide +kernel
theorem dksX8_read_1 : cX8_read.data.toList.drop 24 = dktX8_read_1 := dk_seg dksX8_read_0 24 rfl rfl
theorem dX8_read_0 : decode cX8_read 0 = .ok (.aload_n 0, 1) := dk_42 (dk_at dksX8_read_0 0 rfl rfl)
theorem dX8_read_1 : decode cX8_read 1 = .ok (.aload_n 0, 1) := dk_42 (dk_at dksX8_read_0 1 rfl rfl)
theorem dX8_read_2 : decode cX8_read 2 = .ok (.iload_n 1, 1) := dk_27 (dk_at dksX8_read_0 2 rfl rfl)
theorem dX8_read_3 : decode cX8_read 3 = .ok (.iload_n 2, 1) := dk_28 (dk_at dksX8_read_0 3 rfl rfl)
theorem dX8_read_4 : decode cX8_read 4 = .ok (.invokevirtual 92, 3) := dk_182 0 92 (dk_at dksX8_read_0 4 rfl rfl)
theorem dX8_read_7 : decode cX8_read 7 = .ok (.putfield 72, 3) := dk_181 0 72 (dk_at dksX8_read_0 7 rfl rfl)
theorem dX8_read_10 : decode cX8_read 10 = .ok (.aload_n 0, 1) := dk_42 (dk_at dksX8_read_0 10 rfl rfl)
theorem dX8_read_11 : decode cX8_read 11 = .ok (.getfield 72, 3) := dk_180 0 72 (dk_at dksX8_read_0 11 rfl rfl)
theorem dX8_read_14 : decode cX8_read 14 = .ok (.ifCond .le 9, 3) := dk_158 0 9 (dk_at dksX8_read_0 14 rfl rfl)
theorem dX8_read_17 : decode cX8_read 17 = .ok (.ldc2_w 100, 3) := dk_20 0 100 (dk_at dksX8_read_0 17 rfl rfl)
theorem dX8_read_20 : decode cX8_read 20 = .ok (.goto 14, 3) := dk_167 0 14 (dk_at dksX8_read_0 20 rfl rfl)
theorem dX8_read_23 : decode cX8_read 23 = .ok (.aload_n 0, 1) := dk_42 (dk_at dksX8_read_0 23 rfl rfl)
theorem dX8_read_24 : decode cX8_read 24 = .ok (.getfield 27, 3) := dk_180 0 27 (dk_at dksX8_read_1 0 rfl rfl)
theorem dX8_read_27 : decode cX8_read 27 = .ok (.bipush 60, 2) := dk_16 60 (dk_at dksX8_read_1 3 rfl rfl)
theorem dX8_read_29 : decode cX8_read 29 = .ok (.iload_n 1, 1) := dk_27 (dk_at dksX8_read_1 5 rfl rfl)
theorem dX8_read_30 : decode cX8_read 30 = .ok (.imul, 1) := dk_104 (dk_at dksX8_read_1 6 rfl rfl)
theorem dX8_read_31 : decode cX8_read 31 = .ok (.iload_n 2, 1) := dk_28 (dk_at dksX8_read_1 7 rfl rfl)
theorem dX8_read_32 : decode cX8_read 32 = .ok (.iadd, 1) := dk_96 (dk_at dksX8_read_1 8 rfl rfl)
theorem dX8_read_33 : decode cX8_read 33 = .ok (.laload, 1) := dk_47 (dk_at dksX8_read_1 9 rfl rfl)
theorem dX8_read_34 : decode cX8_read 34 = .ok (.lreturn, 1) := dk_173 (dk_at dksX8_read_1 10 rfl rfl)
abbrev cX8_pour : ByteArray := prog_17_method_17_code
def yX8_pour : MethodName := ⟨RX8, "pour", "(IIIII)Z"⟩
def dkwX8_pour_8 : List UInt8 := [182, 0, 85, 172]
abbrev dktX8_pour_8 : List UInt8 := dkwX8_pour_8 ++ []
def dkwX8_pour_7 : List UInt8 := [180, 0, 27, 16, 60, 27, 104, 28, 96, 21, 7, 96, 47, 80, 132, 6, 1, 167, 255, 197, 42, 3]
abbrev dktX8_pour_7 : List UInt8 := dkwX8_pour_7 ++ dktX8_pour_8
def dkwX8_pour_6 : List UInt8 := [167, 0, 5, 21, 6, 54, 7, 42, 180, 0, 27, 16, 60, 29, 104, 21, 4, 96, 21, 7, 96, 42]
abbrev dktX8_pour_6 : List UInt8 := dkwX8_pour_6 ++ dktX8_pour_7
def dkwX8_pour_5 : List UInt8 := [3, 54, 6, 21, 6, 21, 5, 162, 0, 58, 28, 21, 4, 162, 0, 13, 21, 5, 4, 100, 21, 6, 100]
abbrev dktX8_pour_5 : List UInt8 := dkwX8_pour_5 ++ dktX8_pour_6
def dkwX8_pour_4 : List UInt8 := [100, 163, 0, 17, 21, 5, 42, 180, 0, 24, 29, 46, 21, 4, 100, 164, 0, 9, 42, 6, 182, 0, 85, 172]
abbrev dktX8_pour_4 : List UInt8 := dkwX8_pour_4 ++ dktX8_pour_5
def dkwX8_pour_3 : List UInt8 := [180, 0, 21, 29, 46, 159, 0, 10, 42, 16, 8, 182, 0, 85, 172, 21, 5, 42, 180, 0, 24, 27, 46, 28]
abbrev dktX8_pour_3 : List UInt8 := dkwX8_pour_3 ++ dktX8_pour_4
def dkwX8_pour_2 : List UInt8 := [180, 0, 24, 29, 46, 2, 160, 0, 9, 42, 5, 182, 0, 85, 172, 42, 180, 0, 21, 27, 46, 42]
abbrev dktX8_pour_2 : List UInt8 := dkwX8_pour_2 ++ dktX8_pour_3
def dkwX8_pour_1 : List UInt8 := [21, 5, 156, 0, 9, 42, 4, 182, 0, 85, 172, 42, 180, 0, 24, 27, 46, 2, 159, 0, 13, 42]
abbrev dktX8_pour_1 : List UInt8 := dkwX8_pour_1 ++ dktX8_pour_2
def dkwX8_pour_0 : List UInt8 := [27, 184, 0, 89, 153, 0, 24, 29, 184, 0, 89, 153, 0, 17, 28, 155, 0, 13, 21, 4, 155, 0, 8]
abbrev dktX8_pour_0 : List UInt8 := dkwX8_pour_0 ++ dktX8_pour_1
theorem dksX8_pour_0 : cX8_pour.data.toList.drop 0 = dktX8_pour_0 := by decide +kernel
theorem dksX8_pour_1 : cX8_pour.data.toList.drop 23 = dktX8_pour_1 := dk_seg dksX8_pour_0 23 rfl rfl
theorem dksX8_pour_2 : cX8_pour.data.toList.drop 45 = dktX8_pour_2 := dk_seg dksX8_pour_1 22 rfl rfl
theorem dksX8_pour_3 : cX8_pour.data.toList.drop 67 = dktX8_pour_3 := dk_seg dksX8_pour_2 22 rfl rfl
theorem dksX8_pour_4 : cX8_pour.data.toList.drop 91 = dktX8_pour_4 := dk_seg dksX8_pour_3 24 rfl rfl
theorem dksX8_pour_5 : cX8_pour.data.toList.drop 115 = dktX8_pour_5 := dk_seg dksX8_pour_4 24 rfl rfl
theorem dksX8_pour_6 : cX8_pour.data.toList.drop 138 = dktX8_pour_6 := dk_seg dksX8_pour_5 23 rfl rfl
theorem dksX8_pour_7 : cX8_pour.data.toList.drop 160 = dktX8_pour_7 := dk_seg dksX8_pour_6 22 rfl rfl
theorem dksX8_pour_8 : cX8_pour.data.toList.drop 182 = dktX8_pour_8 := dk_seg dksX8_pour_7 22 rfl rfl
theorem dX8_pour_0 : decode cX8_pour 0 = .ok (.iload_n 1, 1) := dk_27 (dk_at dksX8_pour_0 0 rfl rfl)
theorem dX8_pour_1 : decode cX8_pour 1 = .ok (.invokestatic 89, 3) := dk_184 0 89 (dk_at dksX8_pour_0 1 rfl rfl)
theorem dX8_pour_4 : decode cX8_pour 4 = .ok (.ifCond .eq 24, 3) := dk_153 0 24 (dk_at dksX8_pour_0 4 rfl rfl)
theorem dX8_pour_7 : decode cX8_pour 7 = .ok (.iload_n 3, 1) := dk_29 (dk_at dksX8_pour_0 7 rfl rfl)
theorem dX8_pour_8 : decode cX8_pour 8 = .ok (.invokestatic 89, 3) := dk_184 0 89 (dk_at dksX8_pour_0 8 rfl rfl)
theorem dX8_pour_11 : decode cX8_pour 11 = .ok (.ifCond .eq 17, 3) := dk_153 0 17 (dk_at dksX8_pour_0 11 rfl rfl)
theorem dX8_pour_14 : decode cX8_pour 14 = .ok (.iload_n 2, 1) := dk_28 (dk_at dksX8_pour_0 14 rfl rfl)
theorem dX8_pour_15 : decode cX8_pour 15 = .ok (.ifCond .lt 13, 3) := dk_155 0 13 (dk_at dksX8_pour_0 15 rfl rfl)
theorem dX8_pour_18 : decode cX8_pour 18 = .ok (.iload 4, 2) := dk_21 4 (dk_at dksX8_pour_0 18 rfl rfl)
theorem dX8_pour_20 : decode cX8_pour 20 = .ok (.ifCond .lt 8, 3) := dk_155 0 8 (dk_at dksX8_pour_0 20 rfl rfl)
theorem dX8_pour_23 : decode cX8_pour 23 = .ok (.iload 5, 2) := dk_21 5 (dk_at dksX8_pour_1 0 rfl rfl)
theorem dX8_pour_25 : decode cX8_pour 25 = .ok (.ifCond .ge 9, 3) := dk_156 0 9 (dk_at dksX8_pour_1 2 rfl rfl)
theorem dX8_pour_28 : decode cX8_pour 28 = .ok (.aload_n 0, 1) := dk_42 (dk_at dksX8_pour_1 5 rfl rfl)
theorem dX8_pour_29 : decode cX8_pour 29 = .ok (.iconst 1, 1) := dk_4 (dk_at dksX8_pour_1 6 rfl rfl)
theorem dX8_pour_30 : decode cX8_pour 30 = .ok (.invokevirtual 85, 3) := dk_182 0 85 (dk_at dksX8_pour_1 7 rfl rfl)
theorem dX8_pour_33 : decode cX8_pour 33 = .ok (.ireturn, 1) := dk_172 (dk_at dksX8_pour_1 10 rfl rfl)
theorem dX8_pour_34 : decode cX8_pour 34 = .ok (.aload_n 0, 1) := dk_42 (dk_at dksX8_pour_1 11 rfl rfl)
theorem dX8_pour_35 : decode cX8_pour 35 = .ok (.getfield 24, 3) := dk_180 0 24 (dk_at dksX8_pour_1 12 rfl rfl)
theorem dX8_pour_38 : decode cX8_pour 38 = .ok (.iload_n 1, 1) := dk_27 (dk_at dksX8_pour_1 15 rfl rfl)
theorem dX8_pour_39 : decode cX8_pour 39 = .ok (.iaload, 1) := dk_46 (dk_at dksX8_pour_1 16 rfl rfl)
theorem dX8_pour_40 : decode cX8_pour 40 = .ok (.iconst (-1), 1) := dk_2 (dk_at dksX8_pour_1 17 rfl rfl)
theorem dX8_pour_41 : decode cX8_pour 41 = .ok (.if_icmp .eq 13, 3) := dk_159 0 13 (dk_at dksX8_pour_1 18 rfl rfl)
theorem dX8_pour_44 : decode cX8_pour 44 = .ok (.aload_n 0, 1) := dk_42 (dk_at dksX8_pour_1 21 rfl rfl)
theorem dX8_pour_45 : decode cX8_pour 45 = .ok (.getfield 24, 3) := dk_180 0 24 (dk_at dksX8_pour_2 0 rfl rfl)
theorem dX8_pour_48 : decode cX8_pour 48 = .ok (.iload_n 3, 1) := dk_29 (dk_at dksX8_pour_2 3 rfl rfl)
theorem dX8_pour_49 : decode cX8_pour 49 = .ok (.iaload, 1) := dk_46 (dk_at dksX8_pour_2 4 rfl rfl)
theorem dX8_pour_50 : decode cX8_pour 50 = .ok (.iconst (-1), 1) := dk_2 (dk_at dksX8_pour_2 5 rfl rfl)
theorem dX8_pour_51 : decode cX8_pour 51 = .ok (.if_icmp .ne 9, 3) := dk_160 0 9 (dk_at dksX8_pour_2 6 rfl rfl)
theorem dX8_pour_54 : decode cX8_pour 54 = .ok (.aload_n 0, 1) := dk_42 (dk_at dksX8_pour_2 9 rfl rfl)
theorem dX8_pour_55 : decode cX8_pour 55 = .ok (.iconst 2, 1) := dk_5 (dk_at dksX8_pour_2 10 rfl rfl)
theorem dX8_pour_56 : decode cX8_pour 56 = .ok (.invokevirtual 85, 3) := dk_182 0 85 (dk_at dksX8_pour_2 11 rfl rfl)
theorem dX8_pour_59 : decode cX8_pour 59 = .ok (.ireturn, 1) := dk_172 (dk_at dksX8_pour_2 14 rfl rfl)
theorem dX8_pour_60 : decode cX8_pour 60 = .ok (.aload_n 0, 1) := dk_42 (dk_at dksX8_pour_2 15 rfl rfl)
theorem dX8_pour_61 : decode cX8_pour 61 = .ok (.getfield 21, 3) := dk_180 0 21 (dk_at dksX8_pour_2 16 rfl rfl)
theorem dX8_pour_64 : decode cX8_pour 64 = .ok (.iload_n 1, 1) := dk_27 (dk_at dksX8_pour_2 19 rfl rfl)
theorem dX8_pour_65 : decode cX8_pour 65 = .ok (.iaload, 1) := dk_46 (dk_at dksX8_pour_2 20 rfl rfl)
theorem dX8_pour_66 : decode cX8_pour 66 = .ok (.aload_n 0, 1) := dk_42 (dk_at dksX8_pour_2 21 rfl rfl)
theorem dX8_pour_67 : decode cX8_pour 67 = .ok (.getfield 21, 3) := dk_180 0 21 (dk_at dksX8_pour_3 0 rfl rfl)
theorem dX8_pour_70 : decode cX8_pour 70 = .ok (.iload_n 3, 1) := dk_29 (dk_at dksX8_pour_3 3 rfl rfl)
theorem dX8_pour_71 : decode cX8_pour 71 = .ok (.iaload, 1) := dk_46 (dk_at dksX8_pour_3 4 rfl rfl)
theorem dX8_pour_72 : decode cX8_pour 72 = .ok (.if_icmp .eq 10, 3) := dk_159 0 10 (dk_at dksX8_pour_3 5 rfl rfl)
theorem dX8_pour_75 : decode cX8_pour 75 = .ok (.aload_n 0, 1) := dk_42 (dk_at dksX8_pour_3 8 rfl rfl)
theorem dX8_pour_76 : decode cX8_pour 76 = .ok (.bipush 8, 2) := dk_16 8 (dk_at dksX8_pour_3 9 rfl rfl)
theorem dX8_pour_78 : decode cX8_pour 78 = .ok (.invokevirtual 85, 3) := dk_182 0 85 (dk_at dksX8_pour_3 11 rfl rfl)
theorem dX8_pour_81 : decode cX8_pour 81 = .ok (.ireturn, 1) := dk_172 (dk_at dksX8_pour_3 14 rfl rfl)
theorem dX8_pour_82 : decode cX8_pour 82 = .ok (.iload 5, 2) := dk_21 5 (dk_at dksX8_pour_3 15 rfl rfl)
theorem dX8_pour_84 : decode cX8_pour 84 = .ok (.aload_n 0, 1) := dk_42 (dk_at dksX8_pour_3 17 rfl rfl)
theorem dX8_pour_85 : decode cX8_pour 85 = .ok (.getfield 24, 3) := dk_180 0 24 (dk_at dksX8_pour_3 18 rfl rfl)
theorem dX8_pour_88 : decode cX8_pour 88 = .ok (.iload_n 1, 1) := dk_27 (dk_at dksX8_pour_3 21 rfl rfl)
theorem dX8_pour_89 : decode cX8_pour 89 = .ok (.iaload, 1) := dk_46 (dk_at dksX8_pour_3 22 rfl rfl)
theorem dX8_pour_90 : decode cX8_pour 90 = .ok (.iload_n 2, 1) := dk_28 (dk_at dksX8_pour_3 23 rfl rfl)
theorem dX8_pour_91 : decode cX8_pour 91 = .ok (.isub, 1) := dk_100 (dk_at dksX8_pour_4 0 rfl rfl)
theorem dX8_pour_92 : decode cX8_pour 92 = .ok (.if_icmp .gt 17, 3) := dk_163 0 17 (dk_at dksX8_pour_4 1 rfl rfl)
theorem dX8_pour_95 : decode cX8_pour 95 = .ok (.iload 5, 2) := dk_21 5 (dk_at dksX8_pour_4 4 rfl rfl)
theorem dX8_pour_97 : decode cX8_pour 97 = .ok (.aload_n 0, 1) := dk_42 (dk_at dksX8_pour_4 6 rfl rfl)
theorem dX8_pour_98 : decode cX8_pour 98 = .ok (.getfield 24, 3) := dk_180 0 24 (dk_at dksX8_pour_4 7 rfl rfl)
theorem dX8_pour_101 : decode cX8_pour 101 = .ok (.iload_n 3, 1) := dk_29 (dk_at dksX8_pour_4 10 rfl rfl)
theorem dX8_pour_102 : decode cX8_pour 102 = .ok (.iaload, 1) := dk_46 (dk_at dksX8_pour_4 11 rfl rfl)
theorem dX8_pour_103 : decode cX8_pour 103 = .ok (.iload 4, 2) := dk_21 4 (dk_at dksX8_pour_4 12 rfl rfl)
theorem dX8_pour_105 : decode cX8_pour 105 = .ok (.isub, 1) := dk_100 (dk_at dksX8_pour_4 14 rfl rfl)
theorem dX8_pour_106 : decode cX8_pour 106 = .ok (.if_icmp .le 9, 3) := dk_164 0 9 (dk_at dksX8_pour_4 15 rfl rfl)
theorem dX8_pour_109 : decode cX8_pour 109 = .ok (.aload_n 0, 1) := dk_42 (dk_at dksX8_pour_4 18 rfl rfl)
theorem dX8_pour_110 : decode cX8_pour 110 = .ok (.iconst 3, 1) := dk_6 (dk_at dksX8_pour_4 19 rfl rfl)
theorem dX8_pour_111 : decode cX8_pour 111 = .ok (.invokevirtual 85, 3) := dk_182 0 85 (dk_at dksX8_pour_4 20 rfl rfl)
theorem dX8_pour_114 : decode cX8_pour 114 = .ok (.ireturn, 1) := dk_172 (dk_at dksX8_pour_4 23 rfl rfl)
theorem dX8_pour_115 : decode cX8_pour 115 = .ok (.iconst 0, 1) := dk_3 (dk_at dksX8_pour_5 0 rfl rfl)
theorem dX8_pour_116 : decode cX8_pour 116 = .ok (.istore 6, 2) := dk_54 6 (dk_at dksX8_pour_5 1 rfl rfl)
theorem dX8_pour_118 : decode cX8_pour 118 = .ok (.iload 6, 2) := dk_21 6 (dk_at dksX8_pour_5 3 rfl rfl)
theorem dX8_pour_120 : decode cX8_pour 120 = .ok (.iload 5, 2) := dk_21 5 (dk_at dksX8_pour_5 5 rfl rfl)
theorem dX8_pour_122 : decode cX8_pour 122 = .ok (.if_icmp .ge 58, 3) := dk_162 0 58 (dk_at dksX8_pour_5 7 rfl rfl)
theorem dX8_pour_125 : decode cX8_pour 125 = .ok (.iload_n 2, 1) := dk_28 (dk_at dksX8_pour_5 10 rfl rfl)
theorem dX8_pour_126 : decode cX8_pour 126 = .ok (.iload 4, 2) := dk_21 4 (dk_at dksX8_pour_5 11 rfl rfl)
theorem dX8_pour_128 : decode cX8_pour 128 = .ok (.if_icmp .ge 13, 3) := dk_162 0 13 (dk_at dksX8_pour_5 13 rfl rfl)
theorem dX8_pour_131 : decode cX8_pour 131 = .ok (.iload 5, 2) := dk_21 5 (dk_at dksX8_pour_5 16 rfl rfl)
theorem dX8_pour_133 : decode cX8_pour 133 = .ok (.iconst 1, 1) := dk_4 (dk_at dksX8_pour_5 18 rfl rfl)
theorem dX8_pour_134 : decode cX8_pour 134 = .ok (.isub, 1) := dk_100 (dk_at dksX8_pour_5 19 rfl rfl)
theorem dX8_pour_135 : decode cX8_pour 135 = .ok (.iload 6, 2) := dk_21 6 (dk_at dksX8_pour_5 20 rfl rfl)
theorem dX8_pour_137 : decode cX8_pour 137 = .ok (.isub, 1) := dk_100 (dk_at dksX8_pour_5 22 rfl rfl)
theorem dX8_pour_138 : decode cX8_pour 138 = .ok (.goto 5, 3) := dk_167 0 5 (dk_at dksX8_pour_6 0 rfl rfl)
theorem dX8_pour_141 : decode cX8_pour 141 = .ok (.iload 6, 2) := dk_21 6 (dk_at dksX8_pour_6 3 rfl rfl)
theorem dX8_pour_143 : decode cX8_pour 143 = .ok (.istore 7, 2) := dk_54 7 (dk_at dksX8_pour_6 5 rfl rfl)
theorem dX8_pour_145 : decode cX8_pour 145 = .ok (.aload_n 0, 1) := dk_42 (dk_at dksX8_pour_6 7 rfl rfl)
theorem dX8_pour_146 : decode cX8_pour 146 = .ok (.getfield 27, 3) := dk_180 0 27 (dk_at dksX8_pour_6 8 rfl rfl)
theorem dX8_pour_149 : decode cX8_pour 149 = .ok (.bipush 60, 2) := dk_16 60 (dk_at dksX8_pour_6 11 rfl rfl)
theorem dX8_pour_151 : decode cX8_pour 151 = .ok (.iload_n 3, 1) := dk_29 (dk_at dksX8_pour_6 13 rfl rfl)
theorem dX8_pour_152 : decode cX8_pour 152 = .ok (.imul, 1) := dk_104 (dk_at dksX8_pour_6 14 rfl rfl)
theorem dX8_pour_153 : decode cX8_pour 153 = .ok (.iload 4, 2) := dk_21 4 (dk_at dksX8_pour_6 15 rfl rfl)
theorem dX8_pour_155 : decode cX8_pour 155 = .ok (.iadd, 1) := dk_96 (dk_at dksX8_pour_6 17 rfl rfl)
theorem dX8_pour_156 : decode cX8_pour 156 = .ok (.iload 7, 2) := dk_21 7 (dk_at dksX8_pour_6 18 rfl rfl)
theorem dX8_pour_158 : decode cX8_pour 158 = .ok (.iadd, 1) := dk_96 (dk_at dksX8_pour_6 20 rfl rfl)
theorem dX8_pour_159 : decode cX8_pour 159 = .ok (.aload_n 0, 1) := dk_42 (dk_at dksX8_pour_6 21 rfl rfl)
theorem dX8_pour_160 : decode cX8_pour 160 = .ok (.getfield 27, 3) := dk_180 0 27 (dk_at dksX8_pour_7 0 rfl rfl)
theorem dX8_pour_163 : decode cX8_pour 163 = .ok (.bipush 60, 2) := dk_16 60 (dk_at dksX8_pour_7 3 rfl rfl)
theorem dX8_pour_165 : decode cX8_pour 165 = .ok (.iload_n 1, 1) := dk_27 (dk_at dksX8_pour_7 5 rfl rfl)
theorem dX8_pour_166 : decode cX8_pour 166 = .ok (.imul, 1) := dk_104 (dk_at dksX8_pour_7 6 rfl rfl)
theorem dX8_pour_167 : decode cX8_pour 167 = .ok (.iload_n 2, 1) := dk_28 (dk_at dksX8_pour_7 7 rfl rfl)
theorem dX8_pour_168 : decode cX8_pour 168 = .ok (.iadd, 1) := dk_96 (dk_at dksX8_pour_7 8 rfl rfl)
theorem dX8_pour_169 : decode cX8_pour 169 = .ok (.iload 7, 2) := dk_21 7 (dk_at dksX8_pour_7 9 rfl rfl)
theorem dX8_pour_171 : decode cX8_pour 171 = .ok (.iadd, 1) := dk_96 (dk_at dksX8_pour_7 11 rfl rfl)
theorem dX8_pour_172 : decode cX8_pour 172 = .ok (.laload, 1) := dk_47 (dk_at dksX8_pour_7 12 rfl rfl)
theorem dX8_pour_173 : decode cX8_pour 173 = .ok (.lastore, 1) := dk_80 (dk_at dksX8_pour_7 13 rfl rfl)
theorem dX8_pour_174 : decode cX8_pour 174 = .ok (.iinc 6 1, 3) := dk_132 6 1 (dk_at dksX8_pour_7 14 rfl rfl)
theorem dX8_pour_177 : decode cX8_pour 177 = .ok (.goto (-59), 3) := dk_167 255 197 (dk_at dksX8_pour_7 17 rfl rfl)
theorem dX8_pour_180 : decode cX8_pour 180 = .ok (.aload_n 0, 1) := dk_42 (dk_at dksX8_pour_7 20 rfl rfl)
theorem dX8_pour_181 : decode cX8_pour 181 = .ok (.iconst 0, 1) := dk_3 (dk_at dksX8_pour_7 21 rfl rfl)
theorem dX8_pour_182 : decode cX8_pour 182 = .ok (.invokevirtual 85, 3) := dk_182 0 85 (dk_at dksX8_pour_8 0 rfl rfl)
theorem dX8_pour_185 : decode cX8_pour 185 = .ok (.ireturn, 1) := dk_172 (dk_at dksX8_pour_8 3 rfl rfl)
abbrev cX8_feed : ByteArray := prog_17_method_19_code
def yX8_feed : MethodName := ⟨RX8, "feed", "(IIIII)I"⟩
def dkwX8_feed_2 : List UInt8 := [172]
abbrev dktX8_feed_2 : List UInt8 := dkwX8_feed_2 ++ []
def dkwX8_feed_1 : List UInt8 := [182, 0, 105, 42, 29, 182, 0, 105, 42, 21, 4, 182, 0, 105, 42, 21, 5, 182, 0, 105, 42, 180, 0, 102]
abbrev dktX8_feed_1 : List UInt8 := dkwX8_feed_1 ++ dktX8_feed_2
def dkwX8_feed_0 : List UInt8 := [42, 180, 0, 102, 16, 20, 96, 17, 3, 132, 164, 0, 5, 2, 172, 42, 27, 182, 0, 105, 42, 28]
abbrev dktX8_feed_0 : List UInt8 := dkwX8_feed_0 ++ dktX8_feed_1
theorem dksX8_feed_0 : cX8_feed.data.toList.drop 0 = dktX8_feed_0 := by decide +kernel
theorem dksX8_feed_1 : cX8_feed.data.toList.drop 22 = dktX8_feed_1 := dk_seg dksX8_feed_0 22 rfl rfl
theorem dksX8_feed_2 : cX8_feed.data.toList.drop 46 = dktX8_feed_2 := dk_seg dksX8_feed_1 24 rfl rfl
theorem dX8_feed_0 : decode cX8_feed 0 = .ok (.aload_n 0, 1) := dk_42 (dk_at dksX8_feed_0 0 rfl rfl)
theorem dX8_feed_1 : decode cX8_feed 1 = .ok (.getfield 102, 3) := dk_180 0 102 (dk_at dksX8_feed_0 1 rfl rfl)
theorem dX8_feed_4 : decode cX8_feed 4 = .ok (.bipush 20, 2) := dk_16 20 (dk_at dksX8_feed_0 4 rfl rfl)
theorem dX8_feed_6 : decode cX8_feed 6 = .ok (.iadd, 1) := dk_96 (dk_at dksX8_feed_0 6 rfl rfl)
theorem dX8_feed_7 : decode cX8_feed 7 = .ok (.sipush 900, 3) := dk_17 3 132 (dk_at dksX8_feed_0 7 rfl rfl)
theorem dX8_feed_10 : decode cX8_feed 10 = .ok (.if_icmp .le 5, 3) := dk_164 0 5 (dk_at dksX8_feed_0 10 rfl rfl)
theorem dX8_feed_13 : decode cX8_feed 13 = .ok (.iconst (-1), 1) := dk_2 (dk_at dksX8_feed_0 13 rfl rfl)
theorem dX8_feed_14 : decode cX8_feed 14 = .ok (.ireturn, 1) := dk_172 (dk_at dksX8_feed_0 14 rfl rfl)
theorem dX8_feed_15 : decode cX8_feed 15 = .ok (.aload_n 0, 1) := dk_42 (dk_at dksX8_feed_0 15 rfl rfl)
theorem dX8_feed_16 : decode cX8_feed 16 = .ok (.iload_n 1, 1) := dk_27 (dk_at dksX8_feed_0 16 rfl rfl)
theorem dX8_feed_17 : decode cX8_feed 17 = .ok (.invokevirtual 105, 3) := dk_182 0 105 (dk_at dksX8_feed_0 17 rfl rfl)
theorem dX8_feed_20 : decode cX8_feed 20 = .ok (.aload_n 0, 1) := dk_42 (dk_at dksX8_feed_0 20 rfl rfl)
theorem dX8_feed_21 : decode cX8_feed 21 = .ok (.iload_n 2, 1) := dk_28 (dk_at dksX8_feed_0 21 rfl rfl)
theorem dX8_feed_22 : decode cX8_feed 22 = .ok (.invokevirtual 105, 3) := dk_182 0 105 (dk_at dksX8_feed_1 0 rfl rfl)
theorem dX8_feed_25 : decode cX8_feed 25 = .ok (.aload_n 0, 1) := dk_42 (dk_at dksX8_feed_1 3 rfl rfl)
theorem dX8_feed_26 : decode cX8_feed 26 = .ok (.iload_n 3, 1) := dk_29 (dk_at dksX8_feed_1 4 rfl rfl)
theorem dX8_feed_27 : decode cX8_feed 27 = .ok (.invokevirtual 105, 3) := dk_182 0 105 (dk_at dksX8_feed_1 5 rfl rfl)
theorem dX8_feed_30 : decode cX8_feed 30 = .ok (.aload_n 0, 1) := dk_42 (dk_at dksX8_feed_1 8 rfl rfl)
theorem dX8_feed_31 : decode cX8_feed 31 = .ok (.iload 4, 2) := dk_21 4 (dk_at dksX8_feed_1 9 rfl rfl)
theorem dX8_feed_33 : decode cX8_feed 33 = .ok (.invokevirtual 105, 3) := dk_182 0 105 (dk_at dksX8_feed_1 11 rfl rfl)
theorem dX8_feed_36 : decode cX8_feed 36 = .ok (.aload_n 0, 1) := dk_42 (dk_at dksX8_feed_1 14 rfl rfl)
theorem dX8_feed_37 : decode cX8_feed 37 = .ok (.iload 5, 2) := dk_21 5 (dk_at dksX8_feed_1 15 rfl rfl)
theorem dX8_feed_39 : decode cX8_feed 39 = .ok (.invokevirtual 105, 3) := dk_182 0 105 (dk_at dksX8_feed_1 17 rfl rfl)
theorem dX8_feed_42 : decode cX8_feed 42 = .ok (.aload_n 0, 1) := dk_42 (dk_at dksX8_feed_1 20 rfl rfl)
theorem dX8_feed_43 : decode cX8_feed 43 = .ok (.getfield 102, 3) := dk_180 0 102 (dk_at dksX8_feed_1 21 rfl rfl)
theorem dX8_feed_46 : decode cX8_feed 46 = .ok (.ireturn, 1) := dk_172 (dk_at dksX8_feed_2 0 rfl rfl)
abbrev cX8_four : ByteArray := prog_17_method_20_code
def yX8_four : MethodName := ⟨RX8, "four", "(I)V"⟩
def dkwX8_four_1 : List UInt8 := [180, 0, 102, 4, 96, 181, 0, 102, 132, 2, 248, 167, 255, 226, 177]
abbrev dktX8_four_1 : List UInt8 := dkwX8_four_1 ++ []
def dkwX8_four_0 : List UInt8 := [16, 24, 61, 28, 155, 0, 32, 42, 180, 0, 30, 42, 180, 0, 102, 27, 28, 122, 145, 84, 42, 89]
abbrev dktX8_four_0 : List UInt8 := dkwX8_four_0 ++ dktX8_four_1
theorem dksX8_four_0 : cX8_four.data.toList.drop 0 = dktX8_four_0 := by decide +kernel
theorem dksX8_four_1 : cX8_four.data.toList.drop 22 = dktX8_four_1 := dk_seg dksX8_four_0 22 rfl rfl
theorem dX8_four_0 : decode cX8_four 0 = .ok (.bipush 24, 2) := dk_16 24 (dk_at dksX8_four_0 0 rfl rfl)
theorem dX8_four_2 : decode cX8_four 2 = .ok (.istore_n 2, 1) := dk_61 (dk_at dksX8_four_0 2 rfl rfl)
theorem dX8_four_3 : decode cX8_four 3 = .ok (.iload_n 2, 1) := dk_28 (dk_at dksX8_four_0 3 rfl rfl)
theorem dX8_four_4 : decode cX8_four 4 = .ok (.ifCond .lt 32, 3) := dk_155 0 32 (dk_at dksX8_four_0 4 rfl rfl)
theorem dX8_four_7 : decode cX8_four 7 = .ok (.aload_n 0, 1) := dk_42 (dk_at dksX8_four_0 7 rfl rfl)
theorem dX8_four_8 : decode cX8_four 8 = .ok (.getfield 30, 3) := dk_180 0 30 (dk_at dksX8_four_0 8 rfl rfl)
theorem dX8_four_11 : decode cX8_four 11 = .ok (.aload_n 0, 1) := dk_42 (dk_at dksX8_four_0 11 rfl rfl)
theorem dX8_four_12 : decode cX8_four 12 = .ok (.getfield 102, 3) := dk_180 0 102 (dk_at dksX8_four_0 12 rfl rfl)
theorem dX8_four_15 : decode cX8_four 15 = .ok (.iload_n 1, 1) := dk_27 (dk_at dksX8_four_0 15 rfl rfl)
theorem dX8_four_16 : decode cX8_four 16 = .ok (.iload_n 2, 1) := dk_28 (dk_at dksX8_four_0 16 rfl rfl)
theorem dX8_four_17 : decode cX8_four 17 = .ok (.ishr, 1) := dk_122 (dk_at dksX8_four_0 17 rfl rfl)
theorem dX8_four_18 : decode cX8_four 18 = .ok (.i2b, 1) := dk_145 (dk_at dksX8_four_0 18 rfl rfl)
theorem dX8_four_19 : decode cX8_four 19 = .ok (.bastore, 1) := dk_84 (dk_at dksX8_four_0 19 rfl rfl)
theorem dX8_four_20 : decode cX8_four 20 = .ok (.aload_n 0, 1) := dk_42 (dk_at dksX8_four_0 20 rfl rfl)
theorem dX8_four_21 : decode cX8_four 21 = .ok (.dup, 1) := dk_89 (dk_at dksX8_four_0 21 rfl rfl)
theorem dX8_four_22 : decode cX8_four 22 = .ok (.getfield 102, 3) := dk_180 0 102 (dk_at dksX8_four_1 0 rfl rfl)
theorem dX8_four_25 : decode cX8_four 25 = .ok (.iconst 1, 1) := dk_4 (dk_at dksX8_four_1 3 rfl rfl)
theorem dX8_four_26 : decode cX8_four 26 = .ok (.iadd, 1) := dk_96 (dk_at dksX8_four_1 4 rfl rfl)
theorem dX8_four_27 : decode cX8_four 27 = .ok (.putfield 102, 3) := dk_181 0 102 (dk_at dksX8_four_1 5 rfl rfl)
theorem dX8_four_30 : decode cX8_four 30 = .ok (.iinc 2 (-8), 3) := dk_132 2 248 (dk_at dksX8_four_1 8 rfl rfl)
theorem dX8_four_33 : decode cX8_four 33 = .ok (.goto (-30), 3) := dk_167 255 226 (dk_at dksX8_four_1 11 rfl rfl)
theorem dX8_four_36 : decode cX8_four 36 = .ok (.return_, 1) := dk_177 (dk_at dksX8_four_1 14 rfl rfl)
abbrev cX8_fault : ByteArray := prog_17_method_35_code
def yX8_fault : MethodName := ⟨RX8, "fault", "(I)I"⟩
def dkwX8_fault_1 : List UInt8 := [172]
abbrev dktX8_fault_1 : List UInt8 := dkwX8_fault_1 ++ []
def dkwX8_fault_0 : List UInt8 := [27, 154, 0, 10, 42, 180, 0, 37, 167, 0, 16, 27, 4, 160, 0, 10, 42, 180, 0, 41, 167, 0, 4, 2]
abbrev dktX8_fault_0 : List UInt8 := dkwX8_fault_0 ++ dktX8_fault_1
theorem dksX8_fault_0 : cX8_fault.data.toList.drop 0 = dktX8_fault_0 := by decide +kernel
theorem dksX8_fault_1 : cX8_fault.data.toList.drop 24 = dktX8_fault_1 := dk_seg dksX8_fault_0 24 rfl rfl
theorem dX8_fault_0 : decode cX8_fault 0 = .ok (.iload_n 1, 1) := dk_27 (dk_at dksX8_fault_0 0 rfl rfl)
theorem dX8_fault_1 : decode cX8_fault 1 = .ok (.ifCond .ne 10, 3) := dk_154 0 10 (dk_at dksX8_fault_0 1 rfl rfl)
theorem dX8_fault_4 : decode cX8_fault 4 = .ok (.aload_n 0, 1) := dk_42 (dk_at dksX8_fault_0 4 rfl rfl)
theorem dX8_fault_5 : decode cX8_fault 5 = .ok (.getfield 37, 3) := dk_180 0 37 (dk_at dksX8_fault_0 5 rfl rfl)
theorem dX8_fault_8 : decode cX8_fault 8 = .ok (.goto 16, 3) := dk_167 0 16 (dk_at dksX8_fault_0 8 rfl rfl)
theorem dX8_fault_11 : decode cX8_fault 11 = .ok (.iload_n 1, 1) := dk_27 (dk_at dksX8_fault_0 11 rfl rfl)
theorem dX8_fault_12 : decode cX8_fault 12 = .ok (.iconst 1, 1) := dk_4 (dk_at dksX8_fault_0 12 rfl rfl)
theorem dX8_fault_13 : decode cX8_fault 13 = .ok (.if_icmp .ne 10, 3) := dk_160 0 10 (dk_at dksX8_fault_0 13 rfl rfl)
theorem dX8_fault_16 : decode cX8_fault 16 = .ok (.aload_n 0, 1) := dk_42 (dk_at dksX8_fault_0 16 rfl rfl)
theorem dX8_fault_17 : decode cX8_fault 17 = .ok (.getfield 41, 3) := dk_180 0 41 (dk_at dksX8_fault_0 17 rfl rfl)
theorem dX8_fault_20 : decode cX8_fault 20 = .ok (.goto 4, 3) := dk_167 0 4 (dk_at dksX8_fault_0 20 rfl rfl)
theorem dX8_fault_23 : decode cX8_fault 23 = .ok (.iconst (-1), 1) := dk_2 (dk_at dksX8_fault_0 23 rfl rfl)
theorem dX8_fault_24 : decode cX8_fault 24 = .ok (.ireturn, 1) := dk_172 (dk_at dksX8_fault_1 0 rfl rfl)
abbrev cX8_beach : ByteArray := prog_17_method_50_code
def yX8_beach : MethodName := ⟨RX8, "beach", "(I)I"⟩
def dkwX8_beach_5 : List UInt8 := [47, 80, 132, 3, 1, 167, 255, 232, 42, 42, 180, 0, 7, 5, 46, 182, 0, 241, 172]
abbrev dktX8_beach_5 : List UInt8 := dkwX8_beach_5 ++ []
def dkwX8_beach_4 : List UInt8 := [167, 255, 230, 3, 62, 29, 16, 14, 162, 0, 24, 42, 180, 0, 13, 29, 42, 180, 0, 13, 16, 56, 29, 96]
abbrev dktX8_beach_4 : List UInt8 := dkwX8_beach_4 ++ dktX8_beach_5
def dkwX8_beach_3 : List UInt8 := [162, 0, 25, 42, 180, 0, 7, 29, 42, 180, 0, 7, 17, 21, 224, 29, 96, 46, 79, 132, 3, 1]
abbrev dktX8_beach_3 : List UInt8 := dkwX8_beach_3 ++ dktX8_beach_4
def dkwX8_beach_2 : List UInt8 := [153, 0, 11, 42, 182, 0, 238, 61, 167, 255, 240, 42, 180, 0, 148, 154, 0, 63, 3, 62, 29, 17, 5, 120]
abbrev dktX8_beach_2 : List UInt8 := dkwX8_beach_2 ++ dktX8_beach_3
def dkwX8_beach_1 : List UInt8 := [42, 3, 181, 0, 214, 42, 3, 181, 0, 204, 42, 182, 0, 235, 61, 28, 153, 0, 18, 42, 180, 0, 123]
abbrev dktX8_beach_1 : List UInt8 := dkwX8_beach_1 ++ dktX8_beach_2
def dkwX8_beach_0 : List UInt8 := [42, 27, 17, 3, 132, 182, 0, 231, 154, 0, 9, 42, 4, 182, 0, 78, 172, 42, 17, 21, 224, 182, 0, 68]
abbrev dktX8_beach_0 : List UInt8 := dkwX8_beach_0 ++ dktX8_beach_1
theorem dksX8_beach_0 : cX8_beach.data.toList.drop 0 = dktX8_beach_0 := by decide +kernel
theorem dksX8_beach_1 : cX8_beach.data.toList.drop 24 = dktX8_beach_1 := dk_seg dksX8_beach_0 24 rfl rfl
theorem dksX8_beach_2 : cX8_beach.data.toList.drop 47 = dktX8_beach_2 := dk_seg dksX8_beach_1 23 rfl rfl
theorem dksX8_beach_3 : cX8_beach.data.toList.drop 71 = dktX8_beach_3 := dk_seg dksX8_beach_2 24 rfl rfl
theorem dksX8_beach_4 : cX8_beach.data.toList.drop 93 = dktX8_beach_4 := dk_seg dksX8_beach_3 22 rfl rfl
theorem dksX8_beach_5 : cX8_beach.data.toList.drop 117 = dktX8_beach_5 := dk_seg dksX8_beach_4 24 rfl rfl
theorem dX8_beach_0 : decode cX8_beach 0 = .ok (.aload_n 0, 1) := dk_42 (dk_at dksX8_beach_0 0 rfl rfl)
theorem dX8_beach_1 : decode cX8_beach 1 = .ok (.iload_n 1, 1) := dk_27 (dk_at dksX8_beach_0 1 rfl rfl)
theorem dX8_beach_2 : decode cX8_beach 2 = .ok (.sipush 900, 3) := dk_17 3 132 (dk_at dksX8_beach_0 2 rfl rfl)
theorem dX8_beach_5 : decode cX8_beach 5 = .ok (.invokevirtual 231, 3) := dk_182 0 231 (dk_at dksX8_beach_0 5 rfl rfl)
theorem dX8_beach_8 : decode cX8_beach 8 = .ok (.ifCond .ne 9, 3) := dk_154 0 9 (dk_at dksX8_beach_0 8 rfl rfl)
theorem dX8_beach_11 : decode cX8_beach 11 = .ok (.aload_n 0, 1) := dk_42 (dk_at dksX8_beach_0 11 rfl rfl)
theorem dX8_beach_12 : decode cX8_beach 12 = .ok (.iconst 1, 1) := dk_4 (dk_at dksX8_beach_0 12 rfl rfl)
theorem dX8_beach_13 : decode cX8_beach 13 = .ok (.invokevirtual 78, 3) := dk_182 0 78 (dk_at dksX8_beach_0 13 rfl rfl)
theorem dX8_beach_16 : decode cX8_beach 16 = .ok (.ireturn, 1) := dk_172 (dk_at dksX8_beach_0 16 rfl rfl)
theorem dX8_beach_17 : decode cX8_beach 17 = .ok (.aload_n 0, 1) := dk_42 (dk_at dksX8_beach_0 17 rfl rfl)
theorem dX8_beach_18 : decode cX8_beach 18 = .ok (.sipush 5600, 3) := dk_17 21 224 (dk_at dksX8_beach_0 18 rfl rfl)
theorem dX8_beach_21 : decode cX8_beach 21 = .ok (.invokevirtual 68, 3) := dk_182 0 68 (dk_at dksX8_beach_0 21 rfl rfl)
theorem dX8_beach_24 : decode cX8_beach 24 = .ok (.aload_n 0, 1) := dk_42 (dk_at dksX8_beach_1 0 rfl rfl)
theorem dX8_beach_25 : decode cX8_beach 25 = .ok (.iconst 0, 1) := dk_3 (dk_at dksX8_beach_1 1 rfl rfl)
theorem dX8_beach_26 : decode cX8_beach 26 = .ok (.putfield 214, 3) := dk_181 0 214 (dk_at dksX8_beach_1 2 rfl rfl)
theorem dX8_beach_29 : decode cX8_beach 29 = .ok (.aload_n 0, 1) := dk_42 (dk_at dksX8_beach_1 5 rfl rfl)
theorem dX8_beach_30 : decode cX8_beach 30 = .ok (.iconst 0, 1) := dk_3 (dk_at dksX8_beach_1 6 rfl rfl)
theorem dX8_beach_31 : decode cX8_beach 31 = .ok (.putfield 204, 3) := dk_181 0 204 (dk_at dksX8_beach_1 7 rfl rfl)
theorem dX8_beach_34 : decode cX8_beach 34 = .ok (.aload_n 0, 1) := dk_42 (dk_at dksX8_beach_1 10 rfl rfl)
theorem dX8_beach_35 : decode cX8_beach 35 = .ok (.invokevirtual 235, 3) := dk_182 0 235 (dk_at dksX8_beach_1 11 rfl rfl)
theorem dX8_beach_38 : decode cX8_beach 38 = .ok (.istore_n 2, 1) := dk_61 (dk_at dksX8_beach_1 14 rfl rfl)
theorem dX8_beach_39 : decode cX8_beach 39 = .ok (.iload_n 2, 1) := dk_28 (dk_at dksX8_beach_1 15 rfl rfl)
theorem dX8_beach_40 : decode cX8_beach 40 = .ok (.ifCond .eq 18, 3) := dk_153 0 18 (dk_at dksX8_beach_1 16 rfl rfl)
theorem dX8_beach_43 : decode cX8_beach 43 = .ok (.aload_n 0, 1) := dk_42 (dk_at dksX8_beach_1 19 rfl rfl)
theorem dX8_beach_44 : decode cX8_beach 44 = .ok (.getfield 123, 3) := dk_180 0 123 (dk_at dksX8_beach_1 20 rfl rfl)
theorem dX8_beach_47 : decode cX8_beach 47 = .ok (.ifCond .eq 11, 3) := dk_153 0 11 (dk_at dksX8_beach_2 0 rfl rfl)
theorem dX8_beach_50 : decode cX8_beach 50 = .ok (.aload_n 0, 1) := dk_42 (dk_at dksX8_beach_2 3 rfl rfl)
theorem dX8_beach_51 : decode cX8_beach 51 = .ok (.invokevirtual 238, 3) := dk_182 0 238 (dk_at dksX8_beach_2 4 rfl rfl)
theorem dX8_beach_54 : decode cX8_beach 54 = .ok (.istore_n 2, 1) := dk_61 (dk_at dksX8_beach_2 7 rfl rfl)
theorem dX8_beach_55 : decode cX8_beach 55 = .ok (.goto (-16), 3) := dk_167 255 240 (dk_at dksX8_beach_2 8 rfl rfl)
theorem dX8_beach_58 : decode cX8_beach 58 = .ok (.aload_n 0, 1) := dk_42 (dk_at dksX8_beach_2 11 rfl rfl)
theorem dX8_beach_59 : decode cX8_beach 59 = .ok (.getfield 148, 3) := dk_180 0 148 (dk_at dksX8_beach_2 12 rfl rfl)
theorem dX8_beach_62 : decode cX8_beach 62 = .ok (.ifCond .ne 63, 3) := dk_154 0 63 (dk_at dksX8_beach_2 15 rfl rfl)
theorem dX8_beach_65 : decode cX8_beach 65 = .ok (.iconst 0, 1) := dk_3 (dk_at dksX8_beach_2 18 rfl rfl)
theorem dX8_beach_66 : decode cX8_beach 66 = .ok (.istore_n 3, 1) := dk_62 (dk_at dksX8_beach_2 19 rfl rfl)
theorem dX8_beach_67 : decode cX8_beach 67 = .ok (.iload_n 3, 1) := dk_29 (dk_at dksX8_beach_2 20 rfl rfl)
theorem dX8_beach_68 : decode cX8_beach 68 = .ok (.sipush 1400, 3) := dk_17 5 120 (dk_at dksX8_beach_2 21 rfl rfl)
theorem dX8_beach_71 : decode cX8_beach 71 = .ok (.if_icmp .ge 25, 3) := dk_162 0 25 (dk_at dksX8_beach_3 0 rfl rfl)
theorem dX8_beach_74 : decode cX8_beach 74 = .ok (.aload_n 0, 1) := dk_42 (dk_at dksX8_beach_3 3 rfl rfl)
theorem dX8_beach_75 : decode cX8_beach 75 = .ok (.getfield 7, 3) := dk_180 0 7 (dk_at dksX8_beach_3 4 rfl rfl)
theorem dX8_beach_78 : decode cX8_beach 78 = .ok (.iload_n 3, 1) := dk_29 (dk_at dksX8_beach_3 7 rfl rfl)
theorem dX8_beach_79 : decode cX8_beach 79 = .ok (.aload_n 0, 1) := dk_42 (dk_at dksX8_beach_3 8 rfl rfl)
theorem dX8_beach_80 : decode cX8_beach 80 = .ok (.getfield 7, 3) := dk_180 0 7 (dk_at dksX8_beach_3 9 rfl rfl)
theorem dX8_beach_83 : decode cX8_beach 83 = .ok (.sipush 5600, 3) := dk_17 21 224 (dk_at dksX8_beach_3 12 rfl rfl)
theorem dX8_beach_86 : decode cX8_beach 86 = .ok (.iload_n 3, 1) := dk_29 (dk_at dksX8_beach_3 15 rfl rfl)
theorem dX8_beach_87 : decode cX8_beach 87 = .ok (.iadd, 1) := dk_96 (dk_at dksX8_beach_3 16 rfl rfl)
theorem dX8_beach_88 : decode cX8_beach 88 = .ok (.iaload, 1) := dk_46 (dk_at dksX8_beach_3 17 rfl rfl)
theorem dX8_beach_89 : decode cX8_beach 89 = .ok (.iastore, 1) := dk_79 (dk_at dksX8_beach_3 18 rfl rfl)
theorem dX8_beach_90 : decode cX8_beach 90 = .ok (.iinc 3 1, 3) := dk_132 3 1 (dk_at dksX8_beach_3 19 rfl rfl)
theorem dX8_beach_93 : decode cX8_beach 93 = .ok (.goto (-26), 3) := dk_167 255 230 (dk_at dksX8_beach_4 0 rfl rfl)
theorem dX8_beach_96 : decode cX8_beach 96 = .ok (.iconst 0, 1) := dk_3 (dk_at dksX8_beach_4 3 rfl rfl)
theorem dX8_beach_97 : decode cX8_beach 97 = .ok (.istore_n 3, 1) := dk_62 (dk_at dksX8_beach_4 4 rfl rfl)
theorem dX8_beach_98 : decode cX8_beach 98 = .ok (.iload_n 3, 1) := dk_29 (dk_at dksX8_beach_4 5 rfl rfl)
theorem dX8_beach_99 : decode cX8_beach 99 = .ok (.bipush 14, 2) := dk_16 14 (dk_at dksX8_beach_4 6 rfl rfl)
theorem dX8_beach_101 : decode cX8_beach 101 = .ok (.if_icmp .ge 24, 3) := dk_162 0 24 (dk_at dksX8_beach_4 8 rfl rfl)
theorem dX8_beach_104 : decode cX8_beach 104 = .ok (.aload_n 0, 1) := dk_42 (dk_at dksX8_beach_4 11 rfl rfl)
theorem dX8_beach_105 : decode cX8_beach 105 = .ok (.getfield 13, 3) := dk_180 0 13 (dk_at dksX8_beach_4 12 rfl rfl)
theorem dX8_beach_108 : decode cX8_beach 108 = .ok (.iload_n 3, 1) := dk_29 (dk_at dksX8_beach_4 15 rfl rfl)
theorem dX8_beach_109 : decode cX8_beach 109 = .ok (.aload_n 0, 1) := dk_42 (dk_at dksX8_beach_4 16 rfl rfl)
theorem dX8_beach_110 : decode cX8_beach 110 = .ok (.getfield 13, 3) := dk_180 0 13 (dk_at dksX8_beach_4 17 rfl rfl)
theorem dX8_beach_113 : decode cX8_beach 113 = .ok (.bipush 56, 2) := dk_16 56 (dk_at dksX8_beach_4 20 rfl rfl)
theorem dX8_beach_115 : decode cX8_beach 115 = .ok (.iload_n 3, 1) := dk_29 (dk_at dksX8_beach_4 22 rfl rfl)
theorem dX8_beach_116 : decode cX8_beach 116 = .ok (.iadd, 1) := dk_96 (dk_at dksX8_beach_4 23 rfl rfl)
theorem dX8_beach_117 : decode cX8_beach 117 = .ok (.laload, 1) := dk_47 (dk_at dksX8_beach_5 0 rfl rfl)
theorem dX8_beach_118 : decode cX8_beach 118 = .ok (.lastore, 1) := dk_80 (dk_at dksX8_beach_5 1 rfl rfl)
theorem dX8_beach_119 : decode cX8_beach 119 = .ok (.iinc 3 1, 3) := dk_132 3 1 (dk_at dksX8_beach_5 2 rfl rfl)
theorem dX8_beach_122 : decode cX8_beach 122 = .ok (.goto (-24), 3) := dk_167 255 232 (dk_at dksX8_beach_5 5 rfl rfl)
theorem dX8_beach_125 : decode cX8_beach 125 = .ok (.aload_n 0, 1) := dk_42 (dk_at dksX8_beach_5 8 rfl rfl)
theorem dX8_beach_126 : decode cX8_beach 126 = .ok (.aload_n 0, 1) := dk_42 (dk_at dksX8_beach_5 9 rfl rfl)
theorem dX8_beach_127 : decode cX8_beach 127 = .ok (.getfield 7, 3) := dk_180 0 7 (dk_at dksX8_beach_5 10 rfl rfl)
theorem dX8_beach_130 : decode cX8_beach 130 = .ok (.iconst 2, 1) := dk_5 (dk_at dksX8_beach_5 13 rfl rfl)
theorem dX8_beach_131 : decode cX8_beach 131 = .ok (.iaload, 1) := dk_46 (dk_at dksX8_beach_5 14 rfl rfl)
theorem dX8_beach_132 : decode cX8_beach 132 = .ok (.invokevirtual 241, 3) := dk_182 0 241 (dk_at dksX8_beach_5 15 rfl rfl)
theorem dX8_beach_135 : decode cX8_beach 135 = .ok (.ireturn, 1) := dk_172 (dk_at dksX8_beach_5 18 rfl rfl)
abbrev cX8_begins : ByteArray := prog_17_method_28_code
def yX8_begins : MethodName := ⟨RX8, "begins", "(II)Z"⟩
def dkwX8_begins_3 : List UInt8 := [3, 181, 0, 151, 42, 182, 0, 154, 4, 172]
abbrev dktX8_begins_3 : List UInt8 := dkwX8_begins_3 ++ []
def dkwX8_begins_2 : List UInt8 := [167, 255, 236, 42, 3, 181, 0, 102, 42, 3, 181, 0, 148, 42, 2, 181, 0, 41, 42, 3, 181, 0, 111, 42]
abbrev dktX8_begins_2 : List UInt8 := dkwX8_begins_2 ++ dktX8_begins_3
def dkwX8_begins_1 : List UInt8 := [3, 62, 29, 27, 162, 0, 21, 42, 180, 0, 34, 29, 42, 180, 0, 30, 29, 51, 84, 132, 3, 1]
abbrev dktX8_begins_1 : List UInt8 := dkwX8_begins_1 ++ dktX8_begins_2
def dkwX8_begins_0 : List UInt8 := [27, 155, 0, 16, 27, 42, 180, 0, 102, 163, 0, 8, 27, 28, 164, 0, 5, 3, 172, 42, 27, 181, 0, 108]
abbrev dktX8_begins_0 : List UInt8 := dkwX8_begins_0 ++ dktX8_begins_1
theorem dksX8_begins_0 : cX8_begins.data.toList.drop 0 = dktX8_begins_0 := by decide +kernel
theorem dksX8_begins_1 : cX8_begins.data.toList.drop 24 = dktX8_begins_1 := dk_seg dksX8_begins_0 24 rfl rfl
theorem dksX8_begins_2 : cX8_begins.data.toList.drop 46 = dktX8_begins_2 := dk_seg dksX8_begins_1 22 rfl rfl
theorem dksX8_begins_3 : cX8_begins.data.toList.drop 70 = dktX8_begins_3 := dk_seg dksX8_begins_2 24 rfl rfl
theorem dX8_begins_0 : decode cX8_begins 0 = .ok (.iload_n 1, 1) := dk_27 (dk_at dksX8_begins_0 0 rfl rfl)
theorem dX8_begins_1 : decode cX8_begins 1 = .ok (.ifCond .lt 16, 3) := dk_155 0 16 (dk_at dksX8_begins_0 1 rfl rfl)
theorem dX8_begins_4 : decode cX8_begins 4 = .ok (.iload_n 1, 1) := dk_27 (dk_at dksX8_begins_0 4 rfl rfl)
theorem dX8_begins_5 : decode cX8_begins 5 = .ok (.aload_n 0, 1) := dk_42 (dk_at dksX8_begins_0 5 rfl rfl)
theorem dX8_begins_6 : decode cX8_begins 6 = .ok (.getfield 102, 3) := dk_180 0 102 (dk_at dksX8_begins_0 6 rfl rfl)
theorem dX8_begins_9 : decode cX8_begins 9 = .ok (.if_icmp .gt 8, 3) := dk_163 0 8 (dk_at dksX8_begins_0 9 rfl rfl)
theorem dX8_begins_12 : decode cX8_begins 12 = .ok (.iload_n 1, 1) := dk_27 (dk_at dksX8_begins_0 12 rfl rfl)
theorem dX8_begins_13 : decode cX8_begins 13 = .ok (.iload_n 2, 1) := dk_28 (dk_at dksX8_begins_0 13 rfl rfl)
theorem dX8_begins_14 : decode cX8_begins 14 = .ok (.if_icmp .le 5, 3) := dk_164 0 5 (dk_at dksX8_begins_0 14 rfl rfl)
theorem dX8_begins_17 : decode cX8_begins 17 = .ok (.iconst 0, 1) := dk_3 (dk_at dksX8_begins_0 17 rfl rfl)
theorem dX8_begins_18 : decode cX8_begins 18 = .ok (.ireturn, 1) := dk_172 (dk_at dksX8_begins_0 18 rfl rfl)
theorem dX8_begins_19 : decode cX8_begins 19 = .ok (.aload_n 0, 1) := dk_42 (dk_at dksX8_begins_0 19 rfl rfl)
theorem dX8_begins_20 : decode cX8_begins 20 = .ok (.iload_n 1, 1) := dk_27 (dk_at dksX8_begins_0 20 rfl rfl)
theorem dX8_begins_21 : decode cX8_begins 21 = .ok (.putfield 108, 3) := dk_181 0 108 (dk_at dksX8_begins_0 21 rfl rfl)
theorem dX8_begins_24 : decode cX8_begins 24 = .ok (.iconst 0, 1) := dk_3 (dk_at dksX8_begins_1 0 rfl rfl)
theorem dX8_begins_25 : decode cX8_begins 25 = .ok (.istore_n 3, 1) := dk_62 (dk_at dksX8_begins_1 1 rfl rfl)
theorem dX8_begins_26 : decode cX8_begins 26 = .ok (.iload_n 3, 1) := dk_29 (dk_at dksX8_begins_1 2 rfl rfl)
theorem dX8_begins_27 : decode cX8_begins 27 = .ok (.iload_n 1, 1) := dk_27 (dk_at dksX8_begins_1 3 rfl rfl)
theorem dX8_begins_28 : decode cX8_begins 28 = .ok (.if_icmp .ge 21, 3) := dk_162 0 21 (dk_at dksX8_begins_1 4 rfl rfl)
theorem dX8_begins_31 : decode cX8_begins 31 = .ok (.aload_n 0, 1) := dk_42 (dk_at dksX8_begins_1 7 rfl rfl)
theorem dX8_begins_32 : decode cX8_begins 32 = .ok (.getfield 34, 3) := dk_180 0 34 (dk_at dksX8_begins_1 8 rfl rfl)
theorem dX8_begins_35 : decode cX8_begins 35 = .ok (.iload_n 3, 1) := dk_29 (dk_at dksX8_begins_1 11 rfl rfl)
theorem dX8_begins_36 : decode cX8_begins 36 = .ok (.aload_n 0, 1) := dk_42 (dk_at dksX8_begins_1 12 rfl rfl)
theorem dX8_begins_37 : decode cX8_begins 37 = .ok (.getfield 30, 3) := dk_180 0 30 (dk_at dksX8_begins_1 13 rfl rfl)
theorem dX8_begins_40 : decode cX8_begins 40 = .ok (.iload_n 3, 1) := dk_29 (dk_at dksX8_begins_1 16 rfl rfl)
theorem dX8_begins_41 : decode cX8_begins 41 = .ok (.baload, 1) := dk_51 (dk_at dksX8_begins_1 17 rfl rfl)
theorem dX8_begins_42 : decode cX8_begins 42 = .ok (.bastore, 1) := dk_84 (dk_at dksX8_begins_1 18 rfl rfl)
theorem dX8_begins_43 : decode cX8_begins 43 = .ok (.iinc 3 1, 3) := dk_132 3 1 (dk_at dksX8_begins_1 19 rfl rfl)
theorem dX8_begins_46 : decode cX8_begins 46 = .ok (.goto (-20), 3) := dk_167 255 236 (dk_at dksX8_begins_2 0 rfl rfl)
theorem dX8_begins_49 : decode cX8_begins 49 = .ok (.aload_n 0, 1) := dk_42 (dk_at dksX8_begins_2 3 rfl rfl)
theorem dX8_begins_50 : decode cX8_begins 50 = .ok (.iconst 0, 1) := dk_3 (dk_at dksX8_begins_2 4 rfl rfl)
theorem dX8_begins_51 : decode cX8_begins 51 = .ok (.putfield 102, 3) := dk_181 0 102 (dk_at dksX8_begins_2 5 rfl rfl)
theorem dX8_begins_54 : decode cX8_begins 54 = .ok (.aload_n 0, 1) := dk_42 (dk_at dksX8_begins_2 8 rfl rfl)
theorem dX8_begins_55 : decode cX8_begins 55 = .ok (.iconst 0, 1) := dk_3 (dk_at dksX8_begins_2 9 rfl rfl)
theorem dX8_begins_56 : decode cX8_begins 56 = .ok (.putfield 148, 3) := dk_181 0 148 (dk_at dksX8_begins_2 10 rfl rfl)
theorem dX8_begins_59 : decode cX8_begins 59 = .ok (.aload_n 0, 1) := dk_42 (dk_at dksX8_begins_2 13 rfl rfl)
theorem dX8_begins_60 : decode cX8_begins 60 = .ok (.iconst (-1), 1) := dk_2 (dk_at dksX8_begins_2 14 rfl rfl)
theorem dX8_begins_61 : decode cX8_begins 61 = .ok (.putfield 41, 3) := dk_181 0 41 (dk_at dksX8_begins_2 15 rfl rfl)
theorem dX8_begins_64 : decode cX8_begins 64 = .ok (.aload_n 0, 1) := dk_42 (dk_at dksX8_begins_2 18 rfl rfl)
theorem dX8_begins_65 : decode cX8_begins 65 = .ok (.iconst 0, 1) := dk_3 (dk_at dksX8_begins_2 19 rfl rfl)
theorem dX8_begins_66 : decode cX8_begins 66 = .ok (.putfield 111, 3) := dk_181 0 111 (dk_at dksX8_begins_2 20 rfl rfl)
theorem dX8_begins_69 : decode cX8_begins 69 = .ok (.aload_n 0, 1) := dk_42 (dk_at dksX8_begins_2 23 rfl rfl)
theorem dX8_begins_70 : decode cX8_begins 70 = .ok (.iconst 0, 1) := dk_3 (dk_at dksX8_begins_3 0 rfl rfl)
theorem dX8_begins_71 : decode cX8_begins 71 = .ok (.putfield 151, 3) := dk_181 0 151 (dk_at dksX8_begins_3 1 rfl rfl)
theorem dX8_begins_74 : decode cX8_begins 74 = .ok (.aload_n 0, 1) := dk_42 (dk_at dksX8_begins_3 4 rfl rfl)
theorem dX8_begins_75 : decode cX8_begins 75 = .ok (.invokevirtual 154, 3) := dk_182 0 154 (dk_at dksX8_begins_3 5 rfl rfl)
theorem dX8_begins_78 : decode cX8_begins 78 = .ok (.iconst 1, 1) := dk_4 (dk_at dksX8_begins_3 8 rfl rfl)
theorem dX8_begins_79 : decode cX8_begins 79 = .ok (.ireturn, 1) := dk_172 (dk_at dksX8_begins_3 9 rfl rfl)
abbrev cX8_ahead : ByteArray := prog_17_method_24_code
def yX8_ahead : MethodName := ⟨RX8, "ahead", "()V"⟩
def dkwX8_ahead_10 : List UInt8 := [16, 62, 159, 0, 9, 27, 16, 61, 160, 0, 7, 7, 167, 0, 4, 4, 181, 0, 123, 177]
abbrev dktX8_ahead_10 : List UInt8 := dkwX8_ahead_10 ++ []
def dkwX8_ahead_9 : List UInt8 := [89, 180, 0, 111, 4, 96, 181, 0, 111, 42, 27, 16, 59, 159, 0, 21, 27, 16, 60, 159, 0, 15, 27]
abbrev dktX8_ahead_9 : List UInt8 := dkwX8_ahead_9 ++ dktX8_ahead_10
def dkwX8_ahead_8 : List UInt8 := [180, 0, 111, 42, 180, 0, 117, 100, 7, 164, 0, 7, 4, 167, 0, 4, 6, 181, 0, 123, 167, 0, 46, 42]
abbrev dktX8_ahead_8 : List UInt8 := dkwX8_ahead_8 ++ dktX8_ahead_9
def dkwX8_ahead_7 : List UInt8 := [100, 184, 0, 133, 181, 0, 120, 42, 89, 180, 0, 111, 4, 96, 181, 0, 111, 167, 255, 204, 42, 42]
abbrev dktX8_ahead_7 : List UInt8 := dkwX8_ahead_7 ++ dktX8_ahead_8
def dkwX8_ahead_6 : List UInt8 := [153, 0, 44, 42, 18, 132, 16, 10, 42, 180, 0, 120, 104, 42, 42, 180, 0, 111, 182, 0, 114, 96, 16, 48]
abbrev dktX8_ahead_6 : List UInt8 := dkwX8_ahead_6 ++ dktX8_ahead_7
def dkwX8_ahead_5 : List UInt8 := [184, 0, 129, 153, 0, 88, 42, 3, 181, 0, 120, 42, 42, 180, 0, 111, 182, 0, 114, 184, 0, 129]
abbrev dktX8_ahead_5 : List UInt8 := dkwX8_ahead_5 ++ dktX8_ahead_6
def dkwX8_ahead_4 : List UInt8 := [42, 89, 180, 0, 111, 4, 96, 181, 0, 111, 167, 255, 232, 42, 5, 181, 0, 123, 167, 0, 138, 27]
abbrev dktX8_ahead_4 : List UInt8 := dkwX8_ahead_4 ++ dktX8_ahead_5
def dkwX8_ahead_3 : List UInt8 := [167, 0, 180, 27, 184, 0, 126, 153, 0, 38, 42, 42, 180, 0, 111, 182, 0, 114, 184, 0, 126, 153, 0, 16]
abbrev dktX8_ahead_3 : List UInt8 := dkwX8_ahead_3 ++ dktX8_ahead_4
def dkwX8_ahead_2 : List UInt8 := [42, 42, 180, 0, 111, 182, 0, 114, 60, 42, 27, 181, 0, 120, 27, 2, 160, 0, 11, 42, 3, 181, 0, 123]
abbrev dktX8_ahead_2 : List UInt8 := dkwX8_ahead_2 ++ dktX8_ahead_3
def dkwX8_ahead_1 : List UInt8 := [160, 0, 16, 42, 89, 180, 0, 111, 4, 96, 181, 0, 111, 167, 255, 220, 42, 42, 180, 0, 111, 181, 0, 117]
abbrev dktX8_ahead_1 : List UInt8 := dkwX8_ahead_1 ++ dktX8_ahead_2
def dkwX8_ahead_0 : List UInt8 := [42, 42, 180, 0, 111, 182, 0, 114, 16, 32, 159, 0, 16, 42, 42, 180, 0, 111, 182, 0, 114, 16, 10]
abbrev dktX8_ahead_0 : List UInt8 := dkwX8_ahead_0 ++ dktX8_ahead_1
theorem dksX8_ahead_0 : cX8_ahead.data.toList.drop 0 = dktX8_ahead_0 := by decide +kernel
theorem dksX8_ahead_1 : cX8_ahead.data.toList.drop 23 = dktX8_ahead_1 := dk_seg dksX8_ahead_0 23 rfl rfl
theorem dksX8_ahead_2 : cX8_ahead.data.toList.drop 47 = dktX8_ahead_2 := dk_seg dksX8_ahead_1 24 rfl rfl
theorem dksX8_ahead_3 : cX8_ahead.data.toList.drop 71 = dktX8_ahead_3 := dk_seg dksX8_ahead_2 24 rfl rfl
theorem dksX8_ahead_4 : cX8_ahead.data.toList.drop 95 = dktX8_ahead_4 := dk_seg dksX8_ahead_3 24 rfl rfl
theorem dksX8_ahead_5 : cX8_ahead.data.toList.drop 117 = dktX8_ahead_5 := dk_seg dksX8_ahead_4 22 rfl rfl
theorem dksX8_ahead_6 : cX8_ahead.data.toList.drop 139 = dktX8_ahead_6 := dk_seg dksX8_ahead_5 22 rfl rfl
theorem dksX8_ahead_7 : cX8_ahead.data.toList.drop 163 = dktX8_ahead_7 := dk_seg dksX8_ahead_6 24 rfl rfl
theorem dksX8_ahead_8 : cX8_ahead.data.toList.drop 185 = dktX8_ahead_8 := dk_seg dksX8_ahead_7 22 rfl rfl
theorem dksX8_ahead_9 : cX8_ahead.data.toList.drop 209 = dktX8_ahead_9 := dk_seg dksX8_ahead_8 24 rfl rfl
theorem dksX8_ahead_10 : cX8_ahead.data.toList.drop 232 = dktX8_ahead_10 := dk_seg dksX8_ahead_9 23 rfl rfl
theorem dX8_ahead_0 : decode cX8_ahead 0 = .ok (.aload_n 0, 1) := dk_42 (dk_at dksX8_ahead_0 0 rfl rfl)
theorem dX8_ahead_1 : decode cX8_ahead 1 = .ok (.aload_n 0, 1) := dk_42 (dk_at dksX8_ahead_0 1 rfl rfl)
theorem dX8_ahead_2 : decode cX8_ahead 2 = .ok (.getfield 111, 3) := dk_180 0 111 (dk_at dksX8_ahead_0 2 rfl rfl)
theorem dX8_ahead_5 : decode cX8_ahead 5 = .ok (.invokevirtual 114, 3) := dk_182 0 114 (dk_at dksX8_ahead_0 5 rfl rfl)
theorem dX8_ahead_8 : decode cX8_ahead 8 = .ok (.bipush 32, 2) := dk_16 32 (dk_at dksX8_ahead_0 8 rfl rfl)
theorem dX8_ahead_10 : decode cX8_ahead 10 = .ok (.if_icmp .eq 16, 3) := dk_159 0 16 (dk_at dksX8_ahead_0 10 rfl rfl)
theorem dX8_ahead_13 : decode cX8_ahead 13 = .ok (.aload_n 0, 1) := dk_42 (dk_at dksX8_ahead_0 13 rfl rfl)
theorem dX8_ahead_14 : decode cX8_ahead 14 = .ok (.aload_n 0, 1) := dk_42 (dk_at dksX8_ahead_0 14 rfl rfl)
theorem dX8_ahead_15 : decode cX8_ahead 15 = .ok (.getfield 111, 3) := dk_180 0 111 (dk_at dksX8_ahead_0 15 rfl rfl)
theorem dX8_ahead_18 : decode cX8_ahead 18 = .ok (.invokevirtual 114, 3) := dk_182 0 114 (dk_at dksX8_ahead_0 18 rfl rfl)
theorem dX8_ahead_21 : decode cX8_ahead 21 = .ok (.bipush 10, 2) := dk_16 10 (dk_at dksX8_ahead_0 21 rfl rfl)
theorem dX8_ahead_23 : decode cX8_ahead 23 = .ok (.if_icmp .ne 16, 3) := dk_160 0 16 (dk_at dksX8_ahead_1 0 rfl rfl)
theorem dX8_ahead_26 : decode cX8_ahead 26 = .ok (.aload_n 0, 1) := dk_42 (dk_at dksX8_ahead_1 3 rfl rfl)
theorem dX8_ahead_27 : decode cX8_ahead 27 = .ok (.dup, 1) := dk_89 (dk_at dksX8_ahead_1 4 rfl rfl)
theorem dX8_ahead_28 : decode cX8_ahead 28 = .ok (.getfield 111, 3) := dk_180 0 111 (dk_at dksX8_ahead_1 5 rfl rfl)
theorem dX8_ahead_31 : decode cX8_ahead 31 = .ok (.iconst 1, 1) := dk_4 (dk_at dksX8_ahead_1 8 rfl rfl)
theorem dX8_ahead_32 : decode cX8_ahead 32 = .ok (.iadd, 1) := dk_96 (dk_at dksX8_ahead_1 9 rfl rfl)
theorem dX8_ahead_33 : decode cX8_ahead 33 = .ok (.putfield 111, 3) := dk_181 0 111 (dk_at dksX8_ahead_1 10 rfl rfl)
theorem dX8_ahead_36 : decode cX8_ahead 36 = .ok (.goto (-36), 3) := dk_167 255 220 (dk_at dksX8_ahead_1 13 rfl rfl)
theorem dX8_ahead_39 : decode cX8_ahead 39 = .ok (.aload_n 0, 1) := dk_42 (dk_at dksX8_ahead_1 16 rfl rfl)
theorem dX8_ahead_40 : decode cX8_ahead 40 = .ok (.aload_n 0, 1) := dk_42 (dk_at dksX8_ahead_1 17 rfl rfl)
theorem dX8_ahead_41 : decode cX8_ahead 41 = .ok (.getfield 111, 3) := dk_180 0 111 (dk_at dksX8_ahead_1 18 rfl rfl)
theorem dX8_ahead_44 : decode cX8_ahead 44 = .ok (.putfield 117, 3) := dk_181 0 117 (dk_at dksX8_ahead_1 21 rfl rfl)
theorem dX8_ahead_47 : decode cX8_ahead 47 = .ok (.aload_n 0, 1) := dk_42 (dk_at dksX8_ahead_2 0 rfl rfl)
theorem dX8_ahead_48 : decode cX8_ahead 48 = .ok (.aload_n 0, 1) := dk_42 (dk_at dksX8_ahead_2 1 rfl rfl)
theorem dX8_ahead_49 : decode cX8_ahead 49 = .ok (.getfield 111, 3) := dk_180 0 111 (dk_at dksX8_ahead_2 2 rfl rfl)
theorem dX8_ahead_52 : decode cX8_ahead 52 = .ok (.invokevirtual 114, 3) := dk_182 0 114 (dk_at dksX8_ahead_2 5 rfl rfl)
theorem dX8_ahead_55 : decode cX8_ahead 55 = .ok (.istore_n 1, 1) := dk_60 (dk_at dksX8_ahead_2 8 rfl rfl)
theorem dX8_ahead_56 : decode cX8_ahead 56 = .ok (.aload_n 0, 1) := dk_42 (dk_at dksX8_ahead_2 9 rfl rfl)
theorem dX8_ahead_57 : decode cX8_ahead 57 = .ok (.iload_n 1, 1) := dk_27 (dk_at dksX8_ahead_2 10 rfl rfl)
theorem dX8_ahead_58 : decode cX8_ahead 58 = .ok (.putfield 120, 3) := dk_181 0 120 (dk_at dksX8_ahead_2 11 rfl rfl)
theorem dX8_ahead_61 : decode cX8_ahead 61 = .ok (.iload_n 1, 1) := dk_27 (dk_at dksX8_ahead_2 14 rfl rfl)
theorem dX8_ahead_62 : decode cX8_ahead 62 = .ok (.iconst (-1), 1) := dk_2 (dk_at dksX8_ahead_2 15 rfl rfl)
theorem dX8_ahead_63 : decode cX8_ahead 63 = .ok (.if_icmp .ne 11, 3) := dk_160 0 11 (dk_at dksX8_ahead_2 16 rfl rfl)
theorem dX8_ahead_66 : decode cX8_ahead 66 = .ok (.aload_n 0, 1) := dk_42 (dk_at dksX8_ahead_2 19 rfl rfl)
theorem dX8_ahead_67 : decode cX8_ahead 67 = .ok (.iconst 0, 1) := dk_3 (dk_at dksX8_ahead_2 20 rfl rfl)
theorem dX8_ahead_68 : decode cX8_ahead 68 = .ok (.putfield 123, 3) := dk_181 0 123 (dk_at dksX8_ahead_2 21 rfl rfl)
theorem dX8_ahead_71 : decode cX8_ahead 71 = .ok (.goto 180, 3) := dk_167 0 180 (dk_at dksX8_ahead_3 0 rfl rfl)
theorem dX8_ahead_74 : decode cX8_ahead 74 = .ok (.iload_n 1, 1) := dk_27 (dk_at dksX8_ahead_3 3 rfl rfl)
theorem dX8_ahead_75 : decode cX8_ahead 75 = .ok (.invokestatic 126, 3) := dk_184 0 126 (dk_at dksX8_ahead_3 4 rfl rfl)
theorem dX8_ahead_78 : decode cX8_ahead 78 = .ok (.ifCond .eq 38, 3) := dk_153 0 38 (dk_at dksX8_ahead_3 7 rfl rfl)
theorem dX8_ahead_81 : decode cX8_ahead 81 = .ok (.aload_n 0, 1) := dk_42 (dk_at dksX8_ahead_3 10 rfl rfl)
theorem dX8_ahead_82 : decode cX8_ahead 82 = .ok (.aload_n 0, 1) := dk_42 (dk_at dksX8_ahead_3 11 rfl rfl)
theorem dX8_ahead_83 : decode cX8_ahead 83 = .ok (.getfield 111, 3) := dk_180 0 111 (dk_at dksX8_ahead_3 12 rfl rfl)
theorem dX8_ahead_86 : decode cX8_ahead 86 = .ok (.invokevirtual 114, 3) := dk_182 0 114 (dk_at dksX8_ahead_3 15 rfl rfl)
theorem dX8_ahead_89 : decode cX8_ahead 89 = .ok (.invokestatic 126, 3) := dk_184 0 126 (dk_at dksX8_ahead_3 18 rfl rfl)
theorem dX8_ahead_92 : decode cX8_ahead 92 = .ok (.ifCond .eq 16, 3) := dk_153 0 16 (dk_at dksX8_ahead_3 21 rfl rfl)
theorem dX8_ahead_95 : decode cX8_ahead 95 = .ok (.aload_n 0, 1) := dk_42 (dk_at dksX8_ahead_4 0 rfl rfl)
theorem dX8_ahead_96 : decode cX8_ahead 96 = .ok (.dup, 1) := dk_89 (dk_at dksX8_ahead_4 1 rfl rfl)
theorem dX8_ahead_97 : decode cX8_ahead 97 = .ok (.getfield 111, 3) := dk_180 0 111 (dk_at dksX8_ahead_4 2 rfl rfl)
theorem dX8_ahead_100 : decode cX8_ahead 100 = .ok (.iconst 1, 1) := dk_4 (dk_at dksX8_ahead_4 5 rfl rfl)
theorem dX8_ahead_101 : decode cX8_ahead 101 = .ok (.iadd, 1) := dk_96 (dk_at dksX8_ahead_4 6 rfl rfl)
theorem dX8_ahead_102 : decode cX8_ahead 102 = .ok (.putfield 111, 3) := dk_181 0 111 (dk_at dksX8_ahead_4 7 rfl rfl)
theorem dX8_ahead_105 : decode cX8_ahead 105 = .ok (.goto (-24), 3) := dk_167 255 232 (dk_at dksX8_ahead_4 10 rfl rfl)
theorem dX8_ahead_108 : decode cX8_ahead 108 = .ok (.aload_n 0, 1) := dk_42 (dk_at dksX8_ahead_4 13 rfl rfl)
theorem dX8_ahead_109 : decode cX8_ahead 109 = .ok (.iconst 2, 1) := dk_5 (dk_at dksX8_ahead_4 14 rfl rfl)
theorem dX8_ahead_110 : decode cX8_ahead 110 = .ok (.putfield 123, 3) := dk_181 0 123 (dk_at dksX8_ahead_4 15 rfl rfl)
theorem dX8_ahead_113 : decode cX8_ahead 113 = .ok (.goto 138, 3) := dk_167 0 138 (dk_at dksX8_ahead_4 18 rfl rfl)
theorem dX8_ahead_116 : decode cX8_ahead 116 = .ok (.iload_n 1, 1) := dk_27 (dk_at dksX8_ahead_4 21 rfl rfl)
theorem dX8_ahead_117 : decode cX8_ahead 117 = .ok (.invokestatic 129, 3) := dk_184 0 129 (dk_at dksX8_ahead_5 0 rfl rfl)
theorem dX8_ahead_120 : decode cX8_ahead 120 = .ok (.ifCond .eq 88, 3) := dk_153 0 88 (dk_at dksX8_ahead_5 3 rfl rfl)
theorem dX8_ahead_123 : decode cX8_ahead 123 = .ok (.aload_n 0, 1) := dk_42 (dk_at dksX8_ahead_5 6 rfl rfl)
theorem dX8_ahead_124 : decode cX8_ahead 124 = .ok (.iconst 0, 1) := dk_3 (dk_at dksX8_ahead_5 7 rfl rfl)
theorem dX8_ahead_125 : decode cX8_ahead 125 = .ok (.putfield 120, 3) := dk_181 0 120 (dk_at dksX8_ahead_5 8 rfl rfl)
theorem dX8_ahead_128 : decode cX8_ahead 128 = .ok (.aload_n 0, 1) := dk_42 (dk_at dksX8_ahead_5 11 rfl rfl)
theorem dX8_ahead_129 : decode cX8_ahead 129 = .ok (.aload_n 0, 1) := dk_42 (dk_at dksX8_ahead_5 12 rfl rfl)
theorem dX8_ahead_130 : decode cX8_ahead 130 = .ok (.getfield 111, 3) := dk_180 0 111 (dk_at dksX8_ahead_5 13 rfl rfl)
theorem dX8_ahead_133 : decode cX8_ahead 133 = .ok (.invokevirtual 114, 3) := dk_182 0 114 (dk_at dksX8_ahead_5 16 rfl rfl)
theorem dX8_ahead_136 : decode cX8_ahead 136 = .ok (.invokestatic 129, 3) := dk_184 0 129 (dk_at dksX8_ahead_5 19 rfl rfl)
theorem dX8_ahead_139 : decode cX8_ahead 139 = .ok (.ifCond .eq 44, 3) := dk_153 0 44 (dk_at dksX8_ahead_6 0 rfl rfl)
theorem dX8_ahead_142 : decode cX8_ahead 142 = .ok (.aload_n 0, 1) := dk_42 (dk_at dksX8_ahead_6 3 rfl rfl)
theorem dX8_ahead_143 : decode cX8_ahead 143 = .ok (.ldc 132, 2) := dk_18 132 (dk_at dksX8_ahead_6 4 rfl rfl)
theorem dX8_ahead_145 : decode cX8_ahead 145 = .ok (.bipush 10, 2) := dk_16 10 (dk_at dksX8_ahead_6 6 rfl rfl)
theorem dX8_ahead_147 : decode cX8_ahead 147 = .ok (.aload_n 0, 1) := dk_42 (dk_at dksX8_ahead_6 8 rfl rfl)
theorem dX8_ahead_148 : decode cX8_ahead 148 = .ok (.getfield 120, 3) := dk_180 0 120 (dk_at dksX8_ahead_6 9 rfl rfl)
theorem dX8_ahead_151 : decode cX8_ahead 151 = .ok (.imul, 1) := dk_104 (dk_at dksX8_ahead_6 12 rfl rfl)
theorem dX8_ahead_152 : decode cX8_ahead 152 = .ok (.aload_n 0, 1) := dk_42 (dk_at dksX8_ahead_6 13 rfl rfl)
theorem dX8_ahead_153 : decode cX8_ahead 153 = .ok (.aload_n 0, 1) := dk_42 (dk_at dksX8_ahead_6 14 rfl rfl)
theorem dX8_ahead_154 : decode cX8_ahead 154 = .ok (.getfield 111, 3) := dk_180 0 111 (dk_at dksX8_ahead_6 15 rfl rfl)
theorem dX8_ahead_157 : decode cX8_ahead 157 = .ok (.invokevirtual 114, 3) := dk_182 0 114 (dk_at dksX8_ahead_6 18 rfl rfl)
theorem dX8_ahead_160 : decode cX8_ahead 160 = .ok (.iadd, 1) := dk_96 (dk_at dksX8_ahead_6 21 rfl rfl)
theorem dX8_ahead_161 : decode cX8_ahead 161 = .ok (.bipush 48, 2) := dk_16 48 (dk_at dksX8_ahead_6 22 rfl rfl)
theorem dX8_ahead_163 : decode cX8_ahead 163 = .ok (.isub, 1) := dk_100 (dk_at dksX8_ahead_7 0 rfl rfl)
theorem dX8_ahead_164 : decode cX8_ahead 164 = .ok (.invokestatic 133, 3) := dk_184 0 133 (dk_at dksX8_ahead_7 1 rfl rfl)
theorem dX8_ahead_167 : decode cX8_ahead 167 = .ok (.putfield 120, 3) := dk_181 0 120 (dk_at dksX8_ahead_7 4 rfl rfl)
theorem dX8_ahead_170 : decode cX8_ahead 170 = .ok (.aload_n 0, 1) := dk_42 (dk_at dksX8_ahead_7 7 rfl rfl)
theorem dX8_ahead_171 : decode cX8_ahead 171 = .ok (.dup, 1) := dk_89 (dk_at dksX8_ahead_7 8 rfl rfl)
theorem dX8_ahead_172 : decode cX8_ahead 172 = .ok (.getfield 111, 3) := dk_180 0 111 (dk_at dksX8_ahead_7 9 rfl rfl)
theorem dX8_ahead_175 : decode cX8_ahead 175 = .ok (.iconst 1, 1) := dk_4 (dk_at dksX8_ahead_7 12 rfl rfl)
theorem dX8_ahead_176 : decode cX8_ahead 176 = .ok (.iadd, 1) := dk_96 (dk_at dksX8_ahead_7 13 rfl rfl)
theorem dX8_ahead_177 : decode cX8_ahead 177 = .ok (.putfield 111, 3) := dk_181 0 111 (dk_at dksX8_ahead_7 14 rfl rfl)
theorem dX8_ahead_180 : decode cX8_ahead 180 = .ok (.goto (-52), 3) := dk_167 255 204 (dk_at dksX8_ahead_7 17 rfl rfl)
theorem dX8_ahead_183 : decode cX8_ahead 183 = .ok (.aload_n 0, 1) := dk_42 (dk_at dksX8_ahead_7 20 rfl rfl)
theorem dX8_ahead_184 : decode cX8_ahead 184 = .ok (.aload_n 0, 1) := dk_42 (dk_at dksX8_ahead_7 21 rfl rfl)
theorem dX8_ahead_185 : decode cX8_ahead 185 = .ok (.getfield 111, 3) := dk_180 0 111 (dk_at dksX8_ahead_8 0 rfl rfl)
theorem dX8_ahead_188 : decode cX8_ahead 188 = .ok (.aload_n 0, 1) := dk_42 (dk_at dksX8_ahead_8 3 rfl rfl)
theorem dX8_ahead_189 : decode cX8_ahead 189 = .ok (.getfield 117, 3) := dk_180 0 117 (dk_at dksX8_ahead_8 4 rfl rfl)
theorem dX8_ahead_192 : decode cX8_ahead 192 = .ok (.isub, 1) := dk_100 (dk_at dksX8_ahead_8 7 rfl rfl)
theorem dX8_ahead_193 : decode cX8_ahead 193 = .ok (.iconst 4, 1) := dk_7 (dk_at dksX8_ahead_8 8 rfl rfl)
theorem dX8_ahead_194 : decode cX8_ahead 194 = .ok (.if_icmp .le 7, 3) := dk_164 0 7 (dk_at dksX8_ahead_8 9 rfl rfl)
theorem dX8_ahead_197 : decode cX8_ahead 197 = .ok (.iconst 1, 1) := dk_4 (dk_at dksX8_ahead_8 12 rfl rfl)
theorem dX8_ahead_198 : decode cX8_ahead 198 = .ok (.goto 4, 3) := dk_167 0 4 (dk_at dksX8_ahead_8 13 rfl rfl)
theorem dX8_ahead_201 : decode cX8_ahead 201 = .ok (.iconst 3, 1) := dk_6 (dk_at dksX8_ahead_8 16 rfl rfl)
theorem dX8_ahead_202 : decode cX8_ahead 202 = .ok (.putfield 123, 3) := dk_181 0 123 (dk_at dksX8_ahead_8 17 rfl rfl)
theorem dX8_ahead_205 : decode cX8_ahead 205 = .ok (.goto 46, 3) := dk_167 0 46 (dk_at dksX8_ahead_8 20 rfl rfl)
theorem dX8_ahead_208 : decode cX8_ahead 208 = .ok (.aload_n 0, 1) := dk_42 (dk_at dksX8_ahead_8 23 rfl rfl)
theorem dX8_ahead_209 : decode cX8_ahead 209 = .ok (.dup, 1) := dk_89 (dk_at dksX8_ahead_9 0 rfl rfl)
theorem dX8_ahead_210 : decode cX8_ahead 210 = .ok (.getfield 111, 3) := dk_180 0 111 (dk_at dksX8_ahead_9 1 rfl rfl)
theorem dX8_ahead_213 : decode cX8_ahead 213 = .ok (.iconst 1, 1) := dk_4 (dk_at dksX8_ahead_9 4 rfl rfl)
theorem dX8_ahead_214 : decode cX8_ahead 214 = .ok (.iadd, 1) := dk_96 (dk_at dksX8_ahead_9 5 rfl rfl)
theorem dX8_ahead_215 : decode cX8_ahead 215 = .ok (.putfield 111, 3) := dk_181 0 111 (dk_at dksX8_ahead_9 6 rfl rfl)
theorem dX8_ahead_218 : decode cX8_ahead 218 = .ok (.aload_n 0, 1) := dk_42 (dk_at dksX8_ahead_9 9 rfl rfl)
theorem dX8_ahead_219 : decode cX8_ahead 219 = .ok (.iload_n 1, 1) := dk_27 (dk_at dksX8_ahead_9 10 rfl rfl)
theorem dX8_ahead_220 : decode cX8_ahead 220 = .ok (.bipush 59, 2) := dk_16 59 (dk_at dksX8_ahead_9 11 rfl rfl)
theorem dX8_ahead_222 : decode cX8_ahead 222 = .ok (.if_icmp .eq 21, 3) := dk_159 0 21 (dk_at dksX8_ahead_9 13 rfl rfl)
theorem dX8_ahead_225 : decode cX8_ahead 225 = .ok (.iload_n 1, 1) := dk_27 (dk_at dksX8_ahead_9 16 rfl rfl)
theorem dX8_ahead_226 : decode cX8_ahead 226 = .ok (.bipush 60, 2) := dk_16 60 (dk_at dksX8_ahead_9 17 rfl rfl)
theorem dX8_ahead_228 : decode cX8_ahead 228 = .ok (.if_icmp .eq 15, 3) := dk_159 0 15 (dk_at dksX8_ahead_9 19 rfl rfl)
theorem dX8_ahead_231 : decode cX8_ahead 231 = .ok (.iload_n 1, 1) := dk_27 (dk_at dksX8_ahead_9 22 rfl rfl)
theorem dX8_ahead_232 : decode cX8_ahead 232 = .ok (.bipush 62, 2) := dk_16 62 (dk_at dksX8_ahead_10 0 rfl rfl)
theorem dX8_ahead_234 : decode cX8_ahead 234 = .ok (.if_icmp .eq 9, 3) := dk_159 0 9 (dk_at dksX8_ahead_10 2 rfl rfl)
theorem dX8_ahead_237 : decode cX8_ahead 237 = .ok (.iload_n 1, 1) := dk_27 (dk_at dksX8_ahead_10 5 rfl rfl)
theorem dX8_ahead_238 : decode cX8_ahead 238 = .ok (.bipush 61, 2) := dk_16 61 (dk_at dksX8_ahead_10 6 rfl rfl)
theorem dX8_ahead_240 : decode cX8_ahead 240 = .ok (.if_icmp .ne 7, 3) := dk_160 0 7 (dk_at dksX8_ahead_10 8 rfl rfl)
theorem dX8_ahead_243 : decode cX8_ahead 243 = .ok (.iconst 4, 1) := dk_7 (dk_at dksX8_ahead_10 11 rfl rfl)
theorem dX8_ahead_244 : decode cX8_ahead 244 = .ok (.goto 4, 3) := dk_167 0 4 (dk_at dksX8_ahead_10 12 rfl rfl)
theorem dX8_ahead_247 : decode cX8_ahead 247 = .ok (.iconst 1, 1) := dk_4 (dk_at dksX8_ahead_10 15 rfl rfl)
theorem dX8_ahead_248 : decode cX8_ahead 248 = .ok (.putfield 123, 3) := dk_181 0 123 (dk_at dksX8_ahead_10 16 rfl rfl)
theorem dX8_ahead_251 : decode cX8_ahead 251 = .ok (.return_, 1) := dk_177 (dk_at dksX8_ahead_10 19 rfl rfl)
abbrev cX8_byteAt : ByteArray := prog_17_method_21_code
def yX8_byteAt : MethodName := ⟨RX8, "byteAt", "(I)I"⟩
def dkwX8_byteAt_0 : List UInt8 := [27, 42, 180, 0, 108, 162, 0, 16, 42, 180, 0, 34, 27, 51, 17, 0, 255, 126, 167, 0, 4, 2, 172]
abbrev dktX8_byteAt_0 : List UInt8 := dkwX8_byteAt_0 ++ []
theorem dksX8_byteAt_0 : cX8_byteAt.data.toList.drop 0 = dktX8_byteAt_0 := by decide +kernel
theorem dX8_byteAt_0 : decode cX8_byteAt 0 = .ok (.iload_n 1, 1) := dk_27 (dk_at dksX8_byteAt_0 0 rfl rfl)
theorem dX8_byteAt_1 : decode cX8_byteAt 1 = .ok (.aload_n 0, 1) := dk_42 (dk_at dksX8_byteAt_0 1 rfl rfl)
theorem dX8_byteAt_2 : decode cX8_byteAt 2 = .ok (.getfield 108, 3) := dk_180 0 108 (dk_at dksX8_byteAt_0 2 rfl rfl)
theorem dX8_byteAt_5 : decode cX8_byteAt 5 = .ok (.if_icmp .ge 16, 3) := dk_162 0 16 (dk_at dksX8_byteAt_0 5 rfl rfl)
theorem dX8_byteAt_8 : decode cX8_byteAt 8 = .ok (.aload_n 0, 1) := dk_42 (dk_at dksX8_byteAt_0 8 rfl rfl)
theorem dX8_byteAt_9 : decode cX8_byteAt 9 = .ok (.getfield 34, 3) := dk_180 0 34 (dk_at dksX8_byteAt_0 9 rfl rfl)
theorem dX8_byteAt_12 : decode cX8_byteAt 12 = .ok (.iload_n 1, 1) := dk_27 (dk_at dksX8_byteAt_0 12 rfl rfl)
theorem dX8_byteAt_13 : decode cX8_byteAt 13 = .ok (.baload, 1) := dk_51 (dk_at dksX8_byteAt_0 13 rfl rfl)
theorem dX8_byteAt_14 : decode cX8_byteAt 14 = .ok (.sipush 255, 3) := dk_17 0 255 (dk_at dksX8_byteAt_0 14 rfl rfl)
theorem dX8_byteAt_17 : decode cX8_byteAt 17 = .ok (.iand, 1) := dk_126 (dk_at dksX8_byteAt_0 17 rfl rfl)
theorem dX8_byteAt_18 : decode cX8_byteAt 18 = .ok (.goto 4, 3) := dk_167 0 4 (dk_at dksX8_byteAt_0 18 rfl rfl)
theorem dX8_byteAt_21 : decode cX8_byteAt 21 = .ok (.iconst (-1), 1) := dk_2 (dk_at dksX8_byteAt_0 21 rfl rfl)
theorem dX8_byteAt_22 : decode cX8_byteAt 22 = .ok (.ireturn, 1) := dk_172 (dk_at dksX8_byteAt_0 22 rfl rfl)
abbrev cX8_isSmall : ByteArray := prog_17_method_22_code
def yX8_isSmall : MethodName := ⟨RX8, "isSmall", "(I)Z"⟩
def dkwX8_isSmall_0 : List UInt8 := [26, 16, 97, 161, 0, 13, 26, 16, 122, 163, 0, 7, 4, 167, 0, 4, 3, 172]
abbrev dktX8_isSmall_0 : List UInt8 := dkwX8_isSmall_0 ++ []
theorem dksX8_isSmall_0 : cX8_isSmall.data.toList.drop 0 = dktX8_isSmall_0 := by decide +kernel
theorem dX8_isSmall_0 : decode cX8_isSmall 0 = .ok (.iload_n 0, 1) := dk_26 (dk_at dksX8_isSmall_0 0 rfl rfl)
theorem dX8_isSmall_1 : decode cX8_isSmall 1 = .ok (.bipush 97, 2) := dk_16 97 (dk_at dksX8_isSmall_0 1 rfl rfl)
theorem dX8_isSmall_3 : decode cX8_isSmall 3 = .ok (.if_icmp .lt 13, 3) := dk_161 0 13 (dk_at dksX8_isSmall_0 3 rfl rfl)
theorem dX8_isSmall_6 : decode cX8_isSmall 6 = .ok (.iload_n 0, 1) := dk_26 (dk_at dksX8_isSmall_0 6 rfl rfl)
theorem dX8_isSmall_7 : decode cX8_isSmall 7 = .ok (.bipush 122, 2) := dk_16 122 (dk_at dksX8_isSmall_0 7 rfl rfl)
theorem dX8_isSmall_9 : decode cX8_isSmall 9 = .ok (.if_icmp .gt 7, 3) := dk_163 0 7 (dk_at dksX8_isSmall_0 9 rfl rfl)
theorem dX8_isSmall_12 : decode cX8_isSmall 12 = .ok (.iconst 1, 1) := dk_4 (dk_at dksX8_isSmall_0 12 rfl rfl)
theorem dX8_isSmall_13 : decode cX8_isSmall 13 = .ok (.goto 4, 3) := dk_167 0 4 (dk_at dksX8_isSmall_0 13 rfl rfl)
theorem dX8_isSmall_16 : decode cX8_isSmall 16 = .ok (.iconst 0, 1) := dk_3 (dk_at dksX8_isSmall_0 16 rfl rfl)
theorem dX8_isSmall_17 : decode cX8_isSmall 17 = .ok (.ireturn, 1) := dk_172 (dk_at dksX8_isSmall_0 17 rfl rfl)
abbrev cX8_isDigit : ByteArray := prog_17_method_23_code
def yX8_isDigit : MethodName := ⟨RX8, "isDigit", "(I)Z"⟩
def dkwX8_isDigit_0 : List UInt8 := [26, 16, 48, 161, 0, 13, 26, 16, 57, 163, 0, 7, 4, 167, 0, 4, 3, 172]
abbrev dktX8_isDigit_0 : List UInt8 := dkwX8_isDigit_0 ++ []
theorem dksX8_isDigit_0 : cX8_isDigit.data.toList.drop 0 = dktX8_isDigit_0 := by decide +kernel
theorem dX8_isDigit_0 : decode cX8_isDigit 0 = .ok (.iload_n 0, 1) := dk_26 (dk_at dksX8_isDigit_0 0 rfl rfl)
theorem dX8_isDigit_1 : decode cX8_isDigit 1 = .ok (.bipush 48, 2) := dk_16 48 (dk_at dksX8_isDigit_0 1 rfl rfl)
theorem dX8_isDigit_3 : decode cX8_isDigit 3 = .ok (.if_icmp .lt 13, 3) := dk_161 0 13 (dk_at dksX8_isDigit_0 3 rfl rfl)
theorem dX8_isDigit_6 : decode cX8_isDigit 6 = .ok (.iload_n 0, 1) := dk_26 (dk_at dksX8_isDigit_0 6 rfl rfl)
theorem dX8_isDigit_7 : decode cX8_isDigit 7 = .ok (.bipush 57, 2) := dk_16 57 (dk_at dksX8_isDigit_0 7 rfl rfl)
theorem dX8_isDigit_9 : decode cX8_isDigit 9 = .ok (.if_icmp .gt 7, 3) := dk_163 0 7 (dk_at dksX8_isDigit_0 9 rfl rfl)
theorem dX8_isDigit_12 : decode cX8_isDigit 12 = .ok (.iconst 1, 1) := dk_4 (dk_at dksX8_isDigit_0 12 rfl rfl)
theorem dX8_isDigit_13 : decode cX8_isDigit 13 = .ok (.goto 4, 3) := dk_167 0 4 (dk_at dksX8_isDigit_0 13 rfl rfl)
theorem dX8_isDigit_16 : decode cX8_isDigit 16 = .ok (.iconst 0, 1) := dk_3 (dk_at dksX8_isDigit_0 16 rfl rfl)
theorem dX8_isDigit_17 : decode cX8_isDigit 17 = .ok (.ireturn, 1) := dk_172 (dk_at dksX8_isDigit_0 17 rfl rfl)
abbrev cX8_refuse : ByteArray := prog_17_method_7_code
def yX8_refuse : MethodName := ⟨RX8, "refuse", "(I)I"⟩
def dkwX8_refuse_0 : List UInt8 := [42, 27, 181, 0, 72, 2, 172]
abbrev dktX8_refuse_0 : List UInt8 := dkwX8_refuse_0 ++ []
theorem dksX8_refuse_0 : cX8_refuse.data.toList.drop 0 = dktX8_refuse_0 := by decide +kernel
theorem dX8_refuse_0 : decode cX8_refuse 0 = .ok (.aload_n 0, 1) := dk_42 (dk_at dksX8_refuse_0 0 rfl rfl)
theorem dX8_refuse_1 : decode cX8_refuse 1 = .ok (.iload_n 1, 1) := dk_27 (dk_at dksX8_refuse_0 1 rfl rfl)
theorem dX8_refuse_2 : decode cX8_refuse 2 = .ok (.putfield 72, 3) := dk_181 0 72 (dk_at dksX8_refuse_0 2 rfl rfl)
theorem dX8_refuse_5 : decode cX8_refuse 5 = .ok (.iconst (-1), 1) := dk_2 (dk_at dksX8_refuse_0 5 rfl rfl)
theorem dX8_refuse_6 : decode cX8_refuse 6 = .ok (.ireturn, 1) := dk_172 (dk_at dksX8_refuse_0 6 rfl rfl)
abbrev cX8_first : ByteArray := prog_17_method_43_code
def yX8_first : MethodName := ⟨RX8, "first", "()Z"⟩
def dkwX8_first_3 : List UInt8 := [182, 0, 191, 154, 0, 5, 3, 172, 42, 16, 59, 182, 0, 195, 172]
abbrev dktX8_first_3 : List UInt8 := dkwX8_first_3 ++ []
def dkwX8_first_2 : List UInt8 := [172, 42, 18, 178, 182, 0, 163, 5, 160, 0, 22, 42, 182, 0, 154, 42, 17, 21, 228, 3, 16, 60]
abbrev dktX8_first_2 : List UInt8 := dkwX8_first_2 ++ dktX8_first_3
def dkwX8_first_1 : List UInt8 := [18, 178, 4, 182, 0, 187, 153, 0, 17, 42, 17, 21, 227, 4, 17, 0, 240, 182, 0, 191, 154, 0, 5, 3]
abbrev dktX8_first_1 : List UInt8 := dkwX8_first_1 ++ dktX8_first_2
def dkwX8_first_0 : List UInt8 := [42, 18, 178, 3, 182, 0, 187, 153, 0, 40, 42, 17, 21, 224, 5, 16, 40, 182, 0, 191, 153, 0, 27, 42]
abbrev dktX8_first_0 : List UInt8 := dkwX8_first_0 ++ dktX8_first_1
theorem dksX8_first_0 : cX8_first.data.toList.drop 0 = dktX8_first_0 := by decide +kernel
theorem dksX8_first_1 : cX8_first.data.toList.drop 24 = dktX8_first_1 := dk_seg dksX8_first_0 24 rfl rfl
theorem dksX8_first_2 : cX8_first.data.toList.drop 48 = dktX8_first_2 := dk_seg dksX8_first_1 24 rfl rfl
theorem dksX8_first_3 : cX8_first.data.toList.drop 70 = dktX8_first_3 := dk_seg dksX8_first_2 22 rfl rfl
theorem dX8_first_0 : decode cX8_first 0 = .ok (.aload_n 0, 1) := dk_42 (dk_at dksX8_first_0 0 rfl rfl)
theorem dX8_first_1 : decode cX8_first 1 = .ok (.ldc 178, 2) := dk_18 178 (dk_at dksX8_first_0 1 rfl rfl)
theorem dX8_first_3 : decode cX8_first 3 = .ok (.iconst 0, 1) := dk_3 (dk_at dksX8_first_0 3 rfl rfl)
theorem dX8_first_4 : decode cX8_first 4 = .ok (.invokevirtual 187, 3) := dk_182 0 187 (dk_at dksX8_first_0 4 rfl rfl)
theorem dX8_first_7 : decode cX8_first 7 = .ok (.ifCond .eq 40, 3) := dk_153 0 40 (dk_at dksX8_first_0 7 rfl rfl)
theorem dX8_first_10 : decode cX8_first 10 = .ok (.aload_n 0, 1) := dk_42 (dk_at dksX8_first_0 10 rfl rfl)
theorem dX8_first_11 : decode cX8_first 11 = .ok (.sipush 5600, 3) := dk_17 21 224 (dk_at dksX8_first_0 11 rfl rfl)
theorem dX8_first_14 : decode cX8_first 14 = .ok (.iconst 2, 1) := dk_5 (dk_at dksX8_first_0 14 rfl rfl)
theorem dX8_first_15 : decode cX8_first 15 = .ok (.bipush 40, 2) := dk_16 40 (dk_at dksX8_first_0 15 rfl rfl)
theorem dX8_first_17 : decode cX8_first 17 = .ok (.invokevirtual 191, 3) := dk_182 0 191 (dk_at dksX8_first_0 17 rfl rfl)
theorem dX8_first_20 : decode cX8_first 20 = .ok (.ifCond .eq 27, 3) := dk_153 0 27 (dk_at dksX8_first_0 20 rfl rfl)
theorem dX8_first_23 : decode cX8_first 23 = .ok (.aload_n 0, 1) := dk_42 (dk_at dksX8_first_0 23 rfl rfl)
theorem dX8_first_24 : decode cX8_first 24 = .ok (.ldc 178, 2) := dk_18 178 (dk_at dksX8_first_1 0 rfl rfl)
theorem dX8_first_26 : decode cX8_first 26 = .ok (.iconst 1, 1) := dk_4 (dk_at dksX8_first_1 2 rfl rfl)
theorem dX8_first_27 : decode cX8_first 27 = .ok (.invokevirtual 187, 3) := dk_182 0 187 (dk_at dksX8_first_1 3 rfl rfl)
theorem dX8_first_30 : decode cX8_first 30 = .ok (.ifCond .eq 17, 3) := dk_153 0 17 (dk_at dksX8_first_1 6 rfl rfl)
theorem dX8_first_33 : decode cX8_first 33 = .ok (.aload_n 0, 1) := dk_42 (dk_at dksX8_first_1 9 rfl rfl)
theorem dX8_first_34 : decode cX8_first 34 = .ok (.sipush 5603, 3) := dk_17 21 227 (dk_at dksX8_first_1 10 rfl rfl)
theorem dX8_first_37 : decode cX8_first 37 = .ok (.iconst 1, 1) := dk_4 (dk_at dksX8_first_1 13 rfl rfl)
theorem dX8_first_38 : decode cX8_first 38 = .ok (.sipush 240, 3) := dk_17 0 240 (dk_at dksX8_first_1 14 rfl rfl)
theorem dX8_first_41 : decode cX8_first 41 = .ok (.invokevirtual 191, 3) := dk_182 0 191 (dk_at dksX8_first_1 17 rfl rfl)
theorem dX8_first_44 : decode cX8_first 44 = .ok (.ifCond .ne 5, 3) := dk_154 0 5 (dk_at dksX8_first_1 20 rfl rfl)
theorem dX8_first_47 : decode cX8_first 47 = .ok (.iconst 0, 1) := dk_3 (dk_at dksX8_first_1 23 rfl rfl)
theorem dX8_first_48 : decode cX8_first 48 = .ok (.ireturn, 1) := dk_172 (dk_at dksX8_first_2 0 rfl rfl)
theorem dX8_first_49 : decode cX8_first 49 = .ok (.aload_n 0, 1) := dk_42 (dk_at dksX8_first_2 1 rfl rfl)
theorem dX8_first_50 : decode cX8_first 50 = .ok (.ldc 178, 2) := dk_18 178 (dk_at dksX8_first_2 2 rfl rfl)
theorem dX8_first_52 : decode cX8_first 52 = .ok (.invokevirtual 163, 3) := dk_182 0 163 (dk_at dksX8_first_2 4 rfl rfl)
theorem dX8_first_55 : decode cX8_first 55 = .ok (.iconst 2, 1) := dk_5 (dk_at dksX8_first_2 7 rfl rfl)
theorem dX8_first_56 : decode cX8_first 56 = .ok (.if_icmp .ne 22, 3) := dk_160 0 22 (dk_at dksX8_first_2 8 rfl rfl)
theorem dX8_first_59 : decode cX8_first 59 = .ok (.aload_n 0, 1) := dk_42 (dk_at dksX8_first_2 11 rfl rfl)
theorem dX8_first_60 : decode cX8_first 60 = .ok (.invokevirtual 154, 3) := dk_182 0 154 (dk_at dksX8_first_2 12 rfl rfl)
theorem dX8_first_63 : decode cX8_first 63 = .ok (.aload_n 0, 1) := dk_42 (dk_at dksX8_first_2 15 rfl rfl)
theorem dX8_first_64 : decode cX8_first 64 = .ok (.sipush 5604, 3) := dk_17 21 228 (dk_at dksX8_first_2 16 rfl rfl)
theorem dX8_first_67 : decode cX8_first 67 = .ok (.iconst 0, 1) := dk_3 (dk_at dksX8_first_2 19 rfl rfl)
theorem dX8_first_68 : decode cX8_first 68 = .ok (.bipush 60, 2) := dk_16 60 (dk_at dksX8_first_2 20 rfl rfl)
theorem dX8_first_70 : decode cX8_first 70 = .ok (.invokevirtual 191, 3) := dk_182 0 191 (dk_at dksX8_first_3 0 rfl rfl)
theorem dX8_first_73 : decode cX8_first 73 = .ok (.ifCond .ne 5, 3) := dk_154 0 5 (dk_at dksX8_first_3 3 rfl rfl)
theorem dX8_first_76 : decode cX8_first 76 = .ok (.iconst 0, 1) := dk_3 (dk_at dksX8_first_3 6 rfl rfl)
theorem dX8_first_77 : decode cX8_first 77 = .ok (.ireturn, 1) := dk_172 (dk_at dksX8_first_3 7 rfl rfl)
theorem dX8_first_78 : decode cX8_first 78 = .ok (.aload_n 0, 1) := dk_42 (dk_at dksX8_first_3 8 rfl rfl)
theorem dX8_first_79 : decode cX8_first 79 = .ok (.bipush 59, 2) := dk_16 59 (dk_at dksX8_first_3 9 rfl rfl)
theorem dX8_first_81 : decode cX8_first 81 = .ok (.invokevirtual 195, 3) := dk_182 0 195 (dk_at dksX8_first_3 11 rfl rfl)
theorem dX8_first_84 : decode cX8_first 84 = .ok (.ireturn, 1) := dk_172 (dk_at dksX8_first_3 14 rfl rfl)
abbrev cX8_wantWord : ByteArray := prog_17_method_30_code
def yX8_wantWord : MethodName := ⟨RX8, "wantWord", "(Ljava/lang/String;I)Z"⟩
def dkwX8_wantWord_0 : List UInt8 := [42, 43, 182, 0, 163, 28, 159, 0, 9, 42, 5, 182, 0, 160, 172, 42, 182, 0, 154, 4, 172]
abbrev dktX8_wantWord_0 : List UInt8 := dkwX8_wantWord_0 ++ []
theorem dksX8_wantWord_0 : cX8_wantWord.data.toList.drop 0 = dktX8_wantWord_0 := by decide +kernel
theorem dX8_wantWord_0 : decode cX8_wantWord 0 = .ok (.aload_n 0, 1) := dk_42 (dk_at dksX8_wantWord_0 0 rfl rfl)
theorem dX8_wantWord_1 : decode cX8_wantWord 1 = .ok (.aload_n 1, 1) := dk_43 (dk_at dksX8_wantWord_0 1 rfl rfl)
theorem dX8_wantWord_2 : decode cX8_wantWord 2 = .ok (.invokevirtual 163, 3) := dk_182 0 163 (dk_at dksX8_wantWord_0 2 rfl rfl)
theorem dX8_wantWord_5 : decode cX8_wantWord 5 = .ok (.iload_n 2, 1) := dk_28 (dk_at dksX8_wantWord_0 5 rfl rfl)
theorem dX8_wantWord_6 : decode cX8_wantWord 6 = .ok (.if_icmp .eq 9, 3) := dk_159 0 9 (dk_at dksX8_wantWord_0 6 rfl rfl)
theorem dX8_wantWord_9 : decode cX8_wantWord 9 = .ok (.aload_n 0, 1) := dk_42 (dk_at dksX8_wantWord_0 9 rfl rfl)
theorem dX8_wantWord_10 : decode cX8_wantWord 10 = .ok (.iconst 2, 1) := dk_5 (dk_at dksX8_wantWord_0 10 rfl rfl)
theorem dX8_wantWord_11 : decode cX8_wantWord 11 = .ok (.invokevirtual 160, 3) := dk_182 0 160 (dk_at dksX8_wantWord_0 11 rfl rfl)
theorem dX8_wantWord_14 : decode cX8_wantWord 14 = .ok (.ireturn, 1) := dk_172 (dk_at dksX8_wantWord_0 14 rfl rfl)
theorem dX8_wantWord_15 : decode cX8_wantWord 15 = .ok (.aload_n 0, 1) := dk_42 (dk_at dksX8_wantWord_0 15 rfl rfl)
theorem dX8_wantWord_16 : decode cX8_wantWord 16 = .ok (.invokevirtual 154, 3) := dk_182 0 154 (dk_at dksX8_wantWord_0 16 rfl rfl)
theorem dX8_wantWord_19 : decode cX8_wantWord 19 = .ok (.iconst 1, 1) := dk_4 (dk_at dksX8_wantWord_0 19 rfl rfl)
theorem dX8_wantWord_20 : decode cX8_wantWord 20 = .ok (.ireturn, 1) := dk_172 (dk_at dksX8_wantWord_0 20 rfl rfl)
abbrev cX8_inWords : ByteArray := prog_17_method_26_code
def yX8_inWords : MethodName := ⟨RX8, "inWords", "(Ljava/lang/String;)I"⟩
def dkwX8_inWords_5 : List UInt8 := [153, 0, 5, 28, 172, 132, 2, 1, 21, 4, 4, 96, 62, 167, 255, 140, 2, 172]
abbrev dktX8_inWords_5 : List UInt8 := dkwX8_inWords_5 ++ []
def dkwX8_inWords_4 : List UInt8 := [29, 100, 182, 0, 114, 160, 0, 7, 4, 167, 0, 4, 3, 54, 5, 132, 6, 1, 167, 255, 212, 21, 5]
abbrev dktX8_inWords_4 : List UInt8 := dkwX8_inWords_4 ++ dktX8_inWords_5
def dkwX8_inWords_3 : List UInt8 := [21, 4, 162, 0, 43, 21, 5, 153, 0, 38, 43, 21, 6, 182, 0, 144, 42, 42, 180, 0, 117, 21, 6, 96]
abbrev dktX8_inWords_3 : List UInt8 := dkwX8_inWords_3 ++ dktX8_inWords_4
def dkwX8_inWords_2 : List UInt8 := [180, 0, 111, 42, 180, 0, 117, 100, 160, 0, 7, 4, 167, 0, 4, 3, 54, 5, 29, 54, 6, 21, 6]
abbrev dktX8_inWords_2 : List UInt8 := dkwX8_inWords_2 ++ dktX8_inWords_3
def dkwX8_inWords_1 : List UInt8 := [54, 4, 43, 21, 4, 182, 0, 144, 16, 32, 159, 0, 9, 132, 4, 1, 167, 255, 242, 21, 4, 29, 100, 42]
abbrev dktX8_inWords_1 : List UInt8 := dkwX8_inWords_1 ++ dktX8_inWords_2
def dkwX8_inWords_0 : List UInt8 := [42, 180, 0, 123, 5, 159, 0, 5, 2, 172, 3, 61, 4, 62, 29, 43, 182, 0, 138, 162, 0, 114, 29]
abbrev dktX8_inWords_0 : List UInt8 := dkwX8_inWords_0 ++ dktX8_inWords_1
theorem dksX8_inWords_0 : cX8_inWords.data.toList.drop 0 = dktX8_inWords_0 := by decide +kernel
theorem dksX8_inWords_1 : cX8_inWords.data.toList.drop 23 = dktX8_inWords_1 := dk_seg dksX8_inWords_0 23 rfl rfl
theorem dksX8_inWords_2 : cX8_inWords.data.toList.drop 47 = dktX8_inWords_2 := dk_seg dksX8_inWords_1 24 rfl rfl
theorem dksX8_inWords_3 : cX8_inWords.data.toList.drop 70 = dktX8_inWords_3 := dk_seg dksX8_inWords_2 23 rfl rfl
theorem dksX8_inWords_4 : cX8_inWords.data.toList.drop 94 = dktX8_inWords_4 := dk_seg dksX8_inWords_3 24 rfl rfl
theorem dksX8_inWords_5 : cX8_inWords.data.toList.drop 117 = dktX8_inWords_5 := dk_seg dksX8_inWords_4 23 rfl rfl
theorem dX8_inWords_0 : decode cX8_inWords 0 = .ok (.aload_n 0, 1) := dk_42 (dk_at dksX8_inWords_0 0 rfl rfl)
theorem dX8_inWords_1 : decode cX8_inWords 1 = .ok (.getfield 123, 3) := dk_180 0 123 (dk_at dksX8_inWords_0 1 rfl rfl)
theorem dX8_inWords_4 : decode cX8_inWords 4 = .ok (.iconst 2, 1) := dk_5 (dk_at dksX8_inWords_0 4 rfl rfl)
theorem dX8_inWords_5 : decode cX8_inWords 5 = .ok (.if_icmp .eq 5, 3) := dk_159 0 5 (dk_at dksX8_inWords_0 5 rfl rfl)
theorem dX8_inWords_8 : decode cX8_inWords 8 = .ok (.iconst (-1), 1) := dk_2 (dk_at dksX8_inWords_0 8 rfl rfl)
theorem dX8_inWords_9 : decode cX8_inWords 9 = .ok (.ireturn, 1) := dk_172 (dk_at dksX8_inWords_0 9 rfl rfl)
theorem dX8_inWords_10 : decode cX8_inWords 10 = .ok (.iconst 0, 1) := dk_3 (dk_at dksX8_inWords_0 10 rfl rfl)
theorem dX8_inWords_11 : decode cX8_inWords 11 = .ok (.istore_n 2, 1) := dk_61 (dk_at dksX8_inWords_0 11 rfl rfl)
theorem dX8_inWords_12 : decode cX8_inWords 12 = .ok (.iconst 1, 1) := dk_4 (dk_at dksX8_inWords_0 12 rfl rfl)
theorem dX8_inWords_13 : decode cX8_inWords 13 = .ok (.istore_n 3, 1) := dk_62 (dk_at dksX8_inWords_0 13 rfl rfl)
theorem dX8_inWords_14 : decode cX8_inWords 14 = .ok (.iload_n 3, 1) := dk_29 (dk_at dksX8_inWords_0 14 rfl rfl)
theorem dX8_inWords_15 : decode cX8_inWords 15 = .ok (.aload_n 1, 1) := dk_43 (dk_at dksX8_inWords_0 15 rfl rfl)
theorem dX8_inWords_16 : decode cX8_inWords 16 = .ok (.invokevirtual 138, 3) := dk_182 0 138 (dk_at dksX8_inWords_0 16 rfl rfl)
theorem dX8_inWords_19 : decode cX8_inWords 19 = .ok (.if_icmp .ge 114, 3) := dk_162 0 114 (dk_at dksX8_inWords_0 19 rfl rfl)
theorem dX8_inWords_22 : decode cX8_inWords 22 = .ok (.iload_n 3, 1) := dk_29 (dk_at dksX8_inWords_0 22 rfl rfl)
theorem dX8_inWords_23 : decode cX8_inWords 23 = .ok (.istore 4, 2) := dk_54 4 (dk_at dksX8_inWords_1 0 rfl rfl)
theorem dX8_inWords_25 : decode cX8_inWords 25 = .ok (.aload_n 1, 1) := dk_43 (dk_at dksX8_inWords_1 2 rfl rfl)
theorem dX8_inWords_26 : decode cX8_inWords 26 = .ok (.iload 4, 2) := dk_21 4 (dk_at dksX8_inWords_1 3 rfl rfl)
theorem dX8_inWords_28 : decode cX8_inWords 28 = .ok (.invokevirtual 144, 3) := dk_182 0 144 (dk_at dksX8_inWords_1 5 rfl rfl)
theorem dX8_inWords_31 : decode cX8_inWords 31 = .ok (.bipush 32, 2) := dk_16 32 (dk_at dksX8_inWords_1 8 rfl rfl)
theorem dX8_inWords_33 : decode cX8_inWords 33 = .ok (.if_icmp .eq 9, 3) := dk_159 0 9 (dk_at dksX8_inWords_1 10 rfl rfl)
theorem dX8_inWords_36 : decode cX8_inWords 36 = .ok (.iinc 4 1, 3) := dk_132 4 1 (dk_at dksX8_inWords_1 13 rfl rfl)
theorem dX8_inWords_39 : decode cX8_inWords 39 = .ok (.goto (-14), 3) := dk_167 255 242 (dk_at dksX8_inWords_1 16 rfl rfl)
theorem dX8_inWords_42 : decode cX8_inWords 42 = .ok (.iload 4, 2) := dk_21 4 (dk_at dksX8_inWords_1 19 rfl rfl)
theorem dX8_inWords_44 : decode cX8_inWords 44 = .ok (.iload_n 3, 1) := dk_29 (dk_at dksX8_inWords_1 21 rfl rfl)
theorem dX8_inWords_45 : decode cX8_inWords 45 = .ok (.isub, 1) := dk_100 (dk_at dksX8_inWords_1 22 rfl rfl)
theorem dX8_inWords_46 : decode cX8_inWords 46 = .ok (.aload_n 0, 1) := dk_42 (dk_at dksX8_inWords_1 23 rfl rfl)
theorem dX8_inWords_47 : decode cX8_inWords 47 = .ok (.getfield 111, 3) := dk_180 0 111 (dk_at dksX8_inWords_2 0 rfl rfl)
theorem dX8_inWords_50 : decode cX8_inWords 50 = .ok (.aload_n 0, 1) := dk_42 (dk_at dksX8_inWords_2 3 rfl rfl)
theorem dX8_inWords_51 : decode cX8_inWords 51 = .ok (.getfield 117, 3) := dk_180 0 117 (dk_at dksX8_inWords_2 4 rfl rfl)
theorem dX8_inWords_54 : decode cX8_inWords 54 = .ok (.isub, 1) := dk_100 (dk_at dksX8_inWords_2 7 rfl rfl)
theorem dX8_inWords_55 : decode cX8_inWords 55 = .ok (.if_icmp .ne 7, 3) := dk_160 0 7 (dk_at dksX8_inWords_2 8 rfl rfl)
theorem dX8_inWords_58 : decode cX8_inWords 58 = .ok (.iconst 1, 1) := dk_4 (dk_at dksX8_inWords_2 11 rfl rfl)
theorem dX8_inWords_59 : decode cX8_inWords 59 = .ok (.goto 4, 3) := dk_167 0 4 (dk_at dksX8_inWords_2 12 rfl rfl)
theorem dX8_inWords_62 : decode cX8_inWords 62 = .ok (.iconst 0, 1) := dk_3 (dk_at dksX8_inWords_2 15 rfl rfl)
theorem dX8_inWords_63 : decode cX8_inWords 63 = .ok (.istore 5, 2) := dk_54 5 (dk_at dksX8_inWords_2 16 rfl rfl)
theorem dX8_inWords_65 : decode cX8_inWords 65 = .ok (.iload_n 3, 1) := dk_29 (dk_at dksX8_inWords_2 18 rfl rfl)
theorem dX8_inWords_66 : decode cX8_inWords 66 = .ok (.istore 6, 2) := dk_54 6 (dk_at dksX8_inWords_2 19 rfl rfl)
theorem dX8_inWords_68 : decode cX8_inWords 68 = .ok (.iload 6, 2) := dk_21 6 (dk_at dksX8_inWords_2 21 rfl rfl)
theorem dX8_inWords_70 : decode cX8_inWords 70 = .ok (.iload 4, 2) := dk_21 4 (dk_at dksX8_inWords_3 0 rfl rfl)
theorem dX8_inWords_72 : decode cX8_inWords 72 = .ok (.if_icmp .ge 43, 3) := dk_162 0 43 (dk_at dksX8_inWords_3 2 rfl rfl)
theorem dX8_inWords_75 : decode cX8_inWords 75 = .ok (.iload 5, 2) := dk_21 5 (dk_at dksX8_inWords_3 5 rfl rfl)
theorem dX8_inWords_77 : decode cX8_inWords 77 = .ok (.ifCond .eq 38, 3) := dk_153 0 38 (dk_at dksX8_inWords_3 7 rfl rfl)
theorem dX8_inWords_80 : decode cX8_inWords 80 = .ok (.aload_n 1, 1) := dk_43 (dk_at dksX8_inWords_3 10 rfl rfl)
theorem dX8_inWords_81 : decode cX8_inWords 81 = .ok (.iload 6, 2) := dk_21 6 (dk_at dksX8_inWords_3 11 rfl rfl)
theorem dX8_inWords_83 : decode cX8_inWords 83 = .ok (.invokevirtual 144, 3) := dk_182 0 144 (dk_at dksX8_inWords_3 13 rfl rfl)
theorem dX8_inWords_86 : decode cX8_inWords 86 = .ok (.aload_n 0, 1) := dk_42 (dk_at dksX8_inWords_3 16 rfl rfl)
theorem dX8_inWords_87 : decode cX8_inWords 87 = .ok (.aload_n 0, 1) := dk_42 (dk_at dksX8_inWords_3 17 rfl rfl)
theorem dX8_inWords_88 : decode cX8_inWords 88 = .ok (.getfield 117, 3) := dk_180 0 117 (dk_at dksX8_inWords_3 18 rfl rfl)
theorem dX8_inWords_91 : decode cX8_inWords 91 = .ok (.iload 6, 2) := dk_21 6 (dk_at dksX8_inWords_3 21 rfl rfl)
theorem dX8_inWords_93 : decode cX8_inWords 93 = .ok (.iadd, 1) := dk_96 (dk_at dksX8_inWords_3 23 rfl rfl)
theorem dX8_inWords_94 : decode cX8_inWords 94 = .ok (.iload_n 3, 1) := dk_29 (dk_at dksX8_inWords_4 0 rfl rfl)
theorem dX8_inWords_95 : decode cX8_inWords 95 = .ok (.isub, 1) := dk_100 (dk_at dksX8_inWords_4 1 rfl rfl)
theorem dX8_inWords_96 : decode cX8_inWords 96 = .ok (.invokevirtual 114, 3) := dk_182 0 114 (dk_at dksX8_inWords_4 2 rfl rfl)
theorem dX8_inWords_99 : decode cX8_inWords 99 = .ok (.if_icmp .ne 7, 3) := dk_160 0 7 (dk_at dksX8_inWords_4 5 rfl rfl)
theorem dX8_inWords_102 : decode cX8_inWords 102 = .ok (.iconst 1, 1) := dk_4 (dk_at dksX8_inWords_4 8 rfl rfl)
theorem dX8_inWords_103 : decode cX8_inWords 103 = .ok (.goto 4, 3) := dk_167 0 4 (dk_at dksX8_inWords_4 9 rfl rfl)
theorem dX8_inWords_106 : decode cX8_inWords 106 = .ok (.iconst 0, 1) := dk_3 (dk_at dksX8_inWords_4 12 rfl rfl)
theorem dX8_inWords_107 : decode cX8_inWords 107 = .ok (.istore 5, 2) := dk_54 5 (dk_at dksX8_inWords_4 13 rfl rfl)
theorem dX8_inWords_109 : decode cX8_inWords 109 = .ok (.iinc 6 1, 3) := dk_132 6 1 (dk_at dksX8_inWords_4 15 rfl rfl)
theorem dX8_inWords_112 : decode cX8_inWords 112 = .ok (.goto (-44), 3) := dk_167 255 212 (dk_at dksX8_inWords_4 18 rfl rfl)
theorem dX8_inWords_115 : decode cX8_inWords 115 = .ok (.iload 5, 2) := dk_21 5 (dk_at dksX8_inWords_4 21 rfl rfl)
theorem dX8_inWords_117 : decode cX8_inWords 117 = .ok (.ifCond .eq 5, 3) := dk_153 0 5 (dk_at dksX8_inWords_5 0 rfl rfl)
theorem dX8_inWords_120 : decode cX8_inWords 120 = .ok (.iload_n 2, 1) := dk_28 (dk_at dksX8_inWords_5 3 rfl rfl)
theorem dX8_inWords_121 : decode cX8_inWords 121 = .ok (.ireturn, 1) := dk_172 (dk_at dksX8_inWords_5 4 rfl rfl)
theorem dX8_inWords_122 : decode cX8_inWords 122 = .ok (.iinc 2 1, 3) := dk_132 2 1 (dk_at dksX8_inWords_5 5 rfl rfl)
theorem dX8_inWords_125 : decode cX8_inWords 125 = .ok (.iload 4, 2) := dk_21 4 (dk_at dksX8_inWords_5 8 rfl rfl)
theorem dX8_inWords_127 : decode cX8_inWords 127 = .ok (.iconst 1, 1) := dk_4 (dk_at dksX8_inWords_5 10 rfl rfl)
theorem dX8_inWords_128 : decode cX8_inWords 128 = .ok (.iadd, 1) := dk_96 (dk_at dksX8_inWords_5 11 rfl rfl)
theorem dX8_inWords_129 : decode cX8_inWords 129 = .ok (.istore_n 3, 1) := dk_62 (dk_at dksX8_inWords_5 12 rfl rfl)
theorem dX8_inWords_130 : decode cX8_inWords 130 = .ok (.goto (-116), 3) := dk_167 255 140 (dk_at dksX8_inWords_5 13 rfl rfl)
theorem dX8_inWords_133 : decode cX8_inWords 133 = .ok (.iconst (-1), 1) := dk_2 (dk_at dksX8_inWords_5 16 rfl rfl)
theorem dX8_inWords_134 : decode cX8_inWords 134 = .ok (.ireturn, 1) := dk_172 (dk_at dksX8_inWords_5 17 rfl rfl)
abbrev cX8_fails : ByteArray := prog_17_method_27_code
def yX8_fails : MethodName := ⟨RX8, "fails", "(I)Z"⟩
def dkwX8_fails_1 : List UInt8 := [42, 42, 180, 0, 117, 181, 0, 41, 3, 172]
abbrev dktX8_fails_1 : List UInt8 := dkwX8_fails_1 ++ []
def dkwX8_fails_0 : List UInt8 := [42, 180, 0, 148, 154, 0, 28, 42, 42, 180, 0, 123, 4, 160, 0, 7, 4, 167, 0, 4, 27, 181, 0, 148]
abbrev dktX8_fails_0 : List UInt8 := dkwX8_fails_0 ++ dktX8_fails_1
theorem dksX8_fails_0 : cX8_fails.data.toList.drop 0 = dktX8_fails_0 := by decide +kernel
theorem dksX8_fails_1 : cX8_fails.data.toList.drop 24 = dktX8_fails_1 := dk_seg dksX8_fails_0 24 rfl rfl
theorem dX8_fails_0 : decode cX8_fails 0 = .ok (.aload_n 0, 1) := dk_42 (dk_at dksX8_fails_0 0 rfl rfl)
theorem dX8_fails_1 : decode cX8_fails 1 = .ok (.getfield 148, 3) := dk_180 0 148 (dk_at dksX8_fails_0 1 rfl rfl)
theorem dX8_fails_4 : decode cX8_fails 4 = .ok (.ifCond .ne 28, 3) := dk_154 0 28 (dk_at dksX8_fails_0 4 rfl rfl)
theorem dX8_fails_7 : decode cX8_fails 7 = .ok (.aload_n 0, 1) := dk_42 (dk_at dksX8_fails_0 7 rfl rfl)
theorem dX8_fails_8 : decode cX8_fails 8 = .ok (.aload_n 0, 1) := dk_42 (dk_at dksX8_fails_0 8 rfl rfl)
theorem dX8_fails_9 : decode cX8_fails 9 = .ok (.getfield 123, 3) := dk_180 0 123 (dk_at dksX8_fails_0 9 rfl rfl)
theorem dX8_fails_12 : decode cX8_fails 12 = .ok (.iconst 1, 1) := dk_4 (dk_at dksX8_fails_0 12 rfl rfl)
theorem dX8_fails_13 : decode cX8_fails 13 = .ok (.if_icmp .ne 7, 3) := dk_160 0 7 (dk_at dksX8_fails_0 13 rfl rfl)
theorem dX8_fails_16 : decode cX8_fails 16 = .ok (.iconst 1, 1) := dk_4 (dk_at dksX8_fails_0 16 rfl rfl)
theorem dX8_fails_17 : decode cX8_fails 17 = .ok (.goto 4, 3) := dk_167 0 4 (dk_at dksX8_fails_0 17 rfl rfl)
theorem dX8_fails_20 : decode cX8_fails 20 = .ok (.iload_n 1, 1) := dk_27 (dk_at dksX8_fails_0 20 rfl rfl)
theorem dX8_fails_21 : decode cX8_fails 21 = .ok (.putfield 148, 3) := dk_181 0 148 (dk_at dksX8_fails_0 21 rfl rfl)
theorem dX8_fails_24 : decode cX8_fails 24 = .ok (.aload_n 0, 1) := dk_42 (dk_at dksX8_fails_1 0 rfl rfl)
theorem dX8_fails_25 : decode cX8_fails 25 = .ok (.aload_n 0, 1) := dk_42 (dk_at dksX8_fails_1 1 rfl rfl)
theorem dX8_fails_26 : decode cX8_fails 26 = .ok (.getfield 117, 3) := dk_180 0 117 (dk_at dksX8_fails_1 2 rfl rfl)
theorem dX8_fails_29 : decode cX8_fails 29 = .ok (.putfield 41, 3) := dk_181 0 41 (dk_at dksX8_fails_1 5 rfl rfl)
theorem dX8_fails_32 : decode cX8_fails 32 = .ok (.iconst 0, 1) := dk_3 (dk_at dksX8_fails_1 8 rfl rfl)
theorem dX8_fails_33 : decode cX8_fails 33 = .ok (.ireturn, 1) := dk_172 (dk_at dksX8_fails_1 9 rfl rfl)
abbrev cX8_number : ByteArray := prog_17_method_31_code
def yX8_number : MethodName := ⟨RX8, "number", "(III)Z"⟩
def dkwX8_number_2 : List UInt8 := [182, 0, 154, 4, 172]
abbrev dktX8_number_2 : List UInt8 := dkwX8_number_2 ++ []
def dkwX8_number_1 : List UInt8 := [180, 0, 120, 29, 164, 0, 9, 42, 7, 182, 0, 160, 172, 42, 180, 0, 7, 27, 42, 180, 0, 120, 79, 42]
abbrev dktX8_number_1 : List UInt8 := dkwX8_number_1 ++ dktX8_number_2
def dkwX8_number_0 : List UInt8 := [42, 180, 0, 123, 6, 159, 0, 9, 42, 5, 182, 0, 160, 172, 42, 180, 0, 120, 28, 161, 0, 11, 42]
abbrev dktX8_number_0 : List UInt8 := dkwX8_number_0 ++ dktX8_number_1
theorem dksX8_number_0 : cX8_number.data.toList.drop 0 = dktX8_number_0 := by decide +kernel
theorem dksX8_number_1 : cX8_number.data.toList.drop 23 = dktX8_number_1 := dk_seg dksX8_number_0 23 rfl rfl
theorem dksX8_number_2 : cX8_number.data.toList.drop 47 = dktX8_number_2 := dk_seg dksX8_number_1 24 rfl rfl
theorem dX8_number_0 : decode cX8_number 0 = .ok (.aload_n 0, 1) := dk_42 (dk_at dksX8_number_0 0 rfl rfl)
theorem dX8_number_1 : decode cX8_number 1 = .ok (.getfield 123, 3) := dk_180 0 123 (dk_at dksX8_number_0 1 rfl rfl)
theorem dX8_number_4 : decode cX8_number 4 = .ok (.iconst 3, 1) := dk_6 (dk_at dksX8_number_0 4 rfl rfl)
theorem dX8_number_5 : decode cX8_number 5 = .ok (.if_icmp .eq 9, 3) := dk_159 0 9 (dk_at dksX8_number_0 5 rfl rfl)
theorem dX8_number_8 : decode cX8_number 8 = .ok (.aload_n 0, 1) := dk_42 (dk_at dksX8_number_0 8 rfl rfl)
theorem dX8_number_9 : decode cX8_number 9 = .ok (.iconst 2, 1) := dk_5 (dk_at dksX8_number_0 9 rfl rfl)
theorem dX8_number_10 : decode cX8_number 10 = .ok (.invokevirtual 160, 3) := dk_182 0 160 (dk_at dksX8_number_0 10 rfl rfl)
theorem dX8_number_13 : decode cX8_number 13 = .ok (.ireturn, 1) := dk_172 (dk_at dksX8_number_0 13 rfl rfl)
theorem dX8_number_14 : decode cX8_number 14 = .ok (.aload_n 0, 1) := dk_42 (dk_at dksX8_number_0 14 rfl rfl)
theorem dX8_number_15 : decode cX8_number 15 = .ok (.getfield 120, 3) := dk_180 0 120 (dk_at dksX8_number_0 15 rfl rfl)
theorem dX8_number_18 : decode cX8_number 18 = .ok (.iload_n 2, 1) := dk_28 (dk_at dksX8_number_0 18 rfl rfl)
theorem dX8_number_19 : decode cX8_number 19 = .ok (.if_icmp .lt 11, 3) := dk_161 0 11 (dk_at dksX8_number_0 19 rfl rfl)
theorem dX8_number_22 : decode cX8_number 22 = .ok (.aload_n 0, 1) := dk_42 (dk_at dksX8_number_0 22 rfl rfl)
theorem dX8_number_23 : decode cX8_number 23 = .ok (.getfield 120, 3) := dk_180 0 120 (dk_at dksX8_number_1 0 rfl rfl)
theorem dX8_number_26 : decode cX8_number 26 = .ok (.iload_n 3, 1) := dk_29 (dk_at dksX8_number_1 3 rfl rfl)
theorem dX8_number_27 : decode cX8_number 27 = .ok (.if_icmp .le 9, 3) := dk_164 0 9 (dk_at dksX8_number_1 4 rfl rfl)
theorem dX8_number_30 : decode cX8_number 30 = .ok (.aload_n 0, 1) := dk_42 (dk_at dksX8_number_1 7 rfl rfl)
theorem dX8_number_31 : decode cX8_number 31 = .ok (.iconst 4, 1) := dk_7 (dk_at dksX8_number_1 8 rfl rfl)
theorem dX8_number_32 : decode cX8_number 32 = .ok (.invokevirtual 160, 3) := dk_182 0 160 (dk_at dksX8_number_1 9 rfl rfl)
theorem dX8_number_35 : decode cX8_number 35 = .ok (.ireturn, 1) := dk_172 (dk_at dksX8_number_1 12 rfl rfl)
theorem dX8_number_36 : decode cX8_number 36 = .ok (.aload_n 0, 1) := dk_42 (dk_at dksX8_number_1 13 rfl rfl)
theorem dX8_number_37 : decode cX8_number 37 = .ok (.getfield 7, 3) := dk_180 0 7 (dk_at dksX8_number_1 14 rfl rfl)
theorem dX8_number_40 : decode cX8_number 40 = .ok (.iload_n 1, 1) := dk_27 (dk_at dksX8_number_1 17 rfl rfl)
theorem dX8_number_41 : decode cX8_number 41 = .ok (.aload_n 0, 1) := dk_42 (dk_at dksX8_number_1 18 rfl rfl)
theorem dX8_number_42 : decode cX8_number 42 = .ok (.getfield 120, 3) := dk_180 0 120 (dk_at dksX8_number_1 19 rfl rfl)
theorem dX8_number_45 : decode cX8_number 45 = .ok (.iastore, 1) := dk_79 (dk_at dksX8_number_1 22 rfl rfl)
theorem dX8_number_46 : decode cX8_number 46 = .ok (.aload_n 0, 1) := dk_42 (dk_at dksX8_number_1 23 rfl rfl)
theorem dX8_number_47 : decode cX8_number 47 = .ok (.invokevirtual 154, 3) := dk_182 0 154 (dk_at dksX8_number_2 0 rfl rfl)
theorem dX8_number_50 : decode cX8_number 50 = .ok (.iconst 1, 1) := dk_4 (dk_at dksX8_number_2 3 rfl rfl)
theorem dX8_number_51 : decode cX8_number 51 = .ok (.ireturn, 1) := dk_172 (dk_at dksX8_number_2 4 rfl rfl)
abbrev cX8_wantSign : ByteArray := prog_17_method_29_code
def yX8_wantSign : MethodName := ⟨RX8, "wantSign", "(I)Z"⟩
def dkwX8_wantSign_0 : List UInt8 := [42, 27, 182, 0, 157, 154, 0, 9, 42, 5, 182, 0, 160, 172, 42, 182, 0, 154, 4, 172]
abbrev dktX8_wantSign_0 : List UInt8 := dkwX8_wantSign_0 ++ []
theorem dksX8_wantSign_0 : cX8_wantSign.data.toList.drop 0 = dktX8_wantSign_0 := by decide +kernel
theorem dX8_wantSign_0 : decode cX8_wantSign 0 = .ok (.aload_n 0, 1) := dk_42 (dk_at dksX8_wantSign_0 0 rfl rfl)
theorem dX8_wantSign_1 : decode cX8_wantSign 1 = .ok (.iload_n 1, 1) := dk_27 (dk_at dksX8_wantSign_0 1 rfl rfl)
theorem dX8_wantSign_2 : decode cX8_wantSign 2 = .ok (.invokevirtual 157, 3) := dk_182 0 157 (dk_at dksX8_wantSign_0 2 rfl rfl)
theorem dX8_wantSign_5 : decode cX8_wantSign 5 = .ok (.ifCond .ne 9, 3) := dk_154 0 9 (dk_at dksX8_wantSign_0 5 rfl rfl)
theorem dX8_wantSign_8 : decode cX8_wantSign 8 = .ok (.aload_n 0, 1) := dk_42 (dk_at dksX8_wantSign_0 8 rfl rfl)
theorem dX8_wantSign_9 : decode cX8_wantSign 9 = .ok (.iconst 2, 1) := dk_5 (dk_at dksX8_wantSign_0 9 rfl rfl)
theorem dX8_wantSign_10 : decode cX8_wantSign 10 = .ok (.invokevirtual 160, 3) := dk_182 0 160 (dk_at dksX8_wantSign_0 10 rfl rfl)
theorem dX8_wantSign_13 : decode cX8_wantSign 13 = .ok (.ireturn, 1) := dk_172 (dk_at dksX8_wantSign_0 13 rfl rfl)
theorem dX8_wantSign_14 : decode cX8_wantSign 14 = .ok (.aload_n 0, 1) := dk_42 (dk_at dksX8_wantSign_0 14 rfl rfl)
theorem dX8_wantSign_15 : decode cX8_wantSign 15 = .ok (.invokevirtual 154, 3) := dk_182 0 154 (dk_at dksX8_wantSign_0 15 rfl rfl)
theorem dX8_wantSign_18 : decode cX8_wantSign 18 = .ok (.iconst 1, 1) := dk_4 (dk_at dksX8_wantSign_0 18 rfl rfl)
theorem dX8_wantSign_19 : decode cX8_wantSign 19 = .ok (.ireturn, 1) := dk_172 (dk_at dksX8_wantSign_0 19 rfl rfl)
abbrev cX8_isSign : ByteArray := prog_17_method_25_code
def yX8_isSign : MethodName := ⟨RX8, "isSign", "(I)Z"⟩
def dkwX8_isSign_0 : List UInt8 := [42, 180, 0, 123, 7, 160, 0, 15, 42, 180, 0, 120, 27, 160, 0, 7, 4, 167, 0, 4, 3, 172]
abbrev dktX8_isSign_0 : List UInt8 := dkwX8_isSign_0 ++ []
theorem dksX8_isSign_0 : cX8_isSign.data.toList.drop 0 = dktX8_isSign_0 := by decide +kernel
theorem dX8_isSign_0 : decode cX8_isSign 0 = .ok (.aload_n 0, 1) := dk_42 (dk_at dksX8_isSign_0 0 rfl rfl)
theorem dX8_isSign_1 : decode cX8_isSign 1 = .ok (.getfield 123, 3) := dk_180 0 123 (dk_at dksX8_isSign_0 1 rfl rfl)
theorem dX8_isSign_4 : decode cX8_isSign 4 = .ok (.iconst 4, 1) := dk_7 (dk_at dksX8_isSign_0 4 rfl rfl)
theorem dX8_isSign_5 : decode cX8_isSign 5 = .ok (.if_icmp .ne 15, 3) := dk_160 0 15 (dk_at dksX8_isSign_0 5 rfl rfl)
theorem dX8_isSign_8 : decode cX8_isSign 8 = .ok (.aload_n 0, 1) := dk_42 (dk_at dksX8_isSign_0 8 rfl rfl)
theorem dX8_isSign_9 : decode cX8_isSign 9 = .ok (.getfield 120, 3) := dk_180 0 120 (dk_at dksX8_isSign_0 9 rfl rfl)
theorem dX8_isSign_12 : decode cX8_isSign 12 = .ok (.iload_n 1, 1) := dk_27 (dk_at dksX8_isSign_0 12 rfl rfl)
theorem dX8_isSign_13 : decode cX8_isSign 13 = .ok (.if_icmp .ne 7, 3) := dk_160 0 7 (dk_at dksX8_isSign_0 13 rfl rfl)
theorem dX8_isSign_16 : decode cX8_isSign 16 = .ok (.iconst 1, 1) := dk_4 (dk_at dksX8_isSign_0 16 rfl rfl)
theorem dX8_isSign_17 : decode cX8_isSign 17 = .ok (.goto 4, 3) := dk_167 0 4 (dk_at dksX8_isSign_0 17 rfl rfl)
theorem dX8_isSign_20 : decode cX8_isSign 20 = .ok (.iconst 0, 1) := dk_3 (dk_at dksX8_isSign_0 20 rfl rfl)
theorem dX8_isSign_21 : decode cX8_isSign 21 = .ok (.ireturn, 1) := dk_172 (dk_at dksX8_isSign_0 21 rfl rfl)
abbrev cX8_beachPart : ByteArray := prog_17_method_49_code
def yX8_beachPart : MethodName := ⟨RX8, "beachPart", "()Z"⟩
def dkwX8_beachPart_4 : List UInt8 := [153, 0, 7, 4, 167, 0, 4, 3, 172]
abbrev dktX8_beachPart_4 : List UInt8 := dkwX8_beachPart_4 ++ []
def dkwX8_beachPart_3 : List UInt8 := [42, 182, 0, 228, 60, 167, 0, 9, 42, 5, 182, 0, 160, 172, 27, 153, 0, 16, 42, 16, 59, 182, 0, 195]
abbrev dktX8_beachPart_3 : List UInt8 := dkwX8_beachPart_3 ++ dktX8_beachPart_4
def dkwX8_beachPart_2 : List UInt8 := [42, 182, 0, 218, 60, 167, 0, 33, 42, 182, 0, 222, 60, 167, 0, 25, 42, 182, 0, 225, 60, 167, 0, 17]
abbrev dktX8_beachPart_2 : List UInt8 := dkwX8_beachPart_2 ++ dktX8_beachPart_3
def dkwX8_beachPart_1 : List UInt8 := [170, 0, 0, 0, 0, 62, 0, 0, 0, 3, 0, 0, 0, 6, 0, 0, 0, 30, 0, 0, 0, 38, 0, 0, 0, 46, 0, 0, 0, 54]
abbrev dktX8_beachPart_1 : List UInt8 := dkwX8_beachPart_1 ++ dktX8_beachPart_2
def dkwX8_beachPart_0 : List UInt8 := [42, 18, 178, 182, 0, 163]
abbrev dktX8_beachPart_0 : List UInt8 := dkwX8_beachPart_0 ++ dktX8_beachPart_1
theorem dksX8_beachPart_0 : cX8_beachPart.data.toList.drop 0 = dktX8_beachPart_0 := by decide +kernel
theorem dksX8_beachPart_1 : cX8_beachPart.data.toList.drop 6 = dktX8_beachPart_1 := dk_seg dksX8_beachPart_0 6 rfl rfl
theorem dksX8_beachPart_2 : cX8_beachPart.data.toList.drop 36 = dktX8_beachPart_2 := dk_seg dksX8_beachPart_1 30 rfl rfl
theorem dksX8_beachPart_3 : cX8_beachPart.data.toList.drop 60 = dktX8_beachPart_3 := dk_seg dksX8_beachPart_2 24 rfl rfl
theorem dksX8_beachPart_4 : cX8_beachPart.data.toList.drop 84 = dktX8_beachPart_4 := dk_seg dksX8_beachPart_3 24 rfl rfl
theorem dX8_beachPart_0 : decode cX8_beachPart 0 = .ok (.aload_n 0, 1) := dk_42 (dk_at dksX8_beachPart_0 0 rfl rfl)
theorem dX8_beachPart_1 : decode cX8_beachPart 1 = .ok (.ldc 178, 2) := dk_18 178 (dk_at dksX8_beachPart_0 1 rfl rfl)
theorem dX8_beachPart_3 : decode cX8_beachPart 3 = .ok (.invokevirtual 163, 3) := dk_182 0 163 (dk_at dksX8_beachPart_0 3 rfl rfl)
theorem dX8_beachPart_6 : decode cX8_beachPart 6 = .ok (.tableswitch 62 3 6 #[30, 38, 46, 54], 30) := by decide +kernel
theorem dX8_beachPart_36 : decode cX8_beachPart 36 = .ok (.aload_n 0, 1) := dk_42 (dk_at dksX8_beachPart_2 0 rfl rfl)
theorem dX8_beachPart_37 : decode cX8_beachPart 37 = .ok (.invokevirtual 218, 3) := dk_182 0 218 (dk_at dksX8_beachPart_2 1 rfl rfl)
theorem dX8_beachPart_40 : decode cX8_beachPart 40 = .ok (.istore_n 1, 1) := dk_60 (dk_at dksX8_beachPart_2 4 rfl rfl)
theorem dX8_beachPart_41 : decode cX8_beachPart 41 = .ok (.goto 33, 3) := dk_167 0 33 (dk_at dksX8_beachPart_2 5 rfl rfl)
theorem dX8_beachPart_44 : decode cX8_beachPart 44 = .ok (.aload_n 0, 1) := dk_42 (dk_at dksX8_beachPart_2 8 rfl rfl)
theorem dX8_beachPart_45 : decode cX8_beachPart 45 = .ok (.invokevirtual 222, 3) := dk_182 0 222 (dk_at dksX8_beachPart_2 9 rfl rfl)
theorem dX8_beachPart_48 : decode cX8_beachPart 48 = .ok (.istore_n 1, 1) := dk_60 (dk_at dksX8_beachPart_2 12 rfl rfl)
theorem dX8_beachPart_49 : decode cX8_beachPart 49 = .ok (.goto 25, 3) := dk_167 0 25 (dk_at dksX8_beachPart_2 13 rfl rfl)
theorem dX8_beachPart_52 : decode cX8_beachPart 52 = .ok (.aload_n 0, 1) := dk_42 (dk_at dksX8_beachPart_2 16 rfl rfl)
theorem dX8_beachPart_53 : decode cX8_beachPart 53 = .ok (.invokevirtual 225, 3) := dk_182 0 225 (dk_at dksX8_beachPart_2 17 rfl rfl)
theorem dX8_beachPart_56 : decode cX8_beachPart 56 = .ok (.istore_n 1, 1) := dk_60 (dk_at dksX8_beachPart_2 20 rfl rfl)
theorem dX8_beachPart_57 : decode cX8_beachPart 57 = .ok (.goto 17, 3) := dk_167 0 17 (dk_at dksX8_beachPart_2 21 rfl rfl)
theorem dX8_beachPart_60 : decode cX8_beachPart 60 = .ok (.aload_n 0, 1) := dk_42 (dk_at dksX8_beachPart_3 0 rfl rfl)
theorem dX8_beachPart_61 : decode cX8_beachPart 61 = .ok (.invokevirtual 228, 3) := dk_182 0 228 (dk_at dksX8_beachPart_3 1 rfl rfl)
theorem dX8_beachPart_64 : decode cX8_beachPart 64 = .ok (.istore_n 1, 1) := dk_60 (dk_at dksX8_beachPart_3 4 rfl rfl)
theorem dX8_beachPart_65 : decode cX8_beachPart 65 = .ok (.goto 9, 3) := dk_167 0 9 (dk_at dksX8_beachPart_3 5 rfl rfl)
theorem dX8_beachPart_68 : decode cX8_beachPart 68 = .ok (.aload_n 0, 1) := dk_42 (dk_at dksX8_beachPart_3 8 rfl rfl)
theorem dX8_beachPart_69 : decode cX8_beachPart 69 = .ok (.iconst 2, 1) := dk_5 (dk_at dksX8_beachPart_3 9 rfl rfl)
theorem dX8_beachPart_70 : decode cX8_beachPart 70 = .ok (.invokevirtual 160, 3) := dk_182 0 160 (dk_at dksX8_beachPart_3 10 rfl rfl)
theorem dX8_beachPart_73 : decode cX8_beachPart 73 = .ok (.ireturn, 1) := dk_172 (dk_at dksX8_beachPart_3 13 rfl rfl)
theorem dX8_beachPart_74 : decode cX8_beachPart 74 = .ok (.iload_n 1, 1) := dk_27 (dk_at dksX8_beachPart_3 14 rfl rfl)
theorem dX8_beachPart_75 : decode cX8_beachPart 75 = .ok (.ifCond .eq 16, 3) := dk_153 0 16 (dk_at dksX8_beachPart_3 15 rfl rfl)
theorem dX8_beachPart_78 : decode cX8_beachPart 78 = .ok (.aload_n 0, 1) := dk_42 (dk_at dksX8_beachPart_3 18 rfl rfl)
theorem dX8_beachPart_79 : decode cX8_beachPart 79 = .ok (.bipush 59, 2) := dk_16 59 (dk_at dksX8_beachPart_3 19 rfl rfl)
theorem dX8_beachPart_81 : decode cX8_beachPart 81 = .ok (.invokevirtual 195, 3) := dk_182 0 195 (dk_at dksX8_beachPart_3 21 rfl rfl)
theorem dX8_beachPart_84 : decode cX8_beachPart 84 = .ok (.ifCond .eq 7, 3) := dk_153 0 7 (dk_at dksX8_beachPart_4 0 rfl rfl)
theorem dX8_beachPart_87 : decode cX8_beachPart 87 = .ok (.iconst 1, 1) := dk_4 (dk_at dksX8_beachPart_4 3 rfl rfl)
theorem dX8_beachPart_88 : decode cX8_beachPart 88 = .ok (.goto 4, 3) := dk_167 0 4 (dk_at dksX8_beachPart_4 4 rfl rfl)
theorem dX8_beachPart_91 : decode cX8_beachPart 91 = .ok (.iconst 0, 1) := dk_3 (dk_at dksX8_beachPart_4 7 rfl rfl)
theorem dX8_beachPart_92 : decode cX8_beachPart 92 = .ok (.ireturn, 1) := dk_172 (dk_at dksX8_beachPart_4 8 rfl rfl)
abbrev cX8_aFinder : ByteArray := prog_17_method_45_code
def yX8_aFinder : MethodName := ⟨RX8, "aFinder", "()Z"⟩
def dkwX8_aFinder_4 : List UInt8 := [4, 96, 79, 4, 172]
abbrev dktX8_aFinder_4 : List UInt8 := dkwX8_aFinder_4 ++ []
def dkwX8_aFinder_3 : List UInt8 := [42, 27, 5, 96, 3, 16, 20, 182, 0, 191, 154, 0, 5, 3, 172, 42, 180, 0, 7, 17, 21, 225, 92, 46]
abbrev dktX8_aFinder_3 : List UInt8 := dkwX8_aFinder_3 ++ dktX8_aFinder_4
def dkwX8_aFinder_2 : List UInt8 := [42, 27, 4, 96, 4, 16, 9, 182, 0, 191, 153, 0, 27, 42, 18, 178, 16, 9, 182, 0, 187, 153, 0, 16]
abbrev dktX8_aFinder_2 : List UInt8 := dkwX8_aFinder_2 ++ dktX8_aFinder_3
def dkwX8_aFinder_1 : List UInt8 := [153, 0, 11, 42, 27, 182, 0, 201, 154, 0, 5, 3, 172, 42, 18, 178, 16, 8, 182, 0, 187, 153, 0, 40]
abbrev dktX8_aFinder_1 : List UInt8 := dkwX8_aFinder_1 ++ dktX8_aFinder_2
def dkwX8_aFinder_0 : List UInt8 := [17, 21, 234, 8, 42, 180, 0, 7, 17, 21, 225, 46, 104, 96, 60, 42, 4, 16, 6, 3, 182, 0, 198]
abbrev dktX8_aFinder_0 : List UInt8 := dkwX8_aFinder_0 ++ dktX8_aFinder_1
theorem dksX8_aFinder_0 : cX8_aFinder.data.toList.drop 0 = dktX8_aFinder_0 := by decide +kernel
theorem dksX8_aFinder_1 : cX8_aFinder.data.toList.drop 23 = dktX8_aFinder_1 := dk_seg dksX8_aFinder_0 23 rfl rfl
theorem dksX8_aFinder_2 : cX8_aFinder.data.toList.drop 47 = dktX8_aFinder_2 := dk_seg dksX8_aFinder_1 24 rfl rfl
theorem dksX8_aFinder_3 : cX8_aFinder.data.toList.drop 71 = dktX8_aFinder_3 := dk_seg dksX8_aFinder_2 24 rfl rfl
theorem dksX8_aFinder_4 : cX8_aFinder.data.toList.drop 95 = dktX8_aFinder_4 := dk_seg dksX8_aFinder_3 24 rfl rfl
theorem dX8_aFinder_0 : decode cX8_aFinder 0 = .ok (.sipush 5610, 3) := dk_17 21 234 (dk_at dksX8_aFinder_0 0 rfl rfl)
theorem dX8_aFinder_3 : decode cX8_aFinder 3 = .ok (.iconst 5, 1) := dk_8 (dk_at dksX8_aFinder_0 3 rfl rfl)
theorem dX8_aFinder_4 : decode cX8_aFinder 4 = .ok (.aload_n 0, 1) := dk_42 (dk_at dksX8_aFinder_0 4 rfl rfl)
theorem dX8_aFinder_5 : decode cX8_aFinder 5 = .ok (.getfield 7, 3) := dk_180 0 7 (dk_at dksX8_aFinder_0 5 rfl rfl)
theorem dX8_aFinder_8 : decode cX8_aFinder 8 = .ok (.sipush 5601, 3) := dk_17 21 225 (dk_at dksX8_aFinder_0 8 rfl rfl)
theorem dX8_aFinder_11 : decode cX8_aFinder 11 = .ok (.iaload, 1) := dk_46 (dk_at dksX8_aFinder_0 11 rfl rfl)
theorem dX8_aFinder_12 : decode cX8_aFinder 12 = .ok (.imul, 1) := dk_104 (dk_at dksX8_aFinder_0 12 rfl rfl)
theorem dX8_aFinder_13 : decode cX8_aFinder 13 = .ok (.iadd, 1) := dk_96 (dk_at dksX8_aFinder_0 13 rfl rfl)
theorem dX8_aFinder_14 : decode cX8_aFinder 14 = .ok (.istore_n 1, 1) := dk_60 (dk_at dksX8_aFinder_0 14 rfl rfl)
theorem dX8_aFinder_15 : decode cX8_aFinder 15 = .ok (.aload_n 0, 1) := dk_42 (dk_at dksX8_aFinder_0 15 rfl rfl)
theorem dX8_aFinder_16 : decode cX8_aFinder 16 = .ok (.iconst 1, 1) := dk_4 (dk_at dksX8_aFinder_0 16 rfl rfl)
theorem dX8_aFinder_17 : decode cX8_aFinder 17 = .ok (.bipush 6, 2) := dk_16 6 (dk_at dksX8_aFinder_0 17 rfl rfl)
theorem dX8_aFinder_19 : decode cX8_aFinder 19 = .ok (.iconst 0, 1) := dk_3 (dk_at dksX8_aFinder_0 19 rfl rfl)
theorem dX8_aFinder_20 : decode cX8_aFinder 20 = .ok (.invokevirtual 198, 3) := dk_182 0 198 (dk_at dksX8_aFinder_0 20 rfl rfl)
theorem dX8_aFinder_23 : decode cX8_aFinder 23 = .ok (.ifCond .eq 11, 3) := dk_153 0 11 (dk_at dksX8_aFinder_1 0 rfl rfl)
theorem dX8_aFinder_26 : decode cX8_aFinder 26 = .ok (.aload_n 0, 1) := dk_42 (dk_at dksX8_aFinder_1 3 rfl rfl)
theorem dX8_aFinder_27 : decode cX8_aFinder 27 = .ok (.iload_n 1, 1) := dk_27 (dk_at dksX8_aFinder_1 4 rfl rfl)
theorem dX8_aFinder_28 : decode cX8_aFinder 28 = .ok (.invokevirtual 201, 3) := dk_182 0 201 (dk_at dksX8_aFinder_1 5 rfl rfl)
theorem dX8_aFinder_31 : decode cX8_aFinder 31 = .ok (.ifCond .ne 5, 3) := dk_154 0 5 (dk_at dksX8_aFinder_1 8 rfl rfl)
theorem dX8_aFinder_34 : decode cX8_aFinder 34 = .ok (.iconst 0, 1) := dk_3 (dk_at dksX8_aFinder_1 11 rfl rfl)
theorem dX8_aFinder_35 : decode cX8_aFinder 35 = .ok (.ireturn, 1) := dk_172 (dk_at dksX8_aFinder_1 12 rfl rfl)
theorem dX8_aFinder_36 : decode cX8_aFinder 36 = .ok (.aload_n 0, 1) := dk_42 (dk_at dksX8_aFinder_1 13 rfl rfl)
theorem dX8_aFinder_37 : decode cX8_aFinder 37 = .ok (.ldc 178, 2) := dk_18 178 (dk_at dksX8_aFinder_1 14 rfl rfl)
theorem dX8_aFinder_39 : decode cX8_aFinder 39 = .ok (.bipush 8, 2) := dk_16 8 (dk_at dksX8_aFinder_1 16 rfl rfl)
theorem dX8_aFinder_41 : decode cX8_aFinder 41 = .ok (.invokevirtual 187, 3) := dk_182 0 187 (dk_at dksX8_aFinder_1 18 rfl rfl)
theorem dX8_aFinder_44 : decode cX8_aFinder 44 = .ok (.ifCond .eq 40, 3) := dk_153 0 40 (dk_at dksX8_aFinder_1 21 rfl rfl)
theorem dX8_aFinder_47 : decode cX8_aFinder 47 = .ok (.aload_n 0, 1) := dk_42 (dk_at dksX8_aFinder_2 0 rfl rfl)
theorem dX8_aFinder_48 : decode cX8_aFinder 48 = .ok (.iload_n 1, 1) := dk_27 (dk_at dksX8_aFinder_2 1 rfl rfl)
theorem dX8_aFinder_49 : decode cX8_aFinder 49 = .ok (.iconst 1, 1) := dk_4 (dk_at dksX8_aFinder_2 2 rfl rfl)
theorem dX8_aFinder_50 : decode cX8_aFinder 50 = .ok (.iadd, 1) := dk_96 (dk_at dksX8_aFinder_2 3 rfl rfl)
theorem dX8_aFinder_51 : decode cX8_aFinder 51 = .ok (.iconst 1, 1) := dk_4 (dk_at dksX8_aFinder_2 4 rfl rfl)
theorem dX8_aFinder_52 : decode cX8_aFinder 52 = .ok (.bipush 9, 2) := dk_16 9 (dk_at dksX8_aFinder_2 5 rfl rfl)
theorem dX8_aFinder_54 : decode cX8_aFinder 54 = .ok (.invokevirtual 191, 3) := dk_182 0 191 (dk_at dksX8_aFinder_2 7 rfl rfl)
theorem dX8_aFinder_57 : decode cX8_aFinder 57 = .ok (.ifCond .eq 27, 3) := dk_153 0 27 (dk_at dksX8_aFinder_2 10 rfl rfl)
theorem dX8_aFinder_60 : decode cX8_aFinder 60 = .ok (.aload_n 0, 1) := dk_42 (dk_at dksX8_aFinder_2 13 rfl rfl)
theorem dX8_aFinder_61 : decode cX8_aFinder 61 = .ok (.ldc 178, 2) := dk_18 178 (dk_at dksX8_aFinder_2 14 rfl rfl)
theorem dX8_aFinder_63 : decode cX8_aFinder 63 = .ok (.bipush 9, 2) := dk_16 9 (dk_at dksX8_aFinder_2 16 rfl rfl)
theorem dX8_aFinder_65 : decode cX8_aFinder 65 = .ok (.invokevirtual 187, 3) := dk_182 0 187 (dk_at dksX8_aFinder_2 18 rfl rfl)
theorem dX8_aFinder_68 : decode cX8_aFinder 68 = .ok (.ifCond .eq 16, 3) := dk_153 0 16 (dk_at dksX8_aFinder_2 21 rfl rfl)
theorem dX8_aFinder_71 : decode cX8_aFinder 71 = .ok (.aload_n 0, 1) := dk_42 (dk_at dksX8_aFinder_3 0 rfl rfl)
theorem dX8_aFinder_72 : decode cX8_aFinder 72 = .ok (.iload_n 1, 1) := dk_27 (dk_at dksX8_aFinder_3 1 rfl rfl)
theorem dX8_aFinder_73 : decode cX8_aFinder 73 = .ok (.iconst 2, 1) := dk_5 (dk_at dksX8_aFinder_3 2 rfl rfl)
theorem dX8_aFinder_74 : decode cX8_aFinder 74 = .ok (.iadd, 1) := dk_96 (dk_at dksX8_aFinder_3 3 rfl rfl)
theorem dX8_aFinder_75 : decode cX8_aFinder 75 = .ok (.iconst 0, 1) := dk_3 (dk_at dksX8_aFinder_3 4 rfl rfl)
theorem dX8_aFinder_76 : decode cX8_aFinder 76 = .ok (.bipush 20, 2) := dk_16 20 (dk_at dksX8_aFinder_3 5 rfl rfl)
theorem dX8_aFinder_78 : decode cX8_aFinder 78 = .ok (.invokevirtual 191, 3) := dk_182 0 191 (dk_at dksX8_aFinder_3 7 rfl rfl)
theorem dX8_aFinder_81 : decode cX8_aFinder 81 = .ok (.ifCond .ne 5, 3) := dk_154 0 5 (dk_at dksX8_aFinder_3 10 rfl rfl)
theorem dX8_aFinder_84 : decode cX8_aFinder 84 = .ok (.iconst 0, 1) := dk_3 (dk_at dksX8_aFinder_3 13 rfl rfl)
theorem dX8_aFinder_85 : decode cX8_aFinder 85 = .ok (.ireturn, 1) := dk_172 (dk_at dksX8_aFinder_3 14 rfl rfl)
theorem dX8_aFinder_86 : decode cX8_aFinder 86 = .ok (.aload_n 0, 1) := dk_42 (dk_at dksX8_aFinder_3 15 rfl rfl)
theorem dX8_aFinder_87 : decode cX8_aFinder 87 = .ok (.getfield 7, 3) := dk_180 0 7 (dk_at dksX8_aFinder_3 16 rfl rfl)
theorem dX8_aFinder_90 : decode cX8_aFinder 90 = .ok (.sipush 5601, 3) := dk_17 21 225 (dk_at dksX8_aFinder_3 19 rfl rfl)
theorem dX8_aFinder_93 : decode cX8_aFinder 93 = .ok (.dup2, 1) := dk_92 (dk_at dksX8_aFinder_3 22 rfl rfl)
theorem dX8_aFinder_94 : decode cX8_aFinder 94 = .ok (.iaload, 1) := dk_46 (dk_at dksX8_aFinder_3 23 rfl rfl)
theorem dX8_aFinder_95 : decode cX8_aFinder 95 = .ok (.iconst 1, 1) := dk_4 (dk_at dksX8_aFinder_4 0 rfl rfl)
theorem dX8_aFinder_96 : decode cX8_aFinder 96 = .ok (.iadd, 1) := dk_96 (dk_at dksX8_aFinder_4 1 rfl rfl)
theorem dX8_aFinder_97 : decode cX8_aFinder 97 = .ok (.iastore, 1) := dk_79 (dk_at dksX8_aFinder_4 2 rfl rfl)
theorem dX8_aFinder_98 : decode cX8_aFinder 98 = .ok (.iconst 1, 1) := dk_4 (dk_at dksX8_aFinder_4 3 rfl rfl)
theorem dX8_aFinder_99 : decode cX8_aFinder 99 = .ok (.ireturn, 1) := dk_172 (dk_at dksX8_aFinder_4 4 rfl rfl)
abbrev cX8_newOne : ByteArray := prog_17_method_41_code
def yX8_newOne : MethodName := ⟨RX8, "newOne", "(III)Z"⟩
def dkwX8_newOne_4 : List UInt8 := [180, 0, 7, 17, 21, 224, 27, 96, 46, 96, 42, 182, 0, 167, 80, 42, 182, 0, 154, 4, 172]
abbrev dktX8_newOne_4 : List UInt8 := dkwX8_newOne_4 ++ []
def dkwX8_newOne_3 : List UInt8 := [46, 182, 0, 184, 2, 159, 0, 9, 42, 6, 182, 0, 160, 172, 42, 180, 0, 13, 16, 56, 29, 96, 42]
abbrev dktX8_newOne_3 : List UInt8 := dkwX8_newOne_3 ++ dktX8_newOne_4
def dkwX8_newOne_2 : List UInt8 := [180, 0, 7, 17, 21, 225, 46, 182, 0, 184, 2, 160, 0, 21, 42, 16, 62, 42, 180, 0, 7, 17, 21, 226]
abbrev dktX8_newOne_2 : List UInt8 := dkwX8_newOne_2 ++ dktX8_newOne_3
def dkwX8_newOne_1 : List UInt8 := [182, 0, 154, 42, 18, 178, 182, 0, 180, 154, 0, 9, 42, 5, 182, 0, 160, 172, 42, 16, 56, 42]
abbrev dktX8_newOne_1 : List UInt8 := dkwX8_newOne_1 ++ dktX8_newOne_2
def dkwX8_newOne_0 : List UInt8 := [42, 180, 0, 7, 17, 21, 224, 27, 96, 46, 28, 160, 0, 10, 42, 16, 6, 182, 0, 160, 172, 42]
abbrev dktX8_newOne_0 : List UInt8 := dkwX8_newOne_0 ++ dktX8_newOne_1
theorem dksX8_newOne_0 : cX8_newOne.data.toList.drop 0 = dktX8_newOne_0 := by decide +kernel
theorem dksX8_newOne_1 : cX8_newOne.data.toList.drop 22 = dktX8_newOne_1 := dk_seg dksX8_newOne_0 22 rfl rfl
theorem dksX8_newOne_2 : cX8_newOne.data.toList.drop 44 = dktX8_newOne_2 := dk_seg dksX8_newOne_1 22 rfl rfl
theorem dksX8_newOne_3 : cX8_newOne.data.toList.drop 68 = dktX8_newOne_3 := dk_seg dksX8_newOne_2 24 rfl rfl
theorem dksX8_newOne_4 : cX8_newOne.data.toList.drop 91 = dktX8_newOne_4 := dk_seg dksX8_newOne_3 23 rfl rfl
theorem dX8_newOne_0 : decode cX8_newOne 0 = .ok (.aload_n 0, 1) := dk_42 (dk_at dksX8_newOne_0 0 rfl rfl)
theorem dX8_newOne_1 : decode cX8_newOne 1 = .ok (.getfield 7, 3) := dk_180 0 7 (dk_at dksX8_newOne_0 1 rfl rfl)
theorem dX8_newOne_4 : decode cX8_newOne 4 = .ok (.sipush 5600, 3) := dk_17 21 224 (dk_at dksX8_newOne_0 4 rfl rfl)
theorem dX8_newOne_7 : decode cX8_newOne 7 = .ok (.iload_n 1, 1) := dk_27 (dk_at dksX8_newOne_0 7 rfl rfl)
theorem dX8_newOne_8 : decode cX8_newOne 8 = .ok (.iadd, 1) := dk_96 (dk_at dksX8_newOne_0 8 rfl rfl)
theorem dX8_newOne_9 : decode cX8_newOne 9 = .ok (.iaload, 1) := dk_46 (dk_at dksX8_newOne_0 9 rfl rfl)
theorem dX8_newOne_10 : decode cX8_newOne 10 = .ok (.iload_n 2, 1) := dk_28 (dk_at dksX8_newOne_0 10 rfl rfl)
theorem dX8_newOne_11 : decode cX8_newOne 11 = .ok (.if_icmp .ne 10, 3) := dk_160 0 10 (dk_at dksX8_newOne_0 11 rfl rfl)
theorem dX8_newOne_14 : decode cX8_newOne 14 = .ok (.aload_n 0, 1) := dk_42 (dk_at dksX8_newOne_0 14 rfl rfl)
theorem dX8_newOne_15 : decode cX8_newOne 15 = .ok (.bipush 6, 2) := dk_16 6 (dk_at dksX8_newOne_0 15 rfl rfl)
theorem dX8_newOne_17 : decode cX8_newOne 17 = .ok (.invokevirtual 160, 3) := dk_182 0 160 (dk_at dksX8_newOne_0 17 rfl rfl)
theorem dX8_newOne_20 : decode cX8_newOne 20 = .ok (.ireturn, 1) := dk_172 (dk_at dksX8_newOne_0 20 rfl rfl)
theorem dX8_newOne_21 : decode cX8_newOne 21 = .ok (.aload_n 0, 1) := dk_42 (dk_at dksX8_newOne_0 21 rfl rfl)
theorem dX8_newOne_22 : decode cX8_newOne 22 = .ok (.invokevirtual 154, 3) := dk_182 0 154 (dk_at dksX8_newOne_1 0 rfl rfl)
theorem dX8_newOne_25 : decode cX8_newOne 25 = .ok (.aload_n 0, 1) := dk_42 (dk_at dksX8_newOne_1 3 rfl rfl)
theorem dX8_newOne_26 : decode cX8_newOne 26 = .ok (.ldc 178, 2) := dk_18 178 (dk_at dksX8_newOne_1 4 rfl rfl)
theorem dX8_newOne_28 : decode cX8_newOne 28 = .ok (.invokevirtual 180, 3) := dk_182 0 180 (dk_at dksX8_newOne_1 6 rfl rfl)
theorem dX8_newOne_31 : decode cX8_newOne 31 = .ok (.ifCond .ne 9, 3) := dk_154 0 9 (dk_at dksX8_newOne_1 9 rfl rfl)
theorem dX8_newOne_34 : decode cX8_newOne 34 = .ok (.aload_n 0, 1) := dk_42 (dk_at dksX8_newOne_1 12 rfl rfl)
theorem dX8_newOne_35 : decode cX8_newOne 35 = .ok (.iconst 2, 1) := dk_5 (dk_at dksX8_newOne_1 13 rfl rfl)
theorem dX8_newOne_36 : decode cX8_newOne 36 = .ok (.invokevirtual 160, 3) := dk_182 0 160 (dk_at dksX8_newOne_1 14 rfl rfl)
theorem dX8_newOne_39 : decode cX8_newOne 39 = .ok (.ireturn, 1) := dk_172 (dk_at dksX8_newOne_1 17 rfl rfl)
theorem dX8_newOne_40 : decode cX8_newOne 40 = .ok (.aload_n 0, 1) := dk_42 (dk_at dksX8_newOne_1 18 rfl rfl)
theorem dX8_newOne_41 : decode cX8_newOne 41 = .ok (.bipush 56, 2) := dk_16 56 (dk_at dksX8_newOne_1 19 rfl rfl)
theorem dX8_newOne_43 : decode cX8_newOne 43 = .ok (.aload_n 0, 1) := dk_42 (dk_at dksX8_newOne_1 21 rfl rfl)
theorem dX8_newOne_44 : decode cX8_newOne 44 = .ok (.getfield 7, 3) := dk_180 0 7 (dk_at dksX8_newOne_2 0 rfl rfl)
theorem dX8_newOne_47 : decode cX8_newOne 47 = .ok (.sipush 5601, 3) := dk_17 21 225 (dk_at dksX8_newOne_2 3 rfl rfl)
theorem dX8_newOne_50 : decode cX8_newOne 50 = .ok (.iaload, 1) := dk_46 (dk_at dksX8_newOne_2 6 rfl rfl)
theorem dX8_newOne_51 : decode cX8_newOne 51 = .ok (.invokevirtual 184, 3) := dk_182 0 184 (dk_at dksX8_newOne_2 7 rfl rfl)
theorem dX8_newOne_54 : decode cX8_newOne 54 = .ok (.iconst (-1), 1) := dk_2 (dk_at dksX8_newOne_2 10 rfl rfl)
theorem dX8_newOne_55 : decode cX8_newOne 55 = .ok (.if_icmp .ne 21, 3) := dk_160 0 21 (dk_at dksX8_newOne_2 11 rfl rfl)
theorem dX8_newOne_58 : decode cX8_newOne 58 = .ok (.aload_n 0, 1) := dk_42 (dk_at dksX8_newOne_2 14 rfl rfl)
theorem dX8_newOne_59 : decode cX8_newOne 59 = .ok (.bipush 62, 2) := dk_16 62 (dk_at dksX8_newOne_2 15 rfl rfl)
theorem dX8_newOne_61 : decode cX8_newOne 61 = .ok (.aload_n 0, 1) := dk_42 (dk_at dksX8_newOne_2 17 rfl rfl)
theorem dX8_newOne_62 : decode cX8_newOne 62 = .ok (.getfield 7, 3) := dk_180 0 7 (dk_at dksX8_newOne_2 18 rfl rfl)
theorem dX8_newOne_65 : decode cX8_newOne 65 = .ok (.sipush 5602, 3) := dk_17 21 226 (dk_at dksX8_newOne_2 21 rfl rfl)
theorem dX8_newOne_68 : decode cX8_newOne 68 = .ok (.iaload, 1) := dk_46 (dk_at dksX8_newOne_3 0 rfl rfl)
theorem dX8_newOne_69 : decode cX8_newOne 69 = .ok (.invokevirtual 184, 3) := dk_182 0 184 (dk_at dksX8_newOne_3 1 rfl rfl)
theorem dX8_newOne_72 : decode cX8_newOne 72 = .ok (.iconst (-1), 1) := dk_2 (dk_at dksX8_newOne_3 4 rfl rfl)
theorem dX8_newOne_73 : decode cX8_newOne 73 = .ok (.if_icmp .eq 9, 3) := dk_159 0 9 (dk_at dksX8_newOne_3 5 rfl rfl)
theorem dX8_newOne_76 : decode cX8_newOne 76 = .ok (.aload_n 0, 1) := dk_42 (dk_at dksX8_newOne_3 8 rfl rfl)
theorem dX8_newOne_77 : decode cX8_newOne 77 = .ok (.iconst 3, 1) := dk_6 (dk_at dksX8_newOne_3 9 rfl rfl)
theorem dX8_newOne_78 : decode cX8_newOne 78 = .ok (.invokevirtual 160, 3) := dk_182 0 160 (dk_at dksX8_newOne_3 10 rfl rfl)
theorem dX8_newOne_81 : decode cX8_newOne 81 = .ok (.ireturn, 1) := dk_172 (dk_at dksX8_newOne_3 13 rfl rfl)
theorem dX8_newOne_82 : decode cX8_newOne 82 = .ok (.aload_n 0, 1) := dk_42 (dk_at dksX8_newOne_3 14 rfl rfl)
theorem dX8_newOne_83 : decode cX8_newOne 83 = .ok (.getfield 13, 3) := dk_180 0 13 (dk_at dksX8_newOne_3 15 rfl rfl)
theorem dX8_newOne_86 : decode cX8_newOne 86 = .ok (.bipush 56, 2) := dk_16 56 (dk_at dksX8_newOne_3 18 rfl rfl)
theorem dX8_newOne_88 : decode cX8_newOne 88 = .ok (.iload_n 3, 1) := dk_29 (dk_at dksX8_newOne_3 20 rfl rfl)
theorem dX8_newOne_89 : decode cX8_newOne 89 = .ok (.iadd, 1) := dk_96 (dk_at dksX8_newOne_3 21 rfl rfl)
theorem dX8_newOne_90 : decode cX8_newOne 90 = .ok (.aload_n 0, 1) := dk_42 (dk_at dksX8_newOne_3 22 rfl rfl)
theorem dX8_newOne_91 : decode cX8_newOne 91 = .ok (.getfield 7, 3) := dk_180 0 7 (dk_at dksX8_newOne_4 0 rfl rfl)
theorem dX8_newOne_94 : decode cX8_newOne 94 = .ok (.sipush 5600, 3) := dk_17 21 224 (dk_at dksX8_newOne_4 3 rfl rfl)
theorem dX8_newOne_97 : decode cX8_newOne 97 = .ok (.iload_n 1, 1) := dk_27 (dk_at dksX8_newOne_4 6 rfl rfl)
theorem dX8_newOne_98 : decode cX8_newOne 98 = .ok (.iadd, 1) := dk_96 (dk_at dksX8_newOne_4 7 rfl rfl)
theorem dX8_newOne_99 : decode cX8_newOne 99 = .ok (.iaload, 1) := dk_46 (dk_at dksX8_newOne_4 8 rfl rfl)
theorem dX8_newOne_100 : decode cX8_newOne 100 = .ok (.iadd, 1) := dk_96 (dk_at dksX8_newOne_4 9 rfl rfl)
theorem dX8_newOne_101 : decode cX8_newOne 101 = .ok (.aload_n 0, 1) := dk_42 (dk_at dksX8_newOne_4 10 rfl rfl)
theorem dX8_newOne_102 : decode cX8_newOne 102 = .ok (.invokevirtual 167, 3) := dk_182 0 167 (dk_at dksX8_newOne_4 11 rfl rfl)
theorem dX8_newOne_105 : decode cX8_newOne 105 = .ok (.lastore, 1) := dk_80 (dk_at dksX8_newOne_4 14 rfl rfl)
theorem dX8_newOne_106 : decode cX8_newOne 106 = .ok (.aload_n 0, 1) := dk_42 (dk_at dksX8_newOne_4 15 rfl rfl)
theorem dX8_newOne_107 : decode cX8_newOne 107 = .ok (.invokevirtual 154, 3) := dk_182 0 154 (dk_at dksX8_newOne_4 16 rfl rfl)
theorem dX8_newOne_110 : decode cX8_newOne 110 = .ok (.iconst 1, 1) := dk_4 (dk_at dksX8_newOne_4 19 rfl rfl)
theorem dX8_newOne_111 : decode cX8_newOne 111 = .ok (.ireturn, 1) := dk_172 (dk_at dksX8_newOne_4 20 rfl rfl)
abbrev cX8_isName : ByteArray := prog_17_method_32_code
def yX8_isName : MethodName := ⟨RX8, "isName", "(Ljava/lang/String;)Z"⟩
def dkwX8_isName_1 : List UInt8 := [182, 0, 163, 2, 160, 0, 7, 4, 167, 0, 4, 3, 172]
abbrev dktX8_isName_1 : List UInt8 := dkwX8_isName_1 ++ []
def dkwX8_isName_0 : List UInt8 := [42, 180, 0, 123, 5, 160, 0, 30, 42, 180, 0, 111, 42, 180, 0, 117, 100, 16, 8, 163, 0, 16, 42, 43]
abbrev dktX8_isName_0 : List UInt8 := dkwX8_isName_0 ++ dktX8_isName_1
theorem dksX8_isName_0 : cX8_isName.data.toList.drop 0 = dktX8_isName_0 := by decide +kernel
theorem dksX8_isName_1 : cX8_isName.data.toList.drop 24 = dktX8_isName_1 := dk_seg dksX8_isName_0 24 rfl rfl
theorem dX8_isName_0 : decode cX8_isName 0 = .ok (.aload_n 0, 1) := dk_42 (dk_at dksX8_isName_0 0 rfl rfl)
theorem dX8_isName_1 : decode cX8_isName 1 = .ok (.getfield 123, 3) := dk_180 0 123 (dk_at dksX8_isName_0 1 rfl rfl)
theorem dX8_isName_4 : decode cX8_isName 4 = .ok (.iconst 2, 1) := dk_5 (dk_at dksX8_isName_0 4 rfl rfl)
theorem dX8_isName_5 : decode cX8_isName 5 = .ok (.if_icmp .ne 30, 3) := dk_160 0 30 (dk_at dksX8_isName_0 5 rfl rfl)
theorem dX8_isName_8 : decode cX8_isName 8 = .ok (.aload_n 0, 1) := dk_42 (dk_at dksX8_isName_0 8 rfl rfl)
theorem dX8_isName_9 : decode cX8_isName 9 = .ok (.getfield 111, 3) := dk_180 0 111 (dk_at dksX8_isName_0 9 rfl rfl)
theorem dX8_isName_12 : decode cX8_isName 12 = .ok (.aload_n 0, 1) := dk_42 (dk_at dksX8_isName_0 12 rfl rfl)
theorem dX8_isName_13 : decode cX8_isName 13 = .ok (.getfield 117, 3) := dk_180 0 117 (dk_at dksX8_isName_0 13 rfl rfl)
theorem dX8_isName_16 : decode cX8_isName 16 = .ok (.isub, 1) := dk_100 (dk_at dksX8_isName_0 16 rfl rfl)
theorem dX8_isName_17 : decode cX8_isName 17 = .ok (.bipush 8, 2) := dk_16 8 (dk_at dksX8_isName_0 17 rfl rfl)
theorem dX8_isName_19 : decode cX8_isName 19 = .ok (.if_icmp .gt 16, 3) := dk_163 0 16 (dk_at dksX8_isName_0 19 rfl rfl)
theorem dX8_isName_22 : decode cX8_isName 22 = .ok (.aload_n 0, 1) := dk_42 (dk_at dksX8_isName_0 22 rfl rfl)
theorem dX8_isName_23 : decode cX8_isName 23 = .ok (.aload_n 1, 1) := dk_43 (dk_at dksX8_isName_0 23 rfl rfl)
theorem dX8_isName_24 : decode cX8_isName 24 = .ok (.invokevirtual 163, 3) := dk_182 0 163 (dk_at dksX8_isName_1 0 rfl rfl)
theorem dX8_isName_27 : decode cX8_isName 27 = .ok (.iconst (-1), 1) := dk_2 (dk_at dksX8_isName_1 3 rfl rfl)
theorem dX8_isName_28 : decode cX8_isName 28 = .ok (.if_icmp .ne 7, 3) := dk_160 0 7 (dk_at dksX8_isName_1 4 rfl rfl)
theorem dX8_isName_31 : decode cX8_isName 31 = .ok (.iconst 1, 1) := dk_4 (dk_at dksX8_isName_1 7 rfl rfl)
theorem dX8_isName_32 : decode cX8_isName 32 = .ok (.goto 4, 3) := dk_167 0 4 (dk_at dksX8_isName_1 8 rfl rfl)
theorem dX8_isName_35 : decode cX8_isName 35 = .ok (.iconst 0, 1) := dk_3 (dk_at dksX8_isName_1 11 rfl rfl)
theorem dX8_isName_36 : decode cX8_isName 36 = .ok (.ireturn, 1) := dk_172 (dk_at dksX8_isName_1 12 rfl rfl)
abbrev cX8_findHere : ByteArray := prog_17_method_34_code
def yX8_findHere : MethodName := ⟨RX8, "findHere", "(II)I"⟩
def dkwX8_findHere_1 : List UInt8 := [172, 132, 3, 1, 167, 255, 230, 2, 172]
abbrev dktX8_findHere_1 : List UInt8 := dkwX8_findHere_1 ++ []
def dkwX8_findHere_0 : List UInt8 := [3, 62, 29, 28, 162, 0, 27, 42, 180, 0, 13, 27, 29, 96, 47, 42, 182, 0, 167, 148, 154, 0, 5, 29]
abbrev dktX8_findHere_0 : List UInt8 := dkwX8_findHere_0 ++ dktX8_findHere_1
theorem dksX8_findHere_0 : cX8_findHere.data.toList.drop 0 = dktX8_findHere_0 := by decide +kernel
theorem dksX8_findHere_1 : cX8_findHere.data.toList.drop 24 = dktX8_findHere_1 := dk_seg dksX8_findHere_0 24 rfl rfl
theorem dX8_findHere_0 : decode cX8_findHere 0 = .ok (.iconst 0, 1) := dk_3 (dk_at dksX8_findHere_0 0 rfl rfl)
theorem dX8_findHere_1 : decode cX8_findHere 1 = .ok (.istore_n 3, 1) := dk_62 (dk_at dksX8_findHere_0 1 rfl rfl)
theorem dX8_findHere_2 : decode cX8_findHere 2 = .ok (.iload_n 3, 1) := dk_29 (dk_at dksX8_findHere_0 2 rfl rfl)
theorem dX8_findHere_3 : decode cX8_findHere 3 = .ok (.iload_n 2, 1) := dk_28 (dk_at dksX8_findHere_0 3 rfl rfl)
theorem dX8_findHere_4 : decode cX8_findHere 4 = .ok (.if_icmp .ge 27, 3) := dk_162 0 27 (dk_at dksX8_findHere_0 4 rfl rfl)
theorem dX8_findHere_7 : decode cX8_findHere 7 = .ok (.aload_n 0, 1) := dk_42 (dk_at dksX8_findHere_0 7 rfl rfl)
theorem dX8_findHere_8 : decode cX8_findHere 8 = .ok (.getfield 13, 3) := dk_180 0 13 (dk_at dksX8_findHere_0 8 rfl rfl)
theorem dX8_findHere_11 : decode cX8_findHere 11 = .ok (.iload_n 1, 1) := dk_27 (dk_at dksX8_findHere_0 11 rfl rfl)
theorem dX8_findHere_12 : decode cX8_findHere 12 = .ok (.iload_n 3, 1) := dk_29 (dk_at dksX8_findHere_0 12 rfl rfl)
theorem dX8_findHere_13 : decode cX8_findHere 13 = .ok (.iadd, 1) := dk_96 (dk_at dksX8_findHere_0 13 rfl rfl)
theorem dX8_findHere_14 : decode cX8_findHere 14 = .ok (.laload, 1) := dk_47 (dk_at dksX8_findHere_0 14 rfl rfl)
theorem dX8_findHere_15 : decode cX8_findHere 15 = .ok (.aload_n 0, 1) := dk_42 (dk_at dksX8_findHere_0 15 rfl rfl)
theorem dX8_findHere_16 : decode cX8_findHere 16 = .ok (.invokevirtual 167, 3) := dk_182 0 167 (dk_at dksX8_findHere_0 16 rfl rfl)
theorem dX8_findHere_19 : decode cX8_findHere 19 = .ok (.lcmp, 1) := dk_148 (dk_at dksX8_findHere_0 19 rfl rfl)
theorem dX8_findHere_20 : decode cX8_findHere 20 = .ok (.ifCond .ne 5, 3) := dk_154 0 5 (dk_at dksX8_findHere_0 20 rfl rfl)
theorem dX8_findHere_23 : decode cX8_findHere 23 = .ok (.iload_n 3, 1) := dk_29 (dk_at dksX8_findHere_0 23 rfl rfl)
theorem dX8_findHere_24 : decode cX8_findHere 24 = .ok (.ireturn, 1) := dk_172 (dk_at dksX8_findHere_1 0 rfl rfl)
theorem dX8_findHere_25 : decode cX8_findHere 25 = .ok (.iinc 3 1, 3) := dk_132 3 1 (dk_at dksX8_findHere_1 1 rfl rfl)
theorem dX8_findHere_28 : decode cX8_findHere 28 = .ok (.goto (-26), 3) := dk_167 255 230 (dk_at dksX8_findHere_1 4 rfl rfl)
theorem dX8_findHere_31 : decode cX8_findHere 31 = .ok (.iconst (-1), 1) := dk_2 (dk_at dksX8_findHere_1 7 rfl rfl)
theorem dX8_findHere_32 : decode cX8_findHere 32 = .ok (.ireturn, 1) := dk_172 (dk_at dksX8_findHere_1 8 rfl rfl)
abbrev cX8_nameHere : ByteArray := prog_17_method_33_code
def yX8_nameHere : MethodName := ⟨RX8, "nameHere", "()J"⟩
def dkwX8_nameHere_1 : List UInt8 := [133, 129, 64, 132, 3, 1, 167, 255, 233, 31, 173]
abbrev dktX8_nameHere_1 : List UInt8 := dkwX8_nameHere_1 ++ []
def dkwX8_nameHere_0 : List UInt8 := [9, 64, 42, 180, 0, 117, 62, 29, 42, 180, 0, 111, 162, 0, 21, 31, 16, 8, 121, 42, 29, 182, 0, 114]
abbrev dktX8_nameHere_0 : List UInt8 := dkwX8_nameHere_0 ++ dktX8_nameHere_1
theorem dksX8_nameHere_0 : cX8_nameHere.data.toList.drop 0 = dktX8_nameHere_0 := by decide +kernel
theorem dksX8_nameHere_1 : cX8_nameHere.data.toList.drop 24 = dktX8_nameHere_1 := dk_seg dksX8_nameHere_0 24 rfl rfl
theorem dX8_nameHere_0 : decode cX8_nameHere 0 = .ok (.lconst 0, 1) := dk_9 (dk_at dksX8_nameHere_0 0 rfl rfl)
theorem dX8_nameHere_1 : decode cX8_nameHere 1 = .ok (.lstore_n 1, 1) := dk_64 (dk_at dksX8_nameHere_0 1 rfl rfl)
theorem dX8_nameHere_2 : decode cX8_nameHere 2 = .ok (.aload_n 0, 1) := dk_42 (dk_at dksX8_nameHere_0 2 rfl rfl)
theorem dX8_nameHere_3 : decode cX8_nameHere 3 = .ok (.getfield 117, 3) := dk_180 0 117 (dk_at dksX8_nameHere_0 3 rfl rfl)
theorem dX8_nameHere_6 : decode cX8_nameHere 6 = .ok (.istore_n 3, 1) := dk_62 (dk_at dksX8_nameHere_0 6 rfl rfl)
theorem dX8_nameHere_7 : decode cX8_nameHere 7 = .ok (.iload_n 3, 1) := dk_29 (dk_at dksX8_nameHere_0 7 rfl rfl)
theorem dX8_nameHere_8 : decode cX8_nameHere 8 = .ok (.aload_n 0, 1) := dk_42 (dk_at dksX8_nameHere_0 8 rfl rfl)
theorem dX8_nameHere_9 : decode cX8_nameHere 9 = .ok (.getfield 111, 3) := dk_180 0 111 (dk_at dksX8_nameHere_0 9 rfl rfl)
theorem dX8_nameHere_12 : decode cX8_nameHere 12 = .ok (.if_icmp .ge 21, 3) := dk_162 0 21 (dk_at dksX8_nameHere_0 12 rfl rfl)
theorem dX8_nameHere_15 : decode cX8_nameHere 15 = .ok (.lload_n 1, 1) := dk_31 (dk_at dksX8_nameHere_0 15 rfl rfl)
theorem dX8_nameHere_16 : decode cX8_nameHere 16 = .ok (.bipush 8, 2) := dk_16 8 (dk_at dksX8_nameHere_0 16 rfl rfl)
theorem dX8_nameHere_18 : decode cX8_nameHere 18 = .ok (.lshl, 1) := dk_121 (dk_at dksX8_nameHere_0 18 rfl rfl)
theorem dX8_nameHere_19 : decode cX8_nameHere 19 = .ok (.aload_n 0, 1) := dk_42 (dk_at dksX8_nameHere_0 19 rfl rfl)
theorem dX8_nameHere_20 : decode cX8_nameHere 20 = .ok (.iload_n 3, 1) := dk_29 (dk_at dksX8_nameHere_0 20 rfl rfl)
theorem dX8_nameHere_21 : decode cX8_nameHere 21 = .ok (.invokevirtual 114, 3) := dk_182 0 114 (dk_at dksX8_nameHere_0 21 rfl rfl)
theorem dX8_nameHere_24 : decode cX8_nameHere 24 = .ok (.i2l, 1) := dk_133 (dk_at dksX8_nameHere_1 0 rfl rfl)
theorem dX8_nameHere_25 : decode cX8_nameHere 25 = .ok (.lor, 1) := dk_129 (dk_at dksX8_nameHere_1 1 rfl rfl)
theorem dX8_nameHere_26 : decode cX8_nameHere 26 = .ok (.lstore_n 1, 1) := dk_64 (dk_at dksX8_nameHere_1 2 rfl rfl)
theorem dX8_nameHere_27 : decode cX8_nameHere 27 = .ok (.iinc 3 1, 3) := dk_132 3 1 (dk_at dksX8_nameHere_1 3 rfl rfl)
theorem dX8_nameHere_30 : decode cX8_nameHere 30 = .ok (.goto (-23), 3) := dk_167 255 233 (dk_at dksX8_nameHere_1 6 rfl rfl)
theorem dX8_nameHere_33 : decode cX8_nameHere 33 = .ok (.lload_n 1, 1) := dk_31 (dk_at dksX8_nameHere_1 9 rfl rfl)
theorem dX8_nameHere_34 : decode cX8_nameHere 34 = .ok (.lreturn, 1) := dk_173 (dk_at dksX8_nameHere_1 10 rfl rfl)
abbrev cX8_atCell : ByteArray := prog_17_method_44_code
def yX8_atCell : MethodName := ⟨RX8, "atCell", "(I)Z"⟩
def dkwX8_atCell_1 : List UInt8 := [182, 0, 191, 153, 0, 7, 4, 167, 0, 4, 3, 172]
abbrev dktX8_atCell_1 : List UInt8 := dkwX8_atCell_1 ++ []
def dkwX8_atCell_0 : List UInt8 := [42, 18, 178, 16, 7, 182, 0, 187, 153, 0, 26, 42, 27, 3, 42, 180, 0, 7, 17, 21, 224, 46, 4, 100]
abbrev dktX8_atCell_0 : List UInt8 := dkwX8_atCell_0 ++ dktX8_atCell_1
theorem dksX8_atCell_0 : cX8_atCell.data.toList.drop 0 = dktX8_atCell_0 := by decide +kernel
theorem dksX8_atCell_1 : cX8_atCell.data.toList.drop 24 = dktX8_atCell_1 := dk_seg dksX8_atCell_0 24 rfl rfl
theorem dX8_atCell_0 : decode cX8_atCell 0 = .ok (.aload_n 0, 1) := dk_42 (dk_at dksX8_atCell_0 0 rfl rfl)
theorem dX8_atCell_1 : decode cX8_atCell 1 = .ok (.ldc 178, 2) := dk_18 178 (dk_at dksX8_atCell_0 1 rfl rfl)
theorem dX8_atCell_3 : decode cX8_atCell 3 = .ok (.bipush 7, 2) := dk_16 7 (dk_at dksX8_atCell_0 3 rfl rfl)
theorem dX8_atCell_5 : decode cX8_atCell 5 = .ok (.invokevirtual 187, 3) := dk_182 0 187 (dk_at dksX8_atCell_0 5 rfl rfl)
theorem dX8_atCell_8 : decode cX8_atCell 8 = .ok (.ifCond .eq 26, 3) := dk_153 0 26 (dk_at dksX8_atCell_0 8 rfl rfl)
theorem dX8_atCell_11 : decode cX8_atCell 11 = .ok (.aload_n 0, 1) := dk_42 (dk_at dksX8_atCell_0 11 rfl rfl)
theorem dX8_atCell_12 : decode cX8_atCell 12 = .ok (.iload_n 1, 1) := dk_27 (dk_at dksX8_atCell_0 12 rfl rfl)
theorem dX8_atCell_13 : decode cX8_atCell 13 = .ok (.iconst 0, 1) := dk_3 (dk_at dksX8_atCell_0 13 rfl rfl)
theorem dX8_atCell_14 : decode cX8_atCell 14 = .ok (.aload_n 0, 1) := dk_42 (dk_at dksX8_atCell_0 14 rfl rfl)
theorem dX8_atCell_15 : decode cX8_atCell 15 = .ok (.getfield 7, 3) := dk_180 0 7 (dk_at dksX8_atCell_0 15 rfl rfl)
theorem dX8_atCell_18 : decode cX8_atCell 18 = .ok (.sipush 5600, 3) := dk_17 21 224 (dk_at dksX8_atCell_0 18 rfl rfl)
theorem dX8_atCell_21 : decode cX8_atCell 21 = .ok (.iaload, 1) := dk_46 (dk_at dksX8_atCell_0 21 rfl rfl)
theorem dX8_atCell_22 : decode cX8_atCell 22 = .ok (.iconst 1, 1) := dk_4 (dk_at dksX8_atCell_0 22 rfl rfl)
theorem dX8_atCell_23 : decode cX8_atCell 23 = .ok (.isub, 1) := dk_100 (dk_at dksX8_atCell_0 23 rfl rfl)
theorem dX8_atCell_24 : decode cX8_atCell 24 = .ok (.invokevirtual 191, 3) := dk_182 0 191 (dk_at dksX8_atCell_1 0 rfl rfl)
theorem dX8_atCell_27 : decode cX8_atCell 27 = .ok (.ifCond .eq 7, 3) := dk_153 0 7 (dk_at dksX8_atCell_1 3 rfl rfl)
theorem dX8_atCell_30 : decode cX8_atCell 30 = .ok (.iconst 1, 1) := dk_4 (dk_at dksX8_atCell_1 6 rfl rfl)
theorem dX8_atCell_31 : decode cX8_atCell 31 = .ok (.goto 4, 3) := dk_167 0 4 (dk_at dksX8_atCell_1 7 rfl rfl)
theorem dX8_atCell_34 : decode cX8_atCell 34 = .ok (.iconst 0, 1) := dk_3 (dk_at dksX8_atCell_1 10 rfl rfl)
theorem dX8_atCell_35 : decode cX8_atCell 35 = .ok (.ireturn, 1) := dk_172 (dk_at dksX8_atCell_1 11 rfl rfl)
abbrev cX8_aFind : ByteArray := prog_17_method_46_code
def yX8_aFind : MethodName := ⟨RX8, "aFind", "()Z"⟩
def dkwX8_aFind_4 : List UInt8 := [79, 4, 172]
abbrev dktX8_aFind_4 : List UInt8 := dkwX8_aFind_4 ++ []
def dkwX8_aFind_3 : List UInt8 := [46, 4, 42, 180, 0, 7, 17, 21, 226, 46, 120, 128, 79, 42, 180, 0, 7, 17, 21, 226, 92, 46, 4, 96]
abbrev dktX8_aFind_3 : List UInt8 := dkwX8_aFind_3 ++ dktX8_aFind_4
def dkwX8_aFind_2 : List UInt8 := [42, 27, 4, 96, 3, 17, 3, 231, 182, 0, 191, 154, 0, 5, 3, 172, 42, 180, 0, 7, 17, 21, 231, 92]
abbrev dktX8_aFind_2 : List UInt8 := dkwX8_aFind_2 ++ dktX8_aFind_3
def dkwX8_aFind_1 : List UInt8 := [153, 0, 11, 42, 27, 182, 0, 201, 154, 0, 5, 3, 172, 42, 18, 178, 16, 10, 182, 0, 187, 153, 0, 17]
abbrev dktX8_aFind_1 : List UInt8 := dkwX8_aFind_1 ++ dktX8_aFind_2
def dkwX8_aFind_0 : List UInt8 := [17, 21, 224, 42, 180, 0, 7, 17, 21, 226, 46, 184, 0, 171, 60, 42, 5, 16, 8, 16, 6, 182, 0, 198]
abbrev dktX8_aFind_0 : List UInt8 := dkwX8_aFind_0 ++ dktX8_aFind_1
theorem dksX8_aFind_0 : cX8_aFind.data.toList.drop 0 = dktX8_aFind_0 := by decide +kernel
theorem dksX8_aFind_1 : cX8_aFind.data.toList.drop 24 = dktX8_aFind_1 := dk_seg dksX8_aFind_0 24 rfl rfl
theorem dksX8_aFind_2 : cX8_aFind.data.toList.drop 48 = dktX8_aFind_2 := dk_seg dksX8_aFind_1 24 rfl rfl
theorem dksX8_aFind_3 : cX8_aFind.data.toList.drop 72 = dktX8_aFind_3 := dk_seg dksX8_aFind_2 24 rfl rfl
theorem dksX8_aFind_4 : cX8_aFind.data.toList.drop 96 = dktX8_aFind_4 := dk_seg dksX8_aFind_3 24 rfl rfl
theorem dX8_aFind_0 : decode cX8_aFind 0 = .ok (.sipush 5600, 3) := dk_17 21 224 (dk_at dksX8_aFind_0 0 rfl rfl)
theorem dX8_aFind_3 : decode cX8_aFind 3 = .ok (.aload_n 0, 1) := dk_42 (dk_at dksX8_aFind_0 3 rfl rfl)
theorem dX8_aFind_4 : decode cX8_aFind 4 = .ok (.getfield 7, 3) := dk_180 0 7 (dk_at dksX8_aFind_0 4 rfl rfl)
theorem dX8_aFind_7 : decode cX8_aFind 7 = .ok (.sipush 5602, 3) := dk_17 21 226 (dk_at dksX8_aFind_0 7 rfl rfl)
theorem dX8_aFind_10 : decode cX8_aFind 10 = .ok (.iaload, 1) := dk_46 (dk_at dksX8_aFind_0 10 rfl rfl)
theorem dX8_aFind_11 : decode cX8_aFind 11 = .ok (.invokestatic 171, 3) := dk_184 0 171 (dk_at dksX8_aFind_0 11 rfl rfl)
theorem dX8_aFind_14 : decode cX8_aFind 14 = .ok (.istore_n 1, 1) := dk_60 (dk_at dksX8_aFind_0 14 rfl rfl)
theorem dX8_aFind_15 : decode cX8_aFind 15 = .ok (.aload_n 0, 1) := dk_42 (dk_at dksX8_aFind_0 15 rfl rfl)
theorem dX8_aFind_16 : decode cX8_aFind 16 = .ok (.iconst 2, 1) := dk_5 (dk_at dksX8_aFind_0 16 rfl rfl)
theorem dX8_aFind_17 : decode cX8_aFind 17 = .ok (.bipush 8, 2) := dk_16 8 (dk_at dksX8_aFind_0 17 rfl rfl)
theorem dX8_aFind_19 : decode cX8_aFind 19 = .ok (.bipush 6, 2) := dk_16 6 (dk_at dksX8_aFind_0 19 rfl rfl)
theorem dX8_aFind_21 : decode cX8_aFind 21 = .ok (.invokevirtual 198, 3) := dk_182 0 198 (dk_at dksX8_aFind_0 21 rfl rfl)
theorem dX8_aFind_24 : decode cX8_aFind 24 = .ok (.ifCond .eq 11, 3) := dk_153 0 11 (dk_at dksX8_aFind_1 0 rfl rfl)
theorem dX8_aFind_27 : decode cX8_aFind 27 = .ok (.aload_n 0, 1) := dk_42 (dk_at dksX8_aFind_1 3 rfl rfl)
theorem dX8_aFind_28 : decode cX8_aFind 28 = .ok (.iload_n 1, 1) := dk_27 (dk_at dksX8_aFind_1 4 rfl rfl)
theorem dX8_aFind_29 : decode cX8_aFind 29 = .ok (.invokevirtual 201, 3) := dk_182 0 201 (dk_at dksX8_aFind_1 5 rfl rfl)
theorem dX8_aFind_32 : decode cX8_aFind 32 = .ok (.ifCond .ne 5, 3) := dk_154 0 5 (dk_at dksX8_aFind_1 8 rfl rfl)
theorem dX8_aFind_35 : decode cX8_aFind 35 = .ok (.iconst 0, 1) := dk_3 (dk_at dksX8_aFind_1 11 rfl rfl)
theorem dX8_aFind_36 : decode cX8_aFind 36 = .ok (.ireturn, 1) := dk_172 (dk_at dksX8_aFind_1 12 rfl rfl)
theorem dX8_aFind_37 : decode cX8_aFind 37 = .ok (.aload_n 0, 1) := dk_42 (dk_at dksX8_aFind_1 13 rfl rfl)
theorem dX8_aFind_38 : decode cX8_aFind 38 = .ok (.ldc 178, 2) := dk_18 178 (dk_at dksX8_aFind_1 14 rfl rfl)
theorem dX8_aFind_40 : decode cX8_aFind 40 = .ok (.bipush 10, 2) := dk_16 10 (dk_at dksX8_aFind_1 16 rfl rfl)
theorem dX8_aFind_42 : decode cX8_aFind 42 = .ok (.invokevirtual 187, 3) := dk_182 0 187 (dk_at dksX8_aFind_1 18 rfl rfl)
theorem dX8_aFind_45 : decode cX8_aFind 45 = .ok (.ifCond .eq 17, 3) := dk_153 0 17 (dk_at dksX8_aFind_1 21 rfl rfl)
theorem dX8_aFind_48 : decode cX8_aFind 48 = .ok (.aload_n 0, 1) := dk_42 (dk_at dksX8_aFind_2 0 rfl rfl)
theorem dX8_aFind_49 : decode cX8_aFind 49 = .ok (.iload_n 1, 1) := dk_27 (dk_at dksX8_aFind_2 1 rfl rfl)
theorem dX8_aFind_50 : decode cX8_aFind 50 = .ok (.iconst 1, 1) := dk_4 (dk_at dksX8_aFind_2 2 rfl rfl)
theorem dX8_aFind_51 : decode cX8_aFind 51 = .ok (.iadd, 1) := dk_96 (dk_at dksX8_aFind_2 3 rfl rfl)
theorem dX8_aFind_52 : decode cX8_aFind 52 = .ok (.iconst 0, 1) := dk_3 (dk_at dksX8_aFind_2 4 rfl rfl)
theorem dX8_aFind_53 : decode cX8_aFind 53 = .ok (.sipush 999, 3) := dk_17 3 231 (dk_at dksX8_aFind_2 5 rfl rfl)
theorem dX8_aFind_56 : decode cX8_aFind 56 = .ok (.invokevirtual 191, 3) := dk_182 0 191 (dk_at dksX8_aFind_2 8 rfl rfl)
theorem dX8_aFind_59 : decode cX8_aFind 59 = .ok (.ifCond .ne 5, 3) := dk_154 0 5 (dk_at dksX8_aFind_2 11 rfl rfl)
theorem dX8_aFind_62 : decode cX8_aFind 62 = .ok (.iconst 0, 1) := dk_3 (dk_at dksX8_aFind_2 14 rfl rfl)
theorem dX8_aFind_63 : decode cX8_aFind 63 = .ok (.ireturn, 1) := dk_172 (dk_at dksX8_aFind_2 15 rfl rfl)
theorem dX8_aFind_64 : decode cX8_aFind 64 = .ok (.aload_n 0, 1) := dk_42 (dk_at dksX8_aFind_2 16 rfl rfl)
theorem dX8_aFind_65 : decode cX8_aFind 65 = .ok (.getfield 7, 3) := dk_180 0 7 (dk_at dksX8_aFind_2 17 rfl rfl)
theorem dX8_aFind_68 : decode cX8_aFind 68 = .ok (.sipush 5607, 3) := dk_17 21 231 (dk_at dksX8_aFind_2 20 rfl rfl)
theorem dX8_aFind_71 : decode cX8_aFind 71 = .ok (.dup2, 1) := dk_92 (dk_at dksX8_aFind_2 23 rfl rfl)
theorem dX8_aFind_72 : decode cX8_aFind 72 = .ok (.iaload, 1) := dk_46 (dk_at dksX8_aFind_3 0 rfl rfl)
theorem dX8_aFind_73 : decode cX8_aFind 73 = .ok (.iconst 1, 1) := dk_4 (dk_at dksX8_aFind_3 1 rfl rfl)
theorem dX8_aFind_74 : decode cX8_aFind 74 = .ok (.aload_n 0, 1) := dk_42 (dk_at dksX8_aFind_3 2 rfl rfl)
theorem dX8_aFind_75 : decode cX8_aFind 75 = .ok (.getfield 7, 3) := dk_180 0 7 (dk_at dksX8_aFind_3 3 rfl rfl)
theorem dX8_aFind_78 : decode cX8_aFind 78 = .ok (.sipush 5602, 3) := dk_17 21 226 (dk_at dksX8_aFind_3 6 rfl rfl)
theorem dX8_aFind_81 : decode cX8_aFind 81 = .ok (.iaload, 1) := dk_46 (dk_at dksX8_aFind_3 9 rfl rfl)
theorem dX8_aFind_82 : decode cX8_aFind 82 = .ok (.ishl, 1) := dk_120 (dk_at dksX8_aFind_3 10 rfl rfl)
theorem dX8_aFind_83 : decode cX8_aFind 83 = .ok (.ior, 1) := dk_128 (dk_at dksX8_aFind_3 11 rfl rfl)
theorem dX8_aFind_84 : decode cX8_aFind 84 = .ok (.iastore, 1) := dk_79 (dk_at dksX8_aFind_3 12 rfl rfl)
theorem dX8_aFind_85 : decode cX8_aFind 85 = .ok (.aload_n 0, 1) := dk_42 (dk_at dksX8_aFind_3 13 rfl rfl)
theorem dX8_aFind_86 : decode cX8_aFind 86 = .ok (.getfield 7, 3) := dk_180 0 7 (dk_at dksX8_aFind_3 14 rfl rfl)
theorem dX8_aFind_89 : decode cX8_aFind 89 = .ok (.sipush 5602, 3) := dk_17 21 226 (dk_at dksX8_aFind_3 17 rfl rfl)
theorem dX8_aFind_92 : decode cX8_aFind 92 = .ok (.dup2, 1) := dk_92 (dk_at dksX8_aFind_3 20 rfl rfl)
theorem dX8_aFind_93 : decode cX8_aFind 93 = .ok (.iaload, 1) := dk_46 (dk_at dksX8_aFind_3 21 rfl rfl)
theorem dX8_aFind_94 : decode cX8_aFind 94 = .ok (.iconst 1, 1) := dk_4 (dk_at dksX8_aFind_3 22 rfl rfl)
theorem dX8_aFind_95 : decode cX8_aFind 95 = .ok (.iadd, 1) := dk_96 (dk_at dksX8_aFind_3 23 rfl rfl)
theorem dX8_aFind_96 : decode cX8_aFind 96 = .ok (.iastore, 1) := dk_79 (dk_at dksX8_aFind_4 0 rfl rfl)
theorem dX8_aFind_97 : decode cX8_aFind 97 = .ok (.iconst 1, 1) := dk_4 (dk_at dksX8_aFind_4 1 rfl rfl)
theorem dX8_aFind_98 : decode cX8_aFind 98 = .ok (.ireturn, 1) := dk_172 (dk_at dksX8_aFind_4 2 rfl rfl)
abbrev cX8_findRow : ByteArray := prog_17_method_37_code
def yX8_findRow : MethodName := ⟨RX8, "findRow", "(II)I"⟩
def dkwX8_findRow_0 : List UInt8 := [26, 16, 40, 96, 6, 27, 104, 96, 172]
abbrev dktX8_findRow_0 : List UInt8 := dkwX8_findRow_0 ++ []
theorem dksX8_findRow_0 : cX8_findRow.data.toList.drop 0 = dktX8_findRow_0 := by decide +kernel
theorem dX8_findRow_0 : decode cX8_findRow 0 = .ok (.iload_n 0, 1) := dk_26 (dk_at dksX8_findRow_0 0 rfl rfl)
theorem dX8_findRow_1 : decode cX8_findRow 1 = .ok (.bipush 40, 2) := dk_16 40 (dk_at dksX8_findRow_0 1 rfl rfl)
theorem dX8_findRow_3 : decode cX8_findRow 3 = .ok (.iadd, 1) := dk_96 (dk_at dksX8_findRow_0 3 rfl rfl)
theorem dX8_findRow_4 : decode cX8_findRow 4 = .ok (.iconst 3, 1) := dk_6 (dk_at dksX8_findRow_0 4 rfl rfl)
theorem dX8_findRow_5 : decode cX8_findRow 5 = .ok (.iload_n 1, 1) := dk_27 (dk_at dksX8_findRow_0 5 rfl rfl)
theorem dX8_findRow_6 : decode cX8_findRow 6 = .ok (.imul, 1) := dk_104 (dk_at dksX8_findRow_0 6 rfl rfl)
theorem dX8_findRow_7 : decode cX8_findRow 7 = .ok (.iadd, 1) := dk_96 (dk_at dksX8_findRow_0 7 rfl rfl)
theorem dX8_findRow_8 : decode cX8_findRow 8 = .ok (.ireturn, 1) := dk_172 (dk_at dksX8_findRow_0 8 rfl rfl)
abbrev cX8_aPebble : ByteArray := prog_17_method_47_code
def yX8_aPebble : MethodName := ⟨RX8, "aPebble", "()Z"⟩
def dkwX8_aPebble_6 : List UInt8 := [46, 42, 180, 0, 7, 17, 27, 85, 46, 182, 0, 210, 42, 89, 180, 0, 204, 4, 96, 181, 0, 204, 4, 172]
abbrev dktX8_aPebble_6 : List UInt8 := dkwX8_aPebble_6 ++ []
def dkwX8_aPebble_5 : List UInt8 := [154, 0, 5, 3, 172, 42, 17, 21, 224, 42, 180, 0, 7, 17, 27, 84, 46, 42, 180, 0, 7, 17, 27, 83]
abbrev dktX8_aPebble_5 : List UInt8 := dkwX8_aPebble_5 ++ dktX8_aPebble_6
def dkwX8_aPebble_4 : List UInt8 := [182, 0, 187, 153, 0, 22, 42, 17, 27, 85, 3, 42, 180, 0, 7, 17, 21, 227, 46, 182, 0, 191]
abbrev dktX8_aPebble_4 : List UInt8 := dkwX8_aPebble_4 ++ dktX8_aPebble_5
def dkwX8_aPebble_3 : List UInt8 := [180, 0, 7, 17, 21, 226, 46, 17, 27, 84, 182, 0, 207, 154, 0, 5, 3, 172, 42, 18, 178, 16, 7]
abbrev dktX8_aPebble_3 : List UInt8 := dkwX8_aPebble_3 ++ dktX8_aPebble_4
def dkwX8_aPebble_2 : List UInt8 := [182, 0, 207, 154, 0, 5, 3, 172, 42, 18, 178, 16, 12, 182, 0, 187, 153, 0, 23, 42, 16, 62, 42]
abbrev dktX8_aPebble_2 : List UInt8 := dkwX8_aPebble_2 ++ dktX8_aPebble_3
def dkwX8_aPebble_1 : List UInt8 := [16, 11, 182, 0, 187, 153, 0, 23, 42, 16, 56, 42, 180, 0, 7, 17, 21, 225, 46, 17, 27, 83]
abbrev dktX8_aPebble_1 : List UInt8 := dkwX8_aPebble_1 ++ dktX8_aPebble_2
def dkwX8_aPebble_0 : List UInt8 := [42, 180, 0, 204, 16, 30, 160, 0, 10, 42, 16, 6, 182, 0, 160, 172, 42, 182, 0, 154, 42, 18, 178]
abbrev dktX8_aPebble_0 : List UInt8 := dkwX8_aPebble_0 ++ dktX8_aPebble_1
theorem dksX8_aPebble_0 : cX8_aPebble.data.toList.drop 0 = dktX8_aPebble_0 := by decide +kernel
theorem dksX8_aPebble_1 : cX8_aPebble.data.toList.drop 23 = dktX8_aPebble_1 := dk_seg dksX8_aPebble_0 23 rfl rfl
theorem dksX8_aPebble_2 : cX8_aPebble.data.toList.drop 45 = dktX8_aPebble_2 := dk_seg dksX8_aPebble_1 22 rfl rfl
theorem dksX8_aPebble_3 : cX8_aPebble.data.toList.drop 68 = dktX8_aPebble_3 := dk_seg dksX8_aPebble_2 23 rfl rfl
theorem dksX8_aPebble_4 : cX8_aPebble.data.toList.drop 91 = dktX8_aPebble_4 := dk_seg dksX8_aPebble_3 23 rfl rfl
theorem dksX8_aPebble_5 : cX8_aPebble.data.toList.drop 113 = dktX8_aPebble_5 := dk_seg dksX8_aPebble_4 22 rfl rfl
theorem dksX8_aPebble_6 : cX8_aPebble.data.toList.drop 137 = dktX8_aPebble_6 := dk_seg dksX8_aPebble_5 24 rfl rfl
theorem dX8_aPebble_0 : decode cX8_aPebble 0 = .ok (.aload_n 0, 1) := dk_42 (dk_at dksX8_aPebble_0 0 rfl rfl)
theorem dX8_aPebble_1 : decode cX8_aPebble 1 = .ok (.getfield 204, 3) := dk_180 0 204 (dk_at dksX8_aPebble_0 1 rfl rfl)
theorem dX8_aPebble_4 : decode cX8_aPebble 4 = .ok (.bipush 30, 2) := dk_16 30 (dk_at dksX8_aPebble_0 4 rfl rfl)
theorem dX8_aPebble_6 : decode cX8_aPebble 6 = .ok (.if_icmp .ne 10, 3) := dk_160 0 10 (dk_at dksX8_aPebble_0 6 rfl rfl)
theorem dX8_aPebble_9 : decode cX8_aPebble 9 = .ok (.aload_n 0, 1) := dk_42 (dk_at dksX8_aPebble_0 9 rfl rfl)
theorem dX8_aPebble_10 : decode cX8_aPebble 10 = .ok (.bipush 6, 2) := dk_16 6 (dk_at dksX8_aPebble_0 10 rfl rfl)
theorem dX8_aPebble_12 : decode cX8_aPebble 12 = .ok (.invokevirtual 160, 3) := dk_182 0 160 (dk_at dksX8_aPebble_0 12 rfl rfl)
theorem dX8_aPebble_15 : decode cX8_aPebble 15 = .ok (.ireturn, 1) := dk_172 (dk_at dksX8_aPebble_0 15 rfl rfl)
theorem dX8_aPebble_16 : decode cX8_aPebble 16 = .ok (.aload_n 0, 1) := dk_42 (dk_at dksX8_aPebble_0 16 rfl rfl)
theorem dX8_aPebble_17 : decode cX8_aPebble 17 = .ok (.invokevirtual 154, 3) := dk_182 0 154 (dk_at dksX8_aPebble_0 17 rfl rfl)
theorem dX8_aPebble_20 : decode cX8_aPebble 20 = .ok (.aload_n 0, 1) := dk_42 (dk_at dksX8_aPebble_0 20 rfl rfl)
theorem dX8_aPebble_21 : decode cX8_aPebble 21 = .ok (.ldc 178, 2) := dk_18 178 (dk_at dksX8_aPebble_0 21 rfl rfl)
theorem dX8_aPebble_23 : decode cX8_aPebble 23 = .ok (.bipush 11, 2) := dk_16 11 (dk_at dksX8_aPebble_1 0 rfl rfl)
theorem dX8_aPebble_25 : decode cX8_aPebble 25 = .ok (.invokevirtual 187, 3) := dk_182 0 187 (dk_at dksX8_aPebble_1 2 rfl rfl)
theorem dX8_aPebble_28 : decode cX8_aPebble 28 = .ok (.ifCond .eq 23, 3) := dk_153 0 23 (dk_at dksX8_aPebble_1 5 rfl rfl)
theorem dX8_aPebble_31 : decode cX8_aPebble 31 = .ok (.aload_n 0, 1) := dk_42 (dk_at dksX8_aPebble_1 8 rfl rfl)
theorem dX8_aPebble_32 : decode cX8_aPebble 32 = .ok (.bipush 56, 2) := dk_16 56 (dk_at dksX8_aPebble_1 9 rfl rfl)
theorem dX8_aPebble_34 : decode cX8_aPebble 34 = .ok (.aload_n 0, 1) := dk_42 (dk_at dksX8_aPebble_1 11 rfl rfl)
theorem dX8_aPebble_35 : decode cX8_aPebble 35 = .ok (.getfield 7, 3) := dk_180 0 7 (dk_at dksX8_aPebble_1 12 rfl rfl)
theorem dX8_aPebble_38 : decode cX8_aPebble 38 = .ok (.sipush 5601, 3) := dk_17 21 225 (dk_at dksX8_aPebble_1 15 rfl rfl)
theorem dX8_aPebble_41 : decode cX8_aPebble 41 = .ok (.iaload, 1) := dk_46 (dk_at dksX8_aPebble_1 18 rfl rfl)
theorem dX8_aPebble_42 : decode cX8_aPebble 42 = .ok (.sipush 6995, 3) := dk_17 27 83 (dk_at dksX8_aPebble_1 19 rfl rfl)
theorem dX8_aPebble_45 : decode cX8_aPebble 45 = .ok (.invokevirtual 207, 3) := dk_182 0 207 (dk_at dksX8_aPebble_2 0 rfl rfl)
theorem dX8_aPebble_48 : decode cX8_aPebble 48 = .ok (.ifCond .ne 5, 3) := dk_154 0 5 (dk_at dksX8_aPebble_2 3 rfl rfl)
theorem dX8_aPebble_51 : decode cX8_aPebble 51 = .ok (.iconst 0, 1) := dk_3 (dk_at dksX8_aPebble_2 6 rfl rfl)
theorem dX8_aPebble_52 : decode cX8_aPebble 52 = .ok (.ireturn, 1) := dk_172 (dk_at dksX8_aPebble_2 7 rfl rfl)
theorem dX8_aPebble_53 : decode cX8_aPebble 53 = .ok (.aload_n 0, 1) := dk_42 (dk_at dksX8_aPebble_2 8 rfl rfl)
theorem dX8_aPebble_54 : decode cX8_aPebble 54 = .ok (.ldc 178, 2) := dk_18 178 (dk_at dksX8_aPebble_2 9 rfl rfl)
theorem dX8_aPebble_56 : decode cX8_aPebble 56 = .ok (.bipush 12, 2) := dk_16 12 (dk_at dksX8_aPebble_2 11 rfl rfl)
theorem dX8_aPebble_58 : decode cX8_aPebble 58 = .ok (.invokevirtual 187, 3) := dk_182 0 187 (dk_at dksX8_aPebble_2 13 rfl rfl)
theorem dX8_aPebble_61 : decode cX8_aPebble 61 = .ok (.ifCond .eq 23, 3) := dk_153 0 23 (dk_at dksX8_aPebble_2 16 rfl rfl)
theorem dX8_aPebble_64 : decode cX8_aPebble 64 = .ok (.aload_n 0, 1) := dk_42 (dk_at dksX8_aPebble_2 19 rfl rfl)
theorem dX8_aPebble_65 : decode cX8_aPebble 65 = .ok (.bipush 62, 2) := dk_16 62 (dk_at dksX8_aPebble_2 20 rfl rfl)
theorem dX8_aPebble_67 : decode cX8_aPebble 67 = .ok (.aload_n 0, 1) := dk_42 (dk_at dksX8_aPebble_2 22 rfl rfl)
theorem dX8_aPebble_68 : decode cX8_aPebble 68 = .ok (.getfield 7, 3) := dk_180 0 7 (dk_at dksX8_aPebble_3 0 rfl rfl)
theorem dX8_aPebble_71 : decode cX8_aPebble 71 = .ok (.sipush 5602, 3) := dk_17 21 226 (dk_at dksX8_aPebble_3 3 rfl rfl)
theorem dX8_aPebble_74 : decode cX8_aPebble 74 = .ok (.iaload, 1) := dk_46 (dk_at dksX8_aPebble_3 6 rfl rfl)
theorem dX8_aPebble_75 : decode cX8_aPebble 75 = .ok (.sipush 6996, 3) := dk_17 27 84 (dk_at dksX8_aPebble_3 7 rfl rfl)
theorem dX8_aPebble_78 : decode cX8_aPebble 78 = .ok (.invokevirtual 207, 3) := dk_182 0 207 (dk_at dksX8_aPebble_3 10 rfl rfl)
theorem dX8_aPebble_81 : decode cX8_aPebble 81 = .ok (.ifCond .ne 5, 3) := dk_154 0 5 (dk_at dksX8_aPebble_3 13 rfl rfl)
theorem dX8_aPebble_84 : decode cX8_aPebble 84 = .ok (.iconst 0, 1) := dk_3 (dk_at dksX8_aPebble_3 16 rfl rfl)
theorem dX8_aPebble_85 : decode cX8_aPebble 85 = .ok (.ireturn, 1) := dk_172 (dk_at dksX8_aPebble_3 17 rfl rfl)
theorem dX8_aPebble_86 : decode cX8_aPebble 86 = .ok (.aload_n 0, 1) := dk_42 (dk_at dksX8_aPebble_3 18 rfl rfl)
theorem dX8_aPebble_87 : decode cX8_aPebble 87 = .ok (.ldc 178, 2) := dk_18 178 (dk_at dksX8_aPebble_3 19 rfl rfl)
theorem dX8_aPebble_89 : decode cX8_aPebble 89 = .ok (.bipush 7, 2) := dk_16 7 (dk_at dksX8_aPebble_3 21 rfl rfl)
theorem dX8_aPebble_91 : decode cX8_aPebble 91 = .ok (.invokevirtual 187, 3) := dk_182 0 187 (dk_at dksX8_aPebble_4 0 rfl rfl)
theorem dX8_aPebble_94 : decode cX8_aPebble 94 = .ok (.ifCond .eq 22, 3) := dk_153 0 22 (dk_at dksX8_aPebble_4 3 rfl rfl)
theorem dX8_aPebble_97 : decode cX8_aPebble 97 = .ok (.aload_n 0, 1) := dk_42 (dk_at dksX8_aPebble_4 6 rfl rfl)
theorem dX8_aPebble_98 : decode cX8_aPebble 98 = .ok (.sipush 6997, 3) := dk_17 27 85 (dk_at dksX8_aPebble_4 7 rfl rfl)
theorem dX8_aPebble_101 : decode cX8_aPebble 101 = .ok (.iconst 0, 1) := dk_3 (dk_at dksX8_aPebble_4 10 rfl rfl)
theorem dX8_aPebble_102 : decode cX8_aPebble 102 = .ok (.aload_n 0, 1) := dk_42 (dk_at dksX8_aPebble_4 11 rfl rfl)
theorem dX8_aPebble_103 : decode cX8_aPebble 103 = .ok (.getfield 7, 3) := dk_180 0 7 (dk_at dksX8_aPebble_4 12 rfl rfl)
theorem dX8_aPebble_106 : decode cX8_aPebble 106 = .ok (.sipush 5603, 3) := dk_17 21 227 (dk_at dksX8_aPebble_4 15 rfl rfl)
theorem dX8_aPebble_109 : decode cX8_aPebble 109 = .ok (.iaload, 1) := dk_46 (dk_at dksX8_aPebble_4 18 rfl rfl)
theorem dX8_aPebble_110 : decode cX8_aPebble 110 = .ok (.invokevirtual 191, 3) := dk_182 0 191 (dk_at dksX8_aPebble_4 19 rfl rfl)
theorem dX8_aPebble_113 : decode cX8_aPebble 113 = .ok (.ifCond .ne 5, 3) := dk_154 0 5 (dk_at dksX8_aPebble_5 0 rfl rfl)
theorem dX8_aPebble_116 : decode cX8_aPebble 116 = .ok (.iconst 0, 1) := dk_3 (dk_at dksX8_aPebble_5 3 rfl rfl)
theorem dX8_aPebble_117 : decode cX8_aPebble 117 = .ok (.ireturn, 1) := dk_172 (dk_at dksX8_aPebble_5 4 rfl rfl)
theorem dX8_aPebble_118 : decode cX8_aPebble 118 = .ok (.aload_n 0, 1) := dk_42 (dk_at dksX8_aPebble_5 5 rfl rfl)
theorem dX8_aPebble_119 : decode cX8_aPebble 119 = .ok (.sipush 5600, 3) := dk_17 21 224 (dk_at dksX8_aPebble_5 6 rfl rfl)
theorem dX8_aPebble_122 : decode cX8_aPebble 122 = .ok (.aload_n 0, 1) := dk_42 (dk_at dksX8_aPebble_5 9 rfl rfl)
theorem dX8_aPebble_123 : decode cX8_aPebble 123 = .ok (.getfield 7, 3) := dk_180 0 7 (dk_at dksX8_aPebble_5 10 rfl rfl)
theorem dX8_aPebble_126 : decode cX8_aPebble 126 = .ok (.sipush 6996, 3) := dk_17 27 84 (dk_at dksX8_aPebble_5 13 rfl rfl)
theorem dX8_aPebble_129 : decode cX8_aPebble 129 = .ok (.iaload, 1) := dk_46 (dk_at dksX8_aPebble_5 16 rfl rfl)
theorem dX8_aPebble_130 : decode cX8_aPebble 130 = .ok (.aload_n 0, 1) := dk_42 (dk_at dksX8_aPebble_5 17 rfl rfl)
theorem dX8_aPebble_131 : decode cX8_aPebble 131 = .ok (.getfield 7, 3) := dk_180 0 7 (dk_at dksX8_aPebble_5 18 rfl rfl)
theorem dX8_aPebble_134 : decode cX8_aPebble 134 = .ok (.sipush 6995, 3) := dk_17 27 83 (dk_at dksX8_aPebble_5 21 rfl rfl)
theorem dX8_aPebble_137 : decode cX8_aPebble 137 = .ok (.iaload, 1) := dk_46 (dk_at dksX8_aPebble_6 0 rfl rfl)
theorem dX8_aPebble_138 : decode cX8_aPebble 138 = .ok (.aload_n 0, 1) := dk_42 (dk_at dksX8_aPebble_6 1 rfl rfl)
theorem dX8_aPebble_139 : decode cX8_aPebble 139 = .ok (.getfield 7, 3) := dk_180 0 7 (dk_at dksX8_aPebble_6 2 rfl rfl)
theorem dX8_aPebble_142 : decode cX8_aPebble 142 = .ok (.sipush 6997, 3) := dk_17 27 85 (dk_at dksX8_aPebble_6 5 rfl rfl)
theorem dX8_aPebble_145 : decode cX8_aPebble 145 = .ok (.iaload, 1) := dk_46 (dk_at dksX8_aPebble_6 8 rfl rfl)
theorem dX8_aPebble_146 : decode cX8_aPebble 146 = .ok (.invokevirtual 210, 3) := dk_182 0 210 (dk_at dksX8_aPebble_6 9 rfl rfl)
theorem dX8_aPebble_149 : decode cX8_aPebble 149 = .ok (.aload_n 0, 1) := dk_42 (dk_at dksX8_aPebble_6 12 rfl rfl)
theorem dX8_aPebble_150 : decode cX8_aPebble 150 = .ok (.dup, 1) := dk_89 (dk_at dksX8_aPebble_6 13 rfl rfl)
theorem dX8_aPebble_151 : decode cX8_aPebble 151 = .ok (.getfield 204, 3) := dk_180 0 204 (dk_at dksX8_aPebble_6 14 rfl rfl)
theorem dX8_aPebble_154 : decode cX8_aPebble 154 = .ok (.iconst 1, 1) := dk_4 (dk_at dksX8_aPebble_6 17 rfl rfl)
theorem dX8_aPebble_155 : decode cX8_aPebble 155 = .ok (.iadd, 1) := dk_96 (dk_at dksX8_aPebble_6 18 rfl rfl)
theorem dX8_aPebble_156 : decode cX8_aPebble 156 = .ok (.putfield 204, 3) := dk_181 0 204 (dk_at dksX8_aPebble_6 19 rfl rfl)
theorem dX8_aPebble_159 : decode cX8_aPebble 159 = .ok (.iconst 1, 1) := dk_4 (dk_at dksX8_aPebble_6 22 rfl rfl)
theorem dX8_aPebble_160 : decode cX8_aPebble 160 = .ok (.ireturn, 1) := dk_172 (dk_at dksX8_aPebble_6 23 rfl rfl)
abbrev cX8_oldOne : ByteArray := prog_17_method_42_code
def yX8_oldOne : MethodName := ⟨RX8, "oldOne", "(III)Z"⟩
def dkwX8_oldOne_2 : List UInt8 := [4, 172]
abbrev dktX8_oldOne_2 : List UInt8 := dkwX8_oldOne_2 ++ []
def dkwX8_oldOne_1 : List UInt8 := [182, 0, 184, 79, 42, 180, 0, 7, 29, 46, 2, 160, 0, 9, 42, 6, 182, 0, 160, 172, 42, 182, 0, 154]
abbrev dktX8_oldOne_1 : List UInt8 := dkwX8_oldOne_1 ++ dktX8_oldOne_2
def dkwX8_oldOne_0 : List UInt8 := [42, 18, 178, 182, 0, 180, 154, 0, 9, 42, 5, 182, 0, 160, 172, 42, 180, 0, 7, 29, 42, 27, 28]
abbrev dktX8_oldOne_0 : List UInt8 := dkwX8_oldOne_0 ++ dktX8_oldOne_1
theorem dksX8_oldOne_0 : cX8_oldOne.data.toList.drop 0 = dktX8_oldOne_0 := by decide +kernel
theorem dksX8_oldOne_1 : cX8_oldOne.data.toList.drop 23 = dktX8_oldOne_1 := dk_seg dksX8_oldOne_0 23 rfl rfl
theorem dksX8_oldOne_2 : cX8_oldOne.data.toList.drop 47 = dktX8_oldOne_2 := dk_seg dksX8_oldOne_1 24 rfl rfl
theorem dX8_oldOne_0 : decode cX8_oldOne 0 = .ok (.aload_n 0, 1) := dk_42 (dk_at dksX8_oldOne_0 0 rfl rfl)
theorem dX8_oldOne_1 : decode cX8_oldOne 1 = .ok (.ldc 178, 2) := dk_18 178 (dk_at dksX8_oldOne_0 1 rfl rfl)
theorem dX8_oldOne_3 : decode cX8_oldOne 3 = .ok (.invokevirtual 180, 3) := dk_182 0 180 (dk_at dksX8_oldOne_0 3 rfl rfl)
theorem dX8_oldOne_6 : decode cX8_oldOne 6 = .ok (.ifCond .ne 9, 3) := dk_154 0 9 (dk_at dksX8_oldOne_0 6 rfl rfl)
theorem dX8_oldOne_9 : decode cX8_oldOne 9 = .ok (.aload_n 0, 1) := dk_42 (dk_at dksX8_oldOne_0 9 rfl rfl)
theorem dX8_oldOne_10 : decode cX8_oldOne 10 = .ok (.iconst 2, 1) := dk_5 (dk_at dksX8_oldOne_0 10 rfl rfl)
theorem dX8_oldOne_11 : decode cX8_oldOne 11 = .ok (.invokevirtual 160, 3) := dk_182 0 160 (dk_at dksX8_oldOne_0 11 rfl rfl)
theorem dX8_oldOne_14 : decode cX8_oldOne 14 = .ok (.ireturn, 1) := dk_172 (dk_at dksX8_oldOne_0 14 rfl rfl)
theorem dX8_oldOne_15 : decode cX8_oldOne 15 = .ok (.aload_n 0, 1) := dk_42 (dk_at dksX8_oldOne_0 15 rfl rfl)
theorem dX8_oldOne_16 : decode cX8_oldOne 16 = .ok (.getfield 7, 3) := dk_180 0 7 (dk_at dksX8_oldOne_0 16 rfl rfl)
theorem dX8_oldOne_19 : decode cX8_oldOne 19 = .ok (.iload_n 3, 1) := dk_29 (dk_at dksX8_oldOne_0 19 rfl rfl)
theorem dX8_oldOne_20 : decode cX8_oldOne 20 = .ok (.aload_n 0, 1) := dk_42 (dk_at dksX8_oldOne_0 20 rfl rfl)
theorem dX8_oldOne_21 : decode cX8_oldOne 21 = .ok (.iload_n 1, 1) := dk_27 (dk_at dksX8_oldOne_0 21 rfl rfl)
theorem dX8_oldOne_22 : decode cX8_oldOne 22 = .ok (.iload_n 2, 1) := dk_28 (dk_at dksX8_oldOne_0 22 rfl rfl)
theorem dX8_oldOne_23 : decode cX8_oldOne 23 = .ok (.invokevirtual 184, 3) := dk_182 0 184 (dk_at dksX8_oldOne_1 0 rfl rfl)
theorem dX8_oldOne_26 : decode cX8_oldOne 26 = .ok (.iastore, 1) := dk_79 (dk_at dksX8_oldOne_1 3 rfl rfl)
theorem dX8_oldOne_27 : decode cX8_oldOne 27 = .ok (.aload_n 0, 1) := dk_42 (dk_at dksX8_oldOne_1 4 rfl rfl)
theorem dX8_oldOne_28 : decode cX8_oldOne 28 = .ok (.getfield 7, 3) := dk_180 0 7 (dk_at dksX8_oldOne_1 5 rfl rfl)
theorem dX8_oldOne_31 : decode cX8_oldOne 31 = .ok (.iload_n 3, 1) := dk_29 (dk_at dksX8_oldOne_1 8 rfl rfl)
theorem dX8_oldOne_32 : decode cX8_oldOne 32 = .ok (.iaload, 1) := dk_46 (dk_at dksX8_oldOne_1 9 rfl rfl)
theorem dX8_oldOne_33 : decode cX8_oldOne 33 = .ok (.iconst (-1), 1) := dk_2 (dk_at dksX8_oldOne_1 10 rfl rfl)
theorem dX8_oldOne_34 : decode cX8_oldOne 34 = .ok (.if_icmp .ne 9, 3) := dk_160 0 9 (dk_at dksX8_oldOne_1 11 rfl rfl)
theorem dX8_oldOne_37 : decode cX8_oldOne 37 = .ok (.aload_n 0, 1) := dk_42 (dk_at dksX8_oldOne_1 14 rfl rfl)
theorem dX8_oldOne_38 : decode cX8_oldOne 38 = .ok (.iconst 3, 1) := dk_6 (dk_at dksX8_oldOne_1 15 rfl rfl)
theorem dX8_oldOne_39 : decode cX8_oldOne 39 = .ok (.invokevirtual 160, 3) := dk_182 0 160 (dk_at dksX8_oldOne_1 16 rfl rfl)
theorem dX8_oldOne_42 : decode cX8_oldOne 42 = .ok (.ireturn, 1) := dk_172 (dk_at dksX8_oldOne_1 19 rfl rfl)
theorem dX8_oldOne_43 : decode cX8_oldOne 43 = .ok (.aload_n 0, 1) := dk_42 (dk_at dksX8_oldOne_1 20 rfl rfl)
theorem dX8_oldOne_44 : decode cX8_oldOne 44 = .ok (.invokevirtual 154, 3) := dk_182 0 154 (dk_at dksX8_oldOne_1 21 rfl rfl)
theorem dX8_oldOne_47 : decode cX8_oldOne 47 = .ok (.iconst 1, 1) := dk_4 (dk_at dksX8_oldOne_2 0 rfl rfl)
theorem dX8_oldOne_48 : decode cX8_oldOne 48 = .ok (.ireturn, 1) := dk_172 (dk_at dksX8_oldOne_2 1 rfl rfl)
abbrev cX8_comes : ByteArray := prog_17_method_39_code
def yX8_comes : MethodName := ⟨RX8, "comes", "(IIII)V"⟩
def dkwX8_comes_6 : List UInt8 := [4, 96, 79, 42, 180, 0, 7, 27, 16, 8, 96, 92, 46, 4, 96, 79, 177]
abbrev dktX8_comes_6 : List UInt8 := dkwX8_comes_6 ++ []
def dkwX8_comes_5 : List UInt8 := [28, 21, 5, 184, 0, 174, 4, 96, 21, 4, 79, 42, 180, 0, 7, 27, 28, 184, 0, 171, 5, 96, 92, 46]
abbrev dktX8_comes_5 : List UInt8 := dkwX8_comes_5 ++ dktX8_comes_6
def dkwX8_comes_4 : List UInt8 := [132, 5, 255, 167, 255, 171, 42, 180, 0, 7, 27, 28, 21, 5, 184, 0, 174, 29, 79, 42, 180, 0, 7, 27]
abbrev dktX8_comes_4 : List UInt8 := dkwX8_comes_4 ++ dktX8_comes_5
def dkwX8_comes_3 : List UInt8 := [21, 5, 184, 0, 174, 4, 96, 42, 180, 0, 7, 27, 28, 21, 5, 4, 100, 184, 0, 174, 4, 96, 46, 79]
abbrev dktX8_comes_3 : List UInt8 := dkwX8_comes_3 ++ dktX8_comes_4
def dkwX8_comes_2 : List UInt8 := [184, 0, 174, 42, 180, 0, 7, 27, 28, 21, 5, 4, 100, 184, 0, 174, 46, 79, 42, 180, 0, 7, 27, 28]
abbrev dktX8_comes_2 : List UInt8 := dkwX8_comes_2 ++ dktX8_comes_3
def dkwX8_comes_1 : List UInt8 := [28, 21, 5, 4, 100, 184, 0, 174, 4, 96, 46, 21, 4, 164, 0, 65, 42, 180, 0, 7, 27, 28, 21, 5]
abbrev dktX8_comes_1 : List UInt8 := dkwX8_comes_1 ++ dktX8_comes_2
def dkwX8_comes_0 : List UInt8 := [42, 180, 0, 7, 27, 28, 184, 0, 171, 5, 96, 46, 54, 5, 21, 5, 158, 0, 86, 42, 180, 0, 7, 27]
abbrev dktX8_comes_0 : List UInt8 := dkwX8_comes_0 ++ dktX8_comes_1
theorem dksX8_comes_0 : cX8_comes.data.toList.drop 0 = dktX8_comes_0 := by decide +kernel
theorem dksX8_comes_1 : cX8_comes.data.toList.drop 24 = dktX8_comes_1 := dk_seg dksX8_comes_0 24 rfl rfl
theorem dksX8_comes_2 : cX8_comes.data.toList.drop 48 = dktX8_comes_2 := dk_seg dksX8_comes_1 24 rfl rfl
theorem dksX8_comes_3 : cX8_comes.data.toList.drop 72 = dktX8_comes_3 := dk_seg dksX8_comes_2 24 rfl rfl
theorem dksX8_comes_4 : cX8_comes.data.toList.drop 96 = dktX8_comes_4 := dk_seg dksX8_comes_3 24 rfl rfl
theorem dksX8_comes_5 : cX8_comes.data.toList.drop 120 = dktX8_comes_5 := dk_seg dksX8_comes_4 24 rfl rfl
theorem dksX8_comes_6 : cX8_comes.data.toList.drop 144 = dktX8_comes_6 := dk_seg dksX8_comes_5 24 rfl rfl
theorem dX8_comes_0 : decode cX8_comes 0 = .ok (.aload_n 0, 1) := dk_42 (dk_at dksX8_comes_0 0 rfl rfl)
theorem dX8_comes_1 : decode cX8_comes 1 = .ok (.getfield 7, 3) := dk_180 0 7 (dk_at dksX8_comes_0 1 rfl rfl)
theorem dX8_comes_4 : decode cX8_comes 4 = .ok (.iload_n 1, 1) := dk_27 (dk_at dksX8_comes_0 4 rfl rfl)
theorem dX8_comes_5 : decode cX8_comes 5 = .ok (.iload_n 2, 1) := dk_28 (dk_at dksX8_comes_0 5 rfl rfl)
theorem dX8_comes_6 : decode cX8_comes 6 = .ok (.invokestatic 171, 3) := dk_184 0 171 (dk_at dksX8_comes_0 6 rfl rfl)
theorem dX8_comes_9 : decode cX8_comes 9 = .ok (.iconst 2, 1) := dk_5 (dk_at dksX8_comes_0 9 rfl rfl)
theorem dX8_comes_10 : decode cX8_comes 10 = .ok (.iadd, 1) := dk_96 (dk_at dksX8_comes_0 10 rfl rfl)
theorem dX8_comes_11 : decode cX8_comes 11 = .ok (.iaload, 1) := dk_46 (dk_at dksX8_comes_0 11 rfl rfl)
theorem dX8_comes_12 : decode cX8_comes 12 = .ok (.istore 5, 2) := dk_54 5 (dk_at dksX8_comes_0 12 rfl rfl)
theorem dX8_comes_14 : decode cX8_comes 14 = .ok (.iload 5, 2) := dk_21 5 (dk_at dksX8_comes_0 14 rfl rfl)
theorem dX8_comes_16 : decode cX8_comes 16 = .ok (.ifCond .le 86, 3) := dk_158 0 86 (dk_at dksX8_comes_0 16 rfl rfl)
theorem dX8_comes_19 : decode cX8_comes 19 = .ok (.aload_n 0, 1) := dk_42 (dk_at dksX8_comes_0 19 rfl rfl)
theorem dX8_comes_20 : decode cX8_comes 20 = .ok (.getfield 7, 3) := dk_180 0 7 (dk_at dksX8_comes_0 20 rfl rfl)
theorem dX8_comes_23 : decode cX8_comes 23 = .ok (.iload_n 1, 1) := dk_27 (dk_at dksX8_comes_0 23 rfl rfl)
theorem dX8_comes_24 : decode cX8_comes 24 = .ok (.iload_n 2, 1) := dk_28 (dk_at dksX8_comes_1 0 rfl rfl)
theorem dX8_comes_25 : decode cX8_comes 25 = .ok (.iload 5, 2) := dk_21 5 (dk_at dksX8_comes_1 1 rfl rfl)
theorem dX8_comes_27 : decode cX8_comes 27 = .ok (.iconst 1, 1) := dk_4 (dk_at dksX8_comes_1 3 rfl rfl)
theorem dX8_comes_28 : decode cX8_comes 28 = .ok (.isub, 1) := dk_100 (dk_at dksX8_comes_1 4 rfl rfl)
theorem dX8_comes_29 : decode cX8_comes 29 = .ok (.invokestatic 174, 3) := dk_184 0 174 (dk_at dksX8_comes_1 5 rfl rfl)
theorem dX8_comes_32 : decode cX8_comes 32 = .ok (.iconst 1, 1) := dk_4 (dk_at dksX8_comes_1 8 rfl rfl)
theorem dX8_comes_33 : decode cX8_comes 33 = .ok (.iadd, 1) := dk_96 (dk_at dksX8_comes_1 9 rfl rfl)
theorem dX8_comes_34 : decode cX8_comes 34 = .ok (.iaload, 1) := dk_46 (dk_at dksX8_comes_1 10 rfl rfl)
theorem dX8_comes_35 : decode cX8_comes 35 = .ok (.iload 4, 2) := dk_21 4 (dk_at dksX8_comes_1 11 rfl rfl)
theorem dX8_comes_37 : decode cX8_comes 37 = .ok (.if_icmp .le 65, 3) := dk_164 0 65 (dk_at dksX8_comes_1 13 rfl rfl)
theorem dX8_comes_40 : decode cX8_comes 40 = .ok (.aload_n 0, 1) := dk_42 (dk_at dksX8_comes_1 16 rfl rfl)
theorem dX8_comes_41 : decode cX8_comes 41 = .ok (.getfield 7, 3) := dk_180 0 7 (dk_at dksX8_comes_1 17 rfl rfl)
theorem dX8_comes_44 : decode cX8_comes 44 = .ok (.iload_n 1, 1) := dk_27 (dk_at dksX8_comes_1 20 rfl rfl)
theorem dX8_comes_45 : decode cX8_comes 45 = .ok (.iload_n 2, 1) := dk_28 (dk_at dksX8_comes_1 21 rfl rfl)
theorem dX8_comes_46 : decode cX8_comes 46 = .ok (.iload 5, 2) := dk_21 5 (dk_at dksX8_comes_1 22 rfl rfl)
theorem dX8_comes_48 : decode cX8_comes 48 = .ok (.invokestatic 174, 3) := dk_184 0 174 (dk_at dksX8_comes_2 0 rfl rfl)
theorem dX8_comes_51 : decode cX8_comes 51 = .ok (.aload_n 0, 1) := dk_42 (dk_at dksX8_comes_2 3 rfl rfl)
theorem dX8_comes_52 : decode cX8_comes 52 = .ok (.getfield 7, 3) := dk_180 0 7 (dk_at dksX8_comes_2 4 rfl rfl)
theorem dX8_comes_55 : decode cX8_comes 55 = .ok (.iload_n 1, 1) := dk_27 (dk_at dksX8_comes_2 7 rfl rfl)
theorem dX8_comes_56 : decode cX8_comes 56 = .ok (.iload_n 2, 1) := dk_28 (dk_at dksX8_comes_2 8 rfl rfl)
theorem dX8_comes_57 : decode cX8_comes 57 = .ok (.iload 5, 2) := dk_21 5 (dk_at dksX8_comes_2 9 rfl rfl)
theorem dX8_comes_59 : decode cX8_comes 59 = .ok (.iconst 1, 1) := dk_4 (dk_at dksX8_comes_2 11 rfl rfl)
theorem dX8_comes_60 : decode cX8_comes 60 = .ok (.isub, 1) := dk_100 (dk_at dksX8_comes_2 12 rfl rfl)
theorem dX8_comes_61 : decode cX8_comes 61 = .ok (.invokestatic 174, 3) := dk_184 0 174 (dk_at dksX8_comes_2 13 rfl rfl)
theorem dX8_comes_64 : decode cX8_comes 64 = .ok (.iaload, 1) := dk_46 (dk_at dksX8_comes_2 16 rfl rfl)
theorem dX8_comes_65 : decode cX8_comes 65 = .ok (.iastore, 1) := dk_79 (dk_at dksX8_comes_2 17 rfl rfl)
theorem dX8_comes_66 : decode cX8_comes 66 = .ok (.aload_n 0, 1) := dk_42 (dk_at dksX8_comes_2 18 rfl rfl)
theorem dX8_comes_67 : decode cX8_comes 67 = .ok (.getfield 7, 3) := dk_180 0 7 (dk_at dksX8_comes_2 19 rfl rfl)
theorem dX8_comes_70 : decode cX8_comes 70 = .ok (.iload_n 1, 1) := dk_27 (dk_at dksX8_comes_2 22 rfl rfl)
theorem dX8_comes_71 : decode cX8_comes 71 = .ok (.iload_n 2, 1) := dk_28 (dk_at dksX8_comes_2 23 rfl rfl)
theorem dX8_comes_72 : decode cX8_comes 72 = .ok (.iload 5, 2) := dk_21 5 (dk_at dksX8_comes_3 0 rfl rfl)
theorem dX8_comes_74 : decode cX8_comes 74 = .ok (.invokestatic 174, 3) := dk_184 0 174 (dk_at dksX8_comes_3 2 rfl rfl)
theorem dX8_comes_77 : decode cX8_comes 77 = .ok (.iconst 1, 1) := dk_4 (dk_at dksX8_comes_3 5 rfl rfl)
theorem dX8_comes_78 : decode cX8_comes 78 = .ok (.iadd, 1) := dk_96 (dk_at dksX8_comes_3 6 rfl rfl)
theorem dX8_comes_79 : decode cX8_comes 79 = .ok (.aload_n 0, 1) := dk_42 (dk_at dksX8_comes_3 7 rfl rfl)
theorem dX8_comes_80 : decode cX8_comes 80 = .ok (.getfield 7, 3) := dk_180 0 7 (dk_at dksX8_comes_3 8 rfl rfl)
theorem dX8_comes_83 : decode cX8_comes 83 = .ok (.iload_n 1, 1) := dk_27 (dk_at dksX8_comes_3 11 rfl rfl)
theorem dX8_comes_84 : decode cX8_comes 84 = .ok (.iload_n 2, 1) := dk_28 (dk_at dksX8_comes_3 12 rfl rfl)
theorem dX8_comes_85 : decode cX8_comes 85 = .ok (.iload 5, 2) := dk_21 5 (dk_at dksX8_comes_3 13 rfl rfl)
theorem dX8_comes_87 : decode cX8_comes 87 = .ok (.iconst 1, 1) := dk_4 (dk_at dksX8_comes_3 15 rfl rfl)
theorem dX8_comes_88 : decode cX8_comes 88 = .ok (.isub, 1) := dk_100 (dk_at dksX8_comes_3 16 rfl rfl)
theorem dX8_comes_89 : decode cX8_comes 89 = .ok (.invokestatic 174, 3) := dk_184 0 174 (dk_at dksX8_comes_3 17 rfl rfl)
theorem dX8_comes_92 : decode cX8_comes 92 = .ok (.iconst 1, 1) := dk_4 (dk_at dksX8_comes_3 20 rfl rfl)
theorem dX8_comes_93 : decode cX8_comes 93 = .ok (.iadd, 1) := dk_96 (dk_at dksX8_comes_3 21 rfl rfl)
theorem dX8_comes_94 : decode cX8_comes 94 = .ok (.iaload, 1) := dk_46 (dk_at dksX8_comes_3 22 rfl rfl)
theorem dX8_comes_95 : decode cX8_comes 95 = .ok (.iastore, 1) := dk_79 (dk_at dksX8_comes_3 23 rfl rfl)
theorem dX8_comes_96 : decode cX8_comes 96 = .ok (.iinc 5 (-1), 3) := dk_132 5 255 (dk_at dksX8_comes_4 0 rfl rfl)
theorem dX8_comes_99 : decode cX8_comes 99 = .ok (.goto (-85), 3) := dk_167 255 171 (dk_at dksX8_comes_4 3 rfl rfl)
theorem dX8_comes_102 : decode cX8_comes 102 = .ok (.aload_n 0, 1) := dk_42 (dk_at dksX8_comes_4 6 rfl rfl)
theorem dX8_comes_103 : decode cX8_comes 103 = .ok (.getfield 7, 3) := dk_180 0 7 (dk_at dksX8_comes_4 7 rfl rfl)
theorem dX8_comes_106 : decode cX8_comes 106 = .ok (.iload_n 1, 1) := dk_27 (dk_at dksX8_comes_4 10 rfl rfl)
theorem dX8_comes_107 : decode cX8_comes 107 = .ok (.iload_n 2, 1) := dk_28 (dk_at dksX8_comes_4 11 rfl rfl)
theorem dX8_comes_108 : decode cX8_comes 108 = .ok (.iload 5, 2) := dk_21 5 (dk_at dksX8_comes_4 12 rfl rfl)
theorem dX8_comes_110 : decode cX8_comes 110 = .ok (.invokestatic 174, 3) := dk_184 0 174 (dk_at dksX8_comes_4 14 rfl rfl)
theorem dX8_comes_113 : decode cX8_comes 113 = .ok (.iload_n 3, 1) := dk_29 (dk_at dksX8_comes_4 17 rfl rfl)
theorem dX8_comes_114 : decode cX8_comes 114 = .ok (.iastore, 1) := dk_79 (dk_at dksX8_comes_4 18 rfl rfl)
theorem dX8_comes_115 : decode cX8_comes 115 = .ok (.aload_n 0, 1) := dk_42 (dk_at dksX8_comes_4 19 rfl rfl)
theorem dX8_comes_116 : decode cX8_comes 116 = .ok (.getfield 7, 3) := dk_180 0 7 (dk_at dksX8_comes_4 20 rfl rfl)
theorem dX8_comes_119 : decode cX8_comes 119 = .ok (.iload_n 1, 1) := dk_27 (dk_at dksX8_comes_4 23 rfl rfl)
theorem dX8_comes_120 : decode cX8_comes 120 = .ok (.iload_n 2, 1) := dk_28 (dk_at dksX8_comes_5 0 rfl rfl)
theorem dX8_comes_121 : decode cX8_comes 121 = .ok (.iload 5, 2) := dk_21 5 (dk_at dksX8_comes_5 1 rfl rfl)
theorem dX8_comes_123 : decode cX8_comes 123 = .ok (.invokestatic 174, 3) := dk_184 0 174 (dk_at dksX8_comes_5 3 rfl rfl)
theorem dX8_comes_126 : decode cX8_comes 126 = .ok (.iconst 1, 1) := dk_4 (dk_at dksX8_comes_5 6 rfl rfl)
theorem dX8_comes_127 : decode cX8_comes 127 = .ok (.iadd, 1) := dk_96 (dk_at dksX8_comes_5 7 rfl rfl)
theorem dX8_comes_128 : decode cX8_comes 128 = .ok (.iload 4, 2) := dk_21 4 (dk_at dksX8_comes_5 8 rfl rfl)
theorem dX8_comes_130 : decode cX8_comes 130 = .ok (.iastore, 1) := dk_79 (dk_at dksX8_comes_5 10 rfl rfl)
theorem dX8_comes_131 : decode cX8_comes 131 = .ok (.aload_n 0, 1) := dk_42 (dk_at dksX8_comes_5 11 rfl rfl)
theorem dX8_comes_132 : decode cX8_comes 132 = .ok (.getfield 7, 3) := dk_180 0 7 (dk_at dksX8_comes_5 12 rfl rfl)
theorem dX8_comes_135 : decode cX8_comes 135 = .ok (.iload_n 1, 1) := dk_27 (dk_at dksX8_comes_5 15 rfl rfl)
theorem dX8_comes_136 : decode cX8_comes 136 = .ok (.iload_n 2, 1) := dk_28 (dk_at dksX8_comes_5 16 rfl rfl)
theorem dX8_comes_137 : decode cX8_comes 137 = .ok (.invokestatic 171, 3) := dk_184 0 171 (dk_at dksX8_comes_5 17 rfl rfl)
theorem dX8_comes_140 : decode cX8_comes 140 = .ok (.iconst 2, 1) := dk_5 (dk_at dksX8_comes_5 20 rfl rfl)
theorem dX8_comes_141 : decode cX8_comes 141 = .ok (.iadd, 1) := dk_96 (dk_at dksX8_comes_5 21 rfl rfl)
theorem dX8_comes_142 : decode cX8_comes 142 = .ok (.dup2, 1) := dk_92 (dk_at dksX8_comes_5 22 rfl rfl)
theorem dX8_comes_143 : decode cX8_comes 143 = .ok (.iaload, 1) := dk_46 (dk_at dksX8_comes_5 23 rfl rfl)
theorem dX8_comes_144 : decode cX8_comes 144 = .ok (.iconst 1, 1) := dk_4 (dk_at dksX8_comes_6 0 rfl rfl)
theorem dX8_comes_145 : decode cX8_comes 145 = .ok (.iadd, 1) := dk_96 (dk_at dksX8_comes_6 1 rfl rfl)
theorem dX8_comes_146 : decode cX8_comes 146 = .ok (.iastore, 1) := dk_79 (dk_at dksX8_comes_6 2 rfl rfl)
theorem dX8_comes_147 : decode cX8_comes 147 = .ok (.aload_n 0, 1) := dk_42 (dk_at dksX8_comes_6 3 rfl rfl)
theorem dX8_comes_148 : decode cX8_comes 148 = .ok (.getfield 7, 3) := dk_180 0 7 (dk_at dksX8_comes_6 4 rfl rfl)
theorem dX8_comes_151 : decode cX8_comes 151 = .ok (.iload_n 1, 1) := dk_27 (dk_at dksX8_comes_6 7 rfl rfl)
theorem dX8_comes_152 : decode cX8_comes 152 = .ok (.bipush 8, 2) := dk_16 8 (dk_at dksX8_comes_6 8 rfl rfl)
theorem dX8_comes_154 : decode cX8_comes 154 = .ok (.iadd, 1) := dk_96 (dk_at dksX8_comes_6 10 rfl rfl)
theorem dX8_comes_155 : decode cX8_comes 155 = .ok (.dup2, 1) := dk_92 (dk_at dksX8_comes_6 11 rfl rfl)
theorem dX8_comes_156 : decode cX8_comes 156 = .ok (.iaload, 1) := dk_46 (dk_at dksX8_comes_6 12 rfl rfl)
theorem dX8_comes_157 : decode cX8_comes 157 = .ok (.iconst 1, 1) := dk_4 (dk_at dksX8_comes_6 13 rfl rfl)
theorem dX8_comes_158 : decode cX8_comes 158 = .ok (.iadd, 1) := dk_96 (dk_at dksX8_comes_6 14 rfl rfl)
theorem dX8_comes_159 : decode cX8_comes 159 = .ok (.iastore, 1) := dk_79 (dk_at dksX8_comes_6 15 rfl rfl)
theorem dX8_comes_160 : decode cX8_comes 160 = .ok (.return_, 1) := dk_177 (dk_at dksX8_comes_6 16 rfl rfl)
abbrev cX8_pebbleRow : ByteArray := prog_17_method_38_code
def yX8_pebbleRow : MethodName := ⟨RX8, "pebbleRow", "(III)I"⟩
def dkwX8_pebbleRow_0 : List UInt8 := [26, 16, 64, 96, 16, 120, 27, 104, 96, 5, 28, 104, 96, 172]
abbrev dktX8_pebbleRow_0 : List UInt8 := dkwX8_pebbleRow_0 ++ []
theorem dksX8_pebbleRow_0 : cX8_pebbleRow.data.toList.drop 0 = dktX8_pebbleRow_0 := by decide +kernel
theorem dX8_pebbleRow_0 : decode cX8_pebbleRow 0 = .ok (.iload_n 0, 1) := dk_26 (dk_at dksX8_pebbleRow_0 0 rfl rfl)
theorem dX8_pebbleRow_1 : decode cX8_pebbleRow 1 = .ok (.bipush 64, 2) := dk_16 64 (dk_at dksX8_pebbleRow_0 1 rfl rfl)
theorem dX8_pebbleRow_3 : decode cX8_pebbleRow 3 = .ok (.iadd, 1) := dk_96 (dk_at dksX8_pebbleRow_0 3 rfl rfl)
theorem dX8_pebbleRow_4 : decode cX8_pebbleRow 4 = .ok (.bipush 120, 2) := dk_16 120 (dk_at dksX8_pebbleRow_0 4 rfl rfl)
theorem dX8_pebbleRow_6 : decode cX8_pebbleRow 6 = .ok (.iload_n 1, 1) := dk_27 (dk_at dksX8_pebbleRow_0 6 rfl rfl)
theorem dX8_pebbleRow_7 : decode cX8_pebbleRow 7 = .ok (.imul, 1) := dk_104 (dk_at dksX8_pebbleRow_0 7 rfl rfl)
theorem dX8_pebbleRow_8 : decode cX8_pebbleRow 8 = .ok (.iadd, 1) := dk_96 (dk_at dksX8_pebbleRow_0 8 rfl rfl)
theorem dX8_pebbleRow_9 : decode cX8_pebbleRow 9 = .ok (.iconst 2, 1) := dk_5 (dk_at dksX8_pebbleRow_0 9 rfl rfl)
theorem dX8_pebbleRow_10 : decode cX8_pebbleRow 10 = .ok (.iload_n 2, 1) := dk_28 (dk_at dksX8_pebbleRow_0 10 rfl rfl)
theorem dX8_pebbleRow_11 : decode cX8_pebbleRow 11 = .ok (.imul, 1) := dk_104 (dk_at dksX8_pebbleRow_0 11 rfl rfl)
theorem dX8_pebbleRow_12 : decode cX8_pebbleRow 12 = .ok (.iadd, 1) := dk_96 (dk_at dksX8_pebbleRow_0 12 rfl rfl)
theorem dX8_pebbleRow_13 : decode cX8_pebbleRow 13 = .ok (.ireturn, 1) := dk_172 (dk_at dksX8_pebbleRow_0 13 rfl rfl)
abbrev cX8_aDuel : ByteArray := prog_17_method_48_code
def yX8_aDuel : MethodName := ⟨RX8, "aDuel", "()Z"⟩
def dkwX8_aDuel_2 : List UInt8 := [42, 180, 0, 7, 17, 21, 229, 27, 16, 13, 100, 79, 42, 182, 0, 154, 4, 172]
abbrev dktX8_aDuel_2 : List UInt8 := dkwX8_aDuel_2 ++ []
def dkwX8_aDuel_1 : List UInt8 := [18, 178, 182, 0, 163, 60, 27, 16, 13, 161, 0, 9, 27, 16, 16, 164, 0, 9, 42, 5, 182, 0, 160, 172]
abbrev dktX8_aDuel_1 : List UInt8 := dkwX8_aDuel_1 ++ dktX8_aDuel_2
def dkwX8_aDuel_0 : List UInt8 := [42, 180, 0, 214, 153, 0, 9, 42, 8, 182, 0, 160, 172, 42, 4, 181, 0, 214, 42, 182, 0, 154, 42]
abbrev dktX8_aDuel_0 : List UInt8 := dkwX8_aDuel_0 ++ dktX8_aDuel_1
theorem dksX8_aDuel_0 : cX8_aDuel.data.toList.drop 0 = dktX8_aDuel_0 := by decide +kernel
theorem dksX8_aDuel_1 : cX8_aDuel.data.toList.drop 23 = dktX8_aDuel_1 := dk_seg dksX8_aDuel_0 23 rfl rfl
theorem dksX8_aDuel_2 : cX8_aDuel.data.toList.drop 47 = dktX8_aDuel_2 := dk_seg dksX8_aDuel_1 24 rfl rfl
theorem dX8_aDuel_0 : decode cX8_aDuel 0 = .ok (.aload_n 0, 1) := dk_42 (dk_at dksX8_aDuel_0 0 rfl rfl)
theorem dX8_aDuel_1 : decode cX8_aDuel 1 = .ok (.getfield 214, 3) := dk_180 0 214 (dk_at dksX8_aDuel_0 1 rfl rfl)
theorem dX8_aDuel_4 : decode cX8_aDuel 4 = .ok (.ifCond .eq 9, 3) := dk_153 0 9 (dk_at dksX8_aDuel_0 4 rfl rfl)
theorem dX8_aDuel_7 : decode cX8_aDuel 7 = .ok (.aload_n 0, 1) := dk_42 (dk_at dksX8_aDuel_0 7 rfl rfl)
theorem dX8_aDuel_8 : decode cX8_aDuel 8 = .ok (.iconst 5, 1) := dk_8 (dk_at dksX8_aDuel_0 8 rfl rfl)
theorem dX8_aDuel_9 : decode cX8_aDuel 9 = .ok (.invokevirtual 160, 3) := dk_182 0 160 (dk_at dksX8_aDuel_0 9 rfl rfl)
theorem dX8_aDuel_12 : decode cX8_aDuel 12 = .ok (.ireturn, 1) := dk_172 (dk_at dksX8_aDuel_0 12 rfl rfl)
theorem dX8_aDuel_13 : decode cX8_aDuel 13 = .ok (.aload_n 0, 1) := dk_42 (dk_at dksX8_aDuel_0 13 rfl rfl)
theorem dX8_aDuel_14 : decode cX8_aDuel 14 = .ok (.iconst 1, 1) := dk_4 (dk_at dksX8_aDuel_0 14 rfl rfl)
theorem dX8_aDuel_15 : decode cX8_aDuel 15 = .ok (.putfield 214, 3) := dk_181 0 214 (dk_at dksX8_aDuel_0 15 rfl rfl)
theorem dX8_aDuel_18 : decode cX8_aDuel 18 = .ok (.aload_n 0, 1) := dk_42 (dk_at dksX8_aDuel_0 18 rfl rfl)
theorem dX8_aDuel_19 : decode cX8_aDuel 19 = .ok (.invokevirtual 154, 3) := dk_182 0 154 (dk_at dksX8_aDuel_0 19 rfl rfl)
theorem dX8_aDuel_22 : decode cX8_aDuel 22 = .ok (.aload_n 0, 1) := dk_42 (dk_at dksX8_aDuel_0 22 rfl rfl)
theorem dX8_aDuel_23 : decode cX8_aDuel 23 = .ok (.ldc 178, 2) := dk_18 178 (dk_at dksX8_aDuel_1 0 rfl rfl)
theorem dX8_aDuel_25 : decode cX8_aDuel 25 = .ok (.invokevirtual 163, 3) := dk_182 0 163 (dk_at dksX8_aDuel_1 2 rfl rfl)
theorem dX8_aDuel_28 : decode cX8_aDuel 28 = .ok (.istore_n 1, 1) := dk_60 (dk_at dksX8_aDuel_1 5 rfl rfl)
theorem dX8_aDuel_29 : decode cX8_aDuel 29 = .ok (.iload_n 1, 1) := dk_27 (dk_at dksX8_aDuel_1 6 rfl rfl)
theorem dX8_aDuel_30 : decode cX8_aDuel 30 = .ok (.bipush 13, 2) := dk_16 13 (dk_at dksX8_aDuel_1 7 rfl rfl)
theorem dX8_aDuel_32 : decode cX8_aDuel 32 = .ok (.if_icmp .lt 9, 3) := dk_161 0 9 (dk_at dksX8_aDuel_1 9 rfl rfl)
theorem dX8_aDuel_35 : decode cX8_aDuel 35 = .ok (.iload_n 1, 1) := dk_27 (dk_at dksX8_aDuel_1 12 rfl rfl)
theorem dX8_aDuel_36 : decode cX8_aDuel 36 = .ok (.bipush 16, 2) := dk_16 16 (dk_at dksX8_aDuel_1 13 rfl rfl)
theorem dX8_aDuel_38 : decode cX8_aDuel 38 = .ok (.if_icmp .le 9, 3) := dk_164 0 9 (dk_at dksX8_aDuel_1 15 rfl rfl)
theorem dX8_aDuel_41 : decode cX8_aDuel 41 = .ok (.aload_n 0, 1) := dk_42 (dk_at dksX8_aDuel_1 18 rfl rfl)
theorem dX8_aDuel_42 : decode cX8_aDuel 42 = .ok (.iconst 2, 1) := dk_5 (dk_at dksX8_aDuel_1 19 rfl rfl)
theorem dX8_aDuel_43 : decode cX8_aDuel 43 = .ok (.invokevirtual 160, 3) := dk_182 0 160 (dk_at dksX8_aDuel_1 20 rfl rfl)
theorem dX8_aDuel_46 : decode cX8_aDuel 46 = .ok (.ireturn, 1) := dk_172 (dk_at dksX8_aDuel_1 23 rfl rfl)
theorem dX8_aDuel_47 : decode cX8_aDuel 47 = .ok (.aload_n 0, 1) := dk_42 (dk_at dksX8_aDuel_2 0 rfl rfl)
theorem dX8_aDuel_48 : decode cX8_aDuel 48 = .ok (.getfield 7, 3) := dk_180 0 7 (dk_at dksX8_aDuel_2 1 rfl rfl)
theorem dX8_aDuel_51 : decode cX8_aDuel 51 = .ok (.sipush 5605, 3) := dk_17 21 229 (dk_at dksX8_aDuel_2 4 rfl rfl)
theorem dX8_aDuel_54 : decode cX8_aDuel 54 = .ok (.iload_n 1, 1) := dk_27 (dk_at dksX8_aDuel_2 7 rfl rfl)
theorem dX8_aDuel_55 : decode cX8_aDuel 55 = .ok (.bipush 13, 2) := dk_16 13 (dk_at dksX8_aDuel_2 8 rfl rfl)
theorem dX8_aDuel_57 : decode cX8_aDuel 57 = .ok (.isub, 1) := dk_100 (dk_at dksX8_aDuel_2 10 rfl rfl)
theorem dX8_aDuel_58 : decode cX8_aDuel 58 = .ok (.iastore, 1) := dk_79 (dk_at dksX8_aDuel_2 11 rfl rfl)
theorem dX8_aDuel_59 : decode cX8_aDuel 59 = .ok (.aload_n 0, 1) := dk_42 (dk_at dksX8_aDuel_2 12 rfl rfl)
theorem dX8_aDuel_60 : decode cX8_aDuel 60 = .ok (.invokevirtual 154, 3) := dk_182 0 154 (dk_at dksX8_aDuel_2 13 rfl rfl)
theorem dX8_aDuel_63 : decode cX8_aDuel 63 = .ok (.iconst 1, 1) := dk_4 (dk_at dksX8_aDuel_2 16 rfl rfl)
theorem dX8_aDuel_64 : decode cX8_aDuel 64 = .ok (.ireturn, 1) := dk_172 (dk_at dksX8_aDuel_2 17 rfl rfl)
abbrev cX8_taken : ByteArray := prog_17_method_36_code
def yX8_taken : MethodName := ⟨RX8, "taken", "(I)I"⟩
def dkwX8_taken_1 : List UInt8 := [42, 27, 182, 0, 82, 172]
abbrev dktX8_taken_1 : List UInt8 := dkwX8_taken_1 ++ []
def dkwX8_taken_0 : List UInt8 := [42, 42, 180, 0, 148, 181, 0, 37, 42, 180, 0, 148, 158, 0, 12, 42, 16, 9, 182, 0, 78, 167, 0, 8]
abbrev dktX8_taken_0 : List UInt8 := dkwX8_taken_0 ++ dktX8_taken_1
theorem dksX8_taken_0 : cX8_taken.data.toList.drop 0 = dktX8_taken_0 := by decide +kernel
theorem dksX8_taken_1 : cX8_taken.data.toList.drop 24 = dktX8_taken_1 := dk_seg dksX8_taken_0 24 rfl rfl
theorem dX8_taken_0 : decode cX8_taken 0 = .ok (.aload_n 0, 1) := dk_42 (dk_at dksX8_taken_0 0 rfl rfl)
theorem dX8_taken_1 : decode cX8_taken 1 = .ok (.aload_n 0, 1) := dk_42 (dk_at dksX8_taken_0 1 rfl rfl)
theorem dX8_taken_2 : decode cX8_taken 2 = .ok (.getfield 148, 3) := dk_180 0 148 (dk_at dksX8_taken_0 2 rfl rfl)
theorem dX8_taken_5 : decode cX8_taken 5 = .ok (.putfield 37, 3) := dk_181 0 37 (dk_at dksX8_taken_0 5 rfl rfl)
theorem dX8_taken_8 : decode cX8_taken 8 = .ok (.aload_n 0, 1) := dk_42 (dk_at dksX8_taken_0 8 rfl rfl)
theorem dX8_taken_9 : decode cX8_taken 9 = .ok (.getfield 148, 3) := dk_180 0 148 (dk_at dksX8_taken_0 9 rfl rfl)
theorem dX8_taken_12 : decode cX8_taken 12 = .ok (.ifCond .le 12, 3) := dk_158 0 12 (dk_at dksX8_taken_0 12 rfl rfl)
theorem dX8_taken_15 : decode cX8_taken 15 = .ok (.aload_n 0, 1) := dk_42 (dk_at dksX8_taken_0 15 rfl rfl)
theorem dX8_taken_16 : decode cX8_taken 16 = .ok (.bipush 9, 2) := dk_16 9 (dk_at dksX8_taken_0 16 rfl rfl)
theorem dX8_taken_18 : decode cX8_taken 18 = .ok (.invokevirtual 78, 3) := dk_182 0 78 (dk_at dksX8_taken_0 18 rfl rfl)
theorem dX8_taken_21 : decode cX8_taken 21 = .ok (.goto 8, 3) := dk_167 0 8 (dk_at dksX8_taken_0 21 rfl rfl)
theorem dX8_taken_24 : decode cX8_taken 24 = .ok (.aload_n 0, 1) := dk_42 (dk_at dksX8_taken_1 0 rfl rfl)
theorem dX8_taken_25 : decode cX8_taken 25 = .ok (.iload_n 1, 1) := dk_27 (dk_at dksX8_taken_1 1 rfl rfl)
theorem dX8_taken_26 : decode cX8_taken 26 = .ok (.invokevirtual 82, 3) := dk_182 0 82 (dk_at dksX8_taken_1 2 rfl rfl)
theorem dX8_taken_29 : decode cX8_taken 29 = .ok (.ireturn, 1) := dk_172 (dk_at dksX8_taken_1 5 rfl rfl)
abbrev cX8_gives : ByteArray := prog_17_method_8_code
def yX8_gives : MethodName := ⟨RX8, "gives", "(I)I"⟩
def dkwX8_gives_0 : List UInt8 := [42, 3, 181, 0, 72, 27, 172]
abbrev dktX8_gives_0 : List UInt8 := dkwX8_gives_0 ++ []
theorem dksX8_gives_0 : cX8_gives.data.toList.drop 0 = dktX8_gives_0 := by decide +kernel
theorem dX8_gives_0 : decode cX8_gives 0 = .ok (.aload_n 0, 1) := dk_42 (dk_at dksX8_gives_0 0 rfl rfl)
theorem dX8_gives_1 : decode cX8_gives 1 = .ok (.iconst 0, 1) := dk_3 (dk_at dksX8_gives_0 1 rfl rfl)
theorem dX8_gives_2 : decode cX8_gives 2 = .ok (.putfield 72, 3) := dk_181 0 72 (dk_at dksX8_gives_0 2 rfl rfl)
theorem dX8_gives_5 : decode cX8_gives 5 = .ok (.iload_n 1, 1) := dk_27 (dk_at dksX8_gives_0 5 rfl rfl)
theorem dX8_gives_6 : decode cX8_gives 6 = .ok (.ireturn, 1) := dk_172 (dk_at dksX8_gives_0 6 rfl rfl)
abbrev cX8_days : ByteArray := prog_17_method_56_code
def yX8_days : MethodName := ⟨RX8, "days", "(I)I"⟩
def dkwX8_days_6 : List UInt8 := [182, 0, 241, 172]
abbrev dktX8_days_6 : List UInt8 := dkwX8_days_6 ++ []
def dkwX8_days_5 : List UInt8 := [42, 180, 0, 7, 17, 21, 224, 29, 96, 46, 79, 132, 3, 1, 167, 255, 230, 42, 42, 180, 1, 0]
abbrev dktX8_days_5 : List UInt8 := dkwX8_days_5 ++ dktX8_days_6
def dkwX8_days_4 : List UInt8 := [180, 0, 7, 17, 21, 233, 46, 79, 17, 4, 6, 62, 29, 17, 5, 115, 162, 0, 25, 42, 180, 0, 7, 29]
abbrev dktX8_days_4 : List UInt8 := dkwX8_days_4 ++ dktX8_days_5
def dkwX8_days_3 : List UInt8 := [158, 0, 9, 42, 5, 182, 0, 160, 87, 42, 180, 0, 148, 154, 0, 51, 42, 180, 0, 7, 16, 9, 42]
abbrev dktX8_days_3 : List UInt8 := dkwX8_days_3 ++ dktX8_days_4
def dkwX8_days_2 : List UInt8 := [153, 0, 11, 42, 182, 1, 6, 61, 167, 255, 240, 42, 180, 0, 148, 154, 0, 16, 42, 180, 0, 253]
abbrev dktX8_days_2 : List UInt8 := dkwX8_days_2 ++ dktX8_days_3
def dkwX8_days_1 : List UInt8 := [3, 79, 42, 3, 181, 0, 253, 42, 3, 181, 1, 0, 4, 61, 28, 153, 0, 18, 42, 180, 0, 123]
abbrev dktX8_days_1 : List UInt8 := dkwX8_days_1 ++ dktX8_days_2
def dkwX8_days_0 : List UInt8 := [42, 27, 17, 1, 44, 182, 0, 231, 154, 0, 9, 42, 4, 182, 0, 78, 172, 42, 180, 0, 7, 17, 21, 233]
abbrev dktX8_days_0 : List UInt8 := dkwX8_days_0 ++ dktX8_days_1
theorem dksX8_days_0 : cX8_days.data.toList.drop 0 = dktX8_days_0 := by decide +kernel
theorem dksX8_days_1 : cX8_days.data.toList.drop 24 = dktX8_days_1 := dk_seg dksX8_days_0 24 rfl rfl
theorem dksX8_days_2 : cX8_days.data.toList.drop 46 = dktX8_days_2 := dk_seg dksX8_days_1 22 rfl rfl
theorem dksX8_days_3 : cX8_days.data.toList.drop 68 = dktX8_days_3 := dk_seg dksX8_days_2 22 rfl rfl
theorem dksX8_days_4 : cX8_days.data.toList.drop 91 = dktX8_days_4 := dk_seg dksX8_days_3 23 rfl rfl
theorem dksX8_days_5 : cX8_days.data.toList.drop 115 = dktX8_days_5 := dk_seg dksX8_days_4 24 rfl rfl
theorem dksX8_days_6 : cX8_days.data.toList.drop 137 = dktX8_days_6 := dk_seg dksX8_days_5 22 rfl rfl
theorem dX8_days_0 : decode cX8_days 0 = .ok (.aload_n 0, 1) := dk_42 (dk_at dksX8_days_0 0 rfl rfl)
theorem dX8_days_1 : decode cX8_days 1 = .ok (.iload_n 1, 1) := dk_27 (dk_at dksX8_days_0 1 rfl rfl)
theorem dX8_days_2 : decode cX8_days 2 = .ok (.sipush 300, 3) := dk_17 1 44 (dk_at dksX8_days_0 2 rfl rfl)
theorem dX8_days_5 : decode cX8_days 5 = .ok (.invokevirtual 231, 3) := dk_182 0 231 (dk_at dksX8_days_0 5 rfl rfl)
theorem dX8_days_8 : decode cX8_days 8 = .ok (.ifCond .ne 9, 3) := dk_154 0 9 (dk_at dksX8_days_0 8 rfl rfl)
theorem dX8_days_11 : decode cX8_days 11 = .ok (.aload_n 0, 1) := dk_42 (dk_at dksX8_days_0 11 rfl rfl)
theorem dX8_days_12 : decode cX8_days 12 = .ok (.iconst 1, 1) := dk_4 (dk_at dksX8_days_0 12 rfl rfl)
theorem dX8_days_13 : decode cX8_days 13 = .ok (.invokevirtual 78, 3) := dk_182 0 78 (dk_at dksX8_days_0 13 rfl rfl)
theorem dX8_days_16 : decode cX8_days 16 = .ok (.ireturn, 1) := dk_172 (dk_at dksX8_days_0 16 rfl rfl)
theorem dX8_days_17 : decode cX8_days 17 = .ok (.aload_n 0, 1) := dk_42 (dk_at dksX8_days_0 17 rfl rfl)
theorem dX8_days_18 : decode cX8_days 18 = .ok (.getfield 7, 3) := dk_180 0 7 (dk_at dksX8_days_0 18 rfl rfl)
theorem dX8_days_21 : decode cX8_days 21 = .ok (.sipush 5609, 3) := dk_17 21 233 (dk_at dksX8_days_0 21 rfl rfl)
theorem dX8_days_24 : decode cX8_days 24 = .ok (.iconst 0, 1) := dk_3 (dk_at dksX8_days_1 0 rfl rfl)
theorem dX8_days_25 : decode cX8_days 25 = .ok (.iastore, 1) := dk_79 (dk_at dksX8_days_1 1 rfl rfl)
theorem dX8_days_26 : decode cX8_days 26 = .ok (.aload_n 0, 1) := dk_42 (dk_at dksX8_days_1 2 rfl rfl)
theorem dX8_days_27 : decode cX8_days 27 = .ok (.iconst 0, 1) := dk_3 (dk_at dksX8_days_1 3 rfl rfl)
theorem dX8_days_28 : decode cX8_days 28 = .ok (.putfield 253, 3) := dk_181 0 253 (dk_at dksX8_days_1 4 rfl rfl)
theorem dX8_days_31 : decode cX8_days 31 = .ok (.aload_n 0, 1) := dk_42 (dk_at dksX8_days_1 7 rfl rfl)
theorem dX8_days_32 : decode cX8_days 32 = .ok (.iconst 0, 1) := dk_3 (dk_at dksX8_days_1 8 rfl rfl)
theorem dX8_days_33 : decode cX8_days 33 = .ok (.putfield 256, 3) := dk_181 1 0 (dk_at dksX8_days_1 9 rfl rfl)
theorem dX8_days_36 : decode cX8_days 36 = .ok (.iconst 1, 1) := dk_4 (dk_at dksX8_days_1 12 rfl rfl)
theorem dX8_days_37 : decode cX8_days 37 = .ok (.istore_n 2, 1) := dk_61 (dk_at dksX8_days_1 13 rfl rfl)
theorem dX8_days_38 : decode cX8_days 38 = .ok (.iload_n 2, 1) := dk_28 (dk_at dksX8_days_1 14 rfl rfl)
theorem dX8_days_39 : decode cX8_days 39 = .ok (.ifCond .eq 18, 3) := dk_153 0 18 (dk_at dksX8_days_1 15 rfl rfl)
theorem dX8_days_42 : decode cX8_days 42 = .ok (.aload_n 0, 1) := dk_42 (dk_at dksX8_days_1 18 rfl rfl)
theorem dX8_days_43 : decode cX8_days 43 = .ok (.getfield 123, 3) := dk_180 0 123 (dk_at dksX8_days_1 19 rfl rfl)
theorem dX8_days_46 : decode cX8_days 46 = .ok (.ifCond .eq 11, 3) := dk_153 0 11 (dk_at dksX8_days_2 0 rfl rfl)
theorem dX8_days_49 : decode cX8_days 49 = .ok (.aload_n 0, 1) := dk_42 (dk_at dksX8_days_2 3 rfl rfl)
theorem dX8_days_50 : decode cX8_days 50 = .ok (.invokevirtual 262, 3) := dk_182 1 6 (dk_at dksX8_days_2 4 rfl rfl)
theorem dX8_days_53 : decode cX8_days 53 = .ok (.istore_n 2, 1) := dk_61 (dk_at dksX8_days_2 7 rfl rfl)
theorem dX8_days_54 : decode cX8_days 54 = .ok (.goto (-16), 3) := dk_167 255 240 (dk_at dksX8_days_2 8 rfl rfl)
theorem dX8_days_57 : decode cX8_days 57 = .ok (.aload_n 0, 1) := dk_42 (dk_at dksX8_days_2 11 rfl rfl)
theorem dX8_days_58 : decode cX8_days 58 = .ok (.getfield 148, 3) := dk_180 0 148 (dk_at dksX8_days_2 12 rfl rfl)
theorem dX8_days_61 : decode cX8_days 61 = .ok (.ifCond .ne 16, 3) := dk_154 0 16 (dk_at dksX8_days_2 15 rfl rfl)
theorem dX8_days_64 : decode cX8_days 64 = .ok (.aload_n 0, 1) := dk_42 (dk_at dksX8_days_2 18 rfl rfl)
theorem dX8_days_65 : decode cX8_days 65 = .ok (.getfield 253, 3) := dk_180 0 253 (dk_at dksX8_days_2 19 rfl rfl)
theorem dX8_days_68 : decode cX8_days 68 = .ok (.ifCond .le 9, 3) := dk_158 0 9 (dk_at dksX8_days_3 0 rfl rfl)
theorem dX8_days_71 : decode cX8_days 71 = .ok (.aload_n 0, 1) := dk_42 (dk_at dksX8_days_3 3 rfl rfl)
theorem dX8_days_72 : decode cX8_days 72 = .ok (.iconst 2, 1) := dk_5 (dk_at dksX8_days_3 4 rfl rfl)
theorem dX8_days_73 : decode cX8_days 73 = .ok (.invokevirtual 160, 3) := dk_182 0 160 (dk_at dksX8_days_3 5 rfl rfl)
theorem dX8_days_76 : decode cX8_days 76 = .ok (.pop, 1) := dk_87 (dk_at dksX8_days_3 8 rfl rfl)
theorem dX8_days_77 : decode cX8_days 77 = .ok (.aload_n 0, 1) := dk_42 (dk_at dksX8_days_3 9 rfl rfl)
theorem dX8_days_78 : decode cX8_days 78 = .ok (.getfield 148, 3) := dk_180 0 148 (dk_at dksX8_days_3 10 rfl rfl)
theorem dX8_days_81 : decode cX8_days 81 = .ok (.ifCond .ne 51, 3) := dk_154 0 51 (dk_at dksX8_days_3 13 rfl rfl)
theorem dX8_days_84 : decode cX8_days 84 = .ok (.aload_n 0, 1) := dk_42 (dk_at dksX8_days_3 16 rfl rfl)
theorem dX8_days_85 : decode cX8_days 85 = .ok (.getfield 7, 3) := dk_180 0 7 (dk_at dksX8_days_3 17 rfl rfl)
theorem dX8_days_88 : decode cX8_days 88 = .ok (.bipush 9, 2) := dk_16 9 (dk_at dksX8_days_3 20 rfl rfl)
theorem dX8_days_90 : decode cX8_days 90 = .ok (.aload_n 0, 1) := dk_42 (dk_at dksX8_days_3 22 rfl rfl)
theorem dX8_days_91 : decode cX8_days 91 = .ok (.getfield 7, 3) := dk_180 0 7 (dk_at dksX8_days_4 0 rfl rfl)
theorem dX8_days_94 : decode cX8_days 94 = .ok (.sipush 5609, 3) := dk_17 21 233 (dk_at dksX8_days_4 3 rfl rfl)
theorem dX8_days_97 : decode cX8_days 97 = .ok (.iaload, 1) := dk_46 (dk_at dksX8_days_4 6 rfl rfl)
theorem dX8_days_98 : decode cX8_days 98 = .ok (.iastore, 1) := dk_79 (dk_at dksX8_days_4 7 rfl rfl)
theorem dX8_days_99 : decode cX8_days 99 = .ok (.sipush 1030, 3) := dk_17 4 6 (dk_at dksX8_days_4 8 rfl rfl)
theorem dX8_days_102 : decode cX8_days 102 = .ok (.istore_n 3, 1) := dk_62 (dk_at dksX8_days_4 11 rfl rfl)
theorem dX8_days_103 : decode cX8_days 103 = .ok (.iload_n 3, 1) := dk_29 (dk_at dksX8_days_4 12 rfl rfl)
theorem dX8_days_104 : decode cX8_days 104 = .ok (.sipush 1395, 3) := dk_17 5 115 (dk_at dksX8_days_4 13 rfl rfl)
theorem dX8_days_107 : decode cX8_days 107 = .ok (.if_icmp .ge 25, 3) := dk_162 0 25 (dk_at dksX8_days_4 16 rfl rfl)
theorem dX8_days_110 : decode cX8_days 110 = .ok (.aload_n 0, 1) := dk_42 (dk_at dksX8_days_4 19 rfl rfl)
theorem dX8_days_111 : decode cX8_days 111 = .ok (.getfield 7, 3) := dk_180 0 7 (dk_at dksX8_days_4 20 rfl rfl)
theorem dX8_days_114 : decode cX8_days 114 = .ok (.iload_n 3, 1) := dk_29 (dk_at dksX8_days_4 23 rfl rfl)
theorem dX8_days_115 : decode cX8_days 115 = .ok (.aload_n 0, 1) := dk_42 (dk_at dksX8_days_5 0 rfl rfl)
theorem dX8_days_116 : decode cX8_days 116 = .ok (.getfield 7, 3) := dk_180 0 7 (dk_at dksX8_days_5 1 rfl rfl)
theorem dX8_days_119 : decode cX8_days 119 = .ok (.sipush 5600, 3) := dk_17 21 224 (dk_at dksX8_days_5 4 rfl rfl)
theorem dX8_days_122 : decode cX8_days 122 = .ok (.iload_n 3, 1) := dk_29 (dk_at dksX8_days_5 7 rfl rfl)
theorem dX8_days_123 : decode cX8_days 123 = .ok (.iadd, 1) := dk_96 (dk_at dksX8_days_5 8 rfl rfl)
theorem dX8_days_124 : decode cX8_days 124 = .ok (.iaload, 1) := dk_46 (dk_at dksX8_days_5 9 rfl rfl)
theorem dX8_days_125 : decode cX8_days 125 = .ok (.iastore, 1) := dk_79 (dk_at dksX8_days_5 10 rfl rfl)
theorem dX8_days_126 : decode cX8_days 126 = .ok (.iinc 3 1, 3) := dk_132 3 1 (dk_at dksX8_days_5 11 rfl rfl)
theorem dX8_days_129 : decode cX8_days 129 = .ok (.goto (-26), 3) := dk_167 255 230 (dk_at dksX8_days_5 14 rfl rfl)
theorem dX8_days_132 : decode cX8_days 132 = .ok (.aload_n 0, 1) := dk_42 (dk_at dksX8_days_5 17 rfl rfl)
theorem dX8_days_133 : decode cX8_days 133 = .ok (.aload_n 0, 1) := dk_42 (dk_at dksX8_days_5 18 rfl rfl)
theorem dX8_days_134 : decode cX8_days 134 = .ok (.getfield 256, 3) := dk_180 1 0 (dk_at dksX8_days_5 19 rfl rfl)
theorem dX8_days_137 : decode cX8_days 137 = .ok (.invokevirtual 241, 3) := dk_182 0 241 (dk_at dksX8_days_6 0 rfl rfl)
theorem dX8_days_140 : decode cX8_days 140 = .ok (.ireturn, 1) := dk_172 (dk_at dksX8_days_6 3 rfl rfl)
abbrev cX8_dayStep : ByteArray := prog_17_method_55_code
def yX8_dayStep : MethodName := ⟨RX8, "dayStep", "()Z"⟩
def dkwX8_dayStep_12 : List UInt8 := [79, 42, 16, 59, 182, 0, 195, 172]
abbrev dktX8_dayStep_12 : List UInt8 := dkwX8_dayStep_12 ++ []
def dkwX8_dayStep_11 : List UInt8 := [79, 42, 180, 0, 7, 17, 25, 230, 16, 6, 42, 180, 0, 44, 42, 180, 0, 253, 46, 104, 96, 7, 96, 28]
abbrev dktX8_dayStep_11 : List UInt8 := dkwX8_dayStep_11 ++ dktX8_dayStep_12
def dkwX8_dayStep_10 : List UInt8 := [180, 0, 253, 4, 100, 181, 0, 253, 42, 180, 0, 7, 29, 7, 96, 42, 180, 0, 44, 42, 180, 0, 253, 46]
abbrev dktX8_dayStep_10 : List UInt8 := dkwX8_dayStep_10 ++ dktX8_dayStep_11
def dkwX8_dayStep_9 : List UInt8 := [42, 180, 0, 253, 28, 79, 42, 89, 180, 0, 253, 4, 96, 181, 0, 253, 27, 16, 26, 160, 0, 54, 42, 89]
abbrev dktX8_dayStep_9 : List UInt8 := dkwX8_dayStep_9 ++ dktX8_dayStep_10
def dkwX8_dayStep_8 : List UInt8 := [42, 182, 0, 154, 42, 27, 29, 182, 1, 3, 154, 0, 5, 3, 172, 21, 4, 153, 0, 23, 42, 180, 0, 44]
abbrev dktX8_dayStep_8 : List UInt8 := dkwX8_dayStep_8 ++ dktX8_dayStep_9
def dkwX8_dayStep_7 : List UInt8 := [29, 21, 5, 96, 3, 79, 132, 5, 1, 167, 255, 236, 42, 180, 0, 7, 17, 21, 233, 92, 46, 4, 96, 79]
abbrev dktX8_dayStep_7 : List UInt8 := dkwX8_dayStep_7 ++ dktX8_dayStep_8
def dkwX8_dayStep_6 : List UInt8 := [181, 1, 0, 42, 180, 0, 7, 29, 27, 79, 4, 54, 5, 21, 5, 16, 6, 162, 0, 19, 42, 180, 0, 7]
abbrev dktX8_dayStep_6 : List UInt8 := dkwX8_dayStep_6 ++ dktX8_dayStep_7
def dkwX8_dayStep_5 : List UInt8 := [16, 7, 182, 0, 160, 172, 42, 89, 180, 1, 0, 27, 16, 26, 160, 0, 7, 3, 167, 0, 4, 4, 96]
abbrev dktX8_dayStep_5 : List UInt8 := dkwX8_dayStep_5 ++ dktX8_dayStep_6
def dkwX8_dayStep_4 : List UInt8 := [160, 0, 10, 42, 16, 6, 182, 0, 160, 172, 21, 4, 153, 0, 18, 42, 180, 0, 253, 6, 160, 0, 10, 42]
abbrev dktX8_dayStep_4 : List UInt8 := dkwX8_dayStep_4 ++ dktX8_dayStep_5
def dkwX8_dayStep_3 : List UInt8 := [180, 0, 253, 154, 0, 9, 42, 5, 182, 0, 160, 172, 27, 16, 26, 159, 0, 19, 42, 180, 1, 0, 16, 30]
abbrev dktX8_dayStep_3 : List UInt8 := dkwX8_dayStep_3 ++ dktX8_dayStep_4
def dkwX8_dayStep_2 : List UInt8 := [159, 0, 15, 27, 16, 18, 161, 0, 22, 27, 16, 27, 163, 0, 16, 27, 16, 26, 160, 0, 16, 42]
abbrev dktX8_dayStep_2 : List UInt8 := dkwX8_dayStep_2 ++ dktX8_dayStep_3
def dkwX8_dayStep_1 : List UInt8 := [62, 27, 16, 24, 159, 0, 9, 27, 16, 25, 160, 0, 7, 4, 167, 0, 4, 3, 54, 4, 27, 4]
abbrev dktX8_dayStep_1 : List UInt8 := dkwX8_dayStep_1 ++ dktX8_dayStep_2
def dkwX8_dayStep_0 : List UInt8 := [42, 18, 178, 182, 0, 163, 60, 42, 180, 0, 7, 17, 21, 233, 46, 61, 17, 25, 230, 16, 6, 28, 104, 96]
abbrev dktX8_dayStep_0 : List UInt8 := dkwX8_dayStep_0 ++ dktX8_dayStep_1
theorem dksX8_dayStep_0 : cX8_dayStep.data.toList.drop 0 = dktX8_dayStep_0 := by decide +kernel
theorem dksX8_dayStep_1 : cX8_dayStep.data.toList.drop 24 = dktX8_dayStep_1 := dk_seg dksX8_dayStep_0 24 rfl rfl
theorem dksX8_dayStep_2 : cX8_dayStep.data.toList.drop 46 = dktX8_dayStep_2 := dk_seg dksX8_dayStep_1 22 rfl rfl
theorem dksX8_dayStep_3 : cX8_dayStep.data.toList.drop 68 = dktX8_dayStep_3 := dk_seg dksX8_dayStep_2 22 rfl rfl
theorem dksX8_dayStep_4 : cX8_dayStep.data.toList.drop 92 = dktX8_dayStep_4 := dk_seg dksX8_dayStep_3 24 rfl rfl
theorem dksX8_dayStep_5 : cX8_dayStep.data.toList.drop 116 = dktX8_dayStep_5 := dk_seg dksX8_dayStep_4 24 rfl rfl
theorem dksX8_dayStep_6 : cX8_dayStep.data.toList.drop 139 = dktX8_dayStep_6 := dk_seg dksX8_dayStep_5 23 rfl rfl
theorem dksX8_dayStep_7 : cX8_dayStep.data.toList.drop 163 = dktX8_dayStep_7 := dk_seg dksX8_dayStep_6 24 rfl rfl
theorem dksX8_dayStep_8 : cX8_dayStep.data.toList.drop 187 = dktX8_dayStep_8 := dk_seg dksX8_dayStep_7 24 rfl rfl
theorem dksX8_dayStep_9 : cX8_dayStep.data.toList.drop 211 = dktX8_dayStep_9 := dk_seg dksX8_dayStep_8 24 rfl rfl
theorem dksX8_dayStep_10 : cX8_dayStep.data.toList.drop 235 = dktX8_dayStep_10 := dk_seg dksX8_dayStep_9 24 rfl rfl
theorem dksX8_dayStep_11 : cX8_dayStep.data.toList.drop 259 = dktX8_dayStep_11 := dk_seg dksX8_dayStep_10 24 rfl rfl
theorem dksX8_dayStep_12 : cX8_dayStep.data.toList.drop 283 = dktX8_dayStep_12 := dk_seg dksX8_dayStep_11 24 rfl rfl
theorem dX8_dayStep_0 : decode cX8_dayStep 0 = .ok (.aload_n 0, 1) := dk_42 (dk_at dksX8_dayStep_0 0 rfl rfl)
theorem dX8_dayStep_1 : decode cX8_dayStep 1 = .ok (.ldc 178, 2) := dk_18 178 (dk_at dksX8_dayStep_0 1 rfl rfl)
theorem dX8_dayStep_3 : decode cX8_dayStep 3 = .ok (.invokevirtual 163, 3) := dk_182 0 163 (dk_at dksX8_dayStep_0 3 rfl rfl)
theorem dX8_dayStep_6 : decode cX8_dayStep 6 = .ok (.istore_n 1, 1) := dk_60 (dk_at dksX8_dayStep_0 6 rfl rfl)
theorem dX8_dayStep_7 : decode cX8_dayStep 7 = .ok (.aload_n 0, 1) := dk_42 (dk_at dksX8_dayStep_0 7 rfl rfl)
theorem dX8_dayStep_8 : decode cX8_dayStep 8 = .ok (.getfield 7, 3) := dk_180 0 7 (dk_at dksX8_dayStep_0 8 rfl rfl)
theorem dX8_dayStep_11 : decode cX8_dayStep 11 = .ok (.sipush 5609, 3) := dk_17 21 233 (dk_at dksX8_dayStep_0 11 rfl rfl)
theorem dX8_dayStep_14 : decode cX8_dayStep 14 = .ok (.iaload, 1) := dk_46 (dk_at dksX8_dayStep_0 14 rfl rfl)
theorem dX8_dayStep_15 : decode cX8_dayStep 15 = .ok (.istore_n 2, 1) := dk_61 (dk_at dksX8_dayStep_0 15 rfl rfl)
theorem dX8_dayStep_16 : decode cX8_dayStep 16 = .ok (.sipush 6630, 3) := dk_17 25 230 (dk_at dksX8_dayStep_0 16 rfl rfl)
theorem dX8_dayStep_19 : decode cX8_dayStep 19 = .ok (.bipush 6, 2) := dk_16 6 (dk_at dksX8_dayStep_0 19 rfl rfl)
theorem dX8_dayStep_21 : decode cX8_dayStep 21 = .ok (.iload_n 2, 1) := dk_28 (dk_at dksX8_dayStep_0 21 rfl rfl)
theorem dX8_dayStep_22 : decode cX8_dayStep 22 = .ok (.imul, 1) := dk_104 (dk_at dksX8_dayStep_0 22 rfl rfl)
theorem dX8_dayStep_23 : decode cX8_dayStep 23 = .ok (.iadd, 1) := dk_96 (dk_at dksX8_dayStep_0 23 rfl rfl)
theorem dX8_dayStep_24 : decode cX8_dayStep 24 = .ok (.istore_n 3, 1) := dk_62 (dk_at dksX8_dayStep_1 0 rfl rfl)
theorem dX8_dayStep_25 : decode cX8_dayStep 25 = .ok (.iload_n 1, 1) := dk_27 (dk_at dksX8_dayStep_1 1 rfl rfl)
theorem dX8_dayStep_26 : decode cX8_dayStep 26 = .ok (.bipush 24, 2) := dk_16 24 (dk_at dksX8_dayStep_1 2 rfl rfl)
theorem dX8_dayStep_28 : decode cX8_dayStep 28 = .ok (.if_icmp .eq 9, 3) := dk_159 0 9 (dk_at dksX8_dayStep_1 4 rfl rfl)
theorem dX8_dayStep_31 : decode cX8_dayStep 31 = .ok (.iload_n 1, 1) := dk_27 (dk_at dksX8_dayStep_1 7 rfl rfl)
theorem dX8_dayStep_32 : decode cX8_dayStep 32 = .ok (.bipush 25, 2) := dk_16 25 (dk_at dksX8_dayStep_1 8 rfl rfl)
theorem dX8_dayStep_34 : decode cX8_dayStep 34 = .ok (.if_icmp .ne 7, 3) := dk_160 0 7 (dk_at dksX8_dayStep_1 10 rfl rfl)
theorem dX8_dayStep_37 : decode cX8_dayStep 37 = .ok (.iconst 1, 1) := dk_4 (dk_at dksX8_dayStep_1 13 rfl rfl)
theorem dX8_dayStep_38 : decode cX8_dayStep 38 = .ok (.goto 4, 3) := dk_167 0 4 (dk_at dksX8_dayStep_1 14 rfl rfl)
theorem dX8_dayStep_41 : decode cX8_dayStep 41 = .ok (.iconst 0, 1) := dk_3 (dk_at dksX8_dayStep_1 17 rfl rfl)
theorem dX8_dayStep_42 : decode cX8_dayStep 42 = .ok (.istore 4, 2) := dk_54 4 (dk_at dksX8_dayStep_1 18 rfl rfl)
theorem dX8_dayStep_44 : decode cX8_dayStep 44 = .ok (.iload_n 1, 1) := dk_27 (dk_at dksX8_dayStep_1 20 rfl rfl)
theorem dX8_dayStep_45 : decode cX8_dayStep 45 = .ok (.iconst 1, 1) := dk_4 (dk_at dksX8_dayStep_1 21 rfl rfl)
theorem dX8_dayStep_46 : decode cX8_dayStep 46 = .ok (.if_icmp .eq 15, 3) := dk_159 0 15 (dk_at dksX8_dayStep_2 0 rfl rfl)
theorem dX8_dayStep_49 : decode cX8_dayStep 49 = .ok (.iload_n 1, 1) := dk_27 (dk_at dksX8_dayStep_2 3 rfl rfl)
theorem dX8_dayStep_50 : decode cX8_dayStep 50 = .ok (.bipush 18, 2) := dk_16 18 (dk_at dksX8_dayStep_2 4 rfl rfl)
theorem dX8_dayStep_52 : decode cX8_dayStep 52 = .ok (.if_icmp .lt 22, 3) := dk_161 0 22 (dk_at dksX8_dayStep_2 6 rfl rfl)
theorem dX8_dayStep_55 : decode cX8_dayStep 55 = .ok (.iload_n 1, 1) := dk_27 (dk_at dksX8_dayStep_2 9 rfl rfl)
theorem dX8_dayStep_56 : decode cX8_dayStep 56 = .ok (.bipush 27, 2) := dk_16 27 (dk_at dksX8_dayStep_2 10 rfl rfl)
theorem dX8_dayStep_58 : decode cX8_dayStep 58 = .ok (.if_icmp .gt 16, 3) := dk_163 0 16 (dk_at dksX8_dayStep_2 12 rfl rfl)
theorem dX8_dayStep_61 : decode cX8_dayStep 61 = .ok (.iload_n 1, 1) := dk_27 (dk_at dksX8_dayStep_2 15 rfl rfl)
theorem dX8_dayStep_62 : decode cX8_dayStep 62 = .ok (.bipush 26, 2) := dk_16 26 (dk_at dksX8_dayStep_2 16 rfl rfl)
theorem dX8_dayStep_64 : decode cX8_dayStep 64 = .ok (.if_icmp .ne 16, 3) := dk_160 0 16 (dk_at dksX8_dayStep_2 18 rfl rfl)
theorem dX8_dayStep_67 : decode cX8_dayStep 67 = .ok (.aload_n 0, 1) := dk_42 (dk_at dksX8_dayStep_2 21 rfl rfl)
theorem dX8_dayStep_68 : decode cX8_dayStep 68 = .ok (.getfield 253, 3) := dk_180 0 253 (dk_at dksX8_dayStep_3 0 rfl rfl)
theorem dX8_dayStep_71 : decode cX8_dayStep 71 = .ok (.ifCond .ne 9, 3) := dk_154 0 9 (dk_at dksX8_dayStep_3 3 rfl rfl)
theorem dX8_dayStep_74 : decode cX8_dayStep 74 = .ok (.aload_n 0, 1) := dk_42 (dk_at dksX8_dayStep_3 6 rfl rfl)
theorem dX8_dayStep_75 : decode cX8_dayStep 75 = .ok (.iconst 2, 1) := dk_5 (dk_at dksX8_dayStep_3 7 rfl rfl)
theorem dX8_dayStep_76 : decode cX8_dayStep 76 = .ok (.invokevirtual 160, 3) := dk_182 0 160 (dk_at dksX8_dayStep_3 8 rfl rfl)
theorem dX8_dayStep_79 : decode cX8_dayStep 79 = .ok (.ireturn, 1) := dk_172 (dk_at dksX8_dayStep_3 11 rfl rfl)
theorem dX8_dayStep_80 : decode cX8_dayStep 80 = .ok (.iload_n 1, 1) := dk_27 (dk_at dksX8_dayStep_3 12 rfl rfl)
theorem dX8_dayStep_81 : decode cX8_dayStep 81 = .ok (.bipush 26, 2) := dk_16 26 (dk_at dksX8_dayStep_3 13 rfl rfl)
theorem dX8_dayStep_83 : decode cX8_dayStep 83 = .ok (.if_icmp .eq 19, 3) := dk_159 0 19 (dk_at dksX8_dayStep_3 15 rfl rfl)
theorem dX8_dayStep_86 : decode cX8_dayStep 86 = .ok (.aload_n 0, 1) := dk_42 (dk_at dksX8_dayStep_3 18 rfl rfl)
theorem dX8_dayStep_87 : decode cX8_dayStep 87 = .ok (.getfield 256, 3) := dk_180 1 0 (dk_at dksX8_dayStep_3 19 rfl rfl)
theorem dX8_dayStep_90 : decode cX8_dayStep 90 = .ok (.bipush 30, 2) := dk_16 30 (dk_at dksX8_dayStep_3 22 rfl rfl)
theorem dX8_dayStep_92 : decode cX8_dayStep 92 = .ok (.if_icmp .ne 10, 3) := dk_160 0 10 (dk_at dksX8_dayStep_4 0 rfl rfl)
theorem dX8_dayStep_95 : decode cX8_dayStep 95 = .ok (.aload_n 0, 1) := dk_42 (dk_at dksX8_dayStep_4 3 rfl rfl)
theorem dX8_dayStep_96 : decode cX8_dayStep 96 = .ok (.bipush 6, 2) := dk_16 6 (dk_at dksX8_dayStep_4 4 rfl rfl)
theorem dX8_dayStep_98 : decode cX8_dayStep 98 = .ok (.invokevirtual 160, 3) := dk_182 0 160 (dk_at dksX8_dayStep_4 6 rfl rfl)
theorem dX8_dayStep_101 : decode cX8_dayStep 101 = .ok (.ireturn, 1) := dk_172 (dk_at dksX8_dayStep_4 9 rfl rfl)
theorem dX8_dayStep_102 : decode cX8_dayStep 102 = .ok (.iload 4, 2) := dk_21 4 (dk_at dksX8_dayStep_4 10 rfl rfl)
theorem dX8_dayStep_104 : decode cX8_dayStep 104 = .ok (.ifCond .eq 18, 3) := dk_153 0 18 (dk_at dksX8_dayStep_4 12 rfl rfl)
theorem dX8_dayStep_107 : decode cX8_dayStep 107 = .ok (.aload_n 0, 1) := dk_42 (dk_at dksX8_dayStep_4 15 rfl rfl)
theorem dX8_dayStep_108 : decode cX8_dayStep 108 = .ok (.getfield 253, 3) := dk_180 0 253 (dk_at dksX8_dayStep_4 16 rfl rfl)
theorem dX8_dayStep_111 : decode cX8_dayStep 111 = .ok (.iconst 3, 1) := dk_6 (dk_at dksX8_dayStep_4 19 rfl rfl)
theorem dX8_dayStep_112 : decode cX8_dayStep 112 = .ok (.if_icmp .ne 10, 3) := dk_160 0 10 (dk_at dksX8_dayStep_4 20 rfl rfl)
theorem dX8_dayStep_115 : decode cX8_dayStep 115 = .ok (.aload_n 0, 1) := dk_42 (dk_at dksX8_dayStep_4 23 rfl rfl)
theorem dX8_dayStep_116 : decode cX8_dayStep 116 = .ok (.bipush 7, 2) := dk_16 7 (dk_at dksX8_dayStep_5 0 rfl rfl)
theorem dX8_dayStep_118 : decode cX8_dayStep 118 = .ok (.invokevirtual 160, 3) := dk_182 0 160 (dk_at dksX8_dayStep_5 2 rfl rfl)
theorem dX8_dayStep_121 : decode cX8_dayStep 121 = .ok (.ireturn, 1) := dk_172 (dk_at dksX8_dayStep_5 5 rfl rfl)
theorem dX8_dayStep_122 : decode cX8_dayStep 122 = .ok (.aload_n 0, 1) := dk_42 (dk_at dksX8_dayStep_5 6 rfl rfl)
theorem dX8_dayStep_123 : decode cX8_dayStep 123 = .ok (.dup, 1) := dk_89 (dk_at dksX8_dayStep_5 7 rfl rfl)
theorem dX8_dayStep_124 : decode cX8_dayStep 124 = .ok (.getfield 256, 3) := dk_180 1 0 (dk_at dksX8_dayStep_5 8 rfl rfl)
theorem dX8_dayStep_127 : decode cX8_dayStep 127 = .ok (.iload_n 1, 1) := dk_27 (dk_at dksX8_dayStep_5 11 rfl rfl)
theorem dX8_dayStep_128 : decode cX8_dayStep 128 = .ok (.bipush 26, 2) := dk_16 26 (dk_at dksX8_dayStep_5 12 rfl rfl)
theorem dX8_dayStep_130 : decode cX8_dayStep 130 = .ok (.if_icmp .ne 7, 3) := dk_160 0 7 (dk_at dksX8_dayStep_5 14 rfl rfl)
theorem dX8_dayStep_133 : decode cX8_dayStep 133 = .ok (.iconst 0, 1) := dk_3 (dk_at dksX8_dayStep_5 17 rfl rfl)
theorem dX8_dayStep_134 : decode cX8_dayStep 134 = .ok (.goto 4, 3) := dk_167 0 4 (dk_at dksX8_dayStep_5 18 rfl rfl)
theorem dX8_dayStep_137 : decode cX8_dayStep 137 = .ok (.iconst 1, 1) := dk_4 (dk_at dksX8_dayStep_5 21 rfl rfl)
theorem dX8_dayStep_138 : decode cX8_dayStep 138 = .ok (.iadd, 1) := dk_96 (dk_at dksX8_dayStep_5 22 rfl rfl)
theorem dX8_dayStep_139 : decode cX8_dayStep 139 = .ok (.putfield 256, 3) := dk_181 1 0 (dk_at dksX8_dayStep_6 0 rfl rfl)
theorem dX8_dayStep_142 : decode cX8_dayStep 142 = .ok (.aload_n 0, 1) := dk_42 (dk_at dksX8_dayStep_6 3 rfl rfl)
theorem dX8_dayStep_143 : decode cX8_dayStep 143 = .ok (.getfield 7, 3) := dk_180 0 7 (dk_at dksX8_dayStep_6 4 rfl rfl)
theorem dX8_dayStep_146 : decode cX8_dayStep 146 = .ok (.iload_n 3, 1) := dk_29 (dk_at dksX8_dayStep_6 7 rfl rfl)
theorem dX8_dayStep_147 : decode cX8_dayStep 147 = .ok (.iload_n 1, 1) := dk_27 (dk_at dksX8_dayStep_6 8 rfl rfl)
theorem dX8_dayStep_148 : decode cX8_dayStep 148 = .ok (.iastore, 1) := dk_79 (dk_at dksX8_dayStep_6 9 rfl rfl)
theorem dX8_dayStep_149 : decode cX8_dayStep 149 = .ok (.iconst 1, 1) := dk_4 (dk_at dksX8_dayStep_6 10 rfl rfl)
theorem dX8_dayStep_150 : decode cX8_dayStep 150 = .ok (.istore 5, 2) := dk_54 5 (dk_at dksX8_dayStep_6 11 rfl rfl)
theorem dX8_dayStep_152 : decode cX8_dayStep 152 = .ok (.iload 5, 2) := dk_21 5 (dk_at dksX8_dayStep_6 13 rfl rfl)
theorem dX8_dayStep_154 : decode cX8_dayStep 154 = .ok (.bipush 6, 2) := dk_16 6 (dk_at dksX8_dayStep_6 15 rfl rfl)
theorem dX8_dayStep_156 : decode cX8_dayStep 156 = .ok (.if_icmp .ge 19, 3) := dk_162 0 19 (dk_at dksX8_dayStep_6 17 rfl rfl)
theorem dX8_dayStep_159 : decode cX8_dayStep 159 = .ok (.aload_n 0, 1) := dk_42 (dk_at dksX8_dayStep_6 20 rfl rfl)
theorem dX8_dayStep_160 : decode cX8_dayStep 160 = .ok (.getfield 7, 3) := dk_180 0 7 (dk_at dksX8_dayStep_6 21 rfl rfl)
theorem dX8_dayStep_163 : decode cX8_dayStep 163 = .ok (.iload_n 3, 1) := dk_29 (dk_at dksX8_dayStep_7 0 rfl rfl)
theorem dX8_dayStep_164 : decode cX8_dayStep 164 = .ok (.iload 5, 2) := dk_21 5 (dk_at dksX8_dayStep_7 1 rfl rfl)
theorem dX8_dayStep_166 : decode cX8_dayStep 166 = .ok (.iadd, 1) := dk_96 (dk_at dksX8_dayStep_7 3 rfl rfl)
theorem dX8_dayStep_167 : decode cX8_dayStep 167 = .ok (.iconst 0, 1) := dk_3 (dk_at dksX8_dayStep_7 4 rfl rfl)
theorem dX8_dayStep_168 : decode cX8_dayStep 168 = .ok (.iastore, 1) := dk_79 (dk_at dksX8_dayStep_7 5 rfl rfl)
theorem dX8_dayStep_169 : decode cX8_dayStep 169 = .ok (.iinc 5 1, 3) := dk_132 5 1 (dk_at dksX8_dayStep_7 6 rfl rfl)
theorem dX8_dayStep_172 : decode cX8_dayStep 172 = .ok (.goto (-20), 3) := dk_167 255 236 (dk_at dksX8_dayStep_7 9 rfl rfl)
theorem dX8_dayStep_175 : decode cX8_dayStep 175 = .ok (.aload_n 0, 1) := dk_42 (dk_at dksX8_dayStep_7 12 rfl rfl)
theorem dX8_dayStep_176 : decode cX8_dayStep 176 = .ok (.getfield 7, 3) := dk_180 0 7 (dk_at dksX8_dayStep_7 13 rfl rfl)
theorem dX8_dayStep_179 : decode cX8_dayStep 179 = .ok (.sipush 5609, 3) := dk_17 21 233 (dk_at dksX8_dayStep_7 16 rfl rfl)
theorem dX8_dayStep_182 : decode cX8_dayStep 182 = .ok (.dup2, 1) := dk_92 (dk_at dksX8_dayStep_7 19 rfl rfl)
theorem dX8_dayStep_183 : decode cX8_dayStep 183 = .ok (.iaload, 1) := dk_46 (dk_at dksX8_dayStep_7 20 rfl rfl)
theorem dX8_dayStep_184 : decode cX8_dayStep 184 = .ok (.iconst 1, 1) := dk_4 (dk_at dksX8_dayStep_7 21 rfl rfl)
theorem dX8_dayStep_185 : decode cX8_dayStep 185 = .ok (.iadd, 1) := dk_96 (dk_at dksX8_dayStep_7 22 rfl rfl)
theorem dX8_dayStep_186 : decode cX8_dayStep 186 = .ok (.iastore, 1) := dk_79 (dk_at dksX8_dayStep_7 23 rfl rfl)
theorem dX8_dayStep_187 : decode cX8_dayStep 187 = .ok (.aload_n 0, 1) := dk_42 (dk_at dksX8_dayStep_8 0 rfl rfl)
theorem dX8_dayStep_188 : decode cX8_dayStep 188 = .ok (.invokevirtual 154, 3) := dk_182 0 154 (dk_at dksX8_dayStep_8 1 rfl rfl)
theorem dX8_dayStep_191 : decode cX8_dayStep 191 = .ok (.aload_n 0, 1) := dk_42 (dk_at dksX8_dayStep_8 4 rfl rfl)
theorem dX8_dayStep_192 : decode cX8_dayStep 192 = .ok (.iload_n 1, 1) := dk_27 (dk_at dksX8_dayStep_8 5 rfl rfl)
theorem dX8_dayStep_193 : decode cX8_dayStep 193 = .ok (.iload_n 3, 1) := dk_29 (dk_at dksX8_dayStep_8 6 rfl rfl)
theorem dX8_dayStep_194 : decode cX8_dayStep 194 = .ok (.invokevirtual 259, 3) := dk_182 1 3 (dk_at dksX8_dayStep_8 7 rfl rfl)
theorem dX8_dayStep_197 : decode cX8_dayStep 197 = .ok (.ifCond .ne 5, 3) := dk_154 0 5 (dk_at dksX8_dayStep_8 10 rfl rfl)
theorem dX8_dayStep_200 : decode cX8_dayStep 200 = .ok (.iconst 0, 1) := dk_3 (dk_at dksX8_dayStep_8 13 rfl rfl)
theorem dX8_dayStep_201 : decode cX8_dayStep 201 = .ok (.ireturn, 1) := dk_172 (dk_at dksX8_dayStep_8 14 rfl rfl)
theorem dX8_dayStep_202 : decode cX8_dayStep 202 = .ok (.iload 4, 2) := dk_21 4 (dk_at dksX8_dayStep_8 15 rfl rfl)
theorem dX8_dayStep_204 : decode cX8_dayStep 204 = .ok (.ifCond .eq 23, 3) := dk_153 0 23 (dk_at dksX8_dayStep_8 17 rfl rfl)
theorem dX8_dayStep_207 : decode cX8_dayStep 207 = .ok (.aload_n 0, 1) := dk_42 (dk_at dksX8_dayStep_8 20 rfl rfl)
theorem dX8_dayStep_208 : decode cX8_dayStep 208 = .ok (.getfield 44, 3) := dk_180 0 44 (dk_at dksX8_dayStep_8 21 rfl rfl)
theorem dX8_dayStep_211 : decode cX8_dayStep 211 = .ok (.aload_n 0, 1) := dk_42 (dk_at dksX8_dayStep_9 0 rfl rfl)
theorem dX8_dayStep_212 : decode cX8_dayStep 212 = .ok (.getfield 253, 3) := dk_180 0 253 (dk_at dksX8_dayStep_9 1 rfl rfl)
theorem dX8_dayStep_215 : decode cX8_dayStep 215 = .ok (.iload_n 2, 1) := dk_28 (dk_at dksX8_dayStep_9 4 rfl rfl)
theorem dX8_dayStep_216 : decode cX8_dayStep 216 = .ok (.iastore, 1) := dk_79 (dk_at dksX8_dayStep_9 5 rfl rfl)
theorem dX8_dayStep_217 : decode cX8_dayStep 217 = .ok (.aload_n 0, 1) := dk_42 (dk_at dksX8_dayStep_9 6 rfl rfl)
theorem dX8_dayStep_218 : decode cX8_dayStep 218 = .ok (.dup, 1) := dk_89 (dk_at dksX8_dayStep_9 7 rfl rfl)
theorem dX8_dayStep_219 : decode cX8_dayStep 219 = .ok (.getfield 253, 3) := dk_180 0 253 (dk_at dksX8_dayStep_9 8 rfl rfl)
theorem dX8_dayStep_222 : decode cX8_dayStep 222 = .ok (.iconst 1, 1) := dk_4 (dk_at dksX8_dayStep_9 11 rfl rfl)
theorem dX8_dayStep_223 : decode cX8_dayStep 223 = .ok (.iadd, 1) := dk_96 (dk_at dksX8_dayStep_9 12 rfl rfl)
theorem dX8_dayStep_224 : decode cX8_dayStep 224 = .ok (.putfield 253, 3) := dk_181 0 253 (dk_at dksX8_dayStep_9 13 rfl rfl)
theorem dX8_dayStep_227 : decode cX8_dayStep 227 = .ok (.iload_n 1, 1) := dk_27 (dk_at dksX8_dayStep_9 16 rfl rfl)
theorem dX8_dayStep_228 : decode cX8_dayStep 228 = .ok (.bipush 26, 2) := dk_16 26 (dk_at dksX8_dayStep_9 17 rfl rfl)
theorem dX8_dayStep_230 : decode cX8_dayStep 230 = .ok (.if_icmp .ne 54, 3) := dk_160 0 54 (dk_at dksX8_dayStep_9 19 rfl rfl)
theorem dX8_dayStep_233 : decode cX8_dayStep 233 = .ok (.aload_n 0, 1) := dk_42 (dk_at dksX8_dayStep_9 22 rfl rfl)
theorem dX8_dayStep_234 : decode cX8_dayStep 234 = .ok (.dup, 1) := dk_89 (dk_at dksX8_dayStep_9 23 rfl rfl)
theorem dX8_dayStep_235 : decode cX8_dayStep 235 = .ok (.getfield 253, 3) := dk_180 0 253 (dk_at dksX8_dayStep_10 0 rfl rfl)
theorem dX8_dayStep_238 : decode cX8_dayStep 238 = .ok (.iconst 1, 1) := dk_4 (dk_at dksX8_dayStep_10 3 rfl rfl)
theorem dX8_dayStep_239 : decode cX8_dayStep 239 = .ok (.isub, 1) := dk_100 (dk_at dksX8_dayStep_10 4 rfl rfl)
theorem dX8_dayStep_240 : decode cX8_dayStep 240 = .ok (.putfield 253, 3) := dk_181 0 253 (dk_at dksX8_dayStep_10 5 rfl rfl)
theorem dX8_dayStep_243 : decode cX8_dayStep 243 = .ok (.aload_n 0, 1) := dk_42 (dk_at dksX8_dayStep_10 8 rfl rfl)
theorem dX8_dayStep_244 : decode cX8_dayStep 244 = .ok (.getfield 7, 3) := dk_180 0 7 (dk_at dksX8_dayStep_10 9 rfl rfl)
theorem dX8_dayStep_247 : decode cX8_dayStep 247 = .ok (.iload_n 3, 1) := dk_29 (dk_at dksX8_dayStep_10 12 rfl rfl)
theorem dX8_dayStep_248 : decode cX8_dayStep 248 = .ok (.iconst 4, 1) := dk_7 (dk_at dksX8_dayStep_10 13 rfl rfl)
theorem dX8_dayStep_249 : decode cX8_dayStep 249 = .ok (.iadd, 1) := dk_96 (dk_at dksX8_dayStep_10 14 rfl rfl)
theorem dX8_dayStep_250 : decode cX8_dayStep 250 = .ok (.aload_n 0, 1) := dk_42 (dk_at dksX8_dayStep_10 15 rfl rfl)
theorem dX8_dayStep_251 : decode cX8_dayStep 251 = .ok (.getfield 44, 3) := dk_180 0 44 (dk_at dksX8_dayStep_10 16 rfl rfl)
theorem dX8_dayStep_254 : decode cX8_dayStep 254 = .ok (.aload_n 0, 1) := dk_42 (dk_at dksX8_dayStep_10 19 rfl rfl)
theorem dX8_dayStep_255 : decode cX8_dayStep 255 = .ok (.getfield 253, 3) := dk_180 0 253 (dk_at dksX8_dayStep_10 20 rfl rfl)
theorem dX8_dayStep_258 : decode cX8_dayStep 258 = .ok (.iaload, 1) := dk_46 (dk_at dksX8_dayStep_10 23 rfl rfl)
theorem dX8_dayStep_259 : decode cX8_dayStep 259 = .ok (.iastore, 1) := dk_79 (dk_at dksX8_dayStep_11 0 rfl rfl)
theorem dX8_dayStep_260 : decode cX8_dayStep 260 = .ok (.aload_n 0, 1) := dk_42 (dk_at dksX8_dayStep_11 1 rfl rfl)
theorem dX8_dayStep_261 : decode cX8_dayStep 261 = .ok (.getfield 7, 3) := dk_180 0 7 (dk_at dksX8_dayStep_11 2 rfl rfl)
theorem dX8_dayStep_264 : decode cX8_dayStep 264 = .ok (.sipush 6630, 3) := dk_17 25 230 (dk_at dksX8_dayStep_11 5 rfl rfl)
theorem dX8_dayStep_267 : decode cX8_dayStep 267 = .ok (.bipush 6, 2) := dk_16 6 (dk_at dksX8_dayStep_11 8 rfl rfl)
theorem dX8_dayStep_269 : decode cX8_dayStep 269 = .ok (.aload_n 0, 1) := dk_42 (dk_at dksX8_dayStep_11 10 rfl rfl)
theorem dX8_dayStep_270 : decode cX8_dayStep 270 = .ok (.getfield 44, 3) := dk_180 0 44 (dk_at dksX8_dayStep_11 11 rfl rfl)
theorem dX8_dayStep_273 : decode cX8_dayStep 273 = .ok (.aload_n 0, 1) := dk_42 (dk_at dksX8_dayStep_11 14 rfl rfl)
theorem dX8_dayStep_274 : decode cX8_dayStep 274 = .ok (.getfield 253, 3) := dk_180 0 253 (dk_at dksX8_dayStep_11 15 rfl rfl)
theorem dX8_dayStep_277 : decode cX8_dayStep 277 = .ok (.iaload, 1) := dk_46 (dk_at dksX8_dayStep_11 18 rfl rfl)
theorem dX8_dayStep_278 : decode cX8_dayStep 278 = .ok (.imul, 1) := dk_104 (dk_at dksX8_dayStep_11 19 rfl rfl)
theorem dX8_dayStep_279 : decode cX8_dayStep 279 = .ok (.iadd, 1) := dk_96 (dk_at dksX8_dayStep_11 20 rfl rfl)
theorem dX8_dayStep_280 : decode cX8_dayStep 280 = .ok (.iconst 4, 1) := dk_7 (dk_at dksX8_dayStep_11 21 rfl rfl)
theorem dX8_dayStep_281 : decode cX8_dayStep 281 = .ok (.iadd, 1) := dk_96 (dk_at dksX8_dayStep_11 22 rfl rfl)
theorem dX8_dayStep_282 : decode cX8_dayStep 282 = .ok (.iload_n 2, 1) := dk_28 (dk_at dksX8_dayStep_11 23 rfl rfl)
theorem dX8_dayStep_283 : decode cX8_dayStep 283 = .ok (.iastore, 1) := dk_79 (dk_at dksX8_dayStep_12 0 rfl rfl)
theorem dX8_dayStep_284 : decode cX8_dayStep 284 = .ok (.aload_n 0, 1) := dk_42 (dk_at dksX8_dayStep_12 1 rfl rfl)
theorem dX8_dayStep_285 : decode cX8_dayStep 285 = .ok (.bipush 59, 2) := dk_16 59 (dk_at dksX8_dayStep_12 2 rfl rfl)
theorem dX8_dayStep_287 : decode cX8_dayStep 287 = .ok (.invokevirtual 195, 3) := dk_182 0 195 (dk_at dksX8_dayStep_12 4 rfl rfl)
theorem dX8_dayStep_290 : decode cX8_dayStep 290 = .ok (.ireturn, 1) := dk_172 (dk_at dksX8_dayStep_12 7 rfl rfl)
abbrev cX8_dayOrder : ByteArray := prog_17_method_54_code
def yX8_dayOrder : MethodName := ⟨RX8, "dayOrder", "(II)Z"⟩
def dkwX8_dayOrder_8 : List UInt8 := [28, 4, 96, 4, 16, 99, 182, 0, 191, 172, 4, 172]
abbrev dktX8_dayOrder_8 : List UInt8 := dkwX8_dayOrder_8 ++ []
def dkwX8_dayOrder_7 : List UInt8 := [16, 16, 182, 0, 191, 172, 42, 28, 4, 96, 3, 16, 40, 182, 0, 191, 172, 42, 28, 182, 0, 250, 172, 42]
abbrev dktX8_dayOrder_7 : List UInt8 := dkwX8_dayOrder_7 ++ dktX8_dayOrder_8
def dkwX8_dayOrder_6 : List UInt8 := [5, 96, 4, 17, 0, 240, 182, 0, 191, 153, 0, 7, 4, 167, 0, 4, 3, 172, 42, 28, 4, 96, 3]
abbrev dktX8_dayOrder_6 : List UInt8 := dkwX8_dayOrder_6 ++ dktX8_dayOrder_7
def dkwX8_dayOrder_5 : List UInt8 := [182, 0, 244, 153, 0, 7, 4, 167, 0, 4, 3, 172, 42, 28, 4, 96, 182, 0, 247, 153, 0, 21, 42, 28]
abbrev dktX8_dayOrder_5 : List UInt8 := dkwX8_dayOrder_5 ++ dktX8_dayOrder_6
def dkwX8_dayOrder_4 : List UInt8 := [4, 96, 182, 0, 247, 153, 0, 28, 42, 18, 178, 16, 12, 182, 0, 187, 153, 0, 17, 42, 28, 5, 96]
abbrev dktX8_dayOrder_4 : List UInt8 := dkwX8_dayOrder_4 ++ dktX8_dayOrder_5
def dkwX8_dayOrder_3 : List UInt8 := [96, 3, 42, 180, 0, 7, 3, 46, 4, 100, 182, 0, 191, 153, 0, 7, 4, 167, 0, 4, 3, 172, 42, 28]
abbrev dktX8_dayOrder_3 : List UInt8 := dkwX8_dayOrder_3 ++ dktX8_dayOrder_4
def dkwX8_dayOrder_2 : List UInt8 := [42, 28, 4, 96, 182, 0, 247, 153, 0, 37, 42, 18, 178, 16, 17, 182, 0, 187, 153, 0, 26, 42, 28, 5]
abbrev dktX8_dayOrder_2 : List UInt8 := dkwX8_dayOrder_2 ++ dktX8_dayOrder_3
def dkwX8_dayOrder_1 : List UInt8 := [170, 0, 0, 0, 0, 0, 199, 0, 0, 0, 18, 0, 0, 0, 25, 0, 0, 0, 47, 0, 0, 0, 93, 0, 0, 0, 130, 0, 0, 0, 93, 0, 0, 0, 160, 0, 0, 0, 171, 0, 0, 0, 182, 0, 0, 0, 188]
abbrev dktX8_dayOrder_1 : List UInt8 := dkwX8_dayOrder_1 ++ dktX8_dayOrder_2
def dkwX8_dayOrder_0 : List UInt8 := [27]
abbrev dktX8_dayOrder_0 : List UInt8 := dkwX8_dayOrder_0 ++ dktX8_dayOrder_1
theorem dksX8_dayOrder_0 : cX8_dayOrder.data.toList.drop 0 = dktX8_dayOrder_0 := by decide +kernel
theorem dksX8_dayOrder_1 : cX8_dayOrder.data.toList.drop 1 = dktX8_dayOrder_1 := dk_seg dksX8_dayOrder_0 1 rfl rfl
theorem dksX8_dayOrder_2 : cX8_dayOrder.data.toList.drop 48 = dktX8_dayOrder_2 := dk_seg dksX8_dayOrder_1 47 rfl rfl
theorem dksX8_dayOrder_3 : cX8_dayOrder.data.toList.drop 72 = dktX8_dayOrder_3 := dk_seg dksX8_dayOrder_2 24 rfl rfl
theorem dksX8_dayOrder_4 : cX8_dayOrder.data.toList.drop 96 = dktX8_dayOrder_4 := dk_seg dksX8_dayOrder_3 24 rfl rfl
theorem dksX8_dayOrder_5 : cX8_dayOrder.data.toList.drop 119 = dktX8_dayOrder_5 := dk_seg dksX8_dayOrder_4 23 rfl rfl
theorem dksX8_dayOrder_6 : cX8_dayOrder.data.toList.drop 143 = dktX8_dayOrder_6 := dk_seg dksX8_dayOrder_5 24 rfl rfl
theorem dksX8_dayOrder_7 : cX8_dayOrder.data.toList.drop 166 = dktX8_dayOrder_7 := dk_seg dksX8_dayOrder_6 23 rfl rfl
theorem dksX8_dayOrder_8 : cX8_dayOrder.data.toList.drop 190 = dktX8_dayOrder_8 := dk_seg dksX8_dayOrder_7 24 rfl rfl
theorem dX8_dayOrder_0 : decode cX8_dayOrder 0 = .ok (.iload_n 1, 1) := dk_27 (dk_at dksX8_dayOrder_0 0 rfl rfl)
theorem dX8_dayOrder_1 : decode cX8_dayOrder 1 = .ok (.tableswitch 199 18 25 #[47, 93, 130, 93, 160, 171, 182, 188], 47) := by decide +kernel
theorem dX8_dayOrder_48 : decode cX8_dayOrder 48 = .ok (.aload_n 0, 1) := dk_42 (dk_at dksX8_dayOrder_2 0 rfl rfl)
theorem dX8_dayOrder_49 : decode cX8_dayOrder 49 = .ok (.iload_n 2, 1) := dk_28 (dk_at dksX8_dayOrder_2 1 rfl rfl)
theorem dX8_dayOrder_50 : decode cX8_dayOrder 50 = .ok (.iconst 1, 1) := dk_4 (dk_at dksX8_dayOrder_2 2 rfl rfl)
theorem dX8_dayOrder_51 : decode cX8_dayOrder 51 = .ok (.iadd, 1) := dk_96 (dk_at dksX8_dayOrder_2 3 rfl rfl)
theorem dX8_dayOrder_52 : decode cX8_dayOrder 52 = .ok (.invokevirtual 247, 3) := dk_182 0 247 (dk_at dksX8_dayOrder_2 4 rfl rfl)
theorem dX8_dayOrder_55 : decode cX8_dayOrder 55 = .ok (.ifCond .eq 37, 3) := dk_153 0 37 (dk_at dksX8_dayOrder_2 7 rfl rfl)
theorem dX8_dayOrder_58 : decode cX8_dayOrder 58 = .ok (.aload_n 0, 1) := dk_42 (dk_at dksX8_dayOrder_2 10 rfl rfl)
theorem dX8_dayOrder_59 : decode cX8_dayOrder 59 = .ok (.ldc 178, 2) := dk_18 178 (dk_at dksX8_dayOrder_2 11 rfl rfl)
theorem dX8_dayOrder_61 : decode cX8_dayOrder 61 = .ok (.bipush 17, 2) := dk_16 17 (dk_at dksX8_dayOrder_2 13 rfl rfl)
theorem dX8_dayOrder_63 : decode cX8_dayOrder 63 = .ok (.invokevirtual 187, 3) := dk_182 0 187 (dk_at dksX8_dayOrder_2 15 rfl rfl)
theorem dX8_dayOrder_66 : decode cX8_dayOrder 66 = .ok (.ifCond .eq 26, 3) := dk_153 0 26 (dk_at dksX8_dayOrder_2 18 rfl rfl)
theorem dX8_dayOrder_69 : decode cX8_dayOrder 69 = .ok (.aload_n 0, 1) := dk_42 (dk_at dksX8_dayOrder_2 21 rfl rfl)
theorem dX8_dayOrder_70 : decode cX8_dayOrder 70 = .ok (.iload_n 2, 1) := dk_28 (dk_at dksX8_dayOrder_2 22 rfl rfl)
theorem dX8_dayOrder_71 : decode cX8_dayOrder 71 = .ok (.iconst 2, 1) := dk_5 (dk_at dksX8_dayOrder_2 23 rfl rfl)
theorem dX8_dayOrder_72 : decode cX8_dayOrder 72 = .ok (.iadd, 1) := dk_96 (dk_at dksX8_dayOrder_3 0 rfl rfl)
theorem dX8_dayOrder_73 : decode cX8_dayOrder 73 = .ok (.iconst 0, 1) := dk_3 (dk_at dksX8_dayOrder_3 1 rfl rfl)
theorem dX8_dayOrder_74 : decode cX8_dayOrder 74 = .ok (.aload_n 0, 1) := dk_42 (dk_at dksX8_dayOrder_3 2 rfl rfl)
theorem dX8_dayOrder_75 : decode cX8_dayOrder 75 = .ok (.getfield 7, 3) := dk_180 0 7 (dk_at dksX8_dayOrder_3 3 rfl rfl)
theorem dX8_dayOrder_78 : decode cX8_dayOrder 78 = .ok (.iconst 0, 1) := dk_3 (dk_at dksX8_dayOrder_3 6 rfl rfl)
theorem dX8_dayOrder_79 : decode cX8_dayOrder 79 = .ok (.iaload, 1) := dk_46 (dk_at dksX8_dayOrder_3 7 rfl rfl)
theorem dX8_dayOrder_80 : decode cX8_dayOrder 80 = .ok (.iconst 1, 1) := dk_4 (dk_at dksX8_dayOrder_3 8 rfl rfl)
theorem dX8_dayOrder_81 : decode cX8_dayOrder 81 = .ok (.isub, 1) := dk_100 (dk_at dksX8_dayOrder_3 9 rfl rfl)
theorem dX8_dayOrder_82 : decode cX8_dayOrder 82 = .ok (.invokevirtual 191, 3) := dk_182 0 191 (dk_at dksX8_dayOrder_3 10 rfl rfl)
theorem dX8_dayOrder_85 : decode cX8_dayOrder 85 = .ok (.ifCond .eq 7, 3) := dk_153 0 7 (dk_at dksX8_dayOrder_3 13 rfl rfl)
theorem dX8_dayOrder_88 : decode cX8_dayOrder 88 = .ok (.iconst 1, 1) := dk_4 (dk_at dksX8_dayOrder_3 16 rfl rfl)
theorem dX8_dayOrder_89 : decode cX8_dayOrder 89 = .ok (.goto 4, 3) := dk_167 0 4 (dk_at dksX8_dayOrder_3 17 rfl rfl)
theorem dX8_dayOrder_92 : decode cX8_dayOrder 92 = .ok (.iconst 0, 1) := dk_3 (dk_at dksX8_dayOrder_3 20 rfl rfl)
theorem dX8_dayOrder_93 : decode cX8_dayOrder 93 = .ok (.ireturn, 1) := dk_172 (dk_at dksX8_dayOrder_3 21 rfl rfl)
theorem dX8_dayOrder_94 : decode cX8_dayOrder 94 = .ok (.aload_n 0, 1) := dk_42 (dk_at dksX8_dayOrder_3 22 rfl rfl)
theorem dX8_dayOrder_95 : decode cX8_dayOrder 95 = .ok (.iload_n 2, 1) := dk_28 (dk_at dksX8_dayOrder_3 23 rfl rfl)
theorem dX8_dayOrder_96 : decode cX8_dayOrder 96 = .ok (.iconst 1, 1) := dk_4 (dk_at dksX8_dayOrder_4 0 rfl rfl)
theorem dX8_dayOrder_97 : decode cX8_dayOrder 97 = .ok (.iadd, 1) := dk_96 (dk_at dksX8_dayOrder_4 1 rfl rfl)
theorem dX8_dayOrder_98 : decode cX8_dayOrder 98 = .ok (.invokevirtual 247, 3) := dk_182 0 247 (dk_at dksX8_dayOrder_4 2 rfl rfl)
theorem dX8_dayOrder_101 : decode cX8_dayOrder 101 = .ok (.ifCond .eq 28, 3) := dk_153 0 28 (dk_at dksX8_dayOrder_4 5 rfl rfl)
theorem dX8_dayOrder_104 : decode cX8_dayOrder 104 = .ok (.aload_n 0, 1) := dk_42 (dk_at dksX8_dayOrder_4 8 rfl rfl)
theorem dX8_dayOrder_105 : decode cX8_dayOrder 105 = .ok (.ldc 178, 2) := dk_18 178 (dk_at dksX8_dayOrder_4 9 rfl rfl)
theorem dX8_dayOrder_107 : decode cX8_dayOrder 107 = .ok (.bipush 12, 2) := dk_16 12 (dk_at dksX8_dayOrder_4 11 rfl rfl)
theorem dX8_dayOrder_109 : decode cX8_dayOrder 109 = .ok (.invokevirtual 187, 3) := dk_182 0 187 (dk_at dksX8_dayOrder_4 13 rfl rfl)
theorem dX8_dayOrder_112 : decode cX8_dayOrder 112 = .ok (.ifCond .eq 17, 3) := dk_153 0 17 (dk_at dksX8_dayOrder_4 16 rfl rfl)
theorem dX8_dayOrder_115 : decode cX8_dayOrder 115 = .ok (.aload_n 0, 1) := dk_42 (dk_at dksX8_dayOrder_4 19 rfl rfl)
theorem dX8_dayOrder_116 : decode cX8_dayOrder 116 = .ok (.iload_n 2, 1) := dk_28 (dk_at dksX8_dayOrder_4 20 rfl rfl)
theorem dX8_dayOrder_117 : decode cX8_dayOrder 117 = .ok (.iconst 2, 1) := dk_5 (dk_at dksX8_dayOrder_4 21 rfl rfl)
theorem dX8_dayOrder_118 : decode cX8_dayOrder 118 = .ok (.iadd, 1) := dk_96 (dk_at dksX8_dayOrder_4 22 rfl rfl)
theorem dX8_dayOrder_119 : decode cX8_dayOrder 119 = .ok (.invokevirtual 244, 3) := dk_182 0 244 (dk_at dksX8_dayOrder_5 0 rfl rfl)
theorem dX8_dayOrder_122 : decode cX8_dayOrder 122 = .ok (.ifCond .eq 7, 3) := dk_153 0 7 (dk_at dksX8_dayOrder_5 3 rfl rfl)
theorem dX8_dayOrder_125 : decode cX8_dayOrder 125 = .ok (.iconst 1, 1) := dk_4 (dk_at dksX8_dayOrder_5 6 rfl rfl)
theorem dX8_dayOrder_126 : decode cX8_dayOrder 126 = .ok (.goto 4, 3) := dk_167 0 4 (dk_at dksX8_dayOrder_5 7 rfl rfl)
theorem dX8_dayOrder_129 : decode cX8_dayOrder 129 = .ok (.iconst 0, 1) := dk_3 (dk_at dksX8_dayOrder_5 10 rfl rfl)
theorem dX8_dayOrder_130 : decode cX8_dayOrder 130 = .ok (.ireturn, 1) := dk_172 (dk_at dksX8_dayOrder_5 11 rfl rfl)
theorem dX8_dayOrder_131 : decode cX8_dayOrder 131 = .ok (.aload_n 0, 1) := dk_42 (dk_at dksX8_dayOrder_5 12 rfl rfl)
theorem dX8_dayOrder_132 : decode cX8_dayOrder 132 = .ok (.iload_n 2, 1) := dk_28 (dk_at dksX8_dayOrder_5 13 rfl rfl)
theorem dX8_dayOrder_133 : decode cX8_dayOrder 133 = .ok (.iconst 1, 1) := dk_4 (dk_at dksX8_dayOrder_5 14 rfl rfl)
theorem dX8_dayOrder_134 : decode cX8_dayOrder 134 = .ok (.iadd, 1) := dk_96 (dk_at dksX8_dayOrder_5 15 rfl rfl)
theorem dX8_dayOrder_135 : decode cX8_dayOrder 135 = .ok (.invokevirtual 247, 3) := dk_182 0 247 (dk_at dksX8_dayOrder_5 16 rfl rfl)
theorem dX8_dayOrder_138 : decode cX8_dayOrder 138 = .ok (.ifCond .eq 21, 3) := dk_153 0 21 (dk_at dksX8_dayOrder_5 19 rfl rfl)
theorem dX8_dayOrder_141 : decode cX8_dayOrder 141 = .ok (.aload_n 0, 1) := dk_42 (dk_at dksX8_dayOrder_5 22 rfl rfl)
theorem dX8_dayOrder_142 : decode cX8_dayOrder 142 = .ok (.iload_n 2, 1) := dk_28 (dk_at dksX8_dayOrder_5 23 rfl rfl)
theorem dX8_dayOrder_143 : decode cX8_dayOrder 143 = .ok (.iconst 2, 1) := dk_5 (dk_at dksX8_dayOrder_6 0 rfl rfl)
theorem dX8_dayOrder_144 : decode cX8_dayOrder 144 = .ok (.iadd, 1) := dk_96 (dk_at dksX8_dayOrder_6 1 rfl rfl)
theorem dX8_dayOrder_145 : decode cX8_dayOrder 145 = .ok (.iconst 1, 1) := dk_4 (dk_at dksX8_dayOrder_6 2 rfl rfl)
theorem dX8_dayOrder_146 : decode cX8_dayOrder 146 = .ok (.sipush 240, 3) := dk_17 0 240 (dk_at dksX8_dayOrder_6 3 rfl rfl)
theorem dX8_dayOrder_149 : decode cX8_dayOrder 149 = .ok (.invokevirtual 191, 3) := dk_182 0 191 (dk_at dksX8_dayOrder_6 6 rfl rfl)
theorem dX8_dayOrder_152 : decode cX8_dayOrder 152 = .ok (.ifCond .eq 7, 3) := dk_153 0 7 (dk_at dksX8_dayOrder_6 9 rfl rfl)
theorem dX8_dayOrder_155 : decode cX8_dayOrder 155 = .ok (.iconst 1, 1) := dk_4 (dk_at dksX8_dayOrder_6 12 rfl rfl)
theorem dX8_dayOrder_156 : decode cX8_dayOrder 156 = .ok (.goto 4, 3) := dk_167 0 4 (dk_at dksX8_dayOrder_6 13 rfl rfl)
theorem dX8_dayOrder_159 : decode cX8_dayOrder 159 = .ok (.iconst 0, 1) := dk_3 (dk_at dksX8_dayOrder_6 16 rfl rfl)
theorem dX8_dayOrder_160 : decode cX8_dayOrder 160 = .ok (.ireturn, 1) := dk_172 (dk_at dksX8_dayOrder_6 17 rfl rfl)
theorem dX8_dayOrder_161 : decode cX8_dayOrder 161 = .ok (.aload_n 0, 1) := dk_42 (dk_at dksX8_dayOrder_6 18 rfl rfl)
theorem dX8_dayOrder_162 : decode cX8_dayOrder 162 = .ok (.iload_n 2, 1) := dk_28 (dk_at dksX8_dayOrder_6 19 rfl rfl)
theorem dX8_dayOrder_163 : decode cX8_dayOrder 163 = .ok (.iconst 1, 1) := dk_4 (dk_at dksX8_dayOrder_6 20 rfl rfl)
theorem dX8_dayOrder_164 : decode cX8_dayOrder 164 = .ok (.iadd, 1) := dk_96 (dk_at dksX8_dayOrder_6 21 rfl rfl)
theorem dX8_dayOrder_165 : decode cX8_dayOrder 165 = .ok (.iconst 0, 1) := dk_3 (dk_at dksX8_dayOrder_6 22 rfl rfl)
theorem dX8_dayOrder_166 : decode cX8_dayOrder 166 = .ok (.bipush 16, 2) := dk_16 16 (dk_at dksX8_dayOrder_7 0 rfl rfl)
theorem dX8_dayOrder_168 : decode cX8_dayOrder 168 = .ok (.invokevirtual 191, 3) := dk_182 0 191 (dk_at dksX8_dayOrder_7 2 rfl rfl)
theorem dX8_dayOrder_171 : decode cX8_dayOrder 171 = .ok (.ireturn, 1) := dk_172 (dk_at dksX8_dayOrder_7 5 rfl rfl)
theorem dX8_dayOrder_172 : decode cX8_dayOrder 172 = .ok (.aload_n 0, 1) := dk_42 (dk_at dksX8_dayOrder_7 6 rfl rfl)
theorem dX8_dayOrder_173 : decode cX8_dayOrder 173 = .ok (.iload_n 2, 1) := dk_28 (dk_at dksX8_dayOrder_7 7 rfl rfl)
theorem dX8_dayOrder_174 : decode cX8_dayOrder 174 = .ok (.iconst 1, 1) := dk_4 (dk_at dksX8_dayOrder_7 8 rfl rfl)
theorem dX8_dayOrder_175 : decode cX8_dayOrder 175 = .ok (.iadd, 1) := dk_96 (dk_at dksX8_dayOrder_7 9 rfl rfl)
theorem dX8_dayOrder_176 : decode cX8_dayOrder 176 = .ok (.iconst 0, 1) := dk_3 (dk_at dksX8_dayOrder_7 10 rfl rfl)
theorem dX8_dayOrder_177 : decode cX8_dayOrder 177 = .ok (.bipush 40, 2) := dk_16 40 (dk_at dksX8_dayOrder_7 11 rfl rfl)
theorem dX8_dayOrder_179 : decode cX8_dayOrder 179 = .ok (.invokevirtual 191, 3) := dk_182 0 191 (dk_at dksX8_dayOrder_7 13 rfl rfl)
theorem dX8_dayOrder_182 : decode cX8_dayOrder 182 = .ok (.ireturn, 1) := dk_172 (dk_at dksX8_dayOrder_7 16 rfl rfl)
theorem dX8_dayOrder_183 : decode cX8_dayOrder 183 = .ok (.aload_n 0, 1) := dk_42 (dk_at dksX8_dayOrder_7 17 rfl rfl)
theorem dX8_dayOrder_184 : decode cX8_dayOrder 184 = .ok (.iload_n 2, 1) := dk_28 (dk_at dksX8_dayOrder_7 18 rfl rfl)
theorem dX8_dayOrder_185 : decode cX8_dayOrder 185 = .ok (.invokevirtual 250, 3) := dk_182 0 250 (dk_at dksX8_dayOrder_7 19 rfl rfl)
theorem dX8_dayOrder_188 : decode cX8_dayOrder 188 = .ok (.ireturn, 1) := dk_172 (dk_at dksX8_dayOrder_7 22 rfl rfl)
theorem dX8_dayOrder_189 : decode cX8_dayOrder 189 = .ok (.aload_n 0, 1) := dk_42 (dk_at dksX8_dayOrder_7 23 rfl rfl)
theorem dX8_dayOrder_190 : decode cX8_dayOrder 190 = .ok (.iload_n 2, 1) := dk_28 (dk_at dksX8_dayOrder_8 0 rfl rfl)
theorem dX8_dayOrder_191 : decode cX8_dayOrder 191 = .ok (.iconst 1, 1) := dk_4 (dk_at dksX8_dayOrder_8 1 rfl rfl)
theorem dX8_dayOrder_192 : decode cX8_dayOrder 192 = .ok (.iadd, 1) := dk_96 (dk_at dksX8_dayOrder_8 2 rfl rfl)
theorem dX8_dayOrder_193 : decode cX8_dayOrder 193 = .ok (.iconst 1, 1) := dk_4 (dk_at dksX8_dayOrder_8 3 rfl rfl)
theorem dX8_dayOrder_194 : decode cX8_dayOrder 194 = .ok (.bipush 99, 2) := dk_16 99 (dk_at dksX8_dayOrder_8 4 rfl rfl)
theorem dX8_dayOrder_196 : decode cX8_dayOrder 196 = .ok (.invokevirtual 191, 3) := dk_182 0 191 (dk_at dksX8_dayOrder_8 6 rfl rfl)
theorem dX8_dayOrder_199 : decode cX8_dayOrder 199 = .ok (.ireturn, 1) := dk_172 (dk_at dksX8_dayOrder_8 9 rfl rfl)
theorem dX8_dayOrder_200 : decode cX8_dayOrder 200 = .ok (.iconst 1, 1) := dk_4 (dk_at dksX8_dayOrder_8 10 rfl rfl)
theorem dX8_dayOrder_201 : decode cX8_dayOrder 201 = .ok (.ireturn, 1) := dk_172 (dk_at dksX8_dayOrder_8 11 rfl rfl)
abbrev cX8_finderTo : ByteArray := prog_17_method_51_code
def yX8_finderTo : MethodName := ⟨RX8, "finderTo", "(I)Z"⟩
def dkwX8_finderTo_0 : List UInt8 := [42, 3, 42, 180, 0, 7, 4, 46, 27, 182, 0, 207, 172]
abbrev dktX8_finderTo_0 : List UInt8 := dkwX8_finderTo_0 ++ []
theorem dksX8_finderTo_0 : cX8_finderTo.data.toList.drop 0 = dktX8_finderTo_0 := by decide +kernel
theorem dX8_finderTo_0 : decode cX8_finderTo 0 = .ok (.aload_n 0, 1) := dk_42 (dk_at dksX8_finderTo_0 0 rfl rfl)
theorem dX8_finderTo_1 : decode cX8_finderTo 1 = .ok (.iconst 0, 1) := dk_3 (dk_at dksX8_finderTo_0 1 rfl rfl)
theorem dX8_finderTo_2 : decode cX8_finderTo 2 = .ok (.aload_n 0, 1) := dk_42 (dk_at dksX8_finderTo_0 2 rfl rfl)
theorem dX8_finderTo_3 : decode cX8_finderTo 3 = .ok (.getfield 7, 3) := dk_180 0 7 (dk_at dksX8_finderTo_0 3 rfl rfl)
theorem dX8_finderTo_6 : decode cX8_finderTo 6 = .ok (.iconst 1, 1) := dk_4 (dk_at dksX8_finderTo_0 6 rfl rfl)
theorem dX8_finderTo_7 : decode cX8_finderTo 7 = .ok (.iaload, 1) := dk_46 (dk_at dksX8_finderTo_0 7 rfl rfl)
theorem dX8_finderTo_8 : decode cX8_finderTo 8 = .ok (.iload_n 1, 1) := dk_27 (dk_at dksX8_finderTo_0 8 rfl rfl)
theorem dX8_finderTo_9 : decode cX8_finderTo 9 = .ok (.invokevirtual 207, 3) := dk_182 0 207 (dk_at dksX8_finderTo_0 9 rfl rfl)
theorem dX8_finderTo_12 : decode cX8_finderTo 12 = .ok (.ireturn, 1) := dk_172 (dk_at dksX8_finderTo_0 12 rfl rfl)
abbrev cX8_findTo : ByteArray := prog_17_method_52_code
def yX8_findTo : MethodName := ⟨RX8, "findTo", "(I)Z"⟩
def dkwX8_findTo_0 : List UInt8 := [42, 16, 6, 42, 180, 0, 7, 5, 46, 27, 182, 0, 207, 172]
abbrev dktX8_findTo_0 : List UInt8 := dkwX8_findTo_0 ++ []
theorem dksX8_findTo_0 : cX8_findTo.data.toList.drop 0 = dktX8_findTo_0 := by decide +kernel
theorem dX8_findTo_0 : decode cX8_findTo 0 = .ok (.aload_n 0, 1) := dk_42 (dk_at dksX8_findTo_0 0 rfl rfl)
theorem dX8_findTo_1 : decode cX8_findTo 1 = .ok (.bipush 6, 2) := dk_16 6 (dk_at dksX8_findTo_0 1 rfl rfl)
theorem dX8_findTo_3 : decode cX8_findTo 3 = .ok (.aload_n 0, 1) := dk_42 (dk_at dksX8_findTo_0 3 rfl rfl)
theorem dX8_findTo_4 : decode cX8_findTo 4 = .ok (.getfield 7, 3) := dk_180 0 7 (dk_at dksX8_findTo_0 4 rfl rfl)
theorem dX8_findTo_7 : decode cX8_findTo 7 = .ok (.iconst 2, 1) := dk_5 (dk_at dksX8_findTo_0 7 rfl rfl)
theorem dX8_findTo_8 : decode cX8_findTo 8 = .ok (.iaload, 1) := dk_46 (dk_at dksX8_findTo_0 8 rfl rfl)
theorem dX8_findTo_9 : decode cX8_findTo 9 = .ok (.iload_n 1, 1) := dk_27 (dk_at dksX8_findTo_0 9 rfl rfl)
theorem dX8_findTo_10 : decode cX8_findTo 10 = .ok (.invokevirtual 207, 3) := dk_182 0 207 (dk_at dksX8_findTo_0 10 rfl rfl)
theorem dX8_findTo_13 : decode cX8_findTo 13 = .ok (.ireturn, 1) := dk_172 (dk_at dksX8_findTo_0 13 rfl rfl)
abbrev cX8_test : ByteArray := prog_17_method_53_code
def yX8_test : MethodName := ⟨RX8, "test", "(I)Z"⟩
def dkwX8_test_7 : List UInt8 := [182, 0, 191, 172]
abbrev dktX8_test_7 : List UInt8 := dkwX8_test_7 ++ []
def dkwX8_test_6 : List UInt8 := [180, 0, 7, 27, 8, 96, 42, 180, 0, 120, 79, 42, 182, 0, 154, 42, 27, 5, 96, 3, 17, 39, 15]
abbrev dktX8_test_6 : List UInt8 := dkwX8_test_6 ++ dktX8_test_7
def dkwX8_test_5 : List UInt8 := [182, 0, 157, 154, 0, 18, 42, 16, 61, 182, 0, 157, 154, 0, 9, 42, 5, 182, 0, 160, 172, 42]
abbrev dktX8_test_5 : List UInt8 := dkwX8_test_5 ++ dktX8_test_6
def dkwX8_test_4 : List UInt8 := [182, 0, 244, 153, 0, 7, 4, 167, 0, 4, 3, 172, 42, 16, 60, 182, 0, 157, 154, 0, 27, 42, 16, 62]
abbrev dktX8_test_4 : List UInt8 := dkwX8_test_4 ++ dktX8_test_5
def dkwX8_test_3 : List UInt8 := [3, 172, 28, 16, 15, 160, 0, 30, 42, 18, 178, 16, 12, 182, 0, 187, 153, 0, 17, 42, 27, 5, 96]
abbrev dktX8_test_3 : List UInt8 := dkwX8_test_3 ++ dktX8_test_4
def dkwX8_test_2 : List UInt8 := [28, 16, 29, 160, 0, 11, 42, 27, 4, 96, 182, 0, 244, 172, 42, 27, 4, 96, 182, 0, 247, 154, 0, 5]
abbrev dktX8_test_2 : List UInt8 := dkwX8_test_2 ++ dktX8_test_3
def dkwX8_test_1 : List UInt8 := [159, 0, 9, 42, 5, 182, 0, 160, 172, 42, 180, 0, 7, 27, 17, 9, 96, 28, 96, 79, 42, 182, 0, 154]
abbrev dktX8_test_1 : List UInt8 := dkwX8_test_1 ++ dktX8_test_2
def dkwX8_test_0 : List UInt8 := [42, 18, 178, 182, 0, 163, 61, 28, 16, 28, 159, 0, 21, 28, 16, 15, 159, 0, 15, 28, 16, 29]
abbrev dktX8_test_0 : List UInt8 := dkwX8_test_0 ++ dktX8_test_1
theorem dksX8_test_0 : cX8_test.data.toList.drop 0 = dktX8_test_0 := by decide +kernel
theorem dksX8_test_1 : cX8_test.data.toList.drop 22 = dktX8_test_1 := dk_seg dksX8_test_0 22 rfl rfl
theorem dksX8_test_2 : cX8_test.data.toList.drop 46 = dktX8_test_2 := dk_seg dksX8_test_1 24 rfl rfl
theorem dksX8_test_3 : cX8_test.data.toList.drop 70 = dktX8_test_3 := dk_seg dksX8_test_2 24 rfl rfl
theorem dksX8_test_4 : cX8_test.data.toList.drop 93 = dktX8_test_4 := dk_seg dksX8_test_3 23 rfl rfl
theorem dksX8_test_5 : cX8_test.data.toList.drop 117 = dktX8_test_5 := dk_seg dksX8_test_4 24 rfl rfl
theorem dksX8_test_6 : cX8_test.data.toList.drop 139 = dktX8_test_6 := dk_seg dksX8_test_5 22 rfl rfl
theorem dksX8_test_7 : cX8_test.data.toList.drop 162 = dktX8_test_7 := dk_seg dksX8_test_6 23 rfl rfl
theorem dX8_test_0 : decode cX8_test 0 = .ok (.aload_n 0, 1) := dk_42 (dk_at dksX8_test_0 0 rfl rfl)
theorem dX8_test_1 : decode cX8_test 1 = .ok (.ldc 178, 2) := dk_18 178 (dk_at dksX8_test_0 1 rfl rfl)
theorem dX8_test_3 : decode cX8_test 3 = .ok (.invokevirtual 163, 3) := dk_182 0 163 (dk_at dksX8_test_0 3 rfl rfl)
theorem dX8_test_6 : decode cX8_test 6 = .ok (.istore_n 2, 1) := dk_61 (dk_at dksX8_test_0 6 rfl rfl)
theorem dX8_test_7 : decode cX8_test 7 = .ok (.iload_n 2, 1) := dk_28 (dk_at dksX8_test_0 7 rfl rfl)
theorem dX8_test_8 : decode cX8_test 8 = .ok (.bipush 28, 2) := dk_16 28 (dk_at dksX8_test_0 8 rfl rfl)
theorem dX8_test_10 : decode cX8_test 10 = .ok (.if_icmp .eq 21, 3) := dk_159 0 21 (dk_at dksX8_test_0 10 rfl rfl)
theorem dX8_test_13 : decode cX8_test 13 = .ok (.iload_n 2, 1) := dk_28 (dk_at dksX8_test_0 13 rfl rfl)
theorem dX8_test_14 : decode cX8_test 14 = .ok (.bipush 15, 2) := dk_16 15 (dk_at dksX8_test_0 14 rfl rfl)
theorem dX8_test_16 : decode cX8_test 16 = .ok (.if_icmp .eq 15, 3) := dk_159 0 15 (dk_at dksX8_test_0 16 rfl rfl)
theorem dX8_test_19 : decode cX8_test 19 = .ok (.iload_n 2, 1) := dk_28 (dk_at dksX8_test_0 19 rfl rfl)
theorem dX8_test_20 : decode cX8_test 20 = .ok (.bipush 29, 2) := dk_16 29 (dk_at dksX8_test_0 20 rfl rfl)
theorem dX8_test_22 : decode cX8_test 22 = .ok (.if_icmp .eq 9, 3) := dk_159 0 9 (dk_at dksX8_test_1 0 rfl rfl)
theorem dX8_test_25 : decode cX8_test 25 = .ok (.aload_n 0, 1) := dk_42 (dk_at dksX8_test_1 3 rfl rfl)
theorem dX8_test_26 : decode cX8_test 26 = .ok (.iconst 2, 1) := dk_5 (dk_at dksX8_test_1 4 rfl rfl)
theorem dX8_test_27 : decode cX8_test 27 = .ok (.invokevirtual 160, 3) := dk_182 0 160 (dk_at dksX8_test_1 5 rfl rfl)
theorem dX8_test_30 : decode cX8_test 30 = .ok (.ireturn, 1) := dk_172 (dk_at dksX8_test_1 8 rfl rfl)
theorem dX8_test_31 : decode cX8_test 31 = .ok (.aload_n 0, 1) := dk_42 (dk_at dksX8_test_1 9 rfl rfl)
theorem dX8_test_32 : decode cX8_test 32 = .ok (.getfield 7, 3) := dk_180 0 7 (dk_at dksX8_test_1 10 rfl rfl)
theorem dX8_test_35 : decode cX8_test 35 = .ok (.iload_n 1, 1) := dk_27 (dk_at dksX8_test_1 13 rfl rfl)
theorem dX8_test_36 : decode cX8_test 36 = .ok (.sipush 2400, 3) := dk_17 9 96 (dk_at dksX8_test_1 14 rfl rfl)
theorem dX8_test_39 : decode cX8_test 39 = .ok (.iload_n 2, 1) := dk_28 (dk_at dksX8_test_1 17 rfl rfl)
theorem dX8_test_40 : decode cX8_test 40 = .ok (.iadd, 1) := dk_96 (dk_at dksX8_test_1 18 rfl rfl)
theorem dX8_test_41 : decode cX8_test 41 = .ok (.iastore, 1) := dk_79 (dk_at dksX8_test_1 19 rfl rfl)
theorem dX8_test_42 : decode cX8_test 42 = .ok (.aload_n 0, 1) := dk_42 (dk_at dksX8_test_1 20 rfl rfl)
theorem dX8_test_43 : decode cX8_test 43 = .ok (.invokevirtual 154, 3) := dk_182 0 154 (dk_at dksX8_test_1 21 rfl rfl)
theorem dX8_test_46 : decode cX8_test 46 = .ok (.iload_n 2, 1) := dk_28 (dk_at dksX8_test_2 0 rfl rfl)
theorem dX8_test_47 : decode cX8_test 47 = .ok (.bipush 29, 2) := dk_16 29 (dk_at dksX8_test_2 1 rfl rfl)
theorem dX8_test_49 : decode cX8_test 49 = .ok (.if_icmp .ne 11, 3) := dk_160 0 11 (dk_at dksX8_test_2 3 rfl rfl)
theorem dX8_test_52 : decode cX8_test 52 = .ok (.aload_n 0, 1) := dk_42 (dk_at dksX8_test_2 6 rfl rfl)
theorem dX8_test_53 : decode cX8_test 53 = .ok (.iload_n 1, 1) := dk_27 (dk_at dksX8_test_2 7 rfl rfl)
theorem dX8_test_54 : decode cX8_test 54 = .ok (.iconst 1, 1) := dk_4 (dk_at dksX8_test_2 8 rfl rfl)
theorem dX8_test_55 : decode cX8_test 55 = .ok (.iadd, 1) := dk_96 (dk_at dksX8_test_2 9 rfl rfl)
theorem dX8_test_56 : decode cX8_test 56 = .ok (.invokevirtual 244, 3) := dk_182 0 244 (dk_at dksX8_test_2 10 rfl rfl)
theorem dX8_test_59 : decode cX8_test 59 = .ok (.ireturn, 1) := dk_172 (dk_at dksX8_test_2 13 rfl rfl)
theorem dX8_test_60 : decode cX8_test 60 = .ok (.aload_n 0, 1) := dk_42 (dk_at dksX8_test_2 14 rfl rfl)
theorem dX8_test_61 : decode cX8_test 61 = .ok (.iload_n 1, 1) := dk_27 (dk_at dksX8_test_2 15 rfl rfl)
theorem dX8_test_62 : decode cX8_test 62 = .ok (.iconst 1, 1) := dk_4 (dk_at dksX8_test_2 16 rfl rfl)
theorem dX8_test_63 : decode cX8_test 63 = .ok (.iadd, 1) := dk_96 (dk_at dksX8_test_2 17 rfl rfl)
theorem dX8_test_64 : decode cX8_test 64 = .ok (.invokevirtual 247, 3) := dk_182 0 247 (dk_at dksX8_test_2 18 rfl rfl)
theorem dX8_test_67 : decode cX8_test 67 = .ok (.ifCond .ne 5, 3) := dk_154 0 5 (dk_at dksX8_test_2 21 rfl rfl)
theorem dX8_test_70 : decode cX8_test 70 = .ok (.iconst 0, 1) := dk_3 (dk_at dksX8_test_3 0 rfl rfl)
theorem dX8_test_71 : decode cX8_test 71 = .ok (.ireturn, 1) := dk_172 (dk_at dksX8_test_3 1 rfl rfl)
theorem dX8_test_72 : decode cX8_test 72 = .ok (.iload_n 2, 1) := dk_28 (dk_at dksX8_test_3 2 rfl rfl)
theorem dX8_test_73 : decode cX8_test 73 = .ok (.bipush 15, 2) := dk_16 15 (dk_at dksX8_test_3 3 rfl rfl)
theorem dX8_test_75 : decode cX8_test 75 = .ok (.if_icmp .ne 30, 3) := dk_160 0 30 (dk_at dksX8_test_3 5 rfl rfl)
theorem dX8_test_78 : decode cX8_test 78 = .ok (.aload_n 0, 1) := dk_42 (dk_at dksX8_test_3 8 rfl rfl)
theorem dX8_test_79 : decode cX8_test 79 = .ok (.ldc 178, 2) := dk_18 178 (dk_at dksX8_test_3 9 rfl rfl)
theorem dX8_test_81 : decode cX8_test 81 = .ok (.bipush 12, 2) := dk_16 12 (dk_at dksX8_test_3 11 rfl rfl)
theorem dX8_test_83 : decode cX8_test 83 = .ok (.invokevirtual 187, 3) := dk_182 0 187 (dk_at dksX8_test_3 13 rfl rfl)
theorem dX8_test_86 : decode cX8_test 86 = .ok (.ifCond .eq 17, 3) := dk_153 0 17 (dk_at dksX8_test_3 16 rfl rfl)
theorem dX8_test_89 : decode cX8_test 89 = .ok (.aload_n 0, 1) := dk_42 (dk_at dksX8_test_3 19 rfl rfl)
theorem dX8_test_90 : decode cX8_test 90 = .ok (.iload_n 1, 1) := dk_27 (dk_at dksX8_test_3 20 rfl rfl)
theorem dX8_test_91 : decode cX8_test 91 = .ok (.iconst 2, 1) := dk_5 (dk_at dksX8_test_3 21 rfl rfl)
theorem dX8_test_92 : decode cX8_test 92 = .ok (.iadd, 1) := dk_96 (dk_at dksX8_test_3 22 rfl rfl)
theorem dX8_test_93 : decode cX8_test 93 = .ok (.invokevirtual 244, 3) := dk_182 0 244 (dk_at dksX8_test_4 0 rfl rfl)
theorem dX8_test_96 : decode cX8_test 96 = .ok (.ifCond .eq 7, 3) := dk_153 0 7 (dk_at dksX8_test_4 3 rfl rfl)
theorem dX8_test_99 : decode cX8_test 99 = .ok (.iconst 1, 1) := dk_4 (dk_at dksX8_test_4 6 rfl rfl)
theorem dX8_test_100 : decode cX8_test 100 = .ok (.goto 4, 3) := dk_167 0 4 (dk_at dksX8_test_4 7 rfl rfl)
theorem dX8_test_103 : decode cX8_test 103 = .ok (.iconst 0, 1) := dk_3 (dk_at dksX8_test_4 10 rfl rfl)
theorem dX8_test_104 : decode cX8_test 104 = .ok (.ireturn, 1) := dk_172 (dk_at dksX8_test_4 11 rfl rfl)
theorem dX8_test_105 : decode cX8_test 105 = .ok (.aload_n 0, 1) := dk_42 (dk_at dksX8_test_4 12 rfl rfl)
theorem dX8_test_106 : decode cX8_test 106 = .ok (.bipush 60, 2) := dk_16 60 (dk_at dksX8_test_4 13 rfl rfl)
theorem dX8_test_108 : decode cX8_test 108 = .ok (.invokevirtual 157, 3) := dk_182 0 157 (dk_at dksX8_test_4 15 rfl rfl)
theorem dX8_test_111 : decode cX8_test 111 = .ok (.ifCond .ne 27, 3) := dk_154 0 27 (dk_at dksX8_test_4 18 rfl rfl)
theorem dX8_test_114 : decode cX8_test 114 = .ok (.aload_n 0, 1) := dk_42 (dk_at dksX8_test_4 21 rfl rfl)
theorem dX8_test_115 : decode cX8_test 115 = .ok (.bipush 62, 2) := dk_16 62 (dk_at dksX8_test_4 22 rfl rfl)
theorem dX8_test_117 : decode cX8_test 117 = .ok (.invokevirtual 157, 3) := dk_182 0 157 (dk_at dksX8_test_5 0 rfl rfl)
theorem dX8_test_120 : decode cX8_test 120 = .ok (.ifCond .ne 18, 3) := dk_154 0 18 (dk_at dksX8_test_5 3 rfl rfl)
theorem dX8_test_123 : decode cX8_test 123 = .ok (.aload_n 0, 1) := dk_42 (dk_at dksX8_test_5 6 rfl rfl)
theorem dX8_test_124 : decode cX8_test 124 = .ok (.bipush 61, 2) := dk_16 61 (dk_at dksX8_test_5 7 rfl rfl)
theorem dX8_test_126 : decode cX8_test 126 = .ok (.invokevirtual 157, 3) := dk_182 0 157 (dk_at dksX8_test_5 9 rfl rfl)
theorem dX8_test_129 : decode cX8_test 129 = .ok (.ifCond .ne 9, 3) := dk_154 0 9 (dk_at dksX8_test_5 12 rfl rfl)
theorem dX8_test_132 : decode cX8_test 132 = .ok (.aload_n 0, 1) := dk_42 (dk_at dksX8_test_5 15 rfl rfl)
theorem dX8_test_133 : decode cX8_test 133 = .ok (.iconst 2, 1) := dk_5 (dk_at dksX8_test_5 16 rfl rfl)
theorem dX8_test_134 : decode cX8_test 134 = .ok (.invokevirtual 160, 3) := dk_182 0 160 (dk_at dksX8_test_5 17 rfl rfl)
theorem dX8_test_137 : decode cX8_test 137 = .ok (.ireturn, 1) := dk_172 (dk_at dksX8_test_5 20 rfl rfl)
theorem dX8_test_138 : decode cX8_test 138 = .ok (.aload_n 0, 1) := dk_42 (dk_at dksX8_test_5 21 rfl rfl)
theorem dX8_test_139 : decode cX8_test 139 = .ok (.getfield 7, 3) := dk_180 0 7 (dk_at dksX8_test_6 0 rfl rfl)
theorem dX8_test_142 : decode cX8_test 142 = .ok (.iload_n 1, 1) := dk_27 (dk_at dksX8_test_6 3 rfl rfl)
theorem dX8_test_143 : decode cX8_test 143 = .ok (.iconst 5, 1) := dk_8 (dk_at dksX8_test_6 4 rfl rfl)
theorem dX8_test_144 : decode cX8_test 144 = .ok (.iadd, 1) := dk_96 (dk_at dksX8_test_6 5 rfl rfl)
theorem dX8_test_145 : decode cX8_test 145 = .ok (.aload_n 0, 1) := dk_42 (dk_at dksX8_test_6 6 rfl rfl)
theorem dX8_test_146 : decode cX8_test 146 = .ok (.getfield 120, 3) := dk_180 0 120 (dk_at dksX8_test_6 7 rfl rfl)
theorem dX8_test_149 : decode cX8_test 149 = .ok (.iastore, 1) := dk_79 (dk_at dksX8_test_6 10 rfl rfl)
theorem dX8_test_150 : decode cX8_test 150 = .ok (.aload_n 0, 1) := dk_42 (dk_at dksX8_test_6 11 rfl rfl)
theorem dX8_test_151 : decode cX8_test 151 = .ok (.invokevirtual 154, 3) := dk_182 0 154 (dk_at dksX8_test_6 12 rfl rfl)
theorem dX8_test_154 : decode cX8_test 154 = .ok (.aload_n 0, 1) := dk_42 (dk_at dksX8_test_6 15 rfl rfl)
theorem dX8_test_155 : decode cX8_test 155 = .ok (.iload_n 1, 1) := dk_27 (dk_at dksX8_test_6 16 rfl rfl)
theorem dX8_test_156 : decode cX8_test 156 = .ok (.iconst 2, 1) := dk_5 (dk_at dksX8_test_6 17 rfl rfl)
theorem dX8_test_157 : decode cX8_test 157 = .ok (.iadd, 1) := dk_96 (dk_at dksX8_test_6 18 rfl rfl)
theorem dX8_test_158 : decode cX8_test 158 = .ok (.iconst 0, 1) := dk_3 (dk_at dksX8_test_6 19 rfl rfl)
theorem dX8_test_159 : decode cX8_test 159 = .ok (.sipush 9999, 3) := dk_17 39 15 (dk_at dksX8_test_6 20 rfl rfl)
theorem dX8_test_162 : decode cX8_test 162 = .ok (.invokevirtual 191, 3) := dk_182 0 191 (dk_at dksX8_test_7 0 rfl rfl)
theorem dX8_test_165 : decode cX8_test 165 = .ok (.ireturn, 1) := dk_172 (dk_at dksX8_test_7 3 rfl rfl)
abbrev cX8_told : ByteArray := prog_17_method_65_code
def yX8_told : MethodName := ⟨RX8, "told", "(I)I"⟩
def dkwX8_told_1 : List UInt8 := [46, 182, 0, 82, 172]
abbrev dktX8_told_1 : List UInt8 := dkwX8_told_1 ++ []
def dkwX8_told_0 : List UInt8 := [27, 155, 0, 9, 27, 16, 8, 164, 0, 11, 42, 4, 182, 0, 78, 167, 0, 13, 42, 42, 180, 0, 7, 27]
abbrev dktX8_told_0 : List UInt8 := dkwX8_told_0 ++ dktX8_told_1
theorem dksX8_told_0 : cX8_told.data.toList.drop 0 = dktX8_told_0 := by decide +kernel
theorem dksX8_told_1 : cX8_told.data.toList.drop 24 = dktX8_told_1 := dk_seg dksX8_told_0 24 rfl rfl
theorem dX8_told_0 : decode cX8_told 0 = .ok (.iload_n 1, 1) := dk_27 (dk_at dksX8_told_0 0 rfl rfl)
theorem dX8_told_1 : decode cX8_told 1 = .ok (.ifCond .lt 9, 3) := dk_155 0 9 (dk_at dksX8_told_0 1 rfl rfl)
theorem dX8_told_4 : decode cX8_told 4 = .ok (.iload_n 1, 1) := dk_27 (dk_at dksX8_told_0 4 rfl rfl)
theorem dX8_told_5 : decode cX8_told 5 = .ok (.bipush 8, 2) := dk_16 8 (dk_at dksX8_told_0 5 rfl rfl)
theorem dX8_told_7 : decode cX8_told 7 = .ok (.if_icmp .le 11, 3) := dk_164 0 11 (dk_at dksX8_told_0 7 rfl rfl)
theorem dX8_told_10 : decode cX8_told 10 = .ok (.aload_n 0, 1) := dk_42 (dk_at dksX8_told_0 10 rfl rfl)
theorem dX8_told_11 : decode cX8_told 11 = .ok (.iconst 1, 1) := dk_4 (dk_at dksX8_told_0 11 rfl rfl)
theorem dX8_told_12 : decode cX8_told 12 = .ok (.invokevirtual 78, 3) := dk_182 0 78 (dk_at dksX8_told_0 12 rfl rfl)
theorem dX8_told_15 : decode cX8_told 15 = .ok (.goto 13, 3) := dk_167 0 13 (dk_at dksX8_told_0 15 rfl rfl)
theorem dX8_told_18 : decode cX8_told 18 = .ok (.aload_n 0, 1) := dk_42 (dk_at dksX8_told_0 18 rfl rfl)
theorem dX8_told_19 : decode cX8_told 19 = .ok (.aload_n 0, 1) := dk_42 (dk_at dksX8_told_0 19 rfl rfl)
theorem dX8_told_20 : decode cX8_told 20 = .ok (.getfield 7, 3) := dk_180 0 7 (dk_at dksX8_told_0 20 rfl rfl)
theorem dX8_told_23 : decode cX8_told 23 = .ok (.iload_n 1, 1) := dk_27 (dk_at dksX8_told_0 23 rfl rfl)
theorem dX8_told_24 : decode cX8_told 24 = .ok (.iaload, 1) := dk_46 (dk_at dksX8_told_1 0 rfl rfl)
theorem dX8_told_25 : decode cX8_told 25 = .ok (.invokevirtual 82, 3) := dk_182 0 82 (dk_at dksX8_told_1 1 rfl rfl)
theorem dX8_told_28 : decode cX8_told 28 = .ok (.ireturn, 1) := dk_172 (dk_at dksX8_told_1 4 rfl rfl)
abbrev cX8_finder : ByteArray := prog_17_method_66_code
def yX8_finder : MethodName := ⟨RX8, "finder", "(II)I"⟩
def dkwX8_finder_1 : List UInt8 := [184, 1, 18, 28, 96, 46, 182, 0, 82, 167, 0, 8, 42, 4, 182, 0, 78, 172]
abbrev dktX8_finder_1 : List UInt8 := dkwX8_finder_1 ++ []
def dkwX8_finder_0 : List UInt8 := [42, 27, 182, 1, 15, 153, 0, 30, 28, 155, 0, 26, 28, 7, 163, 0, 21, 42, 42, 180, 0, 7, 27]
abbrev dktX8_finder_0 : List UInt8 := dkwX8_finder_0 ++ dktX8_finder_1
theorem dksX8_finder_0 : cX8_finder.data.toList.drop 0 = dktX8_finder_0 := by decide +kernel
theorem dksX8_finder_1 : cX8_finder.data.toList.drop 23 = dktX8_finder_1 := dk_seg dksX8_finder_0 23 rfl rfl
theorem dX8_finder_0 : decode cX8_finder 0 = .ok (.aload_n 0, 1) := dk_42 (dk_at dksX8_finder_0 0 rfl rfl)
theorem dX8_finder_1 : decode cX8_finder 1 = .ok (.iload_n 1, 1) := dk_27 (dk_at dksX8_finder_0 1 rfl rfl)
theorem dX8_finder_2 : decode cX8_finder 2 = .ok (.invokevirtual 271, 3) := dk_182 1 15 (dk_at dksX8_finder_0 2 rfl rfl)
theorem dX8_finder_5 : decode cX8_finder 5 = .ok (.ifCond .eq 30, 3) := dk_153 0 30 (dk_at dksX8_finder_0 5 rfl rfl)
theorem dX8_finder_8 : decode cX8_finder 8 = .ok (.iload_n 2, 1) := dk_28 (dk_at dksX8_finder_0 8 rfl rfl)
theorem dX8_finder_9 : decode cX8_finder 9 = .ok (.ifCond .lt 26, 3) := dk_155 0 26 (dk_at dksX8_finder_0 9 rfl rfl)
theorem dX8_finder_12 : decode cX8_finder 12 = .ok (.iload_n 2, 1) := dk_28 (dk_at dksX8_finder_0 12 rfl rfl)
theorem dX8_finder_13 : decode cX8_finder 13 = .ok (.iconst 4, 1) := dk_7 (dk_at dksX8_finder_0 13 rfl rfl)
theorem dX8_finder_14 : decode cX8_finder 14 = .ok (.if_icmp .gt 21, 3) := dk_163 0 21 (dk_at dksX8_finder_0 14 rfl rfl)
theorem dX8_finder_17 : decode cX8_finder 17 = .ok (.aload_n 0, 1) := dk_42 (dk_at dksX8_finder_0 17 rfl rfl)
theorem dX8_finder_18 : decode cX8_finder 18 = .ok (.aload_n 0, 1) := dk_42 (dk_at dksX8_finder_0 18 rfl rfl)
theorem dX8_finder_19 : decode cX8_finder 19 = .ok (.getfield 7, 3) := dk_180 0 7 (dk_at dksX8_finder_0 19 rfl rfl)
theorem dX8_finder_22 : decode cX8_finder 22 = .ok (.iload_n 1, 1) := dk_27 (dk_at dksX8_finder_0 22 rfl rfl)
theorem dX8_finder_23 : decode cX8_finder 23 = .ok (.invokestatic 274, 3) := dk_184 1 18 (dk_at dksX8_finder_1 0 rfl rfl)
theorem dX8_finder_26 : decode cX8_finder 26 = .ok (.iload_n 2, 1) := dk_28 (dk_at dksX8_finder_1 3 rfl rfl)
theorem dX8_finder_27 : decode cX8_finder 27 = .ok (.iadd, 1) := dk_96 (dk_at dksX8_finder_1 4 rfl rfl)
theorem dX8_finder_28 : decode cX8_finder 28 = .ok (.iaload, 1) := dk_46 (dk_at dksX8_finder_1 5 rfl rfl)
theorem dX8_finder_29 : decode cX8_finder 29 = .ok (.invokevirtual 82, 3) := dk_182 0 82 (dk_at dksX8_finder_1 6 rfl rfl)
theorem dX8_finder_32 : decode cX8_finder 32 = .ok (.goto 8, 3) := dk_167 0 8 (dk_at dksX8_finder_1 9 rfl rfl)
theorem dX8_finder_35 : decode cX8_finder 35 = .ok (.aload_n 0, 1) := dk_42 (dk_at dksX8_finder_1 12 rfl rfl)
theorem dX8_finder_36 : decode cX8_finder 36 = .ok (.iconst 1, 1) := dk_4 (dk_at dksX8_finder_1 13 rfl rfl)
theorem dX8_finder_37 : decode cX8_finder 37 = .ok (.invokevirtual 78, 3) := dk_182 0 78 (dk_at dksX8_finder_1 14 rfl rfl)
theorem dX8_finder_40 : decode cX8_finder 40 = .ok (.ireturn, 1) := dk_172 (dk_at dksX8_finder_1 17 rfl rfl)
abbrev cX8_isFinder : ByteArray := prog_17_method_58_code
def yX8_isFinder : MethodName := ⟨RX8, "isFinder", "(I)Z"⟩
def dkwX8_isFinder_0 : List UInt8 := [27, 155, 0, 17, 27, 42, 180, 0, 7, 4, 46, 162, 0, 7, 4, 167, 0, 4, 3, 172]
abbrev dktX8_isFinder_0 : List UInt8 := dkwX8_isFinder_0 ++ []
theorem dksX8_isFinder_0 : cX8_isFinder.data.toList.drop 0 = dktX8_isFinder_0 := by decide +kernel
theorem dX8_isFinder_0 : decode cX8_isFinder 0 = .ok (.iload_n 1, 1) := dk_27 (dk_at dksX8_isFinder_0 0 rfl rfl)
theorem dX8_isFinder_1 : decode cX8_isFinder 1 = .ok (.ifCond .lt 17, 3) := dk_155 0 17 (dk_at dksX8_isFinder_0 1 rfl rfl)
theorem dX8_isFinder_4 : decode cX8_isFinder 4 = .ok (.iload_n 1, 1) := dk_27 (dk_at dksX8_isFinder_0 4 rfl rfl)
theorem dX8_isFinder_5 : decode cX8_isFinder 5 = .ok (.aload_n 0, 1) := dk_42 (dk_at dksX8_isFinder_0 5 rfl rfl)
theorem dX8_isFinder_6 : decode cX8_isFinder 6 = .ok (.getfield 7, 3) := dk_180 0 7 (dk_at dksX8_isFinder_0 6 rfl rfl)
theorem dX8_isFinder_9 : decode cX8_isFinder 9 = .ok (.iconst 1, 1) := dk_4 (dk_at dksX8_isFinder_0 9 rfl rfl)
theorem dX8_isFinder_10 : decode cX8_isFinder 10 = .ok (.iaload, 1) := dk_46 (dk_at dksX8_isFinder_0 10 rfl rfl)
theorem dX8_isFinder_11 : decode cX8_isFinder 11 = .ok (.if_icmp .ge 7, 3) := dk_162 0 7 (dk_at dksX8_isFinder_0 11 rfl rfl)
theorem dX8_isFinder_14 : decode cX8_isFinder 14 = .ok (.iconst 1, 1) := dk_4 (dk_at dksX8_isFinder_0 14 rfl rfl)
theorem dX8_isFinder_15 : decode cX8_isFinder 15 = .ok (.goto 4, 3) := dk_167 0 4 (dk_at dksX8_isFinder_0 15 rfl rfl)
theorem dX8_isFinder_18 : decode cX8_isFinder 18 = .ok (.iconst 0, 1) := dk_3 (dk_at dksX8_isFinder_0 18 rfl rfl)
theorem dX8_isFinder_19 : decode cX8_isFinder 19 = .ok (.ireturn, 1) := dk_172 (dk_at dksX8_isFinder_0 19 rfl rfl)
abbrev cX8_finderRow : ByteArray := prog_17_method_57_code
def yX8_finderRow : MethodName := ⟨RX8, "finderRow", "(I)I"⟩
def dkwX8_finderRow_0 : List UInt8 := [16, 10, 8, 26, 104, 96, 172]
abbrev dktX8_finderRow_0 : List UInt8 := dkwX8_finderRow_0 ++ []
theorem dksX8_finderRow_0 : cX8_finderRow.data.toList.drop 0 = dktX8_finderRow_0 := by decide +kernel
theorem dX8_finderRow_0 : decode cX8_finderRow 0 = .ok (.bipush 10, 2) := dk_16 10 (dk_at dksX8_finderRow_0 0 rfl rfl)
theorem dX8_finderRow_2 : decode cX8_finderRow 2 = .ok (.iconst 5, 1) := dk_8 (dk_at dksX8_finderRow_0 2 rfl rfl)
theorem dX8_finderRow_3 : decode cX8_finderRow 3 = .ok (.iload_n 0, 1) := dk_26 (dk_at dksX8_finderRow_0 3 rfl rfl)
theorem dX8_finderRow_4 : decode cX8_finderRow 4 = .ok (.imul, 1) := dk_104 (dk_at dksX8_finderRow_0 4 rfl rfl)
theorem dX8_finderRow_5 : decode cX8_finderRow 5 = .ok (.iadd, 1) := dk_96 (dk_at dksX8_finderRow_0 5 rfl rfl)
theorem dX8_finderRow_6 : decode cX8_finderRow 6 = .ok (.ireturn, 1) := dk_172 (dk_at dksX8_finderRow_0 6 rfl rfl)
abbrev cX8_find : ByteArray := prog_17_method_67_code
def yX8_find : MethodName := ⟨RX8, "find", "(II)I"⟩
def dkwX8_find_1 : List UInt8 := [184, 0, 171, 28, 96, 46, 182, 0, 82, 167, 0, 8, 42, 4, 182, 0, 78, 172]
abbrev dktX8_find_1 : List UInt8 := dkwX8_find_1 ++ []
def dkwX8_find_0 : List UInt8 := [42, 27, 182, 1, 9, 153, 0, 31, 28, 155, 0, 27, 28, 5, 163, 0, 22, 42, 42, 180, 0, 7, 3, 27]
abbrev dktX8_find_0 : List UInt8 := dkwX8_find_0 ++ dktX8_find_1
theorem dksX8_find_0 : cX8_find.data.toList.drop 0 = dktX8_find_0 := by decide +kernel
theorem dksX8_find_1 : cX8_find.data.toList.drop 24 = dktX8_find_1 := dk_seg dksX8_find_0 24 rfl rfl
theorem dX8_find_0 : decode cX8_find 0 = .ok (.aload_n 0, 1) := dk_42 (dk_at dksX8_find_0 0 rfl rfl)
theorem dX8_find_1 : decode cX8_find 1 = .ok (.iload_n 1, 1) := dk_27 (dk_at dksX8_find_0 1 rfl rfl)
theorem dX8_find_2 : decode cX8_find 2 = .ok (.invokevirtual 265, 3) := dk_182 1 9 (dk_at dksX8_find_0 2 rfl rfl)
theorem dX8_find_5 : decode cX8_find 5 = .ok (.ifCond .eq 31, 3) := dk_153 0 31 (dk_at dksX8_find_0 5 rfl rfl)
theorem dX8_find_8 : decode cX8_find 8 = .ok (.iload_n 2, 1) := dk_28 (dk_at dksX8_find_0 8 rfl rfl)
theorem dX8_find_9 : decode cX8_find 9 = .ok (.ifCond .lt 27, 3) := dk_155 0 27 (dk_at dksX8_find_0 9 rfl rfl)
theorem dX8_find_12 : decode cX8_find 12 = .ok (.iload_n 2, 1) := dk_28 (dk_at dksX8_find_0 12 rfl rfl)
theorem dX8_find_13 : decode cX8_find 13 = .ok (.iconst 2, 1) := dk_5 (dk_at dksX8_find_0 13 rfl rfl)
theorem dX8_find_14 : decode cX8_find 14 = .ok (.if_icmp .gt 22, 3) := dk_163 0 22 (dk_at dksX8_find_0 14 rfl rfl)
theorem dX8_find_17 : decode cX8_find 17 = .ok (.aload_n 0, 1) := dk_42 (dk_at dksX8_find_0 17 rfl rfl)
theorem dX8_find_18 : decode cX8_find 18 = .ok (.aload_n 0, 1) := dk_42 (dk_at dksX8_find_0 18 rfl rfl)
theorem dX8_find_19 : decode cX8_find 19 = .ok (.getfield 7, 3) := dk_180 0 7 (dk_at dksX8_find_0 19 rfl rfl)
theorem dX8_find_22 : decode cX8_find 22 = .ok (.iconst 0, 1) := dk_3 (dk_at dksX8_find_0 22 rfl rfl)
theorem dX8_find_23 : decode cX8_find 23 = .ok (.iload_n 1, 1) := dk_27 (dk_at dksX8_find_0 23 rfl rfl)
theorem dX8_find_24 : decode cX8_find 24 = .ok (.invokestatic 171, 3) := dk_184 0 171 (dk_at dksX8_find_1 0 rfl rfl)
theorem dX8_find_27 : decode cX8_find 27 = .ok (.iload_n 2, 1) := dk_28 (dk_at dksX8_find_1 3 rfl rfl)
theorem dX8_find_28 : decode cX8_find 28 = .ok (.iadd, 1) := dk_96 (dk_at dksX8_find_1 4 rfl rfl)
theorem dX8_find_29 : decode cX8_find 29 = .ok (.iaload, 1) := dk_46 (dk_at dksX8_find_1 5 rfl rfl)
theorem dX8_find_30 : decode cX8_find 30 = .ok (.invokevirtual 82, 3) := dk_182 0 82 (dk_at dksX8_find_1 6 rfl rfl)
theorem dX8_find_33 : decode cX8_find 33 = .ok (.goto 8, 3) := dk_167 0 8 (dk_at dksX8_find_1 9 rfl rfl)
theorem dX8_find_36 : decode cX8_find 36 = .ok (.aload_n 0, 1) := dk_42 (dk_at dksX8_find_1 12 rfl rfl)
theorem dX8_find_37 : decode cX8_find 37 = .ok (.iconst 1, 1) := dk_4 (dk_at dksX8_find_1 13 rfl rfl)
theorem dX8_find_38 : decode cX8_find 38 = .ok (.invokevirtual 78, 3) := dk_182 0 78 (dk_at dksX8_find_1 14 rfl rfl)
theorem dX8_find_41 : decode cX8_find 41 = .ok (.ireturn, 1) := dk_172 (dk_at dksX8_find_1 17 rfl rfl)
abbrev cX8_isFind : ByteArray := prog_17_method_59_code
def yX8_isFind : MethodName := ⟨RX8, "isFind", "(I)Z"⟩
def dkwX8_isFind_0 : List UInt8 := [27, 155, 0, 17, 27, 42, 180, 0, 7, 5, 46, 162, 0, 7, 4, 167, 0, 4, 3, 172]
abbrev dktX8_isFind_0 : List UInt8 := dkwX8_isFind_0 ++ []
theorem dksX8_isFind_0 : cX8_isFind.data.toList.drop 0 = dktX8_isFind_0 := by decide +kernel
theorem dX8_isFind_0 : decode cX8_isFind 0 = .ok (.iload_n 1, 1) := dk_27 (dk_at dksX8_isFind_0 0 rfl rfl)
theorem dX8_isFind_1 : decode cX8_isFind 1 = .ok (.ifCond .lt 17, 3) := dk_155 0 17 (dk_at dksX8_isFind_0 1 rfl rfl)
theorem dX8_isFind_4 : decode cX8_isFind 4 = .ok (.iload_n 1, 1) := dk_27 (dk_at dksX8_isFind_0 4 rfl rfl)
theorem dX8_isFind_5 : decode cX8_isFind 5 = .ok (.aload_n 0, 1) := dk_42 (dk_at dksX8_isFind_0 5 rfl rfl)
theorem dX8_isFind_6 : decode cX8_isFind 6 = .ok (.getfield 7, 3) := dk_180 0 7 (dk_at dksX8_isFind_0 6 rfl rfl)
theorem dX8_isFind_9 : decode cX8_isFind 9 = .ok (.iconst 2, 1) := dk_5 (dk_at dksX8_isFind_0 9 rfl rfl)
theorem dX8_isFind_10 : decode cX8_isFind 10 = .ok (.iaload, 1) := dk_46 (dk_at dksX8_isFind_0 10 rfl rfl)
theorem dX8_isFind_11 : decode cX8_isFind 11 = .ok (.if_icmp .ge 7, 3) := dk_162 0 7 (dk_at dksX8_isFind_0 11 rfl rfl)
theorem dX8_isFind_14 : decode cX8_isFind 14 = .ok (.iconst 1, 1) := dk_4 (dk_at dksX8_isFind_0 14 rfl rfl)
theorem dX8_isFind_15 : decode cX8_isFind 15 = .ok (.goto 4, 3) := dk_167 0 4 (dk_at dksX8_isFind_0 15 rfl rfl)
theorem dX8_isFind_18 : decode cX8_isFind 18 = .ok (.iconst 0, 1) := dk_3 (dk_at dksX8_isFind_0 18 rfl rfl)
theorem dX8_isFind_19 : decode cX8_isFind 19 = .ok (.ireturn, 1) := dk_172 (dk_at dksX8_isFind_0 19 rfl rfl)
abbrev cX8_pebble : ByteArray := prog_17_method_68_code
def yX8_pebble : MethodName := ⟨RX8, "pebble", "(III)I"⟩
def dkwX8_pebble_2 : List UInt8 := [180, 0, 7, 3, 27, 28, 184, 0, 174, 29, 96, 46, 182, 0, 82, 172]
abbrev dktX8_pebble_2 : List UInt8 := dkwX8_pebble_2 ++ []
def dkwX8_pebble_1 : List UInt8 := [155, 0, 12, 28, 42, 27, 182, 1, 21, 161, 0, 12, 42, 16, 6, 182, 0, 78, 167, 0, 20, 42, 42]
abbrev dktX8_pebble_1 : List UInt8 := dkwX8_pebble_1 ++ dktX8_pebble_2
def dkwX8_pebble_0 : List UInt8 := [42, 27, 182, 1, 9, 153, 0, 12, 29, 155, 0, 8, 29, 4, 164, 0, 9, 42, 4, 182, 0, 78, 172, 28]
abbrev dktX8_pebble_0 : List UInt8 := dkwX8_pebble_0 ++ dktX8_pebble_1
theorem dksX8_pebble_0 : cX8_pebble.data.toList.drop 0 = dktX8_pebble_0 := by decide +kernel
theorem dksX8_pebble_1 : cX8_pebble.data.toList.drop 24 = dktX8_pebble_1 := dk_seg dksX8_pebble_0 24 rfl rfl
theorem dksX8_pebble_2 : cX8_pebble.data.toList.drop 47 = dktX8_pebble_2 := dk_seg dksX8_pebble_1 23 rfl rfl
theorem dX8_pebble_0 : decode cX8_pebble 0 = .ok (.aload_n 0, 1) := dk_42 (dk_at dksX8_pebble_0 0 rfl rfl)
theorem dX8_pebble_1 : decode cX8_pebble 1 = .ok (.iload_n 1, 1) := dk_27 (dk_at dksX8_pebble_0 1 rfl rfl)
theorem dX8_pebble_2 : decode cX8_pebble 2 = .ok (.invokevirtual 265, 3) := dk_182 1 9 (dk_at dksX8_pebble_0 2 rfl rfl)
theorem dX8_pebble_5 : decode cX8_pebble 5 = .ok (.ifCond .eq 12, 3) := dk_153 0 12 (dk_at dksX8_pebble_0 5 rfl rfl)
theorem dX8_pebble_8 : decode cX8_pebble 8 = .ok (.iload_n 3, 1) := dk_29 (dk_at dksX8_pebble_0 8 rfl rfl)
theorem dX8_pebble_9 : decode cX8_pebble 9 = .ok (.ifCond .lt 8, 3) := dk_155 0 8 (dk_at dksX8_pebble_0 9 rfl rfl)
theorem dX8_pebble_12 : decode cX8_pebble 12 = .ok (.iload_n 3, 1) := dk_29 (dk_at dksX8_pebble_0 12 rfl rfl)
theorem dX8_pebble_13 : decode cX8_pebble 13 = .ok (.iconst 1, 1) := dk_4 (dk_at dksX8_pebble_0 13 rfl rfl)
theorem dX8_pebble_14 : decode cX8_pebble 14 = .ok (.if_icmp .le 9, 3) := dk_164 0 9 (dk_at dksX8_pebble_0 14 rfl rfl)
theorem dX8_pebble_17 : decode cX8_pebble 17 = .ok (.aload_n 0, 1) := dk_42 (dk_at dksX8_pebble_0 17 rfl rfl)
theorem dX8_pebble_18 : decode cX8_pebble 18 = .ok (.iconst 1, 1) := dk_4 (dk_at dksX8_pebble_0 18 rfl rfl)
theorem dX8_pebble_19 : decode cX8_pebble 19 = .ok (.invokevirtual 78, 3) := dk_182 0 78 (dk_at dksX8_pebble_0 19 rfl rfl)
theorem dX8_pebble_22 : decode cX8_pebble 22 = .ok (.ireturn, 1) := dk_172 (dk_at dksX8_pebble_0 22 rfl rfl)
theorem dX8_pebble_23 : decode cX8_pebble 23 = .ok (.iload_n 2, 1) := dk_28 (dk_at dksX8_pebble_0 23 rfl rfl)
theorem dX8_pebble_24 : decode cX8_pebble 24 = .ok (.ifCond .lt 12, 3) := dk_155 0 12 (dk_at dksX8_pebble_1 0 rfl rfl)
theorem dX8_pebble_27 : decode cX8_pebble 27 = .ok (.iload_n 2, 1) := dk_28 (dk_at dksX8_pebble_1 3 rfl rfl)
theorem dX8_pebble_28 : decode cX8_pebble 28 = .ok (.aload_n 0, 1) := dk_42 (dk_at dksX8_pebble_1 4 rfl rfl)
theorem dX8_pebble_29 : decode cX8_pebble 29 = .ok (.iload_n 1, 1) := dk_27 (dk_at dksX8_pebble_1 5 rfl rfl)
theorem dX8_pebble_30 : decode cX8_pebble 30 = .ok (.invokevirtual 277, 3) := dk_182 1 21 (dk_at dksX8_pebble_1 6 rfl rfl)
theorem dX8_pebble_33 : decode cX8_pebble 33 = .ok (.if_icmp .lt 12, 3) := dk_161 0 12 (dk_at dksX8_pebble_1 9 rfl rfl)
theorem dX8_pebble_36 : decode cX8_pebble 36 = .ok (.aload_n 0, 1) := dk_42 (dk_at dksX8_pebble_1 12 rfl rfl)
theorem dX8_pebble_37 : decode cX8_pebble 37 = .ok (.bipush 6, 2) := dk_16 6 (dk_at dksX8_pebble_1 13 rfl rfl)
theorem dX8_pebble_39 : decode cX8_pebble 39 = .ok (.invokevirtual 78, 3) := dk_182 0 78 (dk_at dksX8_pebble_1 15 rfl rfl)
theorem dX8_pebble_42 : decode cX8_pebble 42 = .ok (.goto 20, 3) := dk_167 0 20 (dk_at dksX8_pebble_1 18 rfl rfl)
theorem dX8_pebble_45 : decode cX8_pebble 45 = .ok (.aload_n 0, 1) := dk_42 (dk_at dksX8_pebble_1 21 rfl rfl)
theorem dX8_pebble_46 : decode cX8_pebble 46 = .ok (.aload_n 0, 1) := dk_42 (dk_at dksX8_pebble_1 22 rfl rfl)
theorem dX8_pebble_47 : decode cX8_pebble 47 = .ok (.getfield 7, 3) := dk_180 0 7 (dk_at dksX8_pebble_2 0 rfl rfl)
theorem dX8_pebble_50 : decode cX8_pebble 50 = .ok (.iconst 0, 1) := dk_3 (dk_at dksX8_pebble_2 3 rfl rfl)
theorem dX8_pebble_51 : decode cX8_pebble 51 = .ok (.iload_n 1, 1) := dk_27 (dk_at dksX8_pebble_2 4 rfl rfl)
theorem dX8_pebble_52 : decode cX8_pebble 52 = .ok (.iload_n 2, 1) := dk_28 (dk_at dksX8_pebble_2 5 rfl rfl)
theorem dX8_pebble_53 : decode cX8_pebble 53 = .ok (.invokestatic 174, 3) := dk_184 0 174 (dk_at dksX8_pebble_2 6 rfl rfl)
theorem dX8_pebble_56 : decode cX8_pebble 56 = .ok (.iload_n 3, 1) := dk_29 (dk_at dksX8_pebble_2 9 rfl rfl)
theorem dX8_pebble_57 : decode cX8_pebble 57 = .ok (.iadd, 1) := dk_96 (dk_at dksX8_pebble_2 10 rfl rfl)
theorem dX8_pebble_58 : decode cX8_pebble 58 = .ok (.iaload, 1) := dk_46 (dk_at dksX8_pebble_2 11 rfl rfl)
theorem dX8_pebble_59 : decode cX8_pebble 59 = .ok (.invokevirtual 82, 3) := dk_182 0 82 (dk_at dksX8_pebble_2 12 rfl rfl)
theorem dX8_pebble_62 : decode cX8_pebble 62 = .ok (.ireturn, 1) := dk_172 (dk_at dksX8_pebble_2 15 rfl rfl)
abbrev cX8_manyOn : ByteArray := prog_17_method_61_code
def yX8_manyOn : MethodName := ⟨RX8, "manyOn", "(I)I"⟩
def dkwX8_manyOn_0 : List UInt8 := [42, 180, 0, 7, 3, 27, 184, 0, 171, 5, 96, 46, 172]
abbrev dktX8_manyOn_0 : List UInt8 := dkwX8_manyOn_0 ++ []
theorem dksX8_manyOn_0 : cX8_manyOn.data.toList.drop 0 = dktX8_manyOn_0 := by decide +kernel
theorem dX8_manyOn_0 : decode cX8_manyOn 0 = .ok (.aload_n 0, 1) := dk_42 (dk_at dksX8_manyOn_0 0 rfl rfl)
theorem dX8_manyOn_1 : decode cX8_manyOn 1 = .ok (.getfield 7, 3) := dk_180 0 7 (dk_at dksX8_manyOn_0 1 rfl rfl)
theorem dX8_manyOn_4 : decode cX8_manyOn 4 = .ok (.iconst 0, 1) := dk_3 (dk_at dksX8_manyOn_0 4 rfl rfl)
theorem dX8_manyOn_5 : decode cX8_manyOn 5 = .ok (.iload_n 1, 1) := dk_27 (dk_at dksX8_manyOn_0 5 rfl rfl)
theorem dX8_manyOn_6 : decode cX8_manyOn 6 = .ok (.invokestatic 171, 3) := dk_184 0 171 (dk_at dksX8_manyOn_0 6 rfl rfl)
theorem dX8_manyOn_9 : decode cX8_manyOn 9 = .ok (.iconst 2, 1) := dk_5 (dk_at dksX8_manyOn_0 9 rfl rfl)
theorem dX8_manyOn_10 : decode cX8_manyOn 10 = .ok (.iadd, 1) := dk_96 (dk_at dksX8_manyOn_0 10 rfl rfl)
theorem dX8_manyOn_11 : decode cX8_manyOn 11 = .ok (.iaload, 1) := dk_46 (dk_at dksX8_manyOn_0 11 rfl rfl)
theorem dX8_manyOn_12 : decode cX8_manyOn 12 = .ok (.ireturn, 1) := dk_172 (dk_at dksX8_manyOn_0 12 rfl rfl)
abbrev cX8_go : ByteArray := prog_17_method_72_code
def yX8_go : MethodName := ⟨RX8, "go", "(II)I"⟩
def dkwX8_go_2 : List UInt8 := [184, 1, 18, 6, 96, 46, 182, 0, 82, 167, 0, 9, 42, 16, 7, 182, 0, 78, 172]
abbrev dktX8_go_2 : List UInt8 := dkwX8_go_2 ++ []
def dkwX8_go_1 : List UInt8 := [154, 0, 9, 42, 4, 182, 0, 78, 172, 42, 27, 28, 182, 1, 37, 153, 0, 21, 42, 42, 180, 0, 7, 27]
abbrev dktX8_go_1 : List UInt8 := dkwX8_go_1 ++ dktX8_go_2
def dkwX8_go_0 : List UInt8 := [42, 27, 182, 1, 15, 153, 0, 21, 28, 133, 9, 42, 180, 0, 7, 3, 46, 133, 10, 101, 184, 1, 33]
abbrev dktX8_go_0 : List UInt8 := dkwX8_go_0 ++ dktX8_go_1
theorem dksX8_go_0 : cX8_go.data.toList.drop 0 = dktX8_go_0 := by decide +kernel
theorem dksX8_go_1 : cX8_go.data.toList.drop 23 = dktX8_go_1 := dk_seg dksX8_go_0 23 rfl rfl
theorem dksX8_go_2 : cX8_go.data.toList.drop 47 = dktX8_go_2 := dk_seg dksX8_go_1 24 rfl rfl
theorem dX8_go_0 : decode cX8_go 0 = .ok (.aload_n 0, 1) := dk_42 (dk_at dksX8_go_0 0 rfl rfl)
theorem dX8_go_1 : decode cX8_go 1 = .ok (.iload_n 1, 1) := dk_27 (dk_at dksX8_go_0 1 rfl rfl)
theorem dX8_go_2 : decode cX8_go 2 = .ok (.invokevirtual 271, 3) := dk_182 1 15 (dk_at dksX8_go_0 2 rfl rfl)
theorem dX8_go_5 : decode cX8_go 5 = .ok (.ifCond .eq 21, 3) := dk_153 0 21 (dk_at dksX8_go_0 5 rfl rfl)
theorem dX8_go_8 : decode cX8_go 8 = .ok (.iload_n 2, 1) := dk_28 (dk_at dksX8_go_0 8 rfl rfl)
theorem dX8_go_9 : decode cX8_go 9 = .ok (.i2l, 1) := dk_133 (dk_at dksX8_go_0 9 rfl rfl)
theorem dX8_go_10 : decode cX8_go 10 = .ok (.lconst 0, 1) := dk_9 (dk_at dksX8_go_0 10 rfl rfl)
theorem dX8_go_11 : decode cX8_go 11 = .ok (.aload_n 0, 1) := dk_42 (dk_at dksX8_go_0 11 rfl rfl)
theorem dX8_go_12 : decode cX8_go 12 = .ok (.getfield 7, 3) := dk_180 0 7 (dk_at dksX8_go_0 12 rfl rfl)
theorem dX8_go_15 : decode cX8_go 15 = .ok (.iconst 0, 1) := dk_3 (dk_at dksX8_go_0 15 rfl rfl)
theorem dX8_go_16 : decode cX8_go 16 = .ok (.iaload, 1) := dk_46 (dk_at dksX8_go_0 16 rfl rfl)
theorem dX8_go_17 : decode cX8_go 17 = .ok (.i2l, 1) := dk_133 (dk_at dksX8_go_0 17 rfl rfl)
theorem dX8_go_18 : decode cX8_go 18 = .ok (.lconst 1, 1) := dk_10 (dk_at dksX8_go_0 18 rfl rfl)
theorem dX8_go_19 : decode cX8_go 19 = .ok (.lsub, 1) := dk_101 (dk_at dksX8_go_0 19 rfl rfl)
theorem dX8_go_20 : decode cX8_go 20 = .ok (.invokestatic 289, 3) := dk_184 1 33 (dk_at dksX8_go_0 20 rfl rfl)
theorem dX8_go_23 : decode cX8_go 23 = .ok (.ifCond .ne 9, 3) := dk_154 0 9 (dk_at dksX8_go_1 0 rfl rfl)
theorem dX8_go_26 : decode cX8_go 26 = .ok (.aload_n 0, 1) := dk_42 (dk_at dksX8_go_1 3 rfl rfl)
theorem dX8_go_27 : decode cX8_go 27 = .ok (.iconst 1, 1) := dk_4 (dk_at dksX8_go_1 4 rfl rfl)
theorem dX8_go_28 : decode cX8_go 28 = .ok (.invokevirtual 78, 3) := dk_182 0 78 (dk_at dksX8_go_1 5 rfl rfl)
theorem dX8_go_31 : decode cX8_go 31 = .ok (.ireturn, 1) := dk_172 (dk_at dksX8_go_1 8 rfl rfl)
theorem dX8_go_32 : decode cX8_go 32 = .ok (.aload_n 0, 1) := dk_42 (dk_at dksX8_go_1 9 rfl rfl)
theorem dX8_go_33 : decode cX8_go 33 = .ok (.iload_n 1, 1) := dk_27 (dk_at dksX8_go_1 10 rfl rfl)
theorem dX8_go_34 : decode cX8_go 34 = .ok (.iload_n 2, 1) := dk_28 (dk_at dksX8_go_1 11 rfl rfl)
theorem dX8_go_35 : decode cX8_go 35 = .ok (.invokevirtual 293, 3) := dk_182 1 37 (dk_at dksX8_go_1 12 rfl rfl)
theorem dX8_go_38 : decode cX8_go 38 = .ok (.ifCond .eq 21, 3) := dk_153 0 21 (dk_at dksX8_go_1 15 rfl rfl)
theorem dX8_go_41 : decode cX8_go 41 = .ok (.aload_n 0, 1) := dk_42 (dk_at dksX8_go_1 18 rfl rfl)
theorem dX8_go_42 : decode cX8_go 42 = .ok (.aload_n 0, 1) := dk_42 (dk_at dksX8_go_1 19 rfl rfl)
theorem dX8_go_43 : decode cX8_go 43 = .ok (.getfield 7, 3) := dk_180 0 7 (dk_at dksX8_go_1 20 rfl rfl)
theorem dX8_go_46 : decode cX8_go 46 = .ok (.iload_n 1, 1) := dk_27 (dk_at dksX8_go_1 23 rfl rfl)
theorem dX8_go_47 : decode cX8_go 47 = .ok (.invokestatic 274, 3) := dk_184 1 18 (dk_at dksX8_go_2 0 rfl rfl)
theorem dX8_go_50 : decode cX8_go 50 = .ok (.iconst 3, 1) := dk_6 (dk_at dksX8_go_2 3 rfl rfl)
theorem dX8_go_51 : decode cX8_go 51 = .ok (.iadd, 1) := dk_96 (dk_at dksX8_go_2 4 rfl rfl)
theorem dX8_go_52 : decode cX8_go 52 = .ok (.iaload, 1) := dk_46 (dk_at dksX8_go_2 5 rfl rfl)
theorem dX8_go_53 : decode cX8_go 53 = .ok (.invokevirtual 82, 3) := dk_182 0 82 (dk_at dksX8_go_2 6 rfl rfl)
theorem dX8_go_56 : decode cX8_go 56 = .ok (.goto 9, 3) := dk_167 0 9 (dk_at dksX8_go_2 9 rfl rfl)
theorem dX8_go_59 : decode cX8_go 59 = .ok (.aload_n 0, 1) := dk_42 (dk_at dksX8_go_2 12 rfl rfl)
theorem dX8_go_60 : decode cX8_go 60 = .ok (.bipush 7, 2) := dk_16 7 (dk_at dksX8_go_2 13 rfl rfl)
theorem dX8_go_62 : decode cX8_go 62 = .ok (.invokevirtual 78, 3) := dk_182 0 78 (dk_at dksX8_go_2 15 rfl rfl)
theorem dX8_go_65 : decode cX8_go 65 = .ok (.ireturn, 1) := dk_172 (dk_at dksX8_go_2 18 rfl rfl)
abbrev cX8_isFrom : ByteArray := prog_17_method_18_code
def yX8_isFrom : MethodName := ⟨RX8, "isFrom", "(JJJ)Z"⟩
def dkwX8_isFrom_0 : List UInt8 := [30, 32, 148, 155, 0, 14, 30, 22, 4, 148, 157, 0, 7, 4, 167, 0, 4, 3, 172]
abbrev dktX8_isFrom_0 : List UInt8 := dkwX8_isFrom_0 ++ []
theorem dksX8_isFrom_0 : cX8_isFrom.data.toList.drop 0 = dktX8_isFrom_0 := by decide +kernel
theorem dX8_isFrom_0 : decode cX8_isFrom 0 = .ok (.lload_n 0, 1) := dk_30 (dk_at dksX8_isFrom_0 0 rfl rfl)
theorem dX8_isFrom_1 : decode cX8_isFrom 1 = .ok (.lload_n 2, 1) := dk_32 (dk_at dksX8_isFrom_0 1 rfl rfl)
theorem dX8_isFrom_2 : decode cX8_isFrom 2 = .ok (.lcmp, 1) := dk_148 (dk_at dksX8_isFrom_0 2 rfl rfl)
theorem dX8_isFrom_3 : decode cX8_isFrom 3 = .ok (.ifCond .lt 14, 3) := dk_155 0 14 (dk_at dksX8_isFrom_0 3 rfl rfl)
theorem dX8_isFrom_6 : decode cX8_isFrom 6 = .ok (.lload_n 0, 1) := dk_30 (dk_at dksX8_isFrom_0 6 rfl rfl)
theorem dX8_isFrom_7 : decode cX8_isFrom 7 = .ok (.lload 4, 2) := dk_22 4 (dk_at dksX8_isFrom_0 7 rfl rfl)
theorem dX8_isFrom_9 : decode cX8_isFrom 9 = .ok (.lcmp, 1) := dk_148 (dk_at dksX8_isFrom_0 9 rfl rfl)
theorem dX8_isFrom_10 : decode cX8_isFrom 10 = .ok (.ifCond .gt 7, 3) := dk_157 0 7 (dk_at dksX8_isFrom_0 10 rfl rfl)
theorem dX8_isFrom_13 : decode cX8_isFrom 13 = .ok (.iconst 1, 1) := dk_4 (dk_at dksX8_isFrom_0 13 rfl rfl)
theorem dX8_isFrom_14 : decode cX8_isFrom 14 = .ok (.goto 4, 3) := dk_167 0 4 (dk_at dksX8_isFrom_0 14 rfl rfl)
theorem dX8_isFrom_17 : decode cX8_isFrom 17 = .ok (.iconst 0, 1) := dk_3 (dk_at dksX8_isFrom_0 17 rfl rfl)
theorem dX8_isFrom_18 : decode cX8_isFrom 18 = .ok (.ireturn, 1) := dk_172 (dk_at dksX8_isFrom_0 18 rfl rfl)
abbrev cX8_went : ByteArray := prog_17_method_71_code
def yX8_went : MethodName := ⟨RX8, "went", "(II)Z"⟩
def dkwX8_went_1 : List UInt8 := [6, 96, 92, 46, 42, 27, 28, 182, 1, 27, 96, 79, 42, 180, 0, 7, 27, 184, 1, 18, 28, 79, 4, 172]
abbrev dktX8_went_1 : List UInt8 := dkwX8_went_1 ++ []
def dkwX8_went_0 : List UInt8 := [42, 27, 42, 27, 28, 182, 1, 27, 182, 1, 30, 154, 0, 5, 3, 172, 42, 180, 0, 7, 27, 184, 1, 18]
abbrev dktX8_went_0 : List UInt8 := dkwX8_went_0 ++ dktX8_went_1
theorem dksX8_went_0 : cX8_went.data.toList.drop 0 = dktX8_went_0 := by decide +kernel
theorem dksX8_went_1 : cX8_went.data.toList.drop 24 = dktX8_went_1 := dk_seg dksX8_went_0 24 rfl rfl
theorem dX8_went_0 : decode cX8_went 0 = .ok (.aload_n 0, 1) := dk_42 (dk_at dksX8_went_0 0 rfl rfl)
theorem dX8_went_1 : decode cX8_went 1 = .ok (.iload_n 1, 1) := dk_27 (dk_at dksX8_went_0 1 rfl rfl)
theorem dX8_went_2 : decode cX8_went 2 = .ok (.aload_n 0, 1) := dk_42 (dk_at dksX8_went_0 2 rfl rfl)
theorem dX8_went_3 : decode cX8_went 3 = .ok (.iload_n 1, 1) := dk_27 (dk_at dksX8_went_0 3 rfl rfl)
theorem dX8_went_4 : decode cX8_went 4 = .ok (.iload_n 2, 1) := dk_28 (dk_at dksX8_went_0 4 rfl rfl)
theorem dX8_went_5 : decode cX8_went 5 = .ok (.invokevirtual 283, 3) := dk_182 1 27 (dk_at dksX8_went_0 5 rfl rfl)
theorem dX8_went_8 : decode cX8_went 8 = .ok (.invokevirtual 286, 3) := dk_182 1 30 (dk_at dksX8_went_0 8 rfl rfl)
theorem dX8_went_11 : decode cX8_went 11 = .ok (.ifCond .ne 5, 3) := dk_154 0 5 (dk_at dksX8_went_0 11 rfl rfl)
theorem dX8_went_14 : decode cX8_went 14 = .ok (.iconst 0, 1) := dk_3 (dk_at dksX8_went_0 14 rfl rfl)
theorem dX8_went_15 : decode cX8_went 15 = .ok (.ireturn, 1) := dk_172 (dk_at dksX8_went_0 15 rfl rfl)
theorem dX8_went_16 : decode cX8_went 16 = .ok (.aload_n 0, 1) := dk_42 (dk_at dksX8_went_0 16 rfl rfl)
theorem dX8_went_17 : decode cX8_went 17 = .ok (.getfield 7, 3) := dk_180 0 7 (dk_at dksX8_went_0 17 rfl rfl)
theorem dX8_went_20 : decode cX8_went 20 = .ok (.iload_n 1, 1) := dk_27 (dk_at dksX8_went_0 20 rfl rfl)
theorem dX8_went_21 : decode cX8_went 21 = .ok (.invokestatic 274, 3) := dk_184 1 18 (dk_at dksX8_went_0 21 rfl rfl)
theorem dX8_went_24 : decode cX8_went 24 = .ok (.iconst 3, 1) := dk_6 (dk_at dksX8_went_1 0 rfl rfl)
theorem dX8_went_25 : decode cX8_went 25 = .ok (.iadd, 1) := dk_96 (dk_at dksX8_went_1 1 rfl rfl)
theorem dX8_went_26 : decode cX8_went 26 = .ok (.dup2, 1) := dk_92 (dk_at dksX8_went_1 2 rfl rfl)
theorem dX8_went_27 : decode cX8_went 27 = .ok (.iaload, 1) := dk_46 (dk_at dksX8_went_1 3 rfl rfl)
theorem dX8_went_28 : decode cX8_went 28 = .ok (.aload_n 0, 1) := dk_42 (dk_at dksX8_went_1 4 rfl rfl)
theorem dX8_went_29 : decode cX8_went 29 = .ok (.iload_n 1, 1) := dk_27 (dk_at dksX8_went_1 5 rfl rfl)
theorem dX8_went_30 : decode cX8_went 30 = .ok (.iload_n 2, 1) := dk_28 (dk_at dksX8_went_1 6 rfl rfl)
theorem dX8_went_31 : decode cX8_went 31 = .ok (.invokevirtual 283, 3) := dk_182 1 27 (dk_at dksX8_went_1 7 rfl rfl)
theorem dX8_went_34 : decode cX8_went 34 = .ok (.iadd, 1) := dk_96 (dk_at dksX8_went_1 10 rfl rfl)
theorem dX8_went_35 : decode cX8_went 35 = .ok (.iastore, 1) := dk_79 (dk_at dksX8_went_1 11 rfl rfl)
theorem dX8_went_36 : decode cX8_went 36 = .ok (.aload_n 0, 1) := dk_42 (dk_at dksX8_went_1 12 rfl rfl)
theorem dX8_went_37 : decode cX8_went 37 = .ok (.getfield 7, 3) := dk_180 0 7 (dk_at dksX8_went_1 13 rfl rfl)
theorem dX8_went_40 : decode cX8_went 40 = .ok (.iload_n 1, 1) := dk_27 (dk_at dksX8_went_1 16 rfl rfl)
theorem dX8_went_41 : decode cX8_went 41 = .ok (.invokestatic 274, 3) := dk_184 1 18 (dk_at dksX8_went_1 17 rfl rfl)
theorem dX8_went_44 : decode cX8_went 44 = .ok (.iload_n 2, 1) := dk_28 (dk_at dksX8_went_1 20 rfl rfl)
theorem dX8_went_45 : decode cX8_went 45 = .ok (.iastore, 1) := dk_79 (dk_at dksX8_went_1 21 rfl rfl)
theorem dX8_went_46 : decode cX8_went 46 = .ok (.iconst 1, 1) := dk_4 (dk_at dksX8_went_1 22 rfl rfl)
theorem dX8_went_47 : decode cX8_went 47 = .ok (.ireturn, 1) := dk_172 (dk_at dksX8_went_1 23 rfl rfl)
abbrev cX8_stepsTo : ByteArray := prog_17_method_69_code
def yX8_stepsTo : MethodName := ⟨RX8, "stepsTo", "(II)I"⟩
def dkwX8_stepsTo_1 : List UInt8 := [184, 1, 24, 104, 172]
abbrev dktX8_stepsTo_1 : List UInt8 := dkwX8_stepsTo_1 ++ []
def dkwX8_stepsTo_0 : List UInt8 := [42, 180, 0, 7, 27, 184, 1, 18, 4, 96, 46, 42, 180, 0, 7, 27, 184, 1, 18, 46, 28, 100]
abbrev dktX8_stepsTo_0 : List UInt8 := dkwX8_stepsTo_0 ++ dktX8_stepsTo_1
theorem dksX8_stepsTo_0 : cX8_stepsTo.data.toList.drop 0 = dktX8_stepsTo_0 := by decide +kernel
theorem dksX8_stepsTo_1 : cX8_stepsTo.data.toList.drop 22 = dktX8_stepsTo_1 := dk_seg dksX8_stepsTo_0 22 rfl rfl
theorem dX8_stepsTo_0 : decode cX8_stepsTo 0 = .ok (.aload_n 0, 1) := dk_42 (dk_at dksX8_stepsTo_0 0 rfl rfl)
theorem dX8_stepsTo_1 : decode cX8_stepsTo 1 = .ok (.getfield 7, 3) := dk_180 0 7 (dk_at dksX8_stepsTo_0 1 rfl rfl)
theorem dX8_stepsTo_4 : decode cX8_stepsTo 4 = .ok (.iload_n 1, 1) := dk_27 (dk_at dksX8_stepsTo_0 4 rfl rfl)
theorem dX8_stepsTo_5 : decode cX8_stepsTo 5 = .ok (.invokestatic 274, 3) := dk_184 1 18 (dk_at dksX8_stepsTo_0 5 rfl rfl)
theorem dX8_stepsTo_8 : decode cX8_stepsTo 8 = .ok (.iconst 1, 1) := dk_4 (dk_at dksX8_stepsTo_0 8 rfl rfl)
theorem dX8_stepsTo_9 : decode cX8_stepsTo 9 = .ok (.iadd, 1) := dk_96 (dk_at dksX8_stepsTo_0 9 rfl rfl)
theorem dX8_stepsTo_10 : decode cX8_stepsTo 10 = .ok (.iaload, 1) := dk_46 (dk_at dksX8_stepsTo_0 10 rfl rfl)
theorem dX8_stepsTo_11 : decode cX8_stepsTo 11 = .ok (.aload_n 0, 1) := dk_42 (dk_at dksX8_stepsTo_0 11 rfl rfl)
theorem dX8_stepsTo_12 : decode cX8_stepsTo 12 = .ok (.getfield 7, 3) := dk_180 0 7 (dk_at dksX8_stepsTo_0 12 rfl rfl)
theorem dX8_stepsTo_15 : decode cX8_stepsTo 15 = .ok (.iload_n 1, 1) := dk_27 (dk_at dksX8_stepsTo_0 15 rfl rfl)
theorem dX8_stepsTo_16 : decode cX8_stepsTo 16 = .ok (.invokestatic 274, 3) := dk_184 1 18 (dk_at dksX8_stepsTo_0 16 rfl rfl)
theorem dX8_stepsTo_19 : decode cX8_stepsTo 19 = .ok (.iaload, 1) := dk_46 (dk_at dksX8_stepsTo_0 19 rfl rfl)
theorem dX8_stepsTo_20 : decode cX8_stepsTo 20 = .ok (.iload_n 2, 1) := dk_28 (dk_at dksX8_stepsTo_0 20 rfl rfl)
theorem dX8_stepsTo_21 : decode cX8_stepsTo 21 = .ok (.isub, 1) := dk_100 (dk_at dksX8_stepsTo_0 21 rfl rfl)
theorem dX8_stepsTo_22 : decode cX8_stepsTo 22 = .ok (.invokestatic 280, 3) := dk_184 1 24 (dk_at dksX8_stepsTo_1 0 rfl rfl)
theorem dX8_stepsTo_25 : decode cX8_stepsTo 25 = .ok (.imul, 1) := dk_104 (dk_at dksX8_stepsTo_1 3 rfl rfl)
theorem dX8_stepsTo_26 : decode cX8_stepsTo 26 = .ok (.ireturn, 1) := dk_172 (dk_at dksX8_stepsTo_1 4 rfl rfl)
abbrev cX8_mayTo : ByteArray := prog_17_method_70_code
def yX8_mayTo : MethodName := ⟨RX8, "mayTo", "(II)Z"⟩
def dkwX8_mayTo_1 : List UInt8 := [167, 0, 4, 3, 172]
abbrev dktX8_mayTo_1 : List UInt8 := dkwX8_mayTo_1 ++ []
def dkwX8_mayTo_0 : List UInt8 := [42, 180, 0, 7, 27, 184, 1, 18, 6, 96, 46, 28, 96, 42, 180, 0, 7, 6, 46, 163, 0, 7, 4]
abbrev dktX8_mayTo_0 : List UInt8 := dkwX8_mayTo_0 ++ dktX8_mayTo_1
theorem dksX8_mayTo_0 : cX8_mayTo.data.toList.drop 0 = dktX8_mayTo_0 := by decide +kernel
theorem dksX8_mayTo_1 : cX8_mayTo.data.toList.drop 23 = dktX8_mayTo_1 := dk_seg dksX8_mayTo_0 23 rfl rfl
theorem dX8_mayTo_0 : decode cX8_mayTo 0 = .ok (.aload_n 0, 1) := dk_42 (dk_at dksX8_mayTo_0 0 rfl rfl)
theorem dX8_mayTo_1 : decode cX8_mayTo 1 = .ok (.getfield 7, 3) := dk_180 0 7 (dk_at dksX8_mayTo_0 1 rfl rfl)
theorem dX8_mayTo_4 : decode cX8_mayTo 4 = .ok (.iload_n 1, 1) := dk_27 (dk_at dksX8_mayTo_0 4 rfl rfl)
theorem dX8_mayTo_5 : decode cX8_mayTo 5 = .ok (.invokestatic 274, 3) := dk_184 1 18 (dk_at dksX8_mayTo_0 5 rfl rfl)
theorem dX8_mayTo_8 : decode cX8_mayTo 8 = .ok (.iconst 3, 1) := dk_6 (dk_at dksX8_mayTo_0 8 rfl rfl)
theorem dX8_mayTo_9 : decode cX8_mayTo 9 = .ok (.iadd, 1) := dk_96 (dk_at dksX8_mayTo_0 9 rfl rfl)
theorem dX8_mayTo_10 : decode cX8_mayTo 10 = .ok (.iaload, 1) := dk_46 (dk_at dksX8_mayTo_0 10 rfl rfl)
theorem dX8_mayTo_11 : decode cX8_mayTo 11 = .ok (.iload_n 2, 1) := dk_28 (dk_at dksX8_mayTo_0 11 rfl rfl)
theorem dX8_mayTo_12 : decode cX8_mayTo 12 = .ok (.iadd, 1) := dk_96 (dk_at dksX8_mayTo_0 12 rfl rfl)
theorem dX8_mayTo_13 : decode cX8_mayTo 13 = .ok (.aload_n 0, 1) := dk_42 (dk_at dksX8_mayTo_0 13 rfl rfl)
theorem dX8_mayTo_14 : decode cX8_mayTo 14 = .ok (.getfield 7, 3) := dk_180 0 7 (dk_at dksX8_mayTo_0 14 rfl rfl)
theorem dX8_mayTo_17 : decode cX8_mayTo 17 = .ok (.iconst 3, 1) := dk_6 (dk_at dksX8_mayTo_0 17 rfl rfl)
theorem dX8_mayTo_18 : decode cX8_mayTo 18 = .ok (.iaload, 1) := dk_46 (dk_at dksX8_mayTo_0 18 rfl rfl)
theorem dX8_mayTo_19 : decode cX8_mayTo 19 = .ok (.if_icmp .gt 7, 3) := dk_163 0 7 (dk_at dksX8_mayTo_0 19 rfl rfl)
theorem dX8_mayTo_22 : decode cX8_mayTo 22 = .ok (.iconst 1, 1) := dk_4 (dk_at dksX8_mayTo_0 22 rfl rfl)
theorem dX8_mayTo_23 : decode cX8_mayTo 23 = .ok (.goto 4, 3) := dk_167 0 4 (dk_at dksX8_mayTo_1 0 rfl rfl)
theorem dX8_mayTo_26 : decode cX8_mayTo 26 = .ok (.iconst 0, 1) := dk_3 (dk_at dksX8_mayTo_1 3 rfl rfl)
theorem dX8_mayTo_27 : decode cX8_mayTo 27 = .ok (.ireturn, 1) := dk_172 (dk_at dksX8_mayTo_1 4 rfl rfl)
abbrev cX8_pass : ByteArray := prog_17_method_74_code
def yX8_pass : MethodName := ⟨RX8, "pass", "(II)I"⟩
def dkwX8_pass_2 : List UInt8 := [46, 182, 0, 82, 167, 0, 9, 42, 16, 7, 182, 0, 78, 172]
abbrev dktX8_pass_2 : List UInt8 := dkwX8_pass_2 ++ []
def dkwX8_pass_1 : List UInt8 := [182, 0, 78, 172, 42, 27, 28, 182, 1, 42, 153, 0, 21, 42, 42, 180, 0, 7, 27, 184, 1, 18, 6, 96]
abbrev dktX8_pass_1 : List UInt8 := dkwX8_pass_1 ++ dktX8_pass_2
def dkwX8_pass_0 : List UInt8 := [42, 27, 182, 1, 15, 153, 0, 15, 28, 133, 10, 20, 1, 40, 184, 1, 33, 154, 0, 9, 42, 4]
abbrev dktX8_pass_0 : List UInt8 := dkwX8_pass_0 ++ dktX8_pass_1
theorem dksX8_pass_0 : cX8_pass.data.toList.drop 0 = dktX8_pass_0 := by decide +kernel
theorem dksX8_pass_1 : cX8_pass.data.toList.drop 22 = dktX8_pass_1 := dk_seg dksX8_pass_0 22 rfl rfl
theorem dksX8_pass_2 : cX8_pass.data.toList.drop 46 = dktX8_pass_2 := dk_seg dksX8_pass_1 24 rfl rfl
theorem dX8_pass_0 : decode cX8_pass 0 = .ok (.aload_n 0, 1) := dk_42 (dk_at dksX8_pass_0 0 rfl rfl)
theorem dX8_pass_1 : decode cX8_pass 1 = .ok (.iload_n 1, 1) := dk_27 (dk_at dksX8_pass_0 1 rfl rfl)
theorem dX8_pass_2 : decode cX8_pass 2 = .ok (.invokevirtual 271, 3) := dk_182 1 15 (dk_at dksX8_pass_0 2 rfl rfl)
theorem dX8_pass_5 : decode cX8_pass 5 = .ok (.ifCond .eq 15, 3) := dk_153 0 15 (dk_at dksX8_pass_0 5 rfl rfl)
theorem dX8_pass_8 : decode cX8_pass 8 = .ok (.iload_n 2, 1) := dk_28 (dk_at dksX8_pass_0 8 rfl rfl)
theorem dX8_pass_9 : decode cX8_pass 9 = .ok (.i2l, 1) := dk_133 (dk_at dksX8_pass_0 9 rfl rfl)
theorem dX8_pass_10 : decode cX8_pass 10 = .ok (.lconst 1, 1) := dk_10 (dk_at dksX8_pass_0 10 rfl rfl)
theorem dX8_pass_11 : decode cX8_pass 11 = .ok (.ldc2_w 296, 3) := dk_20 1 40 (dk_at dksX8_pass_0 11 rfl rfl)
theorem dX8_pass_14 : decode cX8_pass 14 = .ok (.invokestatic 289, 3) := dk_184 1 33 (dk_at dksX8_pass_0 14 rfl rfl)
theorem dX8_pass_17 : decode cX8_pass 17 = .ok (.ifCond .ne 9, 3) := dk_154 0 9 (dk_at dksX8_pass_0 17 rfl rfl)
theorem dX8_pass_20 : decode cX8_pass 20 = .ok (.aload_n 0, 1) := dk_42 (dk_at dksX8_pass_0 20 rfl rfl)
theorem dX8_pass_21 : decode cX8_pass 21 = .ok (.iconst 1, 1) := dk_4 (dk_at dksX8_pass_0 21 rfl rfl)
theorem dX8_pass_22 : decode cX8_pass 22 = .ok (.invokevirtual 78, 3) := dk_182 0 78 (dk_at dksX8_pass_1 0 rfl rfl)
theorem dX8_pass_25 : decode cX8_pass 25 = .ok (.ireturn, 1) := dk_172 (dk_at dksX8_pass_1 3 rfl rfl)
theorem dX8_pass_26 : decode cX8_pass 26 = .ok (.aload_n 0, 1) := dk_42 (dk_at dksX8_pass_1 4 rfl rfl)
theorem dX8_pass_27 : decode cX8_pass 27 = .ok (.iload_n 1, 1) := dk_27 (dk_at dksX8_pass_1 5 rfl rfl)
theorem dX8_pass_28 : decode cX8_pass 28 = .ok (.iload_n 2, 1) := dk_28 (dk_at dksX8_pass_1 6 rfl rfl)
theorem dX8_pass_29 : decode cX8_pass 29 = .ok (.invokevirtual 298, 3) := dk_182 1 42 (dk_at dksX8_pass_1 7 rfl rfl)
theorem dX8_pass_32 : decode cX8_pass 32 = .ok (.ifCond .eq 21, 3) := dk_153 0 21 (dk_at dksX8_pass_1 10 rfl rfl)
theorem dX8_pass_35 : decode cX8_pass 35 = .ok (.aload_n 0, 1) := dk_42 (dk_at dksX8_pass_1 13 rfl rfl)
theorem dX8_pass_36 : decode cX8_pass 36 = .ok (.aload_n 0, 1) := dk_42 (dk_at dksX8_pass_1 14 rfl rfl)
theorem dX8_pass_37 : decode cX8_pass 37 = .ok (.getfield 7, 3) := dk_180 0 7 (dk_at dksX8_pass_1 15 rfl rfl)
theorem dX8_pass_40 : decode cX8_pass 40 = .ok (.iload_n 1, 1) := dk_27 (dk_at dksX8_pass_1 18 rfl rfl)
theorem dX8_pass_41 : decode cX8_pass 41 = .ok (.invokestatic 274, 3) := dk_184 1 18 (dk_at dksX8_pass_1 19 rfl rfl)
theorem dX8_pass_44 : decode cX8_pass 44 = .ok (.iconst 3, 1) := dk_6 (dk_at dksX8_pass_1 22 rfl rfl)
theorem dX8_pass_45 : decode cX8_pass 45 = .ok (.iadd, 1) := dk_96 (dk_at dksX8_pass_1 23 rfl rfl)
theorem dX8_pass_46 : decode cX8_pass 46 = .ok (.iaload, 1) := dk_46 (dk_at dksX8_pass_2 0 rfl rfl)
theorem dX8_pass_47 : decode cX8_pass 47 = .ok (.invokevirtual 82, 3) := dk_182 0 82 (dk_at dksX8_pass_2 1 rfl rfl)
theorem dX8_pass_50 : decode cX8_pass 50 = .ok (.goto 9, 3) := dk_167 0 9 (dk_at dksX8_pass_2 4 rfl rfl)
theorem dX8_pass_53 : decode cX8_pass 53 = .ok (.aload_n 0, 1) := dk_42 (dk_at dksX8_pass_2 7 rfl rfl)
theorem dX8_pass_54 : decode cX8_pass 54 = .ok (.bipush 7, 2) := dk_16 7 (dk_at dksX8_pass_2 8 rfl rfl)
theorem dX8_pass_56 : decode cX8_pass 56 = .ok (.invokevirtual 78, 3) := dk_182 0 78 (dk_at dksX8_pass_2 10 rfl rfl)
theorem dX8_pass_59 : decode cX8_pass 59 = .ok (.ireturn, 1) := dk_172 (dk_at dksX8_pass_2 13 rfl rfl)
abbrev cX8_waited : ByteArray := prog_17_method_73_code
def yX8_waited : MethodName := ⟨RX8, "waited", "(II)Z"⟩
def dkwX8_waited_1 : List UInt8 := [96, 79, 4, 172]
abbrev dktX8_waited_1 : List UInt8 := dkwX8_waited_1 ++ []
def dkwX8_waited_0 : List UInt8 := [42, 27, 28, 182, 1, 30, 154, 0, 5, 3, 172, 42, 180, 0, 7, 27, 184, 1, 18, 6, 96, 92, 46, 28]
abbrev dktX8_waited_0 : List UInt8 := dkwX8_waited_0 ++ dktX8_waited_1
theorem dksX8_waited_0 : cX8_waited.data.toList.drop 0 = dktX8_waited_0 := by decide +kernel
theorem dksX8_waited_1 : cX8_waited.data.toList.drop 24 = dktX8_waited_1 := dk_seg dksX8_waited_0 24 rfl rfl
theorem dX8_waited_0 : decode cX8_waited 0 = .ok (.aload_n 0, 1) := dk_42 (dk_at dksX8_waited_0 0 rfl rfl)
theorem dX8_waited_1 : decode cX8_waited 1 = .ok (.iload_n 1, 1) := dk_27 (dk_at dksX8_waited_0 1 rfl rfl)
theorem dX8_waited_2 : decode cX8_waited 2 = .ok (.iload_n 2, 1) := dk_28 (dk_at dksX8_waited_0 2 rfl rfl)
theorem dX8_waited_3 : decode cX8_waited 3 = .ok (.invokevirtual 286, 3) := dk_182 1 30 (dk_at dksX8_waited_0 3 rfl rfl)
theorem dX8_waited_6 : decode cX8_waited 6 = .ok (.ifCond .ne 5, 3) := dk_154 0 5 (dk_at dksX8_waited_0 6 rfl rfl)
theorem dX8_waited_9 : decode cX8_waited 9 = .ok (.iconst 0, 1) := dk_3 (dk_at dksX8_waited_0 9 rfl rfl)
theorem dX8_waited_10 : decode cX8_waited 10 = .ok (.ireturn, 1) := dk_172 (dk_at dksX8_waited_0 10 rfl rfl)
theorem dX8_waited_11 : decode cX8_waited 11 = .ok (.aload_n 0, 1) := dk_42 (dk_at dksX8_waited_0 11 rfl rfl)
theorem dX8_waited_12 : decode cX8_waited 12 = .ok (.getfield 7, 3) := dk_180 0 7 (dk_at dksX8_waited_0 12 rfl rfl)
theorem dX8_waited_15 : decode cX8_waited 15 = .ok (.iload_n 1, 1) := dk_27 (dk_at dksX8_waited_0 15 rfl rfl)
theorem dX8_waited_16 : decode cX8_waited 16 = .ok (.invokestatic 274, 3) := dk_184 1 18 (dk_at dksX8_waited_0 16 rfl rfl)
theorem dX8_waited_19 : decode cX8_waited 19 = .ok (.iconst 3, 1) := dk_6 (dk_at dksX8_waited_0 19 rfl rfl)
theorem dX8_waited_20 : decode cX8_waited 20 = .ok (.iadd, 1) := dk_96 (dk_at dksX8_waited_0 20 rfl rfl)
theorem dX8_waited_21 : decode cX8_waited 21 = .ok (.dup2, 1) := dk_92 (dk_at dksX8_waited_0 21 rfl rfl)
theorem dX8_waited_22 : decode cX8_waited 22 = .ok (.iaload, 1) := dk_46 (dk_at dksX8_waited_0 22 rfl rfl)
theorem dX8_waited_23 : decode cX8_waited 23 = .ok (.iload_n 2, 1) := dk_28 (dk_at dksX8_waited_0 23 rfl rfl)
theorem dX8_waited_24 : decode cX8_waited 24 = .ok (.iadd, 1) := dk_96 (dk_at dksX8_waited_1 0 rfl rfl)
theorem dX8_waited_25 : decode cX8_waited 25 = .ok (.iastore, 1) := dk_79 (dk_at dksX8_waited_1 1 rfl rfl)
theorem dX8_waited_26 : decode cX8_waited 26 = .ok (.iconst 1, 1) := dk_4 (dk_at dksX8_waited_1 2 rfl rfl)
theorem dX8_waited_27 : decode cX8_waited 27 = .ok (.ireturn, 1) := dk_172 (dk_at dksX8_waited_1 3 rfl rfl)
abbrev cX8_set : ByteArray := prog_17_method_77_code
def yX8_set : MethodName := ⟨RX8, "set", "(II)I"⟩
def dkwX8_set_2 : List UInt8 := [182, 1, 21, 182, 0, 82, 172]
abbrev dktX8_set_2 : List UInt8 := dkwX8_set_2 ++ []
def dkwX8_set_1 : List UInt8 := [28, 182, 1, 45, 62, 29, 158, 0, 9, 42, 29, 182, 0, 78, 172, 42, 27, 28, 182, 1, 48, 42, 42, 28]
abbrev dktX8_set_1 : List UInt8 := dkwX8_set_1 ++ dktX8_set_2
def dkwX8_set_0 : List UInt8 := [42, 27, 182, 1, 15, 153, 0, 11, 42, 28, 182, 1, 9, 154, 0, 9, 42, 4, 182, 0, 78, 172, 42, 27]
abbrev dktX8_set_0 : List UInt8 := dkwX8_set_0 ++ dktX8_set_1
theorem dksX8_set_0 : cX8_set.data.toList.drop 0 = dktX8_set_0 := by decide +kernel
theorem dksX8_set_1 : cX8_set.data.toList.drop 24 = dktX8_set_1 := dk_seg dksX8_set_0 24 rfl rfl
theorem dksX8_set_2 : cX8_set.data.toList.drop 48 = dktX8_set_2 := dk_seg dksX8_set_1 24 rfl rfl
theorem dX8_set_0 : decode cX8_set 0 = .ok (.aload_n 0, 1) := dk_42 (dk_at dksX8_set_0 0 rfl rfl)
theorem dX8_set_1 : decode cX8_set 1 = .ok (.iload_n 1, 1) := dk_27 (dk_at dksX8_set_0 1 rfl rfl)
theorem dX8_set_2 : decode cX8_set 2 = .ok (.invokevirtual 271, 3) := dk_182 1 15 (dk_at dksX8_set_0 2 rfl rfl)
theorem dX8_set_5 : decode cX8_set 5 = .ok (.ifCond .eq 11, 3) := dk_153 0 11 (dk_at dksX8_set_0 5 rfl rfl)
theorem dX8_set_8 : decode cX8_set 8 = .ok (.aload_n 0, 1) := dk_42 (dk_at dksX8_set_0 8 rfl rfl)
theorem dX8_set_9 : decode cX8_set 9 = .ok (.iload_n 2, 1) := dk_28 (dk_at dksX8_set_0 9 rfl rfl)
theorem dX8_set_10 : decode cX8_set 10 = .ok (.invokevirtual 265, 3) := dk_182 1 9 (dk_at dksX8_set_0 10 rfl rfl)
theorem dX8_set_13 : decode cX8_set 13 = .ok (.ifCond .ne 9, 3) := dk_154 0 9 (dk_at dksX8_set_0 13 rfl rfl)
theorem dX8_set_16 : decode cX8_set 16 = .ok (.aload_n 0, 1) := dk_42 (dk_at dksX8_set_0 16 rfl rfl)
theorem dX8_set_17 : decode cX8_set 17 = .ok (.iconst 1, 1) := dk_4 (dk_at dksX8_set_0 17 rfl rfl)
theorem dX8_set_18 : decode cX8_set 18 = .ok (.invokevirtual 78, 3) := dk_182 0 78 (dk_at dksX8_set_0 18 rfl rfl)
theorem dX8_set_21 : decode cX8_set 21 = .ok (.ireturn, 1) := dk_172 (dk_at dksX8_set_0 21 rfl rfl)
theorem dX8_set_22 : decode cX8_set 22 = .ok (.aload_n 0, 1) := dk_42 (dk_at dksX8_set_0 22 rfl rfl)
theorem dX8_set_23 : decode cX8_set 23 = .ok (.iload_n 1, 1) := dk_27 (dk_at dksX8_set_0 23 rfl rfl)
theorem dX8_set_24 : decode cX8_set 24 = .ok (.iload_n 2, 1) := dk_28 (dk_at dksX8_set_1 0 rfl rfl)
theorem dX8_set_25 : decode cX8_set 25 = .ok (.invokevirtual 301, 3) := dk_182 1 45 (dk_at dksX8_set_1 1 rfl rfl)
theorem dX8_set_28 : decode cX8_set 28 = .ok (.istore_n 3, 1) := dk_62 (dk_at dksX8_set_1 4 rfl rfl)
theorem dX8_set_29 : decode cX8_set 29 = .ok (.iload_n 3, 1) := dk_29 (dk_at dksX8_set_1 5 rfl rfl)
theorem dX8_set_30 : decode cX8_set 30 = .ok (.ifCond .le 9, 3) := dk_158 0 9 (dk_at dksX8_set_1 6 rfl rfl)
theorem dX8_set_33 : decode cX8_set 33 = .ok (.aload_n 0, 1) := dk_42 (dk_at dksX8_set_1 9 rfl rfl)
theorem dX8_set_34 : decode cX8_set 34 = .ok (.iload_n 3, 1) := dk_29 (dk_at dksX8_set_1 10 rfl rfl)
theorem dX8_set_35 : decode cX8_set 35 = .ok (.invokevirtual 78, 3) := dk_182 0 78 (dk_at dksX8_set_1 11 rfl rfl)
theorem dX8_set_38 : decode cX8_set 38 = .ok (.ireturn, 1) := dk_172 (dk_at dksX8_set_1 14 rfl rfl)
theorem dX8_set_39 : decode cX8_set 39 = .ok (.aload_n 0, 1) := dk_42 (dk_at dksX8_set_1 15 rfl rfl)
theorem dX8_set_40 : decode cX8_set 40 = .ok (.iload_n 1, 1) := dk_27 (dk_at dksX8_set_1 16 rfl rfl)
theorem dX8_set_41 : decode cX8_set 41 = .ok (.iload_n 2, 1) := dk_28 (dk_at dksX8_set_1 17 rfl rfl)
theorem dX8_set_42 : decode cX8_set 42 = .ok (.invokevirtual 304, 3) := dk_182 1 48 (dk_at dksX8_set_1 18 rfl rfl)
theorem dX8_set_45 : decode cX8_set 45 = .ok (.aload_n 0, 1) := dk_42 (dk_at dksX8_set_1 21 rfl rfl)
theorem dX8_set_46 : decode cX8_set 46 = .ok (.aload_n 0, 1) := dk_42 (dk_at dksX8_set_1 22 rfl rfl)
theorem dX8_set_47 : decode cX8_set 47 = .ok (.iload_n 2, 1) := dk_28 (dk_at dksX8_set_1 23 rfl rfl)
theorem dX8_set_48 : decode cX8_set 48 = .ok (.invokevirtual 277, 3) := dk_182 1 21 (dk_at dksX8_set_2 0 rfl rfl)
theorem dX8_set_51 : decode cX8_set 51 = .ok (.invokevirtual 82, 3) := dk_182 0 82 (dk_at dksX8_set_2 3 rfl rfl)
theorem dX8_set_54 : decode cX8_set 54 = .ok (.ireturn, 1) := dk_172 (dk_at dksX8_set_2 6 rfl rfl)
abbrev cX8_wrongSet : ByteArray := prog_17_method_75_code
def yX8_wrongSet : MethodName := ⟨RX8, "wrongSet", "(II)I"⟩
def dkwX8_wrongSet_2 : List UInt8 := [42, 180, 0, 7, 3, 28, 184, 0, 171, 46, 160, 0, 7, 3, 167, 0, 5, 16, 7, 172]
abbrev dktX8_wrongSet_2 : List UInt8 := dkwX8_wrongSet_2 ++ []
def dkwX8_wrongSet_1 : List UInt8 := [46, 154, 0, 6, 16, 6, 172, 42, 28, 182, 1, 12, 153, 0, 29, 42, 180, 0, 7, 27, 184, 1, 18, 46]
abbrev dktX8_wrongSet_1 : List UInt8 := dkwX8_wrongSet_1 ++ dktX8_wrongSet_2
def dkwX8_wrongSet_0 : List UInt8 := [42, 180, 0, 7, 16, 8, 46, 16, 60, 160, 0, 5, 7, 172, 42, 180, 0, 7, 27, 184, 1, 18, 5, 96]
abbrev dktX8_wrongSet_0 : List UInt8 := dkwX8_wrongSet_0 ++ dktX8_wrongSet_1
theorem dksX8_wrongSet_0 : cX8_wrongSet.data.toList.drop 0 = dktX8_wrongSet_0 := by decide +kernel
theorem dksX8_wrongSet_1 : cX8_wrongSet.data.toList.drop 24 = dktX8_wrongSet_1 := dk_seg dksX8_wrongSet_0 24 rfl rfl
theorem dksX8_wrongSet_2 : cX8_wrongSet.data.toList.drop 48 = dktX8_wrongSet_2 := dk_seg dksX8_wrongSet_1 24 rfl rfl
theorem dX8_wrongSet_0 : decode cX8_wrongSet 0 = .ok (.aload_n 0, 1) := dk_42 (dk_at dksX8_wrongSet_0 0 rfl rfl)
theorem dX8_wrongSet_1 : decode cX8_wrongSet 1 = .ok (.getfield 7, 3) := dk_180 0 7 (dk_at dksX8_wrongSet_0 1 rfl rfl)
theorem dX8_wrongSet_4 : decode cX8_wrongSet 4 = .ok (.bipush 8, 2) := dk_16 8 (dk_at dksX8_wrongSet_0 4 rfl rfl)
theorem dX8_wrongSet_6 : decode cX8_wrongSet 6 = .ok (.iaload, 1) := dk_46 (dk_at dksX8_wrongSet_0 6 rfl rfl)
theorem dX8_wrongSet_7 : decode cX8_wrongSet 7 = .ok (.bipush 60, 2) := dk_16 60 (dk_at dksX8_wrongSet_0 7 rfl rfl)
theorem dX8_wrongSet_9 : decode cX8_wrongSet 9 = .ok (.if_icmp .ne 5, 3) := dk_160 0 5 (dk_at dksX8_wrongSet_0 9 rfl rfl)
theorem dX8_wrongSet_12 : decode cX8_wrongSet 12 = .ok (.iconst 4, 1) := dk_7 (dk_at dksX8_wrongSet_0 12 rfl rfl)
theorem dX8_wrongSet_13 : decode cX8_wrongSet 13 = .ok (.ireturn, 1) := dk_172 (dk_at dksX8_wrongSet_0 13 rfl rfl)
theorem dX8_wrongSet_14 : decode cX8_wrongSet 14 = .ok (.aload_n 0, 1) := dk_42 (dk_at dksX8_wrongSet_0 14 rfl rfl)
theorem dX8_wrongSet_15 : decode cX8_wrongSet 15 = .ok (.getfield 7, 3) := dk_180 0 7 (dk_at dksX8_wrongSet_0 15 rfl rfl)
theorem dX8_wrongSet_18 : decode cX8_wrongSet 18 = .ok (.iload_n 1, 1) := dk_27 (dk_at dksX8_wrongSet_0 18 rfl rfl)
theorem dX8_wrongSet_19 : decode cX8_wrongSet 19 = .ok (.invokestatic 274, 3) := dk_184 1 18 (dk_at dksX8_wrongSet_0 19 rfl rfl)
theorem dX8_wrongSet_22 : decode cX8_wrongSet 22 = .ok (.iconst 2, 1) := dk_5 (dk_at dksX8_wrongSet_0 22 rfl rfl)
theorem dX8_wrongSet_23 : decode cX8_wrongSet 23 = .ok (.iadd, 1) := dk_96 (dk_at dksX8_wrongSet_0 23 rfl rfl)
theorem dX8_wrongSet_24 : decode cX8_wrongSet 24 = .ok (.iaload, 1) := dk_46 (dk_at dksX8_wrongSet_1 0 rfl rfl)
theorem dX8_wrongSet_25 : decode cX8_wrongSet 25 = .ok (.ifCond .ne 6, 3) := dk_154 0 6 (dk_at dksX8_wrongSet_1 1 rfl rfl)
theorem dX8_wrongSet_28 : decode cX8_wrongSet 28 = .ok (.bipush 6, 2) := dk_16 6 (dk_at dksX8_wrongSet_1 4 rfl rfl)
theorem dX8_wrongSet_30 : decode cX8_wrongSet 30 = .ok (.ireturn, 1) := dk_172 (dk_at dksX8_wrongSet_1 6 rfl rfl)
theorem dX8_wrongSet_31 : decode cX8_wrongSet 31 = .ok (.aload_n 0, 1) := dk_42 (dk_at dksX8_wrongSet_1 7 rfl rfl)
theorem dX8_wrongSet_32 : decode cX8_wrongSet 32 = .ok (.iload_n 2, 1) := dk_28 (dk_at dksX8_wrongSet_1 8 rfl rfl)
theorem dX8_wrongSet_33 : decode cX8_wrongSet 33 = .ok (.invokevirtual 268, 3) := dk_182 1 12 (dk_at dksX8_wrongSet_1 9 rfl rfl)
theorem dX8_wrongSet_36 : decode cX8_wrongSet 36 = .ok (.ifCond .eq 29, 3) := dk_153 0 29 (dk_at dksX8_wrongSet_1 12 rfl rfl)
theorem dX8_wrongSet_39 : decode cX8_wrongSet 39 = .ok (.aload_n 0, 1) := dk_42 (dk_at dksX8_wrongSet_1 15 rfl rfl)
theorem dX8_wrongSet_40 : decode cX8_wrongSet 40 = .ok (.getfield 7, 3) := dk_180 0 7 (dk_at dksX8_wrongSet_1 16 rfl rfl)
theorem dX8_wrongSet_43 : decode cX8_wrongSet 43 = .ok (.iload_n 1, 1) := dk_27 (dk_at dksX8_wrongSet_1 19 rfl rfl)
theorem dX8_wrongSet_44 : decode cX8_wrongSet 44 = .ok (.invokestatic 274, 3) := dk_184 1 18 (dk_at dksX8_wrongSet_1 20 rfl rfl)
theorem dX8_wrongSet_47 : decode cX8_wrongSet 47 = .ok (.iaload, 1) := dk_46 (dk_at dksX8_wrongSet_1 23 rfl rfl)
theorem dX8_wrongSet_48 : decode cX8_wrongSet 48 = .ok (.aload_n 0, 1) := dk_42 (dk_at dksX8_wrongSet_2 0 rfl rfl)
theorem dX8_wrongSet_49 : decode cX8_wrongSet 49 = .ok (.getfield 7, 3) := dk_180 0 7 (dk_at dksX8_wrongSet_2 1 rfl rfl)
theorem dX8_wrongSet_52 : decode cX8_wrongSet 52 = .ok (.iconst 0, 1) := dk_3 (dk_at dksX8_wrongSet_2 4 rfl rfl)
theorem dX8_wrongSet_53 : decode cX8_wrongSet 53 = .ok (.iload_n 2, 1) := dk_28 (dk_at dksX8_wrongSet_2 5 rfl rfl)
theorem dX8_wrongSet_54 : decode cX8_wrongSet 54 = .ok (.invokestatic 171, 3) := dk_184 0 171 (dk_at dksX8_wrongSet_2 6 rfl rfl)
theorem dX8_wrongSet_57 : decode cX8_wrongSet 57 = .ok (.iaload, 1) := dk_46 (dk_at dksX8_wrongSet_2 9 rfl rfl)
theorem dX8_wrongSet_58 : decode cX8_wrongSet 58 = .ok (.if_icmp .ne 7, 3) := dk_160 0 7 (dk_at dksX8_wrongSet_2 10 rfl rfl)
theorem dX8_wrongSet_61 : decode cX8_wrongSet 61 = .ok (.iconst 0, 1) := dk_3 (dk_at dksX8_wrongSet_2 13 rfl rfl)
theorem dX8_wrongSet_62 : decode cX8_wrongSet 62 = .ok (.goto 5, 3) := dk_167 0 5 (dk_at dksX8_wrongSet_2 14 rfl rfl)
theorem dX8_wrongSet_65 : decode cX8_wrongSet 65 = .ok (.bipush 7, 2) := dk_16 7 (dk_at dksX8_wrongSet_2 17 rfl rfl)
theorem dX8_wrongSet_67 : decode cX8_wrongSet 67 = .ok (.ireturn, 1) := dk_172 (dk_at dksX8_wrongSet_2 19 rfl rfl)
