set_option maxRecDepth 100000
abbrev cX8_odds : ByteArray := prog_17_method_143_code
def yX8_odds : MethodName := ⟨RX8, "odds", "(III)Z"⟩
def dkwX8_odds_6 : List UInt8 := [172]
abbrev dktX8_odds_6 : List UInt8 := dkwX8_odds_6 ++ []
def dkwX8_odds_5 : List UInt8 := [55, 5, 22, 7, 20, 1, 155, 105, 55, 7, 132, 9, 1, 167, 255, 224, 42, 22, 5, 22, 7, 182, 1, 157]
abbrev dktX8_odds_5 : List UInt8 := dkwX8_odds_5 ++ dktX8_odds_6
def dkwX8_odds_4 : List UInt8 := [55, 7, 3, 54, 9, 21, 9, 42, 27, 182, 1, 114, 162, 0, 28, 22, 5, 20, 1, 155, 28, 133, 101, 105]
abbrev dktX8_odds_4 : List UInt8 := dkwX8_odds_4 ++ dktX8_odds_5
def dkwX8_odds_3 : List UInt8 := [154, 0, 7, 10, 167, 0, 16, 42, 180, 0, 7, 3, 27, 184, 0, 171, 4, 96, 46, 133, 55, 5, 10]
abbrev dktX8_odds_3 : List UInt8 := dkwX8_odds_3 ++ dktX8_odds_4
def dkwX8_odds_2 : List UInt8 := [21, 4, 182, 0, 85, 172, 42, 27, 182, 1, 114, 16, 12, 164, 0, 10, 42, 16, 7, 182, 0, 85, 172, 29]
abbrev dktX8_odds_2 : List UInt8 := dkwX8_odds_2 ++ dktX8_odds_3
def dkwX8_odds_1 : List UInt8 := [29, 4, 164, 0, 9, 42, 4, 182, 0, 85, 172, 42, 27, 182, 1, 111, 54, 4, 21, 4, 158, 0, 10, 42]
abbrev dktX8_odds_1 : List UInt8 := dkwX8_odds_1 ++ dktX8_odds_2
def dkwX8_odds_0 : List UInt8 := [42, 27, 182, 1, 9, 153, 0, 24, 28, 133, 9, 20, 1, 155, 184, 1, 33, 153, 0, 12, 29, 155, 0, 8]
abbrev dktX8_odds_0 : List UInt8 := dkwX8_odds_0 ++ dktX8_odds_1
theorem dksX8_odds_0 : cX8_odds.data.toList.drop 0 = dktX8_odds_0 := by decide +kernel
theorem dksX8_odds_1 : cX8_odds.data.toList.drop 24 = dktX8_odds_1 := dk_seg dksX8_odds_0 24 rfl rfl
theorem dksX8_odds_2 : cX8_odds.data.toList.drop 48 = dktX8_odds_2 := dk_seg dksX8_odds_1 24 rfl rfl
theorem dksX8_odds_3 : cX8_odds.data.toList.drop 72 = dktX8_odds_3 := dk_seg dksX8_odds_2 24 rfl rfl
theorem dksX8_odds_4 : cX8_odds.data.toList.drop 95 = dktX8_odds_4 := dk_seg dksX8_odds_3 23 rfl rfl
theorem dksX8_odds_5 : cX8_odds.data.toList.drop 119 = dktX8_odds_5 := dk_seg dksX8_odds_4 24 rfl rfl
theorem dksX8_odds_6 : cX8_odds.data.toList.drop 143 = dktX8_odds_6 := dk_seg dksX8_odds_5 24 rfl rfl
theorem dX8_odds_0 : decode cX8_odds 0 = .ok (.aload_n 0, 1) := dk_42 (dk_at dksX8_odds_0 0 rfl rfl)
theorem dX8_odds_1 : decode cX8_odds 1 = .ok (.iload_n 1, 1) := dk_27 (dk_at dksX8_odds_0 1 rfl rfl)
theorem dX8_odds_2 : decode cX8_odds 2 = .ok (.invokevirtual 265, 3) := dk_182 1 9 (dk_at dksX8_odds_0 2 rfl rfl)
theorem dX8_odds_5 : decode cX8_odds 5 = .ok (.ifCond .eq 24, 3) := dk_153 0 24 (dk_at dksX8_odds_0 5 rfl rfl)
theorem dX8_odds_8 : decode cX8_odds 8 = .ok (.iload_n 2, 1) := dk_28 (dk_at dksX8_odds_0 8 rfl rfl)
theorem dX8_odds_9 : decode cX8_odds 9 = .ok (.i2l, 1) := dk_133 (dk_at dksX8_odds_0 9 rfl rfl)
theorem dX8_odds_10 : decode cX8_odds 10 = .ok (.lconst 0, 1) := dk_9 (dk_at dksX8_odds_0 10 rfl rfl)
theorem dX8_odds_11 : decode cX8_odds 11 = .ok (.ldc2_w 411, 3) := dk_20 1 155 (dk_at dksX8_odds_0 11 rfl rfl)
theorem dX8_odds_14 : decode cX8_odds 14 = .ok (.invokestatic 289, 3) := dk_184 1 33 (dk_at dksX8_odds_0 14 rfl rfl)
theorem dX8_odds_17 : decode cX8_odds 17 = .ok (.ifCond .eq 12, 3) := dk_153 0 12 (dk_at dksX8_odds_0 17 rfl rfl)
theorem dX8_odds_20 : decode cX8_odds 20 = .ok (.iload_n 3, 1) := dk_29 (dk_at dksX8_odds_0 20 rfl rfl)
theorem dX8_odds_21 : decode cX8_odds 21 = .ok (.ifCond .lt 8, 3) := dk_155 0 8 (dk_at dksX8_odds_0 21 rfl rfl)
theorem dX8_odds_24 : decode cX8_odds 24 = .ok (.iload_n 3, 1) := dk_29 (dk_at dksX8_odds_1 0 rfl rfl)
theorem dX8_odds_25 : decode cX8_odds 25 = .ok (.iconst 1, 1) := dk_4 (dk_at dksX8_odds_1 1 rfl rfl)
theorem dX8_odds_26 : decode cX8_odds 26 = .ok (.if_icmp .le 9, 3) := dk_164 0 9 (dk_at dksX8_odds_1 2 rfl rfl)
theorem dX8_odds_29 : decode cX8_odds 29 = .ok (.aload_n 0, 1) := dk_42 (dk_at dksX8_odds_1 5 rfl rfl)
theorem dX8_odds_30 : decode cX8_odds 30 = .ok (.iconst 1, 1) := dk_4 (dk_at dksX8_odds_1 6 rfl rfl)
theorem dX8_odds_31 : decode cX8_odds 31 = .ok (.invokevirtual 85, 3) := dk_182 0 85 (dk_at dksX8_odds_1 7 rfl rfl)
theorem dX8_odds_34 : decode cX8_odds 34 = .ok (.ireturn, 1) := dk_172 (dk_at dksX8_odds_1 10 rfl rfl)
theorem dX8_odds_35 : decode cX8_odds 35 = .ok (.aload_n 0, 1) := dk_42 (dk_at dksX8_odds_1 11 rfl rfl)
theorem dX8_odds_36 : decode cX8_odds 36 = .ok (.iload_n 1, 1) := dk_27 (dk_at dksX8_odds_1 12 rfl rfl)
theorem dX8_odds_37 : decode cX8_odds 37 = .ok (.invokevirtual 367, 3) := dk_182 1 111 (dk_at dksX8_odds_1 13 rfl rfl)
theorem dX8_odds_40 : decode cX8_odds 40 = .ok (.istore 4, 2) := dk_54 4 (dk_at dksX8_odds_1 16 rfl rfl)
theorem dX8_odds_42 : decode cX8_odds 42 = .ok (.iload 4, 2) := dk_21 4 (dk_at dksX8_odds_1 18 rfl rfl)
theorem dX8_odds_44 : decode cX8_odds 44 = .ok (.ifCond .le 10, 3) := dk_158 0 10 (dk_at dksX8_odds_1 20 rfl rfl)
theorem dX8_odds_47 : decode cX8_odds 47 = .ok (.aload_n 0, 1) := dk_42 (dk_at dksX8_odds_1 23 rfl rfl)
theorem dX8_odds_48 : decode cX8_odds 48 = .ok (.iload 4, 2) := dk_21 4 (dk_at dksX8_odds_2 0 rfl rfl)
theorem dX8_odds_50 : decode cX8_odds 50 = .ok (.invokevirtual 85, 3) := dk_182 0 85 (dk_at dksX8_odds_2 2 rfl rfl)
theorem dX8_odds_53 : decode cX8_odds 53 = .ok (.ireturn, 1) := dk_172 (dk_at dksX8_odds_2 5 rfl rfl)
theorem dX8_odds_54 : decode cX8_odds 54 = .ok (.aload_n 0, 1) := dk_42 (dk_at dksX8_odds_2 6 rfl rfl)
theorem dX8_odds_55 : decode cX8_odds 55 = .ok (.iload_n 1, 1) := dk_27 (dk_at dksX8_odds_2 7 rfl rfl)
theorem dX8_odds_56 : decode cX8_odds 56 = .ok (.invokevirtual 370, 3) := dk_182 1 114 (dk_at dksX8_odds_2 8 rfl rfl)
theorem dX8_odds_59 : decode cX8_odds 59 = .ok (.bipush 12, 2) := dk_16 12 (dk_at dksX8_odds_2 11 rfl rfl)
theorem dX8_odds_61 : decode cX8_odds 61 = .ok (.if_icmp .le 10, 3) := dk_164 0 10 (dk_at dksX8_odds_2 13 rfl rfl)
theorem dX8_odds_64 : decode cX8_odds 64 = .ok (.aload_n 0, 1) := dk_42 (dk_at dksX8_odds_2 16 rfl rfl)
theorem dX8_odds_65 : decode cX8_odds 65 = .ok (.bipush 7, 2) := dk_16 7 (dk_at dksX8_odds_2 17 rfl rfl)
theorem dX8_odds_67 : decode cX8_odds 67 = .ok (.invokevirtual 85, 3) := dk_182 0 85 (dk_at dksX8_odds_2 19 rfl rfl)
theorem dX8_odds_70 : decode cX8_odds 70 = .ok (.ireturn, 1) := dk_172 (dk_at dksX8_odds_2 22 rfl rfl)
theorem dX8_odds_71 : decode cX8_odds 71 = .ok (.iload_n 3, 1) := dk_29 (dk_at dksX8_odds_2 23 rfl rfl)
theorem dX8_odds_72 : decode cX8_odds 72 = .ok (.ifCond .ne 7, 3) := dk_154 0 7 (dk_at dksX8_odds_3 0 rfl rfl)
theorem dX8_odds_75 : decode cX8_odds 75 = .ok (.lconst 1, 1) := dk_10 (dk_at dksX8_odds_3 3 rfl rfl)
theorem dX8_odds_76 : decode cX8_odds 76 = .ok (.goto 16, 3) := dk_167 0 16 (dk_at dksX8_odds_3 4 rfl rfl)
theorem dX8_odds_79 : decode cX8_odds 79 = .ok (.aload_n 0, 1) := dk_42 (dk_at dksX8_odds_3 7 rfl rfl)
theorem dX8_odds_80 : decode cX8_odds 80 = .ok (.getfield 7, 3) := dk_180 0 7 (dk_at dksX8_odds_3 8 rfl rfl)
theorem dX8_odds_83 : decode cX8_odds 83 = .ok (.iconst 0, 1) := dk_3 (dk_at dksX8_odds_3 11 rfl rfl)
theorem dX8_odds_84 : decode cX8_odds 84 = .ok (.iload_n 1, 1) := dk_27 (dk_at dksX8_odds_3 12 rfl rfl)
theorem dX8_odds_85 : decode cX8_odds 85 = .ok (.invokestatic 171, 3) := dk_184 0 171 (dk_at dksX8_odds_3 13 rfl rfl)
theorem dX8_odds_88 : decode cX8_odds 88 = .ok (.iconst 1, 1) := dk_4 (dk_at dksX8_odds_3 16 rfl rfl)
theorem dX8_odds_89 : decode cX8_odds 89 = .ok (.iadd, 1) := dk_96 (dk_at dksX8_odds_3 17 rfl rfl)
theorem dX8_odds_90 : decode cX8_odds 90 = .ok (.iaload, 1) := dk_46 (dk_at dksX8_odds_3 18 rfl rfl)
theorem dX8_odds_91 : decode cX8_odds 91 = .ok (.i2l, 1) := dk_133 (dk_at dksX8_odds_3 19 rfl rfl)
theorem dX8_odds_92 : decode cX8_odds 92 = .ok (.lstore 5, 2) := dk_55 5 (dk_at dksX8_odds_3 20 rfl rfl)
theorem dX8_odds_94 : decode cX8_odds 94 = .ok (.lconst 1, 1) := dk_10 (dk_at dksX8_odds_3 22 rfl rfl)
theorem dX8_odds_95 : decode cX8_odds 95 = .ok (.lstore 7, 2) := dk_55 7 (dk_at dksX8_odds_4 0 rfl rfl)
theorem dX8_odds_97 : decode cX8_odds 97 = .ok (.iconst 0, 1) := dk_3 (dk_at dksX8_odds_4 2 rfl rfl)
theorem dX8_odds_98 : decode cX8_odds 98 = .ok (.istore 9, 2) := dk_54 9 (dk_at dksX8_odds_4 3 rfl rfl)
theorem dX8_odds_100 : decode cX8_odds 100 = .ok (.iload 9, 2) := dk_21 9 (dk_at dksX8_odds_4 5 rfl rfl)
theorem dX8_odds_102 : decode cX8_odds 102 = .ok (.aload_n 0, 1) := dk_42 (dk_at dksX8_odds_4 7 rfl rfl)
theorem dX8_odds_103 : decode cX8_odds 103 = .ok (.iload_n 1, 1) := dk_27 (dk_at dksX8_odds_4 8 rfl rfl)
theorem dX8_odds_104 : decode cX8_odds 104 = .ok (.invokevirtual 370, 3) := dk_182 1 114 (dk_at dksX8_odds_4 9 rfl rfl)
theorem dX8_odds_107 : decode cX8_odds 107 = .ok (.if_icmp .ge 28, 3) := dk_162 0 28 (dk_at dksX8_odds_4 12 rfl rfl)
theorem dX8_odds_110 : decode cX8_odds 110 = .ok (.lload 5, 2) := dk_22 5 (dk_at dksX8_odds_4 15 rfl rfl)
theorem dX8_odds_112 : decode cX8_odds 112 = .ok (.ldc2_w 411, 3) := dk_20 1 155 (dk_at dksX8_odds_4 17 rfl rfl)
theorem dX8_odds_115 : decode cX8_odds 115 = .ok (.iload_n 2, 1) := dk_28 (dk_at dksX8_odds_4 20 rfl rfl)
theorem dX8_odds_116 : decode cX8_odds 116 = .ok (.i2l, 1) := dk_133 (dk_at dksX8_odds_4 21 rfl rfl)
theorem dX8_odds_117 : decode cX8_odds 117 = .ok (.lsub, 1) := dk_101 (dk_at dksX8_odds_4 22 rfl rfl)
theorem dX8_odds_118 : decode cX8_odds 118 = .ok (.lmul, 1) := dk_105 (dk_at dksX8_odds_4 23 rfl rfl)
theorem dX8_odds_119 : decode cX8_odds 119 = .ok (.lstore 5, 2) := dk_55 5 (dk_at dksX8_odds_5 0 rfl rfl)
theorem dX8_odds_121 : decode cX8_odds 121 = .ok (.lload 7, 2) := dk_22 7 (dk_at dksX8_odds_5 2 rfl rfl)
theorem dX8_odds_123 : decode cX8_odds 123 = .ok (.ldc2_w 411, 3) := dk_20 1 155 (dk_at dksX8_odds_5 4 rfl rfl)
theorem dX8_odds_126 : decode cX8_odds 126 = .ok (.lmul, 1) := dk_105 (dk_at dksX8_odds_5 7 rfl rfl)
theorem dX8_odds_127 : decode cX8_odds 127 = .ok (.lstore 7, 2) := dk_55 7 (dk_at dksX8_odds_5 8 rfl rfl)
theorem dX8_odds_129 : decode cX8_odds 129 = .ok (.iinc 9 1, 3) := dk_132 9 1 (dk_at dksX8_odds_5 10 rfl rfl)
theorem dX8_odds_132 : decode cX8_odds 132 = .ok (.goto (-32), 3) := dk_167 255 224 (dk_at dksX8_odds_5 13 rfl rfl)
theorem dX8_odds_135 : decode cX8_odds 135 = .ok (.aload_n 0, 1) := dk_42 (dk_at dksX8_odds_5 16 rfl rfl)
theorem dX8_odds_136 : decode cX8_odds 136 = .ok (.lload 5, 2) := dk_22 5 (dk_at dksX8_odds_5 17 rfl rfl)
theorem dX8_odds_138 : decode cX8_odds 138 = .ok (.lload 7, 2) := dk_22 7 (dk_at dksX8_odds_5 19 rfl rfl)
theorem dX8_odds_140 : decode cX8_odds 140 = .ok (.invokevirtual 413, 3) := dk_182 1 157 (dk_at dksX8_odds_5 21 rfl rfl)
theorem dX8_odds_143 : decode cX8_odds 143 = .ok (.ireturn, 1) := dk_172 (dk_at dksX8_odds_6 0 rfl rfl)
abbrev cX8_tellsBy : ByteArray := prog_17_method_10_code
def yX8_tellsBy : MethodName := ⟨RX8, "tellsBy", "(JJ)Z"⟩
def dkwX8_tellsBy_2 : List UInt8 := [3, 182, 0, 85, 172]
abbrev dktX8_tellsBy_2 : List UInt8 := dkwX8_tellsBy_2 ++ []
def dkwX8_tellsBy_1 : List UInt8 := [22, 9, 55, 7, 167, 255, 234, 42, 31, 22, 5, 109, 181, 0, 75, 42, 33, 22, 5, 109, 181, 0, 17, 42]
abbrev dktX8_tellsBy_1 : List UInt8 := dkwX8_tellsBy_1 ++ dktX8_tellsBy_2
def dkwX8_tellsBy_0 : List UInt8 := [31, 55, 5, 33, 55, 7, 22, 7, 9, 148, 153, 0, 21, 22, 5, 22, 7, 113, 55, 9, 22, 7, 55, 5]
abbrev dktX8_tellsBy_0 : List UInt8 := dkwX8_tellsBy_0 ++ dktX8_tellsBy_1
theorem dksX8_tellsBy_0 : cX8_tellsBy.data.toList.drop 0 = dktX8_tellsBy_0 := by decide +kernel
theorem dksX8_tellsBy_1 : cX8_tellsBy.data.toList.drop 24 = dktX8_tellsBy_1 := dk_seg dksX8_tellsBy_0 24 rfl rfl
theorem dksX8_tellsBy_2 : cX8_tellsBy.data.toList.drop 48 = dktX8_tellsBy_2 := dk_seg dksX8_tellsBy_1 24 rfl rfl
theorem dX8_tellsBy_0 : decode cX8_tellsBy 0 = .ok (.lload_n 1, 1) := dk_31 (dk_at dksX8_tellsBy_0 0 rfl rfl)
theorem dX8_tellsBy_1 : decode cX8_tellsBy 1 = .ok (.lstore 5, 2) := dk_55 5 (dk_at dksX8_tellsBy_0 1 rfl rfl)
theorem dX8_tellsBy_3 : decode cX8_tellsBy 3 = .ok (.lload_n 3, 1) := dk_33 (dk_at dksX8_tellsBy_0 3 rfl rfl)
theorem dX8_tellsBy_4 : decode cX8_tellsBy 4 = .ok (.lstore 7, 2) := dk_55 7 (dk_at dksX8_tellsBy_0 4 rfl rfl)
theorem dX8_tellsBy_6 : decode cX8_tellsBy 6 = .ok (.lload 7, 2) := dk_22 7 (dk_at dksX8_tellsBy_0 6 rfl rfl)
theorem dX8_tellsBy_8 : decode cX8_tellsBy 8 = .ok (.lconst 0, 1) := dk_9 (dk_at dksX8_tellsBy_0 8 rfl rfl)
theorem dX8_tellsBy_9 : decode cX8_tellsBy 9 = .ok (.lcmp, 1) := dk_148 (dk_at dksX8_tellsBy_0 9 rfl rfl)
theorem dX8_tellsBy_10 : decode cX8_tellsBy 10 = .ok (.ifCond .eq 21, 3) := dk_153 0 21 (dk_at dksX8_tellsBy_0 10 rfl rfl)
theorem dX8_tellsBy_13 : decode cX8_tellsBy 13 = .ok (.lload 5, 2) := dk_22 5 (dk_at dksX8_tellsBy_0 13 rfl rfl)
theorem dX8_tellsBy_15 : decode cX8_tellsBy 15 = .ok (.lload 7, 2) := dk_22 7 (dk_at dksX8_tellsBy_0 15 rfl rfl)
theorem dX8_tellsBy_17 : decode cX8_tellsBy 17 = .ok (.lrem, 1) := dk_113 (dk_at dksX8_tellsBy_0 17 rfl rfl)
theorem dX8_tellsBy_18 : decode cX8_tellsBy 18 = .ok (.lstore 9, 2) := dk_55 9 (dk_at dksX8_tellsBy_0 18 rfl rfl)
theorem dX8_tellsBy_20 : decode cX8_tellsBy 20 = .ok (.lload 7, 2) := dk_22 7 (dk_at dksX8_tellsBy_0 20 rfl rfl)
theorem dX8_tellsBy_22 : decode cX8_tellsBy 22 = .ok (.lstore 5, 2) := dk_55 5 (dk_at dksX8_tellsBy_0 22 rfl rfl)
theorem dX8_tellsBy_24 : decode cX8_tellsBy 24 = .ok (.lload 9, 2) := dk_22 9 (dk_at dksX8_tellsBy_1 0 rfl rfl)
theorem dX8_tellsBy_26 : decode cX8_tellsBy 26 = .ok (.lstore 7, 2) := dk_55 7 (dk_at dksX8_tellsBy_1 2 rfl rfl)
theorem dX8_tellsBy_28 : decode cX8_tellsBy 28 = .ok (.goto (-22), 3) := dk_167 255 234 (dk_at dksX8_tellsBy_1 4 rfl rfl)
theorem dX8_tellsBy_31 : decode cX8_tellsBy 31 = .ok (.aload_n 0, 1) := dk_42 (dk_at dksX8_tellsBy_1 7 rfl rfl)
theorem dX8_tellsBy_32 : decode cX8_tellsBy 32 = .ok (.lload_n 1, 1) := dk_31 (dk_at dksX8_tellsBy_1 8 rfl rfl)
theorem dX8_tellsBy_33 : decode cX8_tellsBy 33 = .ok (.lload 5, 2) := dk_22 5 (dk_at dksX8_tellsBy_1 9 rfl rfl)
theorem dX8_tellsBy_35 : decode cX8_tellsBy 35 = .ok (.ldiv, 1) := dk_109 (dk_at dksX8_tellsBy_1 11 rfl rfl)
theorem dX8_tellsBy_36 : decode cX8_tellsBy 36 = .ok (.putfield 75, 3) := dk_181 0 75 (dk_at dksX8_tellsBy_1 12 rfl rfl)
theorem dX8_tellsBy_39 : decode cX8_tellsBy 39 = .ok (.aload_n 0, 1) := dk_42 (dk_at dksX8_tellsBy_1 15 rfl rfl)
theorem dX8_tellsBy_40 : decode cX8_tellsBy 40 = .ok (.lload_n 3, 1) := dk_33 (dk_at dksX8_tellsBy_1 16 rfl rfl)
theorem dX8_tellsBy_41 : decode cX8_tellsBy 41 = .ok (.lload 5, 2) := dk_22 5 (dk_at dksX8_tellsBy_1 17 rfl rfl)
theorem dX8_tellsBy_43 : decode cX8_tellsBy 43 = .ok (.ldiv, 1) := dk_109 (dk_at dksX8_tellsBy_1 19 rfl rfl)
theorem dX8_tellsBy_44 : decode cX8_tellsBy 44 = .ok (.putfield 17, 3) := dk_181 0 17 (dk_at dksX8_tellsBy_1 20 rfl rfl)
theorem dX8_tellsBy_47 : decode cX8_tellsBy 47 = .ok (.aload_n 0, 1) := dk_42 (dk_at dksX8_tellsBy_1 23 rfl rfl)
theorem dX8_tellsBy_48 : decode cX8_tellsBy 48 = .ok (.iconst 0, 1) := dk_3 (dk_at dksX8_tellsBy_2 0 rfl rfl)
theorem dX8_tellsBy_49 : decode cX8_tellsBy 49 = .ok (.invokevirtual 85, 3) := dk_182 0 85 (dk_at dksX8_tellsBy_2 1 rfl rfl)
theorem dX8_tellsBy_52 : decode cX8_tellsBy 52 = .ok (.ireturn, 1) := dk_172 (dk_at dksX8_tellsBy_2 4 rfl rfl)
abbrev cX8_gulls : ByteArray := prog_17_method_144_code
def yX8_gulls : MethodName := ⟨RX8, "gulls", "(I)I"⟩
def dkwX8_gulls_8 : List UInt8 := [46, 160, 0, 11, 42, 29, 182, 0, 82, 167, 0, 9, 42, 16, 7, 182, 0, 78, 172]
abbrev dktX8_gulls_8 : List UInt8 := dkwX8_gulls_8 ++ []
def dkwX8_gulls_7 : List UInt8 := [21, 4, 182, 1, 21, 100, 184, 1, 119, 96, 62, 132, 4, 1, 167, 255, 185, 28, 42, 180, 0, 7, 16, 8]
abbrev dktX8_gulls_7 : List UInt8 := dkwX8_gulls_7 ++ dktX8_gulls_8
def dkwX8_gulls_6 : List UInt8 := [182, 1, 12, 154, 0, 10, 42, 16, 7, 182, 0, 78, 172, 28, 21, 5, 96, 61, 29, 3, 21, 5, 42]
abbrev dktX8_gulls_6 : List UInt8 := dkwX8_gulls_6 ++ dktX8_gulls_7
def dkwX8_gulls_5 : List UInt8 := [180, 0, 27, 16, 60, 27, 104, 21, 4, 96, 47, 136, 54, 5, 21, 5, 158, 0, 19, 42, 21, 4]
abbrev dktX8_gulls_5 : List UInt8 := dkwX8_gulls_5 ++ dktX8_gulls_6
def dkwX8_gulls_4 : List UInt8 := [167, 255, 216, 3, 61, 3, 62, 3, 54, 4, 21, 4, 42, 180, 0, 7, 5, 46, 162, 0, 66, 42]
abbrev dktX8_gulls_4 : List UInt8 := dkwX8_gulls_4 ++ dktX8_gulls_5
def dkwX8_gulls_3 : List UInt8 := [28, 96, 47, 9, 20, 1, 161, 184, 1, 33, 154, 0, 9, 42, 8, 182, 0, 78, 172, 132, 2, 1]
abbrev dktX8_gulls_3 : List UInt8 := dkwX8_gulls_3 ++ dktX8_gulls_4
def dkwX8_gulls_2 : List UInt8 := [182, 0, 78, 172, 3, 61, 28, 42, 180, 0, 7, 5, 46, 162, 0, 36, 42, 180, 0, 27, 16, 60, 27, 104]
abbrev dktX8_gulls_2 : List UInt8 := dkwX8_gulls_2 ++ dktX8_gulls_3
def dkwX8_gulls_1 : List UInt8 := [5, 182, 0, 78, 172, 42, 180, 0, 24, 27, 46, 42, 180, 0, 7, 5, 46, 162, 0, 9, 42, 6]
abbrev dktX8_gulls_1 : List UInt8 := dkwX8_gulls_1 ++ dktX8_gulls_2
def dkwX8_gulls_0 : List UInt8 := [27, 184, 0, 89, 154, 0, 9, 42, 4, 182, 0, 78, 172, 42, 180, 0, 24, 27, 46, 2, 160, 0, 9, 42]
abbrev dktX8_gulls_0 : List UInt8 := dkwX8_gulls_0 ++ dktX8_gulls_1
theorem dksX8_gulls_0 : cX8_gulls.data.toList.drop 0 = dktX8_gulls_0 := by decide +kernel
theorem dksX8_gulls_1 : cX8_gulls.data.toList.drop 24 = dktX8_gulls_1 := dk_seg dksX8_gulls_0 24 rfl rfl
theorem dksX8_gulls_2 : cX8_gulls.data.toList.drop 46 = dktX8_gulls_2 := dk_seg dksX8_gulls_1 22 rfl rfl
theorem dksX8_gulls_3 : cX8_gulls.data.toList.drop 70 = dktX8_gulls_3 := dk_seg dksX8_gulls_2 24 rfl rfl
theorem dksX8_gulls_4 : cX8_gulls.data.toList.drop 92 = dktX8_gulls_4 := dk_seg dksX8_gulls_3 22 rfl rfl
theorem dksX8_gulls_5 : cX8_gulls.data.toList.drop 114 = dktX8_gulls_5 := dk_seg dksX8_gulls_4 22 rfl rfl
theorem dksX8_gulls_6 : cX8_gulls.data.toList.drop 136 = dktX8_gulls_6 := dk_seg dksX8_gulls_5 22 rfl rfl
theorem dksX8_gulls_7 : cX8_gulls.data.toList.drop 159 = dktX8_gulls_7 := dk_seg dksX8_gulls_6 23 rfl rfl
theorem dksX8_gulls_8 : cX8_gulls.data.toList.drop 183 = dktX8_gulls_8 := dk_seg dksX8_gulls_7 24 rfl rfl
theorem dX8_gulls_0 : decode cX8_gulls 0 = .ok (.iload_n 1, 1) := dk_27 (dk_at dksX8_gulls_0 0 rfl rfl)
theorem dX8_gulls_1 : decode cX8_gulls 1 = .ok (.invokestatic 89, 3) := dk_184 0 89 (dk_at dksX8_gulls_0 1 rfl rfl)
theorem dX8_gulls_4 : decode cX8_gulls 4 = .ok (.ifCond .ne 9, 3) := dk_154 0 9 (dk_at dksX8_gulls_0 4 rfl rfl)
theorem dX8_gulls_7 : decode cX8_gulls 7 = .ok (.aload_n 0, 1) := dk_42 (dk_at dksX8_gulls_0 7 rfl rfl)
theorem dX8_gulls_8 : decode cX8_gulls 8 = .ok (.iconst 1, 1) := dk_4 (dk_at dksX8_gulls_0 8 rfl rfl)
theorem dX8_gulls_9 : decode cX8_gulls 9 = .ok (.invokevirtual 78, 3) := dk_182 0 78 (dk_at dksX8_gulls_0 9 rfl rfl)
theorem dX8_gulls_12 : decode cX8_gulls 12 = .ok (.ireturn, 1) := dk_172 (dk_at dksX8_gulls_0 12 rfl rfl)
theorem dX8_gulls_13 : decode cX8_gulls 13 = .ok (.aload_n 0, 1) := dk_42 (dk_at dksX8_gulls_0 13 rfl rfl)
theorem dX8_gulls_14 : decode cX8_gulls 14 = .ok (.getfield 24, 3) := dk_180 0 24 (dk_at dksX8_gulls_0 14 rfl rfl)
theorem dX8_gulls_17 : decode cX8_gulls 17 = .ok (.iload_n 1, 1) := dk_27 (dk_at dksX8_gulls_0 17 rfl rfl)
theorem dX8_gulls_18 : decode cX8_gulls 18 = .ok (.iaload, 1) := dk_46 (dk_at dksX8_gulls_0 18 rfl rfl)
theorem dX8_gulls_19 : decode cX8_gulls 19 = .ok (.iconst (-1), 1) := dk_2 (dk_at dksX8_gulls_0 19 rfl rfl)
theorem dX8_gulls_20 : decode cX8_gulls 20 = .ok (.if_icmp .ne 9, 3) := dk_160 0 9 (dk_at dksX8_gulls_0 20 rfl rfl)
theorem dX8_gulls_23 : decode cX8_gulls 23 = .ok (.aload_n 0, 1) := dk_42 (dk_at dksX8_gulls_0 23 rfl rfl)
theorem dX8_gulls_24 : decode cX8_gulls 24 = .ok (.iconst 2, 1) := dk_5 (dk_at dksX8_gulls_1 0 rfl rfl)
theorem dX8_gulls_25 : decode cX8_gulls 25 = .ok (.invokevirtual 78, 3) := dk_182 0 78 (dk_at dksX8_gulls_1 1 rfl rfl)
theorem dX8_gulls_28 : decode cX8_gulls 28 = .ok (.ireturn, 1) := dk_172 (dk_at dksX8_gulls_1 4 rfl rfl)
theorem dX8_gulls_29 : decode cX8_gulls 29 = .ok (.aload_n 0, 1) := dk_42 (dk_at dksX8_gulls_1 5 rfl rfl)
theorem dX8_gulls_30 : decode cX8_gulls 30 = .ok (.getfield 24, 3) := dk_180 0 24 (dk_at dksX8_gulls_1 6 rfl rfl)
theorem dX8_gulls_33 : decode cX8_gulls 33 = .ok (.iload_n 1, 1) := dk_27 (dk_at dksX8_gulls_1 9 rfl rfl)
theorem dX8_gulls_34 : decode cX8_gulls 34 = .ok (.iaload, 1) := dk_46 (dk_at dksX8_gulls_1 10 rfl rfl)
theorem dX8_gulls_35 : decode cX8_gulls 35 = .ok (.aload_n 0, 1) := dk_42 (dk_at dksX8_gulls_1 11 rfl rfl)
theorem dX8_gulls_36 : decode cX8_gulls 36 = .ok (.getfield 7, 3) := dk_180 0 7 (dk_at dksX8_gulls_1 12 rfl rfl)
theorem dX8_gulls_39 : decode cX8_gulls 39 = .ok (.iconst 2, 1) := dk_5 (dk_at dksX8_gulls_1 15 rfl rfl)
theorem dX8_gulls_40 : decode cX8_gulls 40 = .ok (.iaload, 1) := dk_46 (dk_at dksX8_gulls_1 16 rfl rfl)
theorem dX8_gulls_41 : decode cX8_gulls 41 = .ok (.if_icmp .ge 9, 3) := dk_162 0 9 (dk_at dksX8_gulls_1 17 rfl rfl)
theorem dX8_gulls_44 : decode cX8_gulls 44 = .ok (.aload_n 0, 1) := dk_42 (dk_at dksX8_gulls_1 20 rfl rfl)
theorem dX8_gulls_45 : decode cX8_gulls 45 = .ok (.iconst 3, 1) := dk_6 (dk_at dksX8_gulls_1 21 rfl rfl)
theorem dX8_gulls_46 : decode cX8_gulls 46 = .ok (.invokevirtual 78, 3) := dk_182 0 78 (dk_at dksX8_gulls_2 0 rfl rfl)
theorem dX8_gulls_49 : decode cX8_gulls 49 = .ok (.ireturn, 1) := dk_172 (dk_at dksX8_gulls_2 3 rfl rfl)
theorem dX8_gulls_50 : decode cX8_gulls 50 = .ok (.iconst 0, 1) := dk_3 (dk_at dksX8_gulls_2 4 rfl rfl)
theorem dX8_gulls_51 : decode cX8_gulls 51 = .ok (.istore_n 2, 1) := dk_61 (dk_at dksX8_gulls_2 5 rfl rfl)
theorem dX8_gulls_52 : decode cX8_gulls 52 = .ok (.iload_n 2, 1) := dk_28 (dk_at dksX8_gulls_2 6 rfl rfl)
theorem dX8_gulls_53 : decode cX8_gulls 53 = .ok (.aload_n 0, 1) := dk_42 (dk_at dksX8_gulls_2 7 rfl rfl)
theorem dX8_gulls_54 : decode cX8_gulls 54 = .ok (.getfield 7, 3) := dk_180 0 7 (dk_at dksX8_gulls_2 8 rfl rfl)
theorem dX8_gulls_57 : decode cX8_gulls 57 = .ok (.iconst 2, 1) := dk_5 (dk_at dksX8_gulls_2 11 rfl rfl)
theorem dX8_gulls_58 : decode cX8_gulls 58 = .ok (.iaload, 1) := dk_46 (dk_at dksX8_gulls_2 12 rfl rfl)
theorem dX8_gulls_59 : decode cX8_gulls 59 = .ok (.if_icmp .ge 36, 3) := dk_162 0 36 (dk_at dksX8_gulls_2 13 rfl rfl)
theorem dX8_gulls_62 : decode cX8_gulls 62 = .ok (.aload_n 0, 1) := dk_42 (dk_at dksX8_gulls_2 16 rfl rfl)
theorem dX8_gulls_63 : decode cX8_gulls 63 = .ok (.getfield 27, 3) := dk_180 0 27 (dk_at dksX8_gulls_2 17 rfl rfl)
theorem dX8_gulls_66 : decode cX8_gulls 66 = .ok (.bipush 60, 2) := dk_16 60 (dk_at dksX8_gulls_2 20 rfl rfl)
theorem dX8_gulls_68 : decode cX8_gulls 68 = .ok (.iload_n 1, 1) := dk_27 (dk_at dksX8_gulls_2 22 rfl rfl)
theorem dX8_gulls_69 : decode cX8_gulls 69 = .ok (.imul, 1) := dk_104 (dk_at dksX8_gulls_2 23 rfl rfl)
theorem dX8_gulls_70 : decode cX8_gulls 70 = .ok (.iload_n 2, 1) := dk_28 (dk_at dksX8_gulls_3 0 rfl rfl)
theorem dX8_gulls_71 : decode cX8_gulls 71 = .ok (.iadd, 1) := dk_96 (dk_at dksX8_gulls_3 1 rfl rfl)
theorem dX8_gulls_72 : decode cX8_gulls 72 = .ok (.laload, 1) := dk_47 (dk_at dksX8_gulls_3 2 rfl rfl)
theorem dX8_gulls_73 : decode cX8_gulls 73 = .ok (.lconst 0, 1) := dk_9 (dk_at dksX8_gulls_3 3 rfl rfl)
theorem dX8_gulls_74 : decode cX8_gulls 74 = .ok (.ldc2_w 417, 3) := dk_20 1 161 (dk_at dksX8_gulls_3 4 rfl rfl)
theorem dX8_gulls_77 : decode cX8_gulls 77 = .ok (.invokestatic 289, 3) := dk_184 1 33 (dk_at dksX8_gulls_3 7 rfl rfl)
theorem dX8_gulls_80 : decode cX8_gulls 80 = .ok (.ifCond .ne 9, 3) := dk_154 0 9 (dk_at dksX8_gulls_3 10 rfl rfl)
theorem dX8_gulls_83 : decode cX8_gulls 83 = .ok (.aload_n 0, 1) := dk_42 (dk_at dksX8_gulls_3 13 rfl rfl)
theorem dX8_gulls_84 : decode cX8_gulls 84 = .ok (.iconst 5, 1) := dk_8 (dk_at dksX8_gulls_3 14 rfl rfl)
theorem dX8_gulls_85 : decode cX8_gulls 85 = .ok (.invokevirtual 78, 3) := dk_182 0 78 (dk_at dksX8_gulls_3 15 rfl rfl)
theorem dX8_gulls_88 : decode cX8_gulls 88 = .ok (.ireturn, 1) := dk_172 (dk_at dksX8_gulls_3 18 rfl rfl)
theorem dX8_gulls_89 : decode cX8_gulls 89 = .ok (.iinc 2 1, 3) := dk_132 2 1 (dk_at dksX8_gulls_3 19 rfl rfl)
theorem dX8_gulls_92 : decode cX8_gulls 92 = .ok (.goto (-40), 3) := dk_167 255 216 (dk_at dksX8_gulls_4 0 rfl rfl)
theorem dX8_gulls_95 : decode cX8_gulls 95 = .ok (.iconst 0, 1) := dk_3 (dk_at dksX8_gulls_4 3 rfl rfl)
theorem dX8_gulls_96 : decode cX8_gulls 96 = .ok (.istore_n 2, 1) := dk_61 (dk_at dksX8_gulls_4 4 rfl rfl)
theorem dX8_gulls_97 : decode cX8_gulls 97 = .ok (.iconst 0, 1) := dk_3 (dk_at dksX8_gulls_4 5 rfl rfl)
theorem dX8_gulls_98 : decode cX8_gulls 98 = .ok (.istore_n 3, 1) := dk_62 (dk_at dksX8_gulls_4 6 rfl rfl)
theorem dX8_gulls_99 : decode cX8_gulls 99 = .ok (.iconst 0, 1) := dk_3 (dk_at dksX8_gulls_4 7 rfl rfl)
theorem dX8_gulls_100 : decode cX8_gulls 100 = .ok (.istore 4, 2) := dk_54 4 (dk_at dksX8_gulls_4 8 rfl rfl)
theorem dX8_gulls_102 : decode cX8_gulls 102 = .ok (.iload 4, 2) := dk_21 4 (dk_at dksX8_gulls_4 10 rfl rfl)
theorem dX8_gulls_104 : decode cX8_gulls 104 = .ok (.aload_n 0, 1) := dk_42 (dk_at dksX8_gulls_4 12 rfl rfl)
theorem dX8_gulls_105 : decode cX8_gulls 105 = .ok (.getfield 7, 3) := dk_180 0 7 (dk_at dksX8_gulls_4 13 rfl rfl)
theorem dX8_gulls_108 : decode cX8_gulls 108 = .ok (.iconst 2, 1) := dk_5 (dk_at dksX8_gulls_4 16 rfl rfl)
theorem dX8_gulls_109 : decode cX8_gulls 109 = .ok (.iaload, 1) := dk_46 (dk_at dksX8_gulls_4 17 rfl rfl)
theorem dX8_gulls_110 : decode cX8_gulls 110 = .ok (.if_icmp .ge 66, 3) := dk_162 0 66 (dk_at dksX8_gulls_4 18 rfl rfl)
theorem dX8_gulls_113 : decode cX8_gulls 113 = .ok (.aload_n 0, 1) := dk_42 (dk_at dksX8_gulls_4 21 rfl rfl)
theorem dX8_gulls_114 : decode cX8_gulls 114 = .ok (.getfield 27, 3) := dk_180 0 27 (dk_at dksX8_gulls_5 0 rfl rfl)
theorem dX8_gulls_117 : decode cX8_gulls 117 = .ok (.bipush 60, 2) := dk_16 60 (dk_at dksX8_gulls_5 3 rfl rfl)
theorem dX8_gulls_119 : decode cX8_gulls 119 = .ok (.iload_n 1, 1) := dk_27 (dk_at dksX8_gulls_5 5 rfl rfl)
theorem dX8_gulls_120 : decode cX8_gulls 120 = .ok (.imul, 1) := dk_104 (dk_at dksX8_gulls_5 6 rfl rfl)
theorem dX8_gulls_121 : decode cX8_gulls 121 = .ok (.iload 4, 2) := dk_21 4 (dk_at dksX8_gulls_5 7 rfl rfl)
theorem dX8_gulls_123 : decode cX8_gulls 123 = .ok (.iadd, 1) := dk_96 (dk_at dksX8_gulls_5 9 rfl rfl)
theorem dX8_gulls_124 : decode cX8_gulls 124 = .ok (.laload, 1) := dk_47 (dk_at dksX8_gulls_5 10 rfl rfl)
theorem dX8_gulls_125 : decode cX8_gulls 125 = .ok (.l2i, 1) := dk_136 (dk_at dksX8_gulls_5 11 rfl rfl)
theorem dX8_gulls_126 : decode cX8_gulls 126 = .ok (.istore 5, 2) := dk_54 5 (dk_at dksX8_gulls_5 12 rfl rfl)
theorem dX8_gulls_128 : decode cX8_gulls 128 = .ok (.iload 5, 2) := dk_21 5 (dk_at dksX8_gulls_5 14 rfl rfl)
theorem dX8_gulls_130 : decode cX8_gulls 130 = .ok (.ifCond .le 19, 3) := dk_158 0 19 (dk_at dksX8_gulls_5 16 rfl rfl)
theorem dX8_gulls_133 : decode cX8_gulls 133 = .ok (.aload_n 0, 1) := dk_42 (dk_at dksX8_gulls_5 19 rfl rfl)
theorem dX8_gulls_134 : decode cX8_gulls 134 = .ok (.iload 4, 2) := dk_21 4 (dk_at dksX8_gulls_5 20 rfl rfl)
theorem dX8_gulls_136 : decode cX8_gulls 136 = .ok (.invokevirtual 268, 3) := dk_182 1 12 (dk_at dksX8_gulls_6 0 rfl rfl)
theorem dX8_gulls_139 : decode cX8_gulls 139 = .ok (.ifCond .ne 10, 3) := dk_154 0 10 (dk_at dksX8_gulls_6 3 rfl rfl)
theorem dX8_gulls_142 : decode cX8_gulls 142 = .ok (.aload_n 0, 1) := dk_42 (dk_at dksX8_gulls_6 6 rfl rfl)
theorem dX8_gulls_143 : decode cX8_gulls 143 = .ok (.bipush 7, 2) := dk_16 7 (dk_at dksX8_gulls_6 7 rfl rfl)
theorem dX8_gulls_145 : decode cX8_gulls 145 = .ok (.invokevirtual 78, 3) := dk_182 0 78 (dk_at dksX8_gulls_6 9 rfl rfl)
theorem dX8_gulls_148 : decode cX8_gulls 148 = .ok (.ireturn, 1) := dk_172 (dk_at dksX8_gulls_6 12 rfl rfl)
theorem dX8_gulls_149 : decode cX8_gulls 149 = .ok (.iload_n 2, 1) := dk_28 (dk_at dksX8_gulls_6 13 rfl rfl)
theorem dX8_gulls_150 : decode cX8_gulls 150 = .ok (.iload 5, 2) := dk_21 5 (dk_at dksX8_gulls_6 14 rfl rfl)
theorem dX8_gulls_152 : decode cX8_gulls 152 = .ok (.iadd, 1) := dk_96 (dk_at dksX8_gulls_6 16 rfl rfl)
theorem dX8_gulls_153 : decode cX8_gulls 153 = .ok (.istore_n 2, 1) := dk_61 (dk_at dksX8_gulls_6 17 rfl rfl)
theorem dX8_gulls_154 : decode cX8_gulls 154 = .ok (.iload_n 3, 1) := dk_29 (dk_at dksX8_gulls_6 18 rfl rfl)
theorem dX8_gulls_155 : decode cX8_gulls 155 = .ok (.iconst 0, 1) := dk_3 (dk_at dksX8_gulls_6 19 rfl rfl)
theorem dX8_gulls_156 : decode cX8_gulls 156 = .ok (.iload 5, 2) := dk_21 5 (dk_at dksX8_gulls_6 20 rfl rfl)
theorem dX8_gulls_158 : decode cX8_gulls 158 = .ok (.aload_n 0, 1) := dk_42 (dk_at dksX8_gulls_6 22 rfl rfl)
theorem dX8_gulls_159 : decode cX8_gulls 159 = .ok (.iload 4, 2) := dk_21 4 (dk_at dksX8_gulls_7 0 rfl rfl)
theorem dX8_gulls_161 : decode cX8_gulls 161 = .ok (.invokevirtual 277, 3) := dk_182 1 21 (dk_at dksX8_gulls_7 2 rfl rfl)
theorem dX8_gulls_164 : decode cX8_gulls 164 = .ok (.isub, 1) := dk_100 (dk_at dksX8_gulls_7 5 rfl rfl)
theorem dX8_gulls_165 : decode cX8_gulls 165 = .ok (.invokestatic 375, 3) := dk_184 1 119 (dk_at dksX8_gulls_7 6 rfl rfl)
theorem dX8_gulls_168 : decode cX8_gulls 168 = .ok (.iadd, 1) := dk_96 (dk_at dksX8_gulls_7 9 rfl rfl)
theorem dX8_gulls_169 : decode cX8_gulls 169 = .ok (.istore_n 3, 1) := dk_62 (dk_at dksX8_gulls_7 10 rfl rfl)
theorem dX8_gulls_170 : decode cX8_gulls 170 = .ok (.iinc 4 1, 3) := dk_132 4 1 (dk_at dksX8_gulls_7 11 rfl rfl)
theorem dX8_gulls_173 : decode cX8_gulls 173 = .ok (.goto (-71), 3) := dk_167 255 185 (dk_at dksX8_gulls_7 14 rfl rfl)
theorem dX8_gulls_176 : decode cX8_gulls 176 = .ok (.iload_n 2, 1) := dk_28 (dk_at dksX8_gulls_7 17 rfl rfl)
theorem dX8_gulls_177 : decode cX8_gulls 177 = .ok (.aload_n 0, 1) := dk_42 (dk_at dksX8_gulls_7 18 rfl rfl)
theorem dX8_gulls_178 : decode cX8_gulls 178 = .ok (.getfield 7, 3) := dk_180 0 7 (dk_at dksX8_gulls_7 19 rfl rfl)
theorem dX8_gulls_181 : decode cX8_gulls 181 = .ok (.bipush 8, 2) := dk_16 8 (dk_at dksX8_gulls_7 22 rfl rfl)
theorem dX8_gulls_183 : decode cX8_gulls 183 = .ok (.iaload, 1) := dk_46 (dk_at dksX8_gulls_8 0 rfl rfl)
theorem dX8_gulls_184 : decode cX8_gulls 184 = .ok (.if_icmp .ne 11, 3) := dk_160 0 11 (dk_at dksX8_gulls_8 1 rfl rfl)
theorem dX8_gulls_187 : decode cX8_gulls 187 = .ok (.aload_n 0, 1) := dk_42 (dk_at dksX8_gulls_8 4 rfl rfl)
theorem dX8_gulls_188 : decode cX8_gulls 188 = .ok (.iload_n 3, 1) := dk_29 (dk_at dksX8_gulls_8 5 rfl rfl)
theorem dX8_gulls_189 : decode cX8_gulls 189 = .ok (.invokevirtual 82, 3) := dk_182 0 82 (dk_at dksX8_gulls_8 6 rfl rfl)
theorem dX8_gulls_192 : decode cX8_gulls 192 = .ok (.goto 9, 3) := dk_167 0 9 (dk_at dksX8_gulls_8 9 rfl rfl)
theorem dX8_gulls_195 : decode cX8_gulls 195 = .ok (.aload_n 0, 1) := dk_42 (dk_at dksX8_gulls_8 12 rfl rfl)
theorem dX8_gulls_196 : decode cX8_gulls 196 = .ok (.bipush 7, 2) := dk_16 7 (dk_at dksX8_gulls_8 13 rfl rfl)
theorem dX8_gulls_198 : decode cX8_gulls 198 = .ok (.invokevirtual 78, 3) := dk_182 0 78 (dk_at dksX8_gulls_8 15 rfl rfl)
theorem dX8_gulls_201 : decode cX8_gulls 201 = .ok (.ireturn, 1) := dk_172 (dk_at dksX8_gulls_8 18 rfl rfl)
abbrev cX8_live : ByteArray := prog_17_method_151_code
def yX8_live : MethodName := ⟨RX8, "live", "(I)I"⟩
def dkwX8_live_3 : List UInt8 := [42, 180, 1, 173, 182, 0, 82, 172]
abbrev dktX8_live_3 : List UInt8 := dkwX8_live_3 ++ []
def dkwX8_live_2 : List UInt8 := [42, 180, 0, 65, 28, 42, 180, 0, 62, 28, 46, 79, 132, 2, 1, 167, 255, 236, 42, 4, 181, 1, 190, 42]
abbrev dktX8_live_2 : List UInt8 := dkwX8_live_2 ++ dktX8_live_3
def dkwX8_live_1 : List UInt8 := [46, 2, 160, 0, 10, 42, 16, 6, 182, 0, 78, 172, 42, 27, 182, 1, 187, 3, 61, 28, 8, 162, 0, 21]
abbrev dktX8_live_1 : List UInt8 := dkwX8_live_1 ++ dktX8_live_2
def dkwX8_live_0 : List UInt8 := [27, 133, 9, 20, 1, 185, 184, 1, 33, 154, 0, 9, 42, 4, 182, 0, 78, 172, 42, 180, 0, 7, 16, 9]
abbrev dktX8_live_0 : List UInt8 := dkwX8_live_0 ++ dktX8_live_1
theorem dksX8_live_0 : cX8_live.data.toList.drop 0 = dktX8_live_0 := by decide +kernel
theorem dksX8_live_1 : cX8_live.data.toList.drop 24 = dktX8_live_1 := dk_seg dksX8_live_0 24 rfl rfl
theorem dksX8_live_2 : cX8_live.data.toList.drop 48 = dktX8_live_2 := dk_seg dksX8_live_1 24 rfl rfl
theorem dksX8_live_3 : cX8_live.data.toList.drop 72 = dktX8_live_3 := dk_seg dksX8_live_2 24 rfl rfl
theorem dX8_live_0 : decode cX8_live 0 = .ok (.iload_n 1, 1) := dk_27 (dk_at dksX8_live_0 0 rfl rfl)
theorem dX8_live_1 : decode cX8_live 1 = .ok (.i2l, 1) := dk_133 (dk_at dksX8_live_0 1 rfl rfl)
theorem dX8_live_2 : decode cX8_live 2 = .ok (.lconst 0, 1) := dk_9 (dk_at dksX8_live_0 2 rfl rfl)
theorem dX8_live_3 : decode cX8_live 3 = .ok (.ldc2_w 441, 3) := dk_20 1 185 (dk_at dksX8_live_0 3 rfl rfl)
theorem dX8_live_6 : decode cX8_live 6 = .ok (.invokestatic 289, 3) := dk_184 1 33 (dk_at dksX8_live_0 6 rfl rfl)
theorem dX8_live_9 : decode cX8_live 9 = .ok (.ifCond .ne 9, 3) := dk_154 0 9 (dk_at dksX8_live_0 9 rfl rfl)
theorem dX8_live_12 : decode cX8_live 12 = .ok (.aload_n 0, 1) := dk_42 (dk_at dksX8_live_0 12 rfl rfl)
theorem dX8_live_13 : decode cX8_live 13 = .ok (.iconst 1, 1) := dk_4 (dk_at dksX8_live_0 13 rfl rfl)
theorem dX8_live_14 : decode cX8_live 14 = .ok (.invokevirtual 78, 3) := dk_182 0 78 (dk_at dksX8_live_0 14 rfl rfl)
theorem dX8_live_17 : decode cX8_live 17 = .ok (.ireturn, 1) := dk_172 (dk_at dksX8_live_0 17 rfl rfl)
theorem dX8_live_18 : decode cX8_live 18 = .ok (.aload_n 0, 1) := dk_42 (dk_at dksX8_live_0 18 rfl rfl)
theorem dX8_live_19 : decode cX8_live 19 = .ok (.getfield 7, 3) := dk_180 0 7 (dk_at dksX8_live_0 19 rfl rfl)
theorem dX8_live_22 : decode cX8_live 22 = .ok (.bipush 9, 2) := dk_16 9 (dk_at dksX8_live_0 22 rfl rfl)
theorem dX8_live_24 : decode cX8_live 24 = .ok (.iaload, 1) := dk_46 (dk_at dksX8_live_1 0 rfl rfl)
theorem dX8_live_25 : decode cX8_live 25 = .ok (.iconst (-1), 1) := dk_2 (dk_at dksX8_live_1 1 rfl rfl)
theorem dX8_live_26 : decode cX8_live 26 = .ok (.if_icmp .ne 10, 3) := dk_160 0 10 (dk_at dksX8_live_1 2 rfl rfl)
theorem dX8_live_29 : decode cX8_live 29 = .ok (.aload_n 0, 1) := dk_42 (dk_at dksX8_live_1 5 rfl rfl)
theorem dX8_live_30 : decode cX8_live 30 = .ok (.bipush 6, 2) := dk_16 6 (dk_at dksX8_live_1 6 rfl rfl)
theorem dX8_live_32 : decode cX8_live 32 = .ok (.invokevirtual 78, 3) := dk_182 0 78 (dk_at dksX8_live_1 8 rfl rfl)
theorem dX8_live_35 : decode cX8_live 35 = .ok (.ireturn, 1) := dk_172 (dk_at dksX8_live_1 11 rfl rfl)
theorem dX8_live_36 : decode cX8_live 36 = .ok (.aload_n 0, 1) := dk_42 (dk_at dksX8_live_1 12 rfl rfl)
theorem dX8_live_37 : decode cX8_live 37 = .ok (.iload_n 1, 1) := dk_27 (dk_at dksX8_live_1 13 rfl rfl)
theorem dX8_live_38 : decode cX8_live 38 = .ok (.invokevirtual 443, 3) := dk_182 1 187 (dk_at dksX8_live_1 14 rfl rfl)
theorem dX8_live_41 : decode cX8_live 41 = .ok (.iconst 0, 1) := dk_3 (dk_at dksX8_live_1 17 rfl rfl)
theorem dX8_live_42 : decode cX8_live 42 = .ok (.istore_n 2, 1) := dk_61 (dk_at dksX8_live_1 18 rfl rfl)
theorem dX8_live_43 : decode cX8_live 43 = .ok (.iload_n 2, 1) := dk_28 (dk_at dksX8_live_1 19 rfl rfl)
theorem dX8_live_44 : decode cX8_live 44 = .ok (.iconst 5, 1) := dk_8 (dk_at dksX8_live_1 20 rfl rfl)
theorem dX8_live_45 : decode cX8_live 45 = .ok (.if_icmp .ge 21, 3) := dk_162 0 21 (dk_at dksX8_live_1 21 rfl rfl)
theorem dX8_live_48 : decode cX8_live 48 = .ok (.aload_n 0, 1) := dk_42 (dk_at dksX8_live_2 0 rfl rfl)
theorem dX8_live_49 : decode cX8_live 49 = .ok (.getfield 65, 3) := dk_180 0 65 (dk_at dksX8_live_2 1 rfl rfl)
theorem dX8_live_52 : decode cX8_live 52 = .ok (.iload_n 2, 1) := dk_28 (dk_at dksX8_live_2 4 rfl rfl)
theorem dX8_live_53 : decode cX8_live 53 = .ok (.aload_n 0, 1) := dk_42 (dk_at dksX8_live_2 5 rfl rfl)
theorem dX8_live_54 : decode cX8_live 54 = .ok (.getfield 62, 3) := dk_180 0 62 (dk_at dksX8_live_2 6 rfl rfl)
theorem dX8_live_57 : decode cX8_live 57 = .ok (.iload_n 2, 1) := dk_28 (dk_at dksX8_live_2 9 rfl rfl)
theorem dX8_live_58 : decode cX8_live 58 = .ok (.iaload, 1) := dk_46 (dk_at dksX8_live_2 10 rfl rfl)
theorem dX8_live_59 : decode cX8_live 59 = .ok (.iastore, 1) := dk_79 (dk_at dksX8_live_2 11 rfl rfl)
theorem dX8_live_60 : decode cX8_live 60 = .ok (.iinc 2 1, 3) := dk_132 2 1 (dk_at dksX8_live_2 12 rfl rfl)
theorem dX8_live_63 : decode cX8_live 63 = .ok (.goto (-20), 3) := dk_167 255 236 (dk_at dksX8_live_2 15 rfl rfl)
theorem dX8_live_66 : decode cX8_live 66 = .ok (.aload_n 0, 1) := dk_42 (dk_at dksX8_live_2 18 rfl rfl)
theorem dX8_live_67 : decode cX8_live 67 = .ok (.iconst 1, 1) := dk_4 (dk_at dksX8_live_2 19 rfl rfl)
theorem dX8_live_68 : decode cX8_live 68 = .ok (.putfield 446, 3) := dk_181 1 190 (dk_at dksX8_live_2 20 rfl rfl)
theorem dX8_live_71 : decode cX8_live 71 = .ok (.aload_n 0, 1) := dk_42 (dk_at dksX8_live_2 23 rfl rfl)
theorem dX8_live_72 : decode cX8_live 72 = .ok (.aload_n 0, 1) := dk_42 (dk_at dksX8_live_3 0 rfl rfl)
theorem dX8_live_73 : decode cX8_live 73 = .ok (.getfield 429, 3) := dk_180 1 173 (dk_at dksX8_live_3 1 rfl rfl)
theorem dX8_live_76 : decode cX8_live 76 = .ok (.invokevirtual 82, 3) := dk_182 0 82 (dk_at dksX8_live_3 4 rfl rfl)
theorem dX8_live_79 : decode cX8_live 79 = .ok (.ireturn, 1) := dk_172 (dk_at dksX8_live_3 7 rfl rfl)
abbrev cX8_lives : ByteArray := prog_17_method_150_code
def yX8_lives : MethodName := ⟨RX8, "lives", "(I)V"⟩
def dkwX8_lives_7 : List UInt8 := [180, 0, 7, 29, 7, 96, 46, 4, 96, 167, 0, 6, 28, 4, 96, 182, 1, 182, 61, 167, 255, 106, 177]
abbrev dktX8_lives_7 : List UInt8 := dkwX8_lives_7 ++ []
def dkwX8_lives_6 : List UInt8 := [100, 79, 42, 42, 180, 0, 7, 29, 46, 17, 9, 96, 161, 0, 24, 42, 29, 182, 1, 179, 154, 0, 16, 42]
abbrev dktX8_lives_6 : List UInt8 := dkwX8_lives_6 ++ dktX8_lives_7
def dkwX8_lives_5 : List UInt8 := [180, 0, 7, 29, 46, 16, 25, 160, 0, 19, 42, 180, 0, 59, 28, 42, 180, 0, 7, 29, 4, 96, 46, 4]
abbrev dktX8_lives_5 : List UInt8 := dkwX8_lives_5 ++ dktX8_lives_6
def dkwX8_lives_4 : List UInt8 := [180, 0, 62, 3, 92, 46, 42, 29, 182, 1, 176, 153, 0, 7, 3, 167, 0, 4, 4, 96, 79, 42]
abbrev dktX8_lives_4 : List UInt8 := dkwX8_lives_4 ++ dktX8_lives_5
def dkwX8_lives_3 : List UInt8 := [89, 180, 1, 173, 4, 96, 181, 1, 173, 42, 180, 0, 7, 29, 46, 16, 27, 160, 0, 4, 177, 42]
abbrev dktX8_lives_3 : List UInt8 := dkwX8_lives_3 ++ dktX8_lives_4
def dkwX8_lives_2 : List UInt8 := [17, 1, 44, 160, 0, 11, 42, 180, 0, 62, 7, 4, 79, 177, 17, 4, 6, 16, 6, 28, 104, 96, 62, 42]
abbrev dktX8_lives_2 : List UInt8 := dkwX8_lives_2 ++ dktX8_lives_3
def dkwX8_lives_1 : List UInt8 := [132, 2, 1, 167, 255, 241, 3, 61, 28, 42, 180, 0, 7, 16, 9, 46, 162, 0, 145, 42, 180, 1, 173]
abbrev dktX8_lives_1 : List UInt8 := dkwX8_lives_1 ++ dktX8_lives_2
def dkwX8_lives_0 : List UInt8 := [42, 27, 181, 1, 163, 42, 3, 181, 1, 173, 3, 61, 28, 8, 162, 0, 16, 42, 180, 0, 62, 28, 3, 79]
abbrev dktX8_lives_0 : List UInt8 := dkwX8_lives_0 ++ dktX8_lives_1
theorem dksX8_lives_0 : cX8_lives.data.toList.drop 0 = dktX8_lives_0 := by decide +kernel
theorem dksX8_lives_1 : cX8_lives.data.toList.drop 24 = dktX8_lives_1 := dk_seg dksX8_lives_0 24 rfl rfl
theorem dksX8_lives_2 : cX8_lives.data.toList.drop 47 = dktX8_lives_2 := dk_seg dksX8_lives_1 23 rfl rfl
theorem dksX8_lives_3 : cX8_lives.data.toList.drop 71 = dktX8_lives_3 := dk_seg dksX8_lives_2 24 rfl rfl
theorem dksX8_lives_4 : cX8_lives.data.toList.drop 93 = dktX8_lives_4 := dk_seg dksX8_lives_3 22 rfl rfl
theorem dksX8_lives_5 : cX8_lives.data.toList.drop 115 = dktX8_lives_5 := dk_seg dksX8_lives_4 22 rfl rfl
theorem dksX8_lives_6 : cX8_lives.data.toList.drop 139 = dktX8_lives_6 := dk_seg dksX8_lives_5 24 rfl rfl
theorem dksX8_lives_7 : cX8_lives.data.toList.drop 163 = dktX8_lives_7 := dk_seg dksX8_lives_6 24 rfl rfl
theorem dX8_lives_0 : decode cX8_lives 0 = .ok (.aload_n 0, 1) := dk_42 (dk_at dksX8_lives_0 0 rfl rfl)
theorem dX8_lives_1 : decode cX8_lives 1 = .ok (.iload_n 1, 1) := dk_27 (dk_at dksX8_lives_0 1 rfl rfl)
theorem dX8_lives_2 : decode cX8_lives 2 = .ok (.putfield 419, 3) := dk_181 1 163 (dk_at dksX8_lives_0 2 rfl rfl)
theorem dX8_lives_5 : decode cX8_lives 5 = .ok (.aload_n 0, 1) := dk_42 (dk_at dksX8_lives_0 5 rfl rfl)
theorem dX8_lives_6 : decode cX8_lives 6 = .ok (.iconst 0, 1) := dk_3 (dk_at dksX8_lives_0 6 rfl rfl)
theorem dX8_lives_7 : decode cX8_lives 7 = .ok (.putfield 429, 3) := dk_181 1 173 (dk_at dksX8_lives_0 7 rfl rfl)
theorem dX8_lives_10 : decode cX8_lives 10 = .ok (.iconst 0, 1) := dk_3 (dk_at dksX8_lives_0 10 rfl rfl)
theorem dX8_lives_11 : decode cX8_lives 11 = .ok (.istore_n 2, 1) := dk_61 (dk_at dksX8_lives_0 11 rfl rfl)
theorem dX8_lives_12 : decode cX8_lives 12 = .ok (.iload_n 2, 1) := dk_28 (dk_at dksX8_lives_0 12 rfl rfl)
theorem dX8_lives_13 : decode cX8_lives 13 = .ok (.iconst 5, 1) := dk_8 (dk_at dksX8_lives_0 13 rfl rfl)
theorem dX8_lives_14 : decode cX8_lives 14 = .ok (.if_icmp .ge 16, 3) := dk_162 0 16 (dk_at dksX8_lives_0 14 rfl rfl)
theorem dX8_lives_17 : decode cX8_lives 17 = .ok (.aload_n 0, 1) := dk_42 (dk_at dksX8_lives_0 17 rfl rfl)
theorem dX8_lives_18 : decode cX8_lives 18 = .ok (.getfield 62, 3) := dk_180 0 62 (dk_at dksX8_lives_0 18 rfl rfl)
theorem dX8_lives_21 : decode cX8_lives 21 = .ok (.iload_n 2, 1) := dk_28 (dk_at dksX8_lives_0 21 rfl rfl)
theorem dX8_lives_22 : decode cX8_lives 22 = .ok (.iconst 0, 1) := dk_3 (dk_at dksX8_lives_0 22 rfl rfl)
theorem dX8_lives_23 : decode cX8_lives 23 = .ok (.iastore, 1) := dk_79 (dk_at dksX8_lives_0 23 rfl rfl)
theorem dX8_lives_24 : decode cX8_lives 24 = .ok (.iinc 2 1, 3) := dk_132 2 1 (dk_at dksX8_lives_1 0 rfl rfl)
theorem dX8_lives_27 : decode cX8_lives 27 = .ok (.goto (-15), 3) := dk_167 255 241 (dk_at dksX8_lives_1 3 rfl rfl)
theorem dX8_lives_30 : decode cX8_lives 30 = .ok (.iconst 0, 1) := dk_3 (dk_at dksX8_lives_1 6 rfl rfl)
theorem dX8_lives_31 : decode cX8_lives 31 = .ok (.istore_n 2, 1) := dk_61 (dk_at dksX8_lives_1 7 rfl rfl)
theorem dX8_lives_32 : decode cX8_lives 32 = .ok (.iload_n 2, 1) := dk_28 (dk_at dksX8_lives_1 8 rfl rfl)
theorem dX8_lives_33 : decode cX8_lives 33 = .ok (.aload_n 0, 1) := dk_42 (dk_at dksX8_lives_1 9 rfl rfl)
theorem dX8_lives_34 : decode cX8_lives 34 = .ok (.getfield 7, 3) := dk_180 0 7 (dk_at dksX8_lives_1 10 rfl rfl)
theorem dX8_lives_37 : decode cX8_lives 37 = .ok (.bipush 9, 2) := dk_16 9 (dk_at dksX8_lives_1 13 rfl rfl)
theorem dX8_lives_39 : decode cX8_lives 39 = .ok (.iaload, 1) := dk_46 (dk_at dksX8_lives_1 15 rfl rfl)
theorem dX8_lives_40 : decode cX8_lives 40 = .ok (.if_icmp .ge 145, 3) := dk_162 0 145 (dk_at dksX8_lives_1 16 rfl rfl)
theorem dX8_lives_43 : decode cX8_lives 43 = .ok (.aload_n 0, 1) := dk_42 (dk_at dksX8_lives_1 19 rfl rfl)
theorem dX8_lives_44 : decode cX8_lives 44 = .ok (.getfield 429, 3) := dk_180 1 173 (dk_at dksX8_lives_1 20 rfl rfl)
theorem dX8_lives_47 : decode cX8_lives 47 = .ok (.sipush 300, 3) := dk_17 1 44 (dk_at dksX8_lives_2 0 rfl rfl)
theorem dX8_lives_50 : decode cX8_lives 50 = .ok (.if_icmp .ne 11, 3) := dk_160 0 11 (dk_at dksX8_lives_2 3 rfl rfl)
theorem dX8_lives_53 : decode cX8_lives 53 = .ok (.aload_n 0, 1) := dk_42 (dk_at dksX8_lives_2 6 rfl rfl)
theorem dX8_lives_54 : decode cX8_lives 54 = .ok (.getfield 62, 3) := dk_180 0 62 (dk_at dksX8_lives_2 7 rfl rfl)
theorem dX8_lives_57 : decode cX8_lives 57 = .ok (.iconst 4, 1) := dk_7 (dk_at dksX8_lives_2 10 rfl rfl)
theorem dX8_lives_58 : decode cX8_lives 58 = .ok (.iconst 1, 1) := dk_4 (dk_at dksX8_lives_2 11 rfl rfl)
theorem dX8_lives_59 : decode cX8_lives 59 = .ok (.iastore, 1) := dk_79 (dk_at dksX8_lives_2 12 rfl rfl)
theorem dX8_lives_60 : decode cX8_lives 60 = .ok (.return_, 1) := dk_177 (dk_at dksX8_lives_2 13 rfl rfl)
theorem dX8_lives_61 : decode cX8_lives 61 = .ok (.sipush 1030, 3) := dk_17 4 6 (dk_at dksX8_lives_2 14 rfl rfl)
theorem dX8_lives_64 : decode cX8_lives 64 = .ok (.bipush 6, 2) := dk_16 6 (dk_at dksX8_lives_2 17 rfl rfl)
theorem dX8_lives_66 : decode cX8_lives 66 = .ok (.iload_n 2, 1) := dk_28 (dk_at dksX8_lives_2 19 rfl rfl)
theorem dX8_lives_67 : decode cX8_lives 67 = .ok (.imul, 1) := dk_104 (dk_at dksX8_lives_2 20 rfl rfl)
theorem dX8_lives_68 : decode cX8_lives 68 = .ok (.iadd, 1) := dk_96 (dk_at dksX8_lives_2 21 rfl rfl)
theorem dX8_lives_69 : decode cX8_lives 69 = .ok (.istore_n 3, 1) := dk_62 (dk_at dksX8_lives_2 22 rfl rfl)
theorem dX8_lives_70 : decode cX8_lives 70 = .ok (.aload_n 0, 1) := dk_42 (dk_at dksX8_lives_2 23 rfl rfl)
theorem dX8_lives_71 : decode cX8_lives 71 = .ok (.dup, 1) := dk_89 (dk_at dksX8_lives_3 0 rfl rfl)
theorem dX8_lives_72 : decode cX8_lives 72 = .ok (.getfield 429, 3) := dk_180 1 173 (dk_at dksX8_lives_3 1 rfl rfl)
theorem dX8_lives_75 : decode cX8_lives 75 = .ok (.iconst 1, 1) := dk_4 (dk_at dksX8_lives_3 4 rfl rfl)
theorem dX8_lives_76 : decode cX8_lives 76 = .ok (.iadd, 1) := dk_96 (dk_at dksX8_lives_3 5 rfl rfl)
theorem dX8_lives_77 : decode cX8_lives 77 = .ok (.putfield 429, 3) := dk_181 1 173 (dk_at dksX8_lives_3 6 rfl rfl)
theorem dX8_lives_80 : decode cX8_lives 80 = .ok (.aload_n 0, 1) := dk_42 (dk_at dksX8_lives_3 9 rfl rfl)
theorem dX8_lives_81 : decode cX8_lives 81 = .ok (.getfield 7, 3) := dk_180 0 7 (dk_at dksX8_lives_3 10 rfl rfl)
theorem dX8_lives_84 : decode cX8_lives 84 = .ok (.iload_n 3, 1) := dk_29 (dk_at dksX8_lives_3 13 rfl rfl)
theorem dX8_lives_85 : decode cX8_lives 85 = .ok (.iaload, 1) := dk_46 (dk_at dksX8_lives_3 14 rfl rfl)
theorem dX8_lives_86 : decode cX8_lives 86 = .ok (.bipush 27, 2) := dk_16 27 (dk_at dksX8_lives_3 15 rfl rfl)
theorem dX8_lives_88 : decode cX8_lives 88 = .ok (.if_icmp .ne 4, 3) := dk_160 0 4 (dk_at dksX8_lives_3 17 rfl rfl)
theorem dX8_lives_91 : decode cX8_lives 91 = .ok (.return_, 1) := dk_177 (dk_at dksX8_lives_3 20 rfl rfl)
theorem dX8_lives_92 : decode cX8_lives 92 = .ok (.aload_n 0, 1) := dk_42 (dk_at dksX8_lives_3 21 rfl rfl)
theorem dX8_lives_93 : decode cX8_lives 93 = .ok (.getfield 62, 3) := dk_180 0 62 (dk_at dksX8_lives_4 0 rfl rfl)
theorem dX8_lives_96 : decode cX8_lives 96 = .ok (.iconst 0, 1) := dk_3 (dk_at dksX8_lives_4 3 rfl rfl)
theorem dX8_lives_97 : decode cX8_lives 97 = .ok (.dup2, 1) := dk_92 (dk_at dksX8_lives_4 4 rfl rfl)
theorem dX8_lives_98 : decode cX8_lives 98 = .ok (.iaload, 1) := dk_46 (dk_at dksX8_lives_4 5 rfl rfl)
theorem dX8_lives_99 : decode cX8_lives 99 = .ok (.aload_n 0, 1) := dk_42 (dk_at dksX8_lives_4 6 rfl rfl)
theorem dX8_lives_100 : decode cX8_lives 100 = .ok (.iload_n 3, 1) := dk_29 (dk_at dksX8_lives_4 7 rfl rfl)
theorem dX8_lives_101 : decode cX8_lives 101 = .ok (.invokevirtual 432, 3) := dk_182 1 176 (dk_at dksX8_lives_4 8 rfl rfl)
theorem dX8_lives_104 : decode cX8_lives 104 = .ok (.ifCond .eq 7, 3) := dk_153 0 7 (dk_at dksX8_lives_4 11 rfl rfl)
theorem dX8_lives_107 : decode cX8_lives 107 = .ok (.iconst 0, 1) := dk_3 (dk_at dksX8_lives_4 14 rfl rfl)
theorem dX8_lives_108 : decode cX8_lives 108 = .ok (.goto 4, 3) := dk_167 0 4 (dk_at dksX8_lives_4 15 rfl rfl)
theorem dX8_lives_111 : decode cX8_lives 111 = .ok (.iconst 1, 1) := dk_4 (dk_at dksX8_lives_4 18 rfl rfl)
theorem dX8_lives_112 : decode cX8_lives 112 = .ok (.iadd, 1) := dk_96 (dk_at dksX8_lives_4 19 rfl rfl)
theorem dX8_lives_113 : decode cX8_lives 113 = .ok (.iastore, 1) := dk_79 (dk_at dksX8_lives_4 20 rfl rfl)
theorem dX8_lives_114 : decode cX8_lives 114 = .ok (.aload_n 0, 1) := dk_42 (dk_at dksX8_lives_4 21 rfl rfl)
theorem dX8_lives_115 : decode cX8_lives 115 = .ok (.getfield 7, 3) := dk_180 0 7 (dk_at dksX8_lives_5 0 rfl rfl)
theorem dX8_lives_118 : decode cX8_lives 118 = .ok (.iload_n 3, 1) := dk_29 (dk_at dksX8_lives_5 3 rfl rfl)
theorem dX8_lives_119 : decode cX8_lives 119 = .ok (.iaload, 1) := dk_46 (dk_at dksX8_lives_5 4 rfl rfl)
theorem dX8_lives_120 : decode cX8_lives 120 = .ok (.bipush 25, 2) := dk_16 25 (dk_at dksX8_lives_5 5 rfl rfl)
theorem dX8_lives_122 : decode cX8_lives 122 = .ok (.if_icmp .ne 19, 3) := dk_160 0 19 (dk_at dksX8_lives_5 7 rfl rfl)
theorem dX8_lives_125 : decode cX8_lives 125 = .ok (.aload_n 0, 1) := dk_42 (dk_at dksX8_lives_5 10 rfl rfl)
theorem dX8_lives_126 : decode cX8_lives 126 = .ok (.getfield 59, 3) := dk_180 0 59 (dk_at dksX8_lives_5 11 rfl rfl)
theorem dX8_lives_129 : decode cX8_lives 129 = .ok (.iload_n 2, 1) := dk_28 (dk_at dksX8_lives_5 14 rfl rfl)
theorem dX8_lives_130 : decode cX8_lives 130 = .ok (.aload_n 0, 1) := dk_42 (dk_at dksX8_lives_5 15 rfl rfl)
theorem dX8_lives_131 : decode cX8_lives 131 = .ok (.getfield 7, 3) := dk_180 0 7 (dk_at dksX8_lives_5 16 rfl rfl)
theorem dX8_lives_134 : decode cX8_lives 134 = .ok (.iload_n 3, 1) := dk_29 (dk_at dksX8_lives_5 19 rfl rfl)
theorem dX8_lives_135 : decode cX8_lives 135 = .ok (.iconst 1, 1) := dk_4 (dk_at dksX8_lives_5 20 rfl rfl)
theorem dX8_lives_136 : decode cX8_lives 136 = .ok (.iadd, 1) := dk_96 (dk_at dksX8_lives_5 21 rfl rfl)
theorem dX8_lives_137 : decode cX8_lives 137 = .ok (.iaload, 1) := dk_46 (dk_at dksX8_lives_5 22 rfl rfl)
theorem dX8_lives_138 : decode cX8_lives 138 = .ok (.iconst 1, 1) := dk_4 (dk_at dksX8_lives_5 23 rfl rfl)
theorem dX8_lives_139 : decode cX8_lives 139 = .ok (.isub, 1) := dk_100 (dk_at dksX8_lives_6 0 rfl rfl)
theorem dX8_lives_140 : decode cX8_lives 140 = .ok (.iastore, 1) := dk_79 (dk_at dksX8_lives_6 1 rfl rfl)
theorem dX8_lives_141 : decode cX8_lives 141 = .ok (.aload_n 0, 1) := dk_42 (dk_at dksX8_lives_6 2 rfl rfl)
theorem dX8_lives_142 : decode cX8_lives 142 = .ok (.aload_n 0, 1) := dk_42 (dk_at dksX8_lives_6 3 rfl rfl)
theorem dX8_lives_143 : decode cX8_lives 143 = .ok (.getfield 7, 3) := dk_180 0 7 (dk_at dksX8_lives_6 4 rfl rfl)
theorem dX8_lives_146 : decode cX8_lives 146 = .ok (.iload_n 3, 1) := dk_29 (dk_at dksX8_lives_6 7 rfl rfl)
theorem dX8_lives_147 : decode cX8_lives 147 = .ok (.iaload, 1) := dk_46 (dk_at dksX8_lives_6 8 rfl rfl)
theorem dX8_lives_148 : decode cX8_lives 148 = .ok (.sipush 2400, 3) := dk_17 9 96 (dk_at dksX8_lives_6 9 rfl rfl)
theorem dX8_lives_151 : decode cX8_lives 151 = .ok (.if_icmp .lt 24, 3) := dk_161 0 24 (dk_at dksX8_lives_6 12 rfl rfl)
theorem dX8_lives_154 : decode cX8_lives 154 = .ok (.aload_n 0, 1) := dk_42 (dk_at dksX8_lives_6 15 rfl rfl)
theorem dX8_lives_155 : decode cX8_lives 155 = .ok (.iload_n 3, 1) := dk_29 (dk_at dksX8_lives_6 16 rfl rfl)
theorem dX8_lives_156 : decode cX8_lives 156 = .ok (.invokevirtual 435, 3) := dk_182 1 179 (dk_at dksX8_lives_6 17 rfl rfl)
theorem dX8_lives_159 : decode cX8_lives 159 = .ok (.ifCond .ne 16, 3) := dk_154 0 16 (dk_at dksX8_lives_6 20 rfl rfl)
theorem dX8_lives_162 : decode cX8_lives 162 = .ok (.aload_n 0, 1) := dk_42 (dk_at dksX8_lives_6 23 rfl rfl)
theorem dX8_lives_163 : decode cX8_lives 163 = .ok (.getfield 7, 3) := dk_180 0 7 (dk_at dksX8_lives_7 0 rfl rfl)
theorem dX8_lives_166 : decode cX8_lives 166 = .ok (.iload_n 3, 1) := dk_29 (dk_at dksX8_lives_7 3 rfl rfl)
theorem dX8_lives_167 : decode cX8_lives 167 = .ok (.iconst 4, 1) := dk_7 (dk_at dksX8_lives_7 4 rfl rfl)
theorem dX8_lives_168 : decode cX8_lives 168 = .ok (.iadd, 1) := dk_96 (dk_at dksX8_lives_7 5 rfl rfl)
theorem dX8_lives_169 : decode cX8_lives 169 = .ok (.iaload, 1) := dk_46 (dk_at dksX8_lives_7 6 rfl rfl)
theorem dX8_lives_170 : decode cX8_lives 170 = .ok (.iconst 1, 1) := dk_4 (dk_at dksX8_lives_7 7 rfl rfl)
theorem dX8_lives_171 : decode cX8_lives 171 = .ok (.iadd, 1) := dk_96 (dk_at dksX8_lives_7 8 rfl rfl)
theorem dX8_lives_172 : decode cX8_lives 172 = .ok (.goto 6, 3) := dk_167 0 6 (dk_at dksX8_lives_7 9 rfl rfl)
theorem dX8_lives_175 : decode cX8_lives 175 = .ok (.iload_n 2, 1) := dk_28 (dk_at dksX8_lives_7 12 rfl rfl)
theorem dX8_lives_176 : decode cX8_lives 176 = .ok (.iconst 1, 1) := dk_4 (dk_at dksX8_lives_7 13 rfl rfl)
theorem dX8_lives_177 : decode cX8_lives 177 = .ok (.iadd, 1) := dk_96 (dk_at dksX8_lives_7 14 rfl rfl)
theorem dX8_lives_178 : decode cX8_lives 178 = .ok (.invokevirtual 438, 3) := dk_182 1 182 (dk_at dksX8_lives_7 15 rfl rfl)
theorem dX8_lives_181 : decode cX8_lives 181 = .ok (.istore_n 2, 1) := dk_61 (dk_at dksX8_lives_7 18 rfl rfl)
theorem dX8_lives_182 : decode cX8_lives 182 = .ok (.goto (-150), 3) := dk_167 255 106 (dk_at dksX8_lives_7 19 rfl rfl)
theorem dX8_lives_185 : decode cX8_lives 185 = .ok (.return_, 1) := dk_177 (dk_at dksX8_lives_7 22 rfl rfl)
abbrev cX8_does : ByteArray := prog_17_method_147_code
def yX8_does : MethodName := ⟨RX8, "does", "(I)Z"⟩
def dkwX8_does_7 : List UInt8 := [96, 79, 4, 172, 4, 172]
abbrev dktX8_does_7 : List UInt8 := dkwX8_does_7 ++ []
def dkwX8_does_6 : List UInt8 := [16, 7, 46, 154, 0, 5, 3, 172, 42, 182, 1, 125, 42, 182, 1, 128, 42, 180, 0, 62, 6, 92, 46, 4]
abbrev dktX8_does_6 : List UInt8 := dkwX8_does_6 ++ dktX8_does_7
def dkwX8_does_5 : List UInt8 := [28, 182, 1, 78, 96, 79, 4, 172, 42, 180, 0, 7, 16, 6, 46, 16, 99, 159, 0, 13, 42, 180, 0, 7]
abbrev dktX8_does_5 : List UInt8 := dkwX8_does_5 ++ dktX8_does_6
def dkwX8_does_4 : List UInt8 := [155, 0, 7, 4, 167, 0, 4, 3, 172, 42, 28, 182, 1, 170, 4, 172, 42, 180, 0, 62, 5, 92, 46, 42]
abbrev dktX8_does_4 : List UInt8 := dkwX8_does_4 ++ dktX8_does_5
def dkwX8_does_3 : List UInt8 := [172, 42, 28, 29, 182, 1, 48, 4, 172, 42, 28, 29, 182, 1, 64, 154, 0, 16, 42, 28, 29, 182, 1, 67]
abbrev dktX8_does_3 : List UInt8 := dkwX8_does_3 ++ dktX8_does_4
def dkwX8_does_2 : List UInt8 := [42, 28, 29, 182, 1, 37, 172, 42, 28, 29, 182, 1, 42, 172, 42, 28, 29, 182, 1, 45, 158, 0, 5, 3]
abbrev dktX8_does_2 : List UInt8 := dkwX8_does_2 ++ dktX8_does_3
def dkwX8_does_1 : List UInt8 := [170, 0, 0, 0, 0, 0, 0, 232, 0, 0, 0, 1, 0, 0, 0, 23, 0, 0, 0, 188, 0, 0, 0, 232, 0, 0, 0, 232, 0, 0, 0, 232, 0, 0, 0, 232, 0, 0, 0, 232, 0, 0, 0, 232, 0, 0, 0, 232, 0, 0, 0, 232, 0, 0, 0, 232, 0, 0, 0, 232, 0, 0, 0, 232, 0, 0, 0, 232, 0, 0, 0, 232, 0, 0, 0, 232, 0, 0, 0, 232, 0, 0, 0, 232, 0, 0, 0, 108, 0, 0, 0, 122, 0, 0, 0, 115, 0, 0, 0, 141, 0, 0, 0, 165, 0, 0, 0, 172]
abbrev dktX8_does_1 : List UInt8 := dkwX8_does_1 ++ dktX8_does_2
def dkwX8_does_0 : List UInt8 := [42, 180, 0, 7, 27, 4, 96, 46, 61, 42, 180, 0, 7, 27, 5, 96, 46, 62, 42, 180, 0, 7, 27, 46]
abbrev dktX8_does_0 : List UInt8 := dkwX8_does_0 ++ dktX8_does_1
theorem dksX8_does_0 : cX8_does.data.toList.drop 0 = dktX8_does_0 := by decide +kernel
theorem dksX8_does_1 : cX8_does.data.toList.drop 24 = dktX8_does_1 := dk_seg dksX8_does_0 24 rfl rfl
theorem dksX8_does_2 : cX8_does.data.toList.drop 132 = dktX8_does_2 := dk_seg dksX8_does_1 108 rfl rfl
theorem dksX8_does_3 : cX8_does.data.toList.drop 156 = dktX8_does_3 := dk_seg dksX8_does_2 24 rfl rfl
theorem dksX8_does_4 : cX8_does.data.toList.drop 180 = dktX8_does_4 := dk_seg dksX8_does_3 24 rfl rfl
theorem dksX8_does_5 : cX8_does.data.toList.drop 204 = dktX8_does_5 := dk_seg dksX8_does_4 24 rfl rfl
theorem dksX8_does_6 : cX8_does.data.toList.drop 228 = dktX8_does_6 := dk_seg dksX8_does_5 24 rfl rfl
theorem dksX8_does_7 : cX8_does.data.toList.drop 252 = dktX8_does_7 := dk_seg dksX8_does_6 24 rfl rfl
theorem dX8_does_0 : decode cX8_does 0 = .ok (.aload_n 0, 1) := dk_42 (dk_at dksX8_does_0 0 rfl rfl)
theorem dX8_does_1 : decode cX8_does 1 = .ok (.getfield 7, 3) := dk_180 0 7 (dk_at dksX8_does_0 1 rfl rfl)
theorem dX8_does_4 : decode cX8_does 4 = .ok (.iload_n 1, 1) := dk_27 (dk_at dksX8_does_0 4 rfl rfl)
theorem dX8_does_5 : decode cX8_does 5 = .ok (.iconst 1, 1) := dk_4 (dk_at dksX8_does_0 5 rfl rfl)
theorem dX8_does_6 : decode cX8_does 6 = .ok (.iadd, 1) := dk_96 (dk_at dksX8_does_0 6 rfl rfl)
theorem dX8_does_7 : decode cX8_does 7 = .ok (.iaload, 1) := dk_46 (dk_at dksX8_does_0 7 rfl rfl)
theorem dX8_does_8 : decode cX8_does 8 = .ok (.istore_n 2, 1) := dk_61 (dk_at dksX8_does_0 8 rfl rfl)
theorem dX8_does_9 : decode cX8_does 9 = .ok (.aload_n 0, 1) := dk_42 (dk_at dksX8_does_0 9 rfl rfl)
theorem dX8_does_10 : decode cX8_does 10 = .ok (.getfield 7, 3) := dk_180 0 7 (dk_at dksX8_does_0 10 rfl rfl)
theorem dX8_does_13 : decode cX8_does 13 = .ok (.iload_n 1, 1) := dk_27 (dk_at dksX8_does_0 13 rfl rfl)
theorem dX8_does_14 : decode cX8_does 14 = .ok (.iconst 2, 1) := dk_5 (dk_at dksX8_does_0 14 rfl rfl)
theorem dX8_does_15 : decode cX8_does 15 = .ok (.iadd, 1) := dk_96 (dk_at dksX8_does_0 15 rfl rfl)
theorem dX8_does_16 : decode cX8_does 16 = .ok (.iaload, 1) := dk_46 (dk_at dksX8_does_0 16 rfl rfl)
theorem dX8_does_17 : decode cX8_does 17 = .ok (.istore_n 3, 1) := dk_62 (dk_at dksX8_does_0 17 rfl rfl)
theorem dX8_does_18 : decode cX8_does 18 = .ok (.aload_n 0, 1) := dk_42 (dk_at dksX8_does_0 18 rfl rfl)
theorem dX8_does_19 : decode cX8_does 19 = .ok (.getfield 7, 3) := dk_180 0 7 (dk_at dksX8_does_0 19 rfl rfl)
theorem dX8_does_22 : decode cX8_does 22 = .ok (.iload_n 1, 1) := dk_27 (dk_at dksX8_does_0 22 rfl rfl)
theorem dX8_does_23 : decode cX8_does 23 = .ok (.iaload, 1) := dk_46 (dk_at dksX8_does_0 23 rfl rfl)
theorem dX8_does_24 : decode cX8_does 24 = .ok (.tableswitch 232 1 23 #[188, 232, 232, 232, 232, 232, 232, 232, 232, 232, 232, 232, 232, 232, 232, 232, 232, 108, 122, 115, 141, 165, 172], 108) := by decide +kernel
theorem dX8_does_132 : decode cX8_does 132 = .ok (.aload_n 0, 1) := dk_42 (dk_at dksX8_does_2 0 rfl rfl)
theorem dX8_does_133 : decode cX8_does 133 = .ok (.iload_n 2, 1) := dk_28 (dk_at dksX8_does_2 1 rfl rfl)
theorem dX8_does_134 : decode cX8_does 134 = .ok (.iload_n 3, 1) := dk_29 (dk_at dksX8_does_2 2 rfl rfl)
theorem dX8_does_135 : decode cX8_does 135 = .ok (.invokevirtual 293, 3) := dk_182 1 37 (dk_at dksX8_does_2 3 rfl rfl)
theorem dX8_does_138 : decode cX8_does 138 = .ok (.ireturn, 1) := dk_172 (dk_at dksX8_does_2 6 rfl rfl)
theorem dX8_does_139 : decode cX8_does 139 = .ok (.aload_n 0, 1) := dk_42 (dk_at dksX8_does_2 7 rfl rfl)
theorem dX8_does_140 : decode cX8_does 140 = .ok (.iload_n 2, 1) := dk_28 (dk_at dksX8_does_2 8 rfl rfl)
theorem dX8_does_141 : decode cX8_does 141 = .ok (.iload_n 3, 1) := dk_29 (dk_at dksX8_does_2 9 rfl rfl)
theorem dX8_does_142 : decode cX8_does 142 = .ok (.invokevirtual 298, 3) := dk_182 1 42 (dk_at dksX8_does_2 10 rfl rfl)
theorem dX8_does_145 : decode cX8_does 145 = .ok (.ireturn, 1) := dk_172 (dk_at dksX8_does_2 13 rfl rfl)
theorem dX8_does_146 : decode cX8_does 146 = .ok (.aload_n 0, 1) := dk_42 (dk_at dksX8_does_2 14 rfl rfl)
theorem dX8_does_147 : decode cX8_does 147 = .ok (.iload_n 2, 1) := dk_28 (dk_at dksX8_does_2 15 rfl rfl)
theorem dX8_does_148 : decode cX8_does 148 = .ok (.iload_n 3, 1) := dk_29 (dk_at dksX8_does_2 16 rfl rfl)
theorem dX8_does_149 : decode cX8_does 149 = .ok (.invokevirtual 301, 3) := dk_182 1 45 (dk_at dksX8_does_2 17 rfl rfl)
theorem dX8_does_152 : decode cX8_does 152 = .ok (.ifCond .le 5, 3) := dk_158 0 5 (dk_at dksX8_does_2 20 rfl rfl)
theorem dX8_does_155 : decode cX8_does 155 = .ok (.iconst 0, 1) := dk_3 (dk_at dksX8_does_2 23 rfl rfl)
theorem dX8_does_156 : decode cX8_does 156 = .ok (.ireturn, 1) := dk_172 (dk_at dksX8_does_3 0 rfl rfl)
theorem dX8_does_157 : decode cX8_does 157 = .ok (.aload_n 0, 1) := dk_42 (dk_at dksX8_does_3 1 rfl rfl)
theorem dX8_does_158 : decode cX8_does 158 = .ok (.iload_n 2, 1) := dk_28 (dk_at dksX8_does_3 2 rfl rfl)
theorem dX8_does_159 : decode cX8_does 159 = .ok (.iload_n 3, 1) := dk_29 (dk_at dksX8_does_3 3 rfl rfl)
theorem dX8_does_160 : decode cX8_does 160 = .ok (.invokevirtual 304, 3) := dk_182 1 48 (dk_at dksX8_does_3 4 rfl rfl)
theorem dX8_does_163 : decode cX8_does 163 = .ok (.iconst 1, 1) := dk_4 (dk_at dksX8_does_3 7 rfl rfl)
theorem dX8_does_164 : decode cX8_does 164 = .ok (.ireturn, 1) := dk_172 (dk_at dksX8_does_3 8 rfl rfl)
theorem dX8_does_165 : decode cX8_does 165 = .ok (.aload_n 0, 1) := dk_42 (dk_at dksX8_does_3 9 rfl rfl)
theorem dX8_does_166 : decode cX8_does 166 = .ok (.iload_n 2, 1) := dk_28 (dk_at dksX8_does_3 10 rfl rfl)
theorem dX8_does_167 : decode cX8_does 167 = .ok (.iload_n 3, 1) := dk_29 (dk_at dksX8_does_3 11 rfl rfl)
theorem dX8_does_168 : decode cX8_does 168 = .ok (.invokevirtual 320, 3) := dk_182 1 64 (dk_at dksX8_does_3 12 rfl rfl)
theorem dX8_does_171 : decode cX8_does 171 = .ok (.ifCond .ne 16, 3) := dk_154 0 16 (dk_at dksX8_does_3 15 rfl rfl)
theorem dX8_does_174 : decode cX8_does 174 = .ok (.aload_n 0, 1) := dk_42 (dk_at dksX8_does_3 18 rfl rfl)
theorem dX8_does_175 : decode cX8_does 175 = .ok (.iload_n 2, 1) := dk_28 (dk_at dksX8_does_3 19 rfl rfl)
theorem dX8_does_176 : decode cX8_does 176 = .ok (.iload_n 3, 1) := dk_29 (dk_at dksX8_does_3 20 rfl rfl)
theorem dX8_does_177 : decode cX8_does 177 = .ok (.invokevirtual 323, 3) := dk_182 1 67 (dk_at dksX8_does_3 21 rfl rfl)
theorem dX8_does_180 : decode cX8_does 180 = .ok (.ifCond .lt 7, 3) := dk_155 0 7 (dk_at dksX8_does_4 0 rfl rfl)
theorem dX8_does_183 : decode cX8_does 183 = .ok (.iconst 1, 1) := dk_4 (dk_at dksX8_does_4 3 rfl rfl)
theorem dX8_does_184 : decode cX8_does 184 = .ok (.goto 4, 3) := dk_167 0 4 (dk_at dksX8_does_4 4 rfl rfl)
theorem dX8_does_187 : decode cX8_does 187 = .ok (.iconst 0, 1) := dk_3 (dk_at dksX8_does_4 7 rfl rfl)
theorem dX8_does_188 : decode cX8_does 188 = .ok (.ireturn, 1) := dk_172 (dk_at dksX8_does_4 8 rfl rfl)
theorem dX8_does_189 : decode cX8_does 189 = .ok (.aload_n 0, 1) := dk_42 (dk_at dksX8_does_4 9 rfl rfl)
theorem dX8_does_190 : decode cX8_does 190 = .ok (.iload_n 2, 1) := dk_28 (dk_at dksX8_does_4 10 rfl rfl)
theorem dX8_does_191 : decode cX8_does 191 = .ok (.invokevirtual 426, 3) := dk_182 1 170 (dk_at dksX8_does_4 11 rfl rfl)
theorem dX8_does_194 : decode cX8_does 194 = .ok (.iconst 1, 1) := dk_4 (dk_at dksX8_does_4 14 rfl rfl)
theorem dX8_does_195 : decode cX8_does 195 = .ok (.ireturn, 1) := dk_172 (dk_at dksX8_does_4 15 rfl rfl)
theorem dX8_does_196 : decode cX8_does 196 = .ok (.aload_n 0, 1) := dk_42 (dk_at dksX8_does_4 16 rfl rfl)
theorem dX8_does_197 : decode cX8_does 197 = .ok (.getfield 62, 3) := dk_180 0 62 (dk_at dksX8_does_4 17 rfl rfl)
theorem dX8_does_200 : decode cX8_does 200 = .ok (.iconst 2, 1) := dk_5 (dk_at dksX8_does_4 20 rfl rfl)
theorem dX8_does_201 : decode cX8_does 201 = .ok (.dup2, 1) := dk_92 (dk_at dksX8_does_4 21 rfl rfl)
theorem dX8_does_202 : decode cX8_does 202 = .ok (.iaload, 1) := dk_46 (dk_at dksX8_does_4 22 rfl rfl)
theorem dX8_does_203 : decode cX8_does 203 = .ok (.aload_n 0, 1) := dk_42 (dk_at dksX8_does_4 23 rfl rfl)
theorem dX8_does_204 : decode cX8_does 204 = .ok (.iload_n 2, 1) := dk_28 (dk_at dksX8_does_5 0 rfl rfl)
theorem dX8_does_205 : decode cX8_does 205 = .ok (.invokevirtual 334, 3) := dk_182 1 78 (dk_at dksX8_does_5 1 rfl rfl)
theorem dX8_does_208 : decode cX8_does 208 = .ok (.iadd, 1) := dk_96 (dk_at dksX8_does_5 4 rfl rfl)
theorem dX8_does_209 : decode cX8_does 209 = .ok (.iastore, 1) := dk_79 (dk_at dksX8_does_5 5 rfl rfl)
theorem dX8_does_210 : decode cX8_does 210 = .ok (.iconst 1, 1) := dk_4 (dk_at dksX8_does_5 6 rfl rfl)
theorem dX8_does_211 : decode cX8_does 211 = .ok (.ireturn, 1) := dk_172 (dk_at dksX8_does_5 7 rfl rfl)
theorem dX8_does_212 : decode cX8_does 212 = .ok (.aload_n 0, 1) := dk_42 (dk_at dksX8_does_5 8 rfl rfl)
theorem dX8_does_213 : decode cX8_does 213 = .ok (.getfield 7, 3) := dk_180 0 7 (dk_at dksX8_does_5 9 rfl rfl)
theorem dX8_does_216 : decode cX8_does 216 = .ok (.bipush 6, 2) := dk_16 6 (dk_at dksX8_does_5 12 rfl rfl)
theorem dX8_does_218 : decode cX8_does 218 = .ok (.iaload, 1) := dk_46 (dk_at dksX8_does_5 14 rfl rfl)
theorem dX8_does_219 : decode cX8_does 219 = .ok (.bipush 99, 2) := dk_16 99 (dk_at dksX8_does_5 15 rfl rfl)
theorem dX8_does_221 : decode cX8_does 221 = .ok (.if_icmp .eq 13, 3) := dk_159 0 13 (dk_at dksX8_does_5 17 rfl rfl)
theorem dX8_does_224 : decode cX8_does 224 = .ok (.aload_n 0, 1) := dk_42 (dk_at dksX8_does_5 20 rfl rfl)
theorem dX8_does_225 : decode cX8_does 225 = .ok (.getfield 7, 3) := dk_180 0 7 (dk_at dksX8_does_5 21 rfl rfl)
theorem dX8_does_228 : decode cX8_does 228 = .ok (.bipush 7, 2) := dk_16 7 (dk_at dksX8_does_6 0 rfl rfl)
theorem dX8_does_230 : decode cX8_does 230 = .ok (.iaload, 1) := dk_46 (dk_at dksX8_does_6 2 rfl rfl)
theorem dX8_does_231 : decode cX8_does 231 = .ok (.ifCond .ne 5, 3) := dk_154 0 5 (dk_at dksX8_does_6 3 rfl rfl)
theorem dX8_does_234 : decode cX8_does 234 = .ok (.iconst 0, 1) := dk_3 (dk_at dksX8_does_6 6 rfl rfl)
theorem dX8_does_235 : decode cX8_does 235 = .ok (.ireturn, 1) := dk_172 (dk_at dksX8_does_6 7 rfl rfl)
theorem dX8_does_236 : decode cX8_does 236 = .ok (.aload_n 0, 1) := dk_42 (dk_at dksX8_does_6 8 rfl rfl)
theorem dX8_does_237 : decode cX8_does 237 = .ok (.invokevirtual 381, 3) := dk_182 1 125 (dk_at dksX8_does_6 9 rfl rfl)
theorem dX8_does_240 : decode cX8_does 240 = .ok (.aload_n 0, 1) := dk_42 (dk_at dksX8_does_6 12 rfl rfl)
theorem dX8_does_241 : decode cX8_does 241 = .ok (.invokevirtual 384, 3) := dk_182 1 128 (dk_at dksX8_does_6 13 rfl rfl)
theorem dX8_does_244 : decode cX8_does 244 = .ok (.aload_n 0, 1) := dk_42 (dk_at dksX8_does_6 16 rfl rfl)
theorem dX8_does_245 : decode cX8_does 245 = .ok (.getfield 62, 3) := dk_180 0 62 (dk_at dksX8_does_6 17 rfl rfl)
theorem dX8_does_248 : decode cX8_does 248 = .ok (.iconst 3, 1) := dk_6 (dk_at dksX8_does_6 20 rfl rfl)
theorem dX8_does_249 : decode cX8_does 249 = .ok (.dup2, 1) := dk_92 (dk_at dksX8_does_6 21 rfl rfl)
theorem dX8_does_250 : decode cX8_does 250 = .ok (.iaload, 1) := dk_46 (dk_at dksX8_does_6 22 rfl rfl)
theorem dX8_does_251 : decode cX8_does 251 = .ok (.iconst 1, 1) := dk_4 (dk_at dksX8_does_6 23 rfl rfl)
theorem dX8_does_252 : decode cX8_does 252 = .ok (.iadd, 1) := dk_96 (dk_at dksX8_does_7 0 rfl rfl)
theorem dX8_does_253 : decode cX8_does 253 = .ok (.iastore, 1) := dk_79 (dk_at dksX8_does_7 1 rfl rfl)
theorem dX8_does_254 : decode cX8_does 254 = .ok (.iconst 1, 1) := dk_4 (dk_at dksX8_does_7 2 rfl rfl)
theorem dX8_does_255 : decode cX8_does 255 = .ok (.ireturn, 1) := dk_172 (dk_at dksX8_does_7 3 rfl rfl)
theorem dX8_does_256 : decode cX8_does 256 = .ok (.iconst 1, 1) := dk_4 (dk_at dksX8_does_7 4 rfl rfl)
theorem dX8_does_257 : decode cX8_does 257 = .ok (.ireturn, 1) := dk_172 (dk_at dksX8_does_7 5 rfl rfl)
abbrev cX8_gullComes : ByteArray := prog_17_method_146_code
def yX8_gullComes : MethodName := ⟨RX8, "gullComes", "(I)V"⟩
def dkwX8_gullComes_3 : List UInt8 := [182, 1, 73, 87, 42, 180, 0, 62, 4, 92, 46, 4, 96, 79, 177]
abbrev dktX8_gullComes_3 : List UInt8 := dkwX8_gullComes_3 ++ []
def dkwX8_gullComes_2 : List UInt8 := [28, 161, 0, 7, 4, 167, 0, 4, 3, 96, 62, 42, 28, 29, 182, 1, 70, 158, 0, 4, 177, 42, 28, 29]
abbrev dktX8_gullComes_2 : List UInt8 := dkwX8_gullComes_2 ++ dktX8_gullComes_3
def dkwX8_gullComes_1 : List UInt8 := [180, 0, 7, 5, 46, 182, 1, 167, 61, 42, 42, 180, 0, 7, 5, 46, 4, 100, 182, 1, 167, 62, 29, 29]
abbrev dktX8_gullComes_1 : List UInt8 := dkwX8_gullComes_1 ++ dktX8_gullComes_2
def dkwX8_gullComes_0 : List UInt8 := [42, 16, 16, 182, 1, 167, 27, 162, 0, 13, 42, 180, 0, 7, 5, 46, 5, 162, 0, 4, 177, 42, 42]
abbrev dktX8_gullComes_0 : List UInt8 := dkwX8_gullComes_0 ++ dktX8_gullComes_1
theorem dksX8_gullComes_0 : cX8_gullComes.data.toList.drop 0 = dktX8_gullComes_0 := by decide +kernel
theorem dksX8_gullComes_1 : cX8_gullComes.data.toList.drop 23 = dktX8_gullComes_1 := dk_seg dksX8_gullComes_0 23 rfl rfl
theorem dksX8_gullComes_2 : cX8_gullComes.data.toList.drop 47 = dktX8_gullComes_2 := dk_seg dksX8_gullComes_1 24 rfl rfl
theorem dksX8_gullComes_3 : cX8_gullComes.data.toList.drop 71 = dktX8_gullComes_3 := dk_seg dksX8_gullComes_2 24 rfl rfl
theorem dX8_gullComes_0 : decode cX8_gullComes 0 = .ok (.aload_n 0, 1) := dk_42 (dk_at dksX8_gullComes_0 0 rfl rfl)
theorem dX8_gullComes_1 : decode cX8_gullComes 1 = .ok (.bipush 16, 2) := dk_16 16 (dk_at dksX8_gullComes_0 1 rfl rfl)
theorem dX8_gullComes_3 : decode cX8_gullComes 3 = .ok (.invokevirtual 423, 3) := dk_182 1 167 (dk_at dksX8_gullComes_0 3 rfl rfl)
theorem dX8_gullComes_6 : decode cX8_gullComes 6 = .ok (.iload_n 1, 1) := dk_27 (dk_at dksX8_gullComes_0 6 rfl rfl)
theorem dX8_gullComes_7 : decode cX8_gullComes 7 = .ok (.if_icmp .ge 13, 3) := dk_162 0 13 (dk_at dksX8_gullComes_0 7 rfl rfl)
theorem dX8_gullComes_10 : decode cX8_gullComes 10 = .ok (.aload_n 0, 1) := dk_42 (dk_at dksX8_gullComes_0 10 rfl rfl)
theorem dX8_gullComes_11 : decode cX8_gullComes 11 = .ok (.getfield 7, 3) := dk_180 0 7 (dk_at dksX8_gullComes_0 11 rfl rfl)
theorem dX8_gullComes_14 : decode cX8_gullComes 14 = .ok (.iconst 2, 1) := dk_5 (dk_at dksX8_gullComes_0 14 rfl rfl)
theorem dX8_gullComes_15 : decode cX8_gullComes 15 = .ok (.iaload, 1) := dk_46 (dk_at dksX8_gullComes_0 15 rfl rfl)
theorem dX8_gullComes_16 : decode cX8_gullComes 16 = .ok (.iconst 2, 1) := dk_5 (dk_at dksX8_gullComes_0 16 rfl rfl)
theorem dX8_gullComes_17 : decode cX8_gullComes 17 = .ok (.if_icmp .ge 4, 3) := dk_162 0 4 (dk_at dksX8_gullComes_0 17 rfl rfl)
theorem dX8_gullComes_20 : decode cX8_gullComes 20 = .ok (.return_, 1) := dk_177 (dk_at dksX8_gullComes_0 20 rfl rfl)
theorem dX8_gullComes_21 : decode cX8_gullComes 21 = .ok (.aload_n 0, 1) := dk_42 (dk_at dksX8_gullComes_0 21 rfl rfl)
theorem dX8_gullComes_22 : decode cX8_gullComes 22 = .ok (.aload_n 0, 1) := dk_42 (dk_at dksX8_gullComes_0 22 rfl rfl)
theorem dX8_gullComes_23 : decode cX8_gullComes 23 = .ok (.getfield 7, 3) := dk_180 0 7 (dk_at dksX8_gullComes_1 0 rfl rfl)
theorem dX8_gullComes_26 : decode cX8_gullComes 26 = .ok (.iconst 2, 1) := dk_5 (dk_at dksX8_gullComes_1 3 rfl rfl)
theorem dX8_gullComes_27 : decode cX8_gullComes 27 = .ok (.iaload, 1) := dk_46 (dk_at dksX8_gullComes_1 4 rfl rfl)
theorem dX8_gullComes_28 : decode cX8_gullComes 28 = .ok (.invokevirtual 423, 3) := dk_182 1 167 (dk_at dksX8_gullComes_1 5 rfl rfl)
theorem dX8_gullComes_31 : decode cX8_gullComes 31 = .ok (.istore_n 2, 1) := dk_61 (dk_at dksX8_gullComes_1 8 rfl rfl)
theorem dX8_gullComes_32 : decode cX8_gullComes 32 = .ok (.aload_n 0, 1) := dk_42 (dk_at dksX8_gullComes_1 9 rfl rfl)
theorem dX8_gullComes_33 : decode cX8_gullComes 33 = .ok (.aload_n 0, 1) := dk_42 (dk_at dksX8_gullComes_1 10 rfl rfl)
theorem dX8_gullComes_34 : decode cX8_gullComes 34 = .ok (.getfield 7, 3) := dk_180 0 7 (dk_at dksX8_gullComes_1 11 rfl rfl)
theorem dX8_gullComes_37 : decode cX8_gullComes 37 = .ok (.iconst 2, 1) := dk_5 (dk_at dksX8_gullComes_1 14 rfl rfl)
theorem dX8_gullComes_38 : decode cX8_gullComes 38 = .ok (.iaload, 1) := dk_46 (dk_at dksX8_gullComes_1 15 rfl rfl)
theorem dX8_gullComes_39 : decode cX8_gullComes 39 = .ok (.iconst 1, 1) := dk_4 (dk_at dksX8_gullComes_1 16 rfl rfl)
theorem dX8_gullComes_40 : decode cX8_gullComes 40 = .ok (.isub, 1) := dk_100 (dk_at dksX8_gullComes_1 17 rfl rfl)
theorem dX8_gullComes_41 : decode cX8_gullComes 41 = .ok (.invokevirtual 423, 3) := dk_182 1 167 (dk_at dksX8_gullComes_1 18 rfl rfl)
theorem dX8_gullComes_44 : decode cX8_gullComes 44 = .ok (.istore_n 3, 1) := dk_62 (dk_at dksX8_gullComes_1 21 rfl rfl)
theorem dX8_gullComes_45 : decode cX8_gullComes 45 = .ok (.iload_n 3, 1) := dk_29 (dk_at dksX8_gullComes_1 22 rfl rfl)
theorem dX8_gullComes_46 : decode cX8_gullComes 46 = .ok (.iload_n 3, 1) := dk_29 (dk_at dksX8_gullComes_1 23 rfl rfl)
theorem dX8_gullComes_47 : decode cX8_gullComes 47 = .ok (.iload_n 2, 1) := dk_28 (dk_at dksX8_gullComes_2 0 rfl rfl)
theorem dX8_gullComes_48 : decode cX8_gullComes 48 = .ok (.if_icmp .lt 7, 3) := dk_161 0 7 (dk_at dksX8_gullComes_2 1 rfl rfl)
theorem dX8_gullComes_51 : decode cX8_gullComes 51 = .ok (.iconst 1, 1) := dk_4 (dk_at dksX8_gullComes_2 4 rfl rfl)
theorem dX8_gullComes_52 : decode cX8_gullComes 52 = .ok (.goto 4, 3) := dk_167 0 4 (dk_at dksX8_gullComes_2 5 rfl rfl)
theorem dX8_gullComes_55 : decode cX8_gullComes 55 = .ok (.iconst 0, 1) := dk_3 (dk_at dksX8_gullComes_2 8 rfl rfl)
theorem dX8_gullComes_56 : decode cX8_gullComes 56 = .ok (.iadd, 1) := dk_96 (dk_at dksX8_gullComes_2 9 rfl rfl)
theorem dX8_gullComes_57 : decode cX8_gullComes 57 = .ok (.istore_n 3, 1) := dk_62 (dk_at dksX8_gullComes_2 10 rfl rfl)
theorem dX8_gullComes_58 : decode cX8_gullComes 58 = .ok (.aload_n 0, 1) := dk_42 (dk_at dksX8_gullComes_2 11 rfl rfl)
theorem dX8_gullComes_59 : decode cX8_gullComes 59 = .ok (.iload_n 2, 1) := dk_28 (dk_at dksX8_gullComes_2 12 rfl rfl)
theorem dX8_gullComes_60 : decode cX8_gullComes 60 = .ok (.iload_n 3, 1) := dk_29 (dk_at dksX8_gullComes_2 13 rfl rfl)
theorem dX8_gullComes_61 : decode cX8_gullComes 61 = .ok (.invokevirtual 326, 3) := dk_182 1 70 (dk_at dksX8_gullComes_2 14 rfl rfl)
theorem dX8_gullComes_64 : decode cX8_gullComes 64 = .ok (.ifCond .le 4, 3) := dk_158 0 4 (dk_at dksX8_gullComes_2 17 rfl rfl)
theorem dX8_gullComes_67 : decode cX8_gullComes 67 = .ok (.return_, 1) := dk_177 (dk_at dksX8_gullComes_2 20 rfl rfl)
theorem dX8_gullComes_68 : decode cX8_gullComes 68 = .ok (.aload_n 0, 1) := dk_42 (dk_at dksX8_gullComes_2 21 rfl rfl)
theorem dX8_gullComes_69 : decode cX8_gullComes 69 = .ok (.iload_n 2, 1) := dk_28 (dk_at dksX8_gullComes_2 22 rfl rfl)
theorem dX8_gullComes_70 : decode cX8_gullComes 70 = .ok (.iload_n 3, 1) := dk_29 (dk_at dksX8_gullComes_2 23 rfl rfl)
theorem dX8_gullComes_71 : decode cX8_gullComes 71 = .ok (.invokevirtual 329, 3) := dk_182 1 73 (dk_at dksX8_gullComes_3 0 rfl rfl)
theorem dX8_gullComes_74 : decode cX8_gullComes 74 = .ok (.pop, 1) := dk_87 (dk_at dksX8_gullComes_3 3 rfl rfl)
theorem dX8_gullComes_75 : decode cX8_gullComes 75 = .ok (.aload_n 0, 1) := dk_42 (dk_at dksX8_gullComes_3 4 rfl rfl)
theorem dX8_gullComes_76 : decode cX8_gullComes 76 = .ok (.getfield 62, 3) := dk_180 0 62 (dk_at dksX8_gullComes_3 5 rfl rfl)
theorem dX8_gullComes_79 : decode cX8_gullComes 79 = .ok (.iconst 1, 1) := dk_4 (dk_at dksX8_gullComes_3 8 rfl rfl)
theorem dX8_gullComes_80 : decode cX8_gullComes 80 = .ok (.dup2, 1) := dk_92 (dk_at dksX8_gullComes_3 9 rfl rfl)
theorem dX8_gullComes_81 : decode cX8_gullComes 81 = .ok (.iaload, 1) := dk_46 (dk_at dksX8_gullComes_3 10 rfl rfl)
theorem dX8_gullComes_82 : decode cX8_gullComes 82 = .ok (.iconst 1, 1) := dk_4 (dk_at dksX8_gullComes_3 11 rfl rfl)
theorem dX8_gullComes_83 : decode cX8_gullComes 83 = .ok (.iadd, 1) := dk_96 (dk_at dksX8_gullComes_3 12 rfl rfl)
theorem dX8_gullComes_84 : decode cX8_gullComes 84 = .ok (.iastore, 1) := dk_79 (dk_at dksX8_gullComes_3 13 rfl rfl)
theorem dX8_gullComes_85 : decode cX8_gullComes 85 = .ok (.return_, 1) := dk_177 (dk_at dksX8_gullComes_3 14 rfl rfl)
abbrev cX8_draw : ByteArray := prog_17_method_145_code
def yX8_draw : MethodName := ⟨RX8, "draw", "(I)I"⟩
def dkwX8_draw_1 : List UInt8 := [16, 8, 108, 27, 112, 172]
abbrev dktX8_draw_1 : List UInt8 := dkwX8_draw_1 ++ []
def dkwX8_draw_0 : List UInt8 := [42, 42, 180, 1, 163, 17, 11, 27, 104, 17, 41, 213, 96, 19, 1, 166, 112, 181, 1, 163, 42, 180, 1, 163]
abbrev dktX8_draw_0 : List UInt8 := dkwX8_draw_0 ++ dktX8_draw_1
theorem dksX8_draw_0 : cX8_draw.data.toList.drop 0 = dktX8_draw_0 := by decide +kernel
theorem dksX8_draw_1 : cX8_draw.data.toList.drop 24 = dktX8_draw_1 := dk_seg dksX8_draw_0 24 rfl rfl
theorem dX8_draw_0 : decode cX8_draw 0 = .ok (.aload_n 0, 1) := dk_42 (dk_at dksX8_draw_0 0 rfl rfl)
theorem dX8_draw_1 : decode cX8_draw 1 = .ok (.aload_n 0, 1) := dk_42 (dk_at dksX8_draw_0 1 rfl rfl)
theorem dX8_draw_2 : decode cX8_draw 2 = .ok (.getfield 419, 3) := dk_180 1 163 (dk_at dksX8_draw_0 2 rfl rfl)
theorem dX8_draw_5 : decode cX8_draw 5 = .ok (.sipush 2843, 3) := dk_17 11 27 (dk_at dksX8_draw_0 5 rfl rfl)
theorem dX8_draw_8 : decode cX8_draw 8 = .ok (.imul, 1) := dk_104 (dk_at dksX8_draw_0 8 rfl rfl)
theorem dX8_draw_9 : decode cX8_draw 9 = .ok (.sipush 10709, 3) := dk_17 41 213 (dk_at dksX8_draw_0 9 rfl rfl)
theorem dX8_draw_12 : decode cX8_draw 12 = .ok (.iadd, 1) := dk_96 (dk_at dksX8_draw_0 12 rfl rfl)
theorem dX8_draw_13 : decode cX8_draw 13 = .ok (.ldc_w 422, 3) := dk_19 1 166 (dk_at dksX8_draw_0 13 rfl rfl)
theorem dX8_draw_16 : decode cX8_draw 16 = .ok (.irem, 1) := dk_112 (dk_at dksX8_draw_0 16 rfl rfl)
theorem dX8_draw_17 : decode cX8_draw 17 = .ok (.putfield 419, 3) := dk_181 1 163 (dk_at dksX8_draw_0 17 rfl rfl)
theorem dX8_draw_20 : decode cX8_draw 20 = .ok (.aload_n 0, 1) := dk_42 (dk_at dksX8_draw_0 20 rfl rfl)
theorem dX8_draw_21 : decode cX8_draw 21 = .ok (.getfield 419, 3) := dk_180 1 163 (dk_at dksX8_draw_0 21 rfl rfl)
theorem dX8_draw_24 : decode cX8_draw 24 = .ok (.bipush 8, 2) := dk_16 8 (dk_at dksX8_draw_1 0 rfl rfl)
theorem dX8_draw_26 : decode cX8_draw 26 = .ok (.idiv, 1) := dk_108 (dk_at dksX8_draw_1 2 rfl rfl)
theorem dX8_draw_27 : decode cX8_draw 27 = .ok (.iload_n 1, 1) := dk_27 (dk_at dksX8_draw_1 3 rfl rfl)
theorem dX8_draw_28 : decode cX8_draw 28 = .ok (.irem, 1) := dk_112 (dk_at dksX8_draw_1 4 rfl rfl)
theorem dX8_draw_29 : decode cX8_draw 29 = .ok (.ireturn, 1) := dk_172 (dk_at dksX8_draw_1 5 rfl rfl)
abbrev cX8_holds : ByteArray := prog_17_method_148_code
def yX8_holds : MethodName := ⟨RX8, "holds", "(I)Z"⟩
def dkwX8_holds_6 : List UInt8 := [167, 0, 19, 3, 167, 0, 15, 21, 5, 21, 4, 160, 0, 7, 4, 167, 0, 4, 3, 172]
abbrev dktX8_holds_6 : List UInt8 := dkwX8_holds_6 ++ []
def dkwX8_holds_5 : List UInt8 := [167, 0, 43, 42, 180, 0, 7, 27, 8, 96, 46, 16, 62, 160, 0, 18, 21, 5, 21, 4, 164, 0, 7, 4]
abbrev dktX8_holds_5 : List UInt8 := dkwX8_holds_5 ++ dktX8_holds_6
def dkwX8_holds_4 : List UInt8 := [180, 0, 7, 27, 8, 96, 46, 16, 60, 160, 0, 18, 21, 5, 21, 4, 162, 0, 7, 4, 167, 0, 47, 3]
abbrev dktX8_holds_4 : List UInt8 := dkwX8_holds_4 ++ dktX8_holds_5
def dkwX8_holds_3 : List UInt8 := [29, 122, 4, 126, 4, 160, 0, 7, 4, 167, 0, 4, 3, 172, 42, 29, 182, 1, 96, 54, 5, 42]
abbrev dktX8_holds_3 : List UInt8 := dkwX8_holds_3 ++ dktX8_holds_4
def dkwX8_holds_2 : List UInt8 := [182, 1, 21, 154, 0, 7, 4, 167, 0, 4, 3, 172, 28, 16, 15, 160, 0, 23, 42, 21, 4, 182, 1, 81]
abbrev dktX8_holds_2 : List UInt8 := dkwX8_holds_2 ++ dktX8_holds_3
def dkwX8_holds_1 : List UInt8 := [27, 5, 96, 46, 54, 4, 28, 16, 29, 160, 0, 25, 42, 29, 182, 1, 12, 153, 0, 15, 42, 29]
abbrev dktX8_holds_1 : List UInt8 := dkwX8_holds_1 ++ dktX8_holds_2
def dkwX8_holds_0 : List UInt8 := [42, 180, 0, 7, 27, 46, 17, 9, 96, 100, 61, 42, 180, 0, 7, 27, 4, 96, 46, 62, 42, 180, 0, 7]
abbrev dktX8_holds_0 : List UInt8 := dkwX8_holds_0 ++ dktX8_holds_1
theorem dksX8_holds_0 : cX8_holds.data.toList.drop 0 = dktX8_holds_0 := by decide +kernel
theorem dksX8_holds_1 : cX8_holds.data.toList.drop 24 = dktX8_holds_1 := dk_seg dksX8_holds_0 24 rfl rfl
theorem dksX8_holds_2 : cX8_holds.data.toList.drop 46 = dktX8_holds_2 := dk_seg dksX8_holds_1 22 rfl rfl
theorem dksX8_holds_3 : cX8_holds.data.toList.drop 70 = dktX8_holds_3 := dk_seg dksX8_holds_2 24 rfl rfl
theorem dksX8_holds_4 : cX8_holds.data.toList.drop 92 = dktX8_holds_4 := dk_seg dksX8_holds_3 22 rfl rfl
theorem dksX8_holds_5 : cX8_holds.data.toList.drop 116 = dktX8_holds_5 := dk_seg dksX8_holds_4 24 rfl rfl
theorem dksX8_holds_6 : cX8_holds.data.toList.drop 140 = dktX8_holds_6 := dk_seg dksX8_holds_5 24 rfl rfl
theorem dX8_holds_0 : decode cX8_holds 0 = .ok (.aload_n 0, 1) := dk_42 (dk_at dksX8_holds_0 0 rfl rfl)
theorem dX8_holds_1 : decode cX8_holds 1 = .ok (.getfield 7, 3) := dk_180 0 7 (dk_at dksX8_holds_0 1 rfl rfl)
theorem dX8_holds_4 : decode cX8_holds 4 = .ok (.iload_n 1, 1) := dk_27 (dk_at dksX8_holds_0 4 rfl rfl)
theorem dX8_holds_5 : decode cX8_holds 5 = .ok (.iaload, 1) := dk_46 (dk_at dksX8_holds_0 5 rfl rfl)
theorem dX8_holds_6 : decode cX8_holds 6 = .ok (.sipush 2400, 3) := dk_17 9 96 (dk_at dksX8_holds_0 6 rfl rfl)
theorem dX8_holds_9 : decode cX8_holds 9 = .ok (.isub, 1) := dk_100 (dk_at dksX8_holds_0 9 rfl rfl)
theorem dX8_holds_10 : decode cX8_holds 10 = .ok (.istore_n 2, 1) := dk_61 (dk_at dksX8_holds_0 10 rfl rfl)
theorem dX8_holds_11 : decode cX8_holds 11 = .ok (.aload_n 0, 1) := dk_42 (dk_at dksX8_holds_0 11 rfl rfl)
theorem dX8_holds_12 : decode cX8_holds 12 = .ok (.getfield 7, 3) := dk_180 0 7 (dk_at dksX8_holds_0 12 rfl rfl)
theorem dX8_holds_15 : decode cX8_holds 15 = .ok (.iload_n 1, 1) := dk_27 (dk_at dksX8_holds_0 15 rfl rfl)
theorem dX8_holds_16 : decode cX8_holds 16 = .ok (.iconst 1, 1) := dk_4 (dk_at dksX8_holds_0 16 rfl rfl)
theorem dX8_holds_17 : decode cX8_holds 17 = .ok (.iadd, 1) := dk_96 (dk_at dksX8_holds_0 17 rfl rfl)
theorem dX8_holds_18 : decode cX8_holds 18 = .ok (.iaload, 1) := dk_46 (dk_at dksX8_holds_0 18 rfl rfl)
theorem dX8_holds_19 : decode cX8_holds 19 = .ok (.istore_n 3, 1) := dk_62 (dk_at dksX8_holds_0 19 rfl rfl)
theorem dX8_holds_20 : decode cX8_holds 20 = .ok (.aload_n 0, 1) := dk_42 (dk_at dksX8_holds_0 20 rfl rfl)
theorem dX8_holds_21 : decode cX8_holds 21 = .ok (.getfield 7, 3) := dk_180 0 7 (dk_at dksX8_holds_0 21 rfl rfl)
theorem dX8_holds_24 : decode cX8_holds 24 = .ok (.iload_n 1, 1) := dk_27 (dk_at dksX8_holds_1 0 rfl rfl)
theorem dX8_holds_25 : decode cX8_holds 25 = .ok (.iconst 2, 1) := dk_5 (dk_at dksX8_holds_1 1 rfl rfl)
theorem dX8_holds_26 : decode cX8_holds 26 = .ok (.iadd, 1) := dk_96 (dk_at dksX8_holds_1 2 rfl rfl)
theorem dX8_holds_27 : decode cX8_holds 27 = .ok (.iaload, 1) := dk_46 (dk_at dksX8_holds_1 3 rfl rfl)
theorem dX8_holds_28 : decode cX8_holds 28 = .ok (.istore 4, 2) := dk_54 4 (dk_at dksX8_holds_1 4 rfl rfl)
theorem dX8_holds_30 : decode cX8_holds 30 = .ok (.iload_n 2, 1) := dk_28 (dk_at dksX8_holds_1 6 rfl rfl)
theorem dX8_holds_31 : decode cX8_holds 31 = .ok (.bipush 29, 2) := dk_16 29 (dk_at dksX8_holds_1 7 rfl rfl)
theorem dX8_holds_33 : decode cX8_holds 33 = .ok (.if_icmp .ne 25, 3) := dk_160 0 25 (dk_at dksX8_holds_1 9 rfl rfl)
theorem dX8_holds_36 : decode cX8_holds 36 = .ok (.aload_n 0, 1) := dk_42 (dk_at dksX8_holds_1 12 rfl rfl)
theorem dX8_holds_37 : decode cX8_holds 37 = .ok (.iload_n 3, 1) := dk_29 (dk_at dksX8_holds_1 13 rfl rfl)
theorem dX8_holds_38 : decode cX8_holds 38 = .ok (.invokevirtual 268, 3) := dk_182 1 12 (dk_at dksX8_holds_1 14 rfl rfl)
theorem dX8_holds_41 : decode cX8_holds 41 = .ok (.ifCond .eq 15, 3) := dk_153 0 15 (dk_at dksX8_holds_1 17 rfl rfl)
theorem dX8_holds_44 : decode cX8_holds 44 = .ok (.aload_n 0, 1) := dk_42 (dk_at dksX8_holds_1 20 rfl rfl)
theorem dX8_holds_45 : decode cX8_holds 45 = .ok (.iload_n 3, 1) := dk_29 (dk_at dksX8_holds_1 21 rfl rfl)
theorem dX8_holds_46 : decode cX8_holds 46 = .ok (.invokevirtual 277, 3) := dk_182 1 21 (dk_at dksX8_holds_2 0 rfl rfl)
theorem dX8_holds_49 : decode cX8_holds 49 = .ok (.ifCond .ne 7, 3) := dk_154 0 7 (dk_at dksX8_holds_2 3 rfl rfl)
theorem dX8_holds_52 : decode cX8_holds 52 = .ok (.iconst 1, 1) := dk_4 (dk_at dksX8_holds_2 6 rfl rfl)
theorem dX8_holds_53 : decode cX8_holds 53 = .ok (.goto 4, 3) := dk_167 0 4 (dk_at dksX8_holds_2 7 rfl rfl)
theorem dX8_holds_56 : decode cX8_holds 56 = .ok (.iconst 0, 1) := dk_3 (dk_at dksX8_holds_2 10 rfl rfl)
theorem dX8_holds_57 : decode cX8_holds 57 = .ok (.ireturn, 1) := dk_172 (dk_at dksX8_holds_2 11 rfl rfl)
theorem dX8_holds_58 : decode cX8_holds 58 = .ok (.iload_n 2, 1) := dk_28 (dk_at dksX8_holds_2 12 rfl rfl)
theorem dX8_holds_59 : decode cX8_holds 59 = .ok (.bipush 15, 2) := dk_16 15 (dk_at dksX8_holds_2 13 rfl rfl)
theorem dX8_holds_61 : decode cX8_holds 61 = .ok (.if_icmp .ne 23, 3) := dk_160 0 23 (dk_at dksX8_holds_2 15 rfl rfl)
theorem dX8_holds_64 : decode cX8_holds 64 = .ok (.aload_n 0, 1) := dk_42 (dk_at dksX8_holds_2 18 rfl rfl)
theorem dX8_holds_65 : decode cX8_holds 65 = .ok (.iload 4, 2) := dk_21 4 (dk_at dksX8_holds_2 19 rfl rfl)
theorem dX8_holds_67 : decode cX8_holds 67 = .ok (.invokevirtual 337, 3) := dk_182 1 81 (dk_at dksX8_holds_2 21 rfl rfl)
theorem dX8_holds_70 : decode cX8_holds 70 = .ok (.iload_n 3, 1) := dk_29 (dk_at dksX8_holds_3 0 rfl rfl)
theorem dX8_holds_71 : decode cX8_holds 71 = .ok (.ishr, 1) := dk_122 (dk_at dksX8_holds_3 1 rfl rfl)
theorem dX8_holds_72 : decode cX8_holds 72 = .ok (.iconst 1, 1) := dk_4 (dk_at dksX8_holds_3 2 rfl rfl)
theorem dX8_holds_73 : decode cX8_holds 73 = .ok (.iand, 1) := dk_126 (dk_at dksX8_holds_3 3 rfl rfl)
theorem dX8_holds_74 : decode cX8_holds 74 = .ok (.iconst 1, 1) := dk_4 (dk_at dksX8_holds_3 4 rfl rfl)
theorem dX8_holds_75 : decode cX8_holds 75 = .ok (.if_icmp .ne 7, 3) := dk_160 0 7 (dk_at dksX8_holds_3 5 rfl rfl)
theorem dX8_holds_78 : decode cX8_holds 78 = .ok (.iconst 1, 1) := dk_4 (dk_at dksX8_holds_3 8 rfl rfl)
theorem dX8_holds_79 : decode cX8_holds 79 = .ok (.goto 4, 3) := dk_167 0 4 (dk_at dksX8_holds_3 9 rfl rfl)
theorem dX8_holds_82 : decode cX8_holds 82 = .ok (.iconst 0, 1) := dk_3 (dk_at dksX8_holds_3 12 rfl rfl)
theorem dX8_holds_83 : decode cX8_holds 83 = .ok (.ireturn, 1) := dk_172 (dk_at dksX8_holds_3 13 rfl rfl)
theorem dX8_holds_84 : decode cX8_holds 84 = .ok (.aload_n 0, 1) := dk_42 (dk_at dksX8_holds_3 14 rfl rfl)
theorem dX8_holds_85 : decode cX8_holds 85 = .ok (.iload_n 3, 1) := dk_29 (dk_at dksX8_holds_3 15 rfl rfl)
theorem dX8_holds_86 : decode cX8_holds 86 = .ok (.invokevirtual 352, 3) := dk_182 1 96 (dk_at dksX8_holds_3 16 rfl rfl)
theorem dX8_holds_89 : decode cX8_holds 89 = .ok (.istore 5, 2) := dk_54 5 (dk_at dksX8_holds_3 19 rfl rfl)
theorem dX8_holds_91 : decode cX8_holds 91 = .ok (.aload_n 0, 1) := dk_42 (dk_at dksX8_holds_3 21 rfl rfl)
theorem dX8_holds_92 : decode cX8_holds 92 = .ok (.getfield 7, 3) := dk_180 0 7 (dk_at dksX8_holds_4 0 rfl rfl)
theorem dX8_holds_95 : decode cX8_holds 95 = .ok (.iload_n 1, 1) := dk_27 (dk_at dksX8_holds_4 3 rfl rfl)
theorem dX8_holds_96 : decode cX8_holds 96 = .ok (.iconst 5, 1) := dk_8 (dk_at dksX8_holds_4 4 rfl rfl)
theorem dX8_holds_97 : decode cX8_holds 97 = .ok (.iadd, 1) := dk_96 (dk_at dksX8_holds_4 5 rfl rfl)
theorem dX8_holds_98 : decode cX8_holds 98 = .ok (.iaload, 1) := dk_46 (dk_at dksX8_holds_4 6 rfl rfl)
theorem dX8_holds_99 : decode cX8_holds 99 = .ok (.bipush 60, 2) := dk_16 60 (dk_at dksX8_holds_4 7 rfl rfl)
theorem dX8_holds_101 : decode cX8_holds 101 = .ok (.if_icmp .ne 18, 3) := dk_160 0 18 (dk_at dksX8_holds_4 9 rfl rfl)
theorem dX8_holds_104 : decode cX8_holds 104 = .ok (.iload 5, 2) := dk_21 5 (dk_at dksX8_holds_4 12 rfl rfl)
theorem dX8_holds_106 : decode cX8_holds 106 = .ok (.iload 4, 2) := dk_21 4 (dk_at dksX8_holds_4 14 rfl rfl)
theorem dX8_holds_108 : decode cX8_holds 108 = .ok (.if_icmp .ge 7, 3) := dk_162 0 7 (dk_at dksX8_holds_4 16 rfl rfl)
theorem dX8_holds_111 : decode cX8_holds 111 = .ok (.iconst 1, 1) := dk_4 (dk_at dksX8_holds_4 19 rfl rfl)
theorem dX8_holds_112 : decode cX8_holds 112 = .ok (.goto 47, 3) := dk_167 0 47 (dk_at dksX8_holds_4 20 rfl rfl)
theorem dX8_holds_115 : decode cX8_holds 115 = .ok (.iconst 0, 1) := dk_3 (dk_at dksX8_holds_4 23 rfl rfl)
theorem dX8_holds_116 : decode cX8_holds 116 = .ok (.goto 43, 3) := dk_167 0 43 (dk_at dksX8_holds_5 0 rfl rfl)
theorem dX8_holds_119 : decode cX8_holds 119 = .ok (.aload_n 0, 1) := dk_42 (dk_at dksX8_holds_5 3 rfl rfl)
theorem dX8_holds_120 : decode cX8_holds 120 = .ok (.getfield 7, 3) := dk_180 0 7 (dk_at dksX8_holds_5 4 rfl rfl)
theorem dX8_holds_123 : decode cX8_holds 123 = .ok (.iload_n 1, 1) := dk_27 (dk_at dksX8_holds_5 7 rfl rfl)
theorem dX8_holds_124 : decode cX8_holds 124 = .ok (.iconst 5, 1) := dk_8 (dk_at dksX8_holds_5 8 rfl rfl)
theorem dX8_holds_125 : decode cX8_holds 125 = .ok (.iadd, 1) := dk_96 (dk_at dksX8_holds_5 9 rfl rfl)
theorem dX8_holds_126 : decode cX8_holds 126 = .ok (.iaload, 1) := dk_46 (dk_at dksX8_holds_5 10 rfl rfl)
theorem dX8_holds_127 : decode cX8_holds 127 = .ok (.bipush 62, 2) := dk_16 62 (dk_at dksX8_holds_5 11 rfl rfl)
theorem dX8_holds_129 : decode cX8_holds 129 = .ok (.if_icmp .ne 18, 3) := dk_160 0 18 (dk_at dksX8_holds_5 13 rfl rfl)
theorem dX8_holds_132 : decode cX8_holds 132 = .ok (.iload 5, 2) := dk_21 5 (dk_at dksX8_holds_5 16 rfl rfl)
theorem dX8_holds_134 : decode cX8_holds 134 = .ok (.iload 4, 2) := dk_21 4 (dk_at dksX8_holds_5 18 rfl rfl)
theorem dX8_holds_136 : decode cX8_holds 136 = .ok (.if_icmp .le 7, 3) := dk_164 0 7 (dk_at dksX8_holds_5 20 rfl rfl)
theorem dX8_holds_139 : decode cX8_holds 139 = .ok (.iconst 1, 1) := dk_4 (dk_at dksX8_holds_5 23 rfl rfl)
theorem dX8_holds_140 : decode cX8_holds 140 = .ok (.goto 19, 3) := dk_167 0 19 (dk_at dksX8_holds_6 0 rfl rfl)
theorem dX8_holds_143 : decode cX8_holds 143 = .ok (.iconst 0, 1) := dk_3 (dk_at dksX8_holds_6 3 rfl rfl)
theorem dX8_holds_144 : decode cX8_holds 144 = .ok (.goto 15, 3) := dk_167 0 15 (dk_at dksX8_holds_6 4 rfl rfl)
theorem dX8_holds_147 : decode cX8_holds 147 = .ok (.iload 5, 2) := dk_21 5 (dk_at dksX8_holds_6 7 rfl rfl)
theorem dX8_holds_149 : decode cX8_holds 149 = .ok (.iload 4, 2) := dk_21 4 (dk_at dksX8_holds_6 9 rfl rfl)
theorem dX8_holds_151 : decode cX8_holds 151 = .ok (.if_icmp .ne 7, 3) := dk_160 0 7 (dk_at dksX8_holds_6 11 rfl rfl)
theorem dX8_holds_154 : decode cX8_holds 154 = .ok (.iconst 1, 1) := dk_4 (dk_at dksX8_holds_6 14 rfl rfl)
theorem dX8_holds_155 : decode cX8_holds 155 = .ok (.goto 4, 3) := dk_167 0 4 (dk_at dksX8_holds_6 15 rfl rfl)
theorem dX8_holds_158 : decode cX8_holds 158 = .ok (.iconst 0, 1) := dk_3 (dk_at dksX8_holds_6 18 rfl rfl)
theorem dX8_holds_159 : decode cX8_holds 159 = .ok (.ireturn, 1) := dk_172 (dk_at dksX8_holds_6 19 rfl rfl)
abbrev cX8_behindEnds : ByteArray := prog_17_method_149_code
def yX8_behindEnds : MethodName := ⟨RX8, "behindEnds", "(I)I"⟩
def dkwX8_behindEnds_5 : List UInt8 := [28, 172]
abbrev dktX8_behindEnds_5 : List UInt8 := dkwX8_behindEnds_5 ++ []
def dkwX8_behindEnds_4 : List UInt8 := [167, 0, 4, 3, 100, 79, 21, 4, 153, 0, 9, 29, 4, 96, 167, 0, 6, 28, 4, 96, 61, 167, 255, 143]
abbrev dktX8_behindEnds_4 : List UInt8 := dkwX8_behindEnds_4 ++ dktX8_behindEnds_5
def dkwX8_behindEnds_3 : List UInt8 := [158, 0, 7, 4, 167, 0, 4, 3, 54, 4, 42, 180, 0, 59, 29, 92, 46, 21, 4, 153, 0, 7, 4]
abbrev dktX8_behindEnds_3 : List UInt8 := dkwX8_behindEnds_3 ++ dktX8_behindEnds_4
def dkwX8_behindEnds_2 : List UInt8 := [180, 0, 7, 17, 4, 6, 16, 6, 29, 104, 96, 46, 16, 25, 160, 0, 16, 42, 180, 0, 59, 29, 46]
abbrev dktX8_behindEnds_2 : List UInt8 := dkwX8_behindEnds_2 ++ dktX8_behindEnds_3
def dkwX8_behindEnds_1 : List UInt8 := [96, 46, 16, 26, 160, 0, 90, 42, 180, 0, 7, 17, 4, 6, 16, 6, 28, 104, 96, 7, 96, 46, 62, 42]
abbrev dktX8_behindEnds_1 : List UInt8 := dkwX8_behindEnds_1 ++ dktX8_behindEnds_2
def dkwX8_behindEnds_0 : List UInt8 := [27, 61, 28, 42, 180, 0, 7, 16, 9, 46, 162, 0, 108, 42, 180, 0, 7, 17, 4, 6, 16, 6, 28, 104]
abbrev dktX8_behindEnds_0 : List UInt8 := dkwX8_behindEnds_0 ++ dktX8_behindEnds_1
theorem dksX8_behindEnds_0 : cX8_behindEnds.data.toList.drop 0 = dktX8_behindEnds_0 := by decide +kernel
theorem dksX8_behindEnds_1 : cX8_behindEnds.data.toList.drop 24 = dktX8_behindEnds_1 := dk_seg dksX8_behindEnds_0 24 rfl rfl
theorem dksX8_behindEnds_2 : cX8_behindEnds.data.toList.drop 48 = dktX8_behindEnds_2 := dk_seg dksX8_behindEnds_1 24 rfl rfl
theorem dksX8_behindEnds_3 : cX8_behindEnds.data.toList.drop 71 = dktX8_behindEnds_3 := dk_seg dksX8_behindEnds_2 23 rfl rfl
theorem dksX8_behindEnds_4 : cX8_behindEnds.data.toList.drop 94 = dktX8_behindEnds_4 := dk_seg dksX8_behindEnds_3 23 rfl rfl
theorem dksX8_behindEnds_5 : cX8_behindEnds.data.toList.drop 118 = dktX8_behindEnds_5 := dk_seg dksX8_behindEnds_4 24 rfl rfl
theorem dX8_behindEnds_0 : decode cX8_behindEnds 0 = .ok (.iload_n 1, 1) := dk_27 (dk_at dksX8_behindEnds_0 0 rfl rfl)
theorem dX8_behindEnds_1 : decode cX8_behindEnds 1 = .ok (.istore_n 2, 1) := dk_61 (dk_at dksX8_behindEnds_0 1 rfl rfl)
theorem dX8_behindEnds_2 : decode cX8_behindEnds 2 = .ok (.iload_n 2, 1) := dk_28 (dk_at dksX8_behindEnds_0 2 rfl rfl)
theorem dX8_behindEnds_3 : decode cX8_behindEnds 3 = .ok (.aload_n 0, 1) := dk_42 (dk_at dksX8_behindEnds_0 3 rfl rfl)
theorem dX8_behindEnds_4 : decode cX8_behindEnds 4 = .ok (.getfield 7, 3) := dk_180 0 7 (dk_at dksX8_behindEnds_0 4 rfl rfl)
theorem dX8_behindEnds_7 : decode cX8_behindEnds 7 = .ok (.bipush 9, 2) := dk_16 9 (dk_at dksX8_behindEnds_0 7 rfl rfl)
theorem dX8_behindEnds_9 : decode cX8_behindEnds 9 = .ok (.iaload, 1) := dk_46 (dk_at dksX8_behindEnds_0 9 rfl rfl)
theorem dX8_behindEnds_10 : decode cX8_behindEnds 10 = .ok (.if_icmp .ge 108, 3) := dk_162 0 108 (dk_at dksX8_behindEnds_0 10 rfl rfl)
theorem dX8_behindEnds_13 : decode cX8_behindEnds 13 = .ok (.aload_n 0, 1) := dk_42 (dk_at dksX8_behindEnds_0 13 rfl rfl)
theorem dX8_behindEnds_14 : decode cX8_behindEnds 14 = .ok (.getfield 7, 3) := dk_180 0 7 (dk_at dksX8_behindEnds_0 14 rfl rfl)
theorem dX8_behindEnds_17 : decode cX8_behindEnds 17 = .ok (.sipush 1030, 3) := dk_17 4 6 (dk_at dksX8_behindEnds_0 17 rfl rfl)
theorem dX8_behindEnds_20 : decode cX8_behindEnds 20 = .ok (.bipush 6, 2) := dk_16 6 (dk_at dksX8_behindEnds_0 20 rfl rfl)
theorem dX8_behindEnds_22 : decode cX8_behindEnds 22 = .ok (.iload_n 2, 1) := dk_28 (dk_at dksX8_behindEnds_0 22 rfl rfl)
theorem dX8_behindEnds_23 : decode cX8_behindEnds 23 = .ok (.imul, 1) := dk_104 (dk_at dksX8_behindEnds_0 23 rfl rfl)
theorem dX8_behindEnds_24 : decode cX8_behindEnds 24 = .ok (.iadd, 1) := dk_96 (dk_at dksX8_behindEnds_1 0 rfl rfl)
theorem dX8_behindEnds_25 : decode cX8_behindEnds 25 = .ok (.iaload, 1) := dk_46 (dk_at dksX8_behindEnds_1 1 rfl rfl)
theorem dX8_behindEnds_26 : decode cX8_behindEnds 26 = .ok (.bipush 26, 2) := dk_16 26 (dk_at dksX8_behindEnds_1 2 rfl rfl)
theorem dX8_behindEnds_28 : decode cX8_behindEnds 28 = .ok (.if_icmp .ne 90, 3) := dk_160 0 90 (dk_at dksX8_behindEnds_1 4 rfl rfl)
theorem dX8_behindEnds_31 : decode cX8_behindEnds 31 = .ok (.aload_n 0, 1) := dk_42 (dk_at dksX8_behindEnds_1 7 rfl rfl)
theorem dX8_behindEnds_32 : decode cX8_behindEnds 32 = .ok (.getfield 7, 3) := dk_180 0 7 (dk_at dksX8_behindEnds_1 8 rfl rfl)
theorem dX8_behindEnds_35 : decode cX8_behindEnds 35 = .ok (.sipush 1030, 3) := dk_17 4 6 (dk_at dksX8_behindEnds_1 11 rfl rfl)
theorem dX8_behindEnds_38 : decode cX8_behindEnds 38 = .ok (.bipush 6, 2) := dk_16 6 (dk_at dksX8_behindEnds_1 14 rfl rfl)
theorem dX8_behindEnds_40 : decode cX8_behindEnds 40 = .ok (.iload_n 2, 1) := dk_28 (dk_at dksX8_behindEnds_1 16 rfl rfl)
theorem dX8_behindEnds_41 : decode cX8_behindEnds 41 = .ok (.imul, 1) := dk_104 (dk_at dksX8_behindEnds_1 17 rfl rfl)
theorem dX8_behindEnds_42 : decode cX8_behindEnds 42 = .ok (.iadd, 1) := dk_96 (dk_at dksX8_behindEnds_1 18 rfl rfl)
theorem dX8_behindEnds_43 : decode cX8_behindEnds 43 = .ok (.iconst 4, 1) := dk_7 (dk_at dksX8_behindEnds_1 19 rfl rfl)
theorem dX8_behindEnds_44 : decode cX8_behindEnds 44 = .ok (.iadd, 1) := dk_96 (dk_at dksX8_behindEnds_1 20 rfl rfl)
theorem dX8_behindEnds_45 : decode cX8_behindEnds 45 = .ok (.iaload, 1) := dk_46 (dk_at dksX8_behindEnds_1 21 rfl rfl)
theorem dX8_behindEnds_46 : decode cX8_behindEnds 46 = .ok (.istore_n 3, 1) := dk_62 (dk_at dksX8_behindEnds_1 22 rfl rfl)
theorem dX8_behindEnds_47 : decode cX8_behindEnds 47 = .ok (.aload_n 0, 1) := dk_42 (dk_at dksX8_behindEnds_1 23 rfl rfl)
theorem dX8_behindEnds_48 : decode cX8_behindEnds 48 = .ok (.getfield 7, 3) := dk_180 0 7 (dk_at dksX8_behindEnds_2 0 rfl rfl)
theorem dX8_behindEnds_51 : decode cX8_behindEnds 51 = .ok (.sipush 1030, 3) := dk_17 4 6 (dk_at dksX8_behindEnds_2 3 rfl rfl)
theorem dX8_behindEnds_54 : decode cX8_behindEnds 54 = .ok (.bipush 6, 2) := dk_16 6 (dk_at dksX8_behindEnds_2 6 rfl rfl)
theorem dX8_behindEnds_56 : decode cX8_behindEnds 56 = .ok (.iload_n 3, 1) := dk_29 (dk_at dksX8_behindEnds_2 8 rfl rfl)
theorem dX8_behindEnds_57 : decode cX8_behindEnds 57 = .ok (.imul, 1) := dk_104 (dk_at dksX8_behindEnds_2 9 rfl rfl)
theorem dX8_behindEnds_58 : decode cX8_behindEnds 58 = .ok (.iadd, 1) := dk_96 (dk_at dksX8_behindEnds_2 10 rfl rfl)
theorem dX8_behindEnds_59 : decode cX8_behindEnds 59 = .ok (.iaload, 1) := dk_46 (dk_at dksX8_behindEnds_2 11 rfl rfl)
theorem dX8_behindEnds_60 : decode cX8_behindEnds 60 = .ok (.bipush 25, 2) := dk_16 25 (dk_at dksX8_behindEnds_2 12 rfl rfl)
theorem dX8_behindEnds_62 : decode cX8_behindEnds 62 = .ok (.if_icmp .ne 16, 3) := dk_160 0 16 (dk_at dksX8_behindEnds_2 14 rfl rfl)
theorem dX8_behindEnds_65 : decode cX8_behindEnds 65 = .ok (.aload_n 0, 1) := dk_42 (dk_at dksX8_behindEnds_2 17 rfl rfl)
theorem dX8_behindEnds_66 : decode cX8_behindEnds 66 = .ok (.getfield 59, 3) := dk_180 0 59 (dk_at dksX8_behindEnds_2 18 rfl rfl)
theorem dX8_behindEnds_69 : decode cX8_behindEnds 69 = .ok (.iload_n 3, 1) := dk_29 (dk_at dksX8_behindEnds_2 21 rfl rfl)
theorem dX8_behindEnds_70 : decode cX8_behindEnds 70 = .ok (.iaload, 1) := dk_46 (dk_at dksX8_behindEnds_2 22 rfl rfl)
theorem dX8_behindEnds_71 : decode cX8_behindEnds 71 = .ok (.ifCond .le 7, 3) := dk_158 0 7 (dk_at dksX8_behindEnds_3 0 rfl rfl)
theorem dX8_behindEnds_74 : decode cX8_behindEnds 74 = .ok (.iconst 1, 1) := dk_4 (dk_at dksX8_behindEnds_3 3 rfl rfl)
theorem dX8_behindEnds_75 : decode cX8_behindEnds 75 = .ok (.goto 4, 3) := dk_167 0 4 (dk_at dksX8_behindEnds_3 4 rfl rfl)
theorem dX8_behindEnds_78 : decode cX8_behindEnds 78 = .ok (.iconst 0, 1) := dk_3 (dk_at dksX8_behindEnds_3 7 rfl rfl)
theorem dX8_behindEnds_79 : decode cX8_behindEnds 79 = .ok (.istore 4, 2) := dk_54 4 (dk_at dksX8_behindEnds_3 8 rfl rfl)
theorem dX8_behindEnds_81 : decode cX8_behindEnds 81 = .ok (.aload_n 0, 1) := dk_42 (dk_at dksX8_behindEnds_3 10 rfl rfl)
theorem dX8_behindEnds_82 : decode cX8_behindEnds 82 = .ok (.getfield 59, 3) := dk_180 0 59 (dk_at dksX8_behindEnds_3 11 rfl rfl)
theorem dX8_behindEnds_85 : decode cX8_behindEnds 85 = .ok (.iload_n 3, 1) := dk_29 (dk_at dksX8_behindEnds_3 14 rfl rfl)
theorem dX8_behindEnds_86 : decode cX8_behindEnds 86 = .ok (.dup2, 1) := dk_92 (dk_at dksX8_behindEnds_3 15 rfl rfl)
theorem dX8_behindEnds_87 : decode cX8_behindEnds 87 = .ok (.iaload, 1) := dk_46 (dk_at dksX8_behindEnds_3 16 rfl rfl)
theorem dX8_behindEnds_88 : decode cX8_behindEnds 88 = .ok (.iload 4, 2) := dk_21 4 (dk_at dksX8_behindEnds_3 17 rfl rfl)
theorem dX8_behindEnds_90 : decode cX8_behindEnds 90 = .ok (.ifCond .eq 7, 3) := dk_153 0 7 (dk_at dksX8_behindEnds_3 19 rfl rfl)
theorem dX8_behindEnds_93 : decode cX8_behindEnds 93 = .ok (.iconst 1, 1) := dk_4 (dk_at dksX8_behindEnds_3 22 rfl rfl)
theorem dX8_behindEnds_94 : decode cX8_behindEnds 94 = .ok (.goto 4, 3) := dk_167 0 4 (dk_at dksX8_behindEnds_4 0 rfl rfl)
theorem dX8_behindEnds_97 : decode cX8_behindEnds 97 = .ok (.iconst 0, 1) := dk_3 (dk_at dksX8_behindEnds_4 3 rfl rfl)
theorem dX8_behindEnds_98 : decode cX8_behindEnds 98 = .ok (.isub, 1) := dk_100 (dk_at dksX8_behindEnds_4 4 rfl rfl)
theorem dX8_behindEnds_99 : decode cX8_behindEnds 99 = .ok (.iastore, 1) := dk_79 (dk_at dksX8_behindEnds_4 5 rfl rfl)
theorem dX8_behindEnds_100 : decode cX8_behindEnds 100 = .ok (.iload 4, 2) := dk_21 4 (dk_at dksX8_behindEnds_4 6 rfl rfl)
theorem dX8_behindEnds_102 : decode cX8_behindEnds 102 = .ok (.ifCond .eq 9, 3) := dk_153 0 9 (dk_at dksX8_behindEnds_4 8 rfl rfl)
theorem dX8_behindEnds_105 : decode cX8_behindEnds 105 = .ok (.iload_n 3, 1) := dk_29 (dk_at dksX8_behindEnds_4 11 rfl rfl)
theorem dX8_behindEnds_106 : decode cX8_behindEnds 106 = .ok (.iconst 1, 1) := dk_4 (dk_at dksX8_behindEnds_4 12 rfl rfl)
theorem dX8_behindEnds_107 : decode cX8_behindEnds 107 = .ok (.iadd, 1) := dk_96 (dk_at dksX8_behindEnds_4 13 rfl rfl)
theorem dX8_behindEnds_108 : decode cX8_behindEnds 108 = .ok (.goto 6, 3) := dk_167 0 6 (dk_at dksX8_behindEnds_4 14 rfl rfl)
theorem dX8_behindEnds_111 : decode cX8_behindEnds 111 = .ok (.iload_n 2, 1) := dk_28 (dk_at dksX8_behindEnds_4 17 rfl rfl)
theorem dX8_behindEnds_112 : decode cX8_behindEnds 112 = .ok (.iconst 1, 1) := dk_4 (dk_at dksX8_behindEnds_4 18 rfl rfl)
theorem dX8_behindEnds_113 : decode cX8_behindEnds 113 = .ok (.iadd, 1) := dk_96 (dk_at dksX8_behindEnds_4 19 rfl rfl)
theorem dX8_behindEnds_114 : decode cX8_behindEnds 114 = .ok (.istore_n 2, 1) := dk_61 (dk_at dksX8_behindEnds_4 20 rfl rfl)
theorem dX8_behindEnds_115 : decode cX8_behindEnds 115 = .ok (.goto (-113), 3) := dk_167 255 143 (dk_at dksX8_behindEnds_4 21 rfl rfl)
theorem dX8_behindEnds_118 : decode cX8_behindEnds 118 = .ok (.iload_n 2, 1) := dk_28 (dk_at dksX8_behindEnds_5 0 rfl rfl)
theorem dX8_behindEnds_119 : decode cX8_behindEnds 119 = .ok (.ireturn, 1) := dk_172 (dk_at dksX8_behindEnds_5 1 rfl rfl)
abbrev cX8_lived : ByteArray := prog_17_method_152_code
def yX8_lived : MethodName := ⟨RX8, "lived", "(I)I"⟩
def dkwX8_lived_1 : List UInt8 := [42, 42, 180, 0, 65, 27, 46, 182, 0, 82, 167, 0, 9, 42, 16, 6, 182, 0, 78, 172]
abbrev dktX8_lived_1 : List UInt8 := dkwX8_lived_1 ++ []
def dkwX8_lived_0 : List UInt8 := [27, 155, 0, 8, 27, 7, 164, 0, 11, 42, 4, 182, 0, 78, 167, 0, 29, 42, 180, 1, 190, 153, 0, 16]
abbrev dktX8_lived_0 : List UInt8 := dkwX8_lived_0 ++ dktX8_lived_1
theorem dksX8_lived_0 : cX8_lived.data.toList.drop 0 = dktX8_lived_0 := by decide +kernel
theorem dksX8_lived_1 : cX8_lived.data.toList.drop 24 = dktX8_lived_1 := dk_seg dksX8_lived_0 24 rfl rfl
theorem dX8_lived_0 : decode cX8_lived 0 = .ok (.iload_n 1, 1) := dk_27 (dk_at dksX8_lived_0 0 rfl rfl)
theorem dX8_lived_1 : decode cX8_lived 1 = .ok (.ifCond .lt 8, 3) := dk_155 0 8 (dk_at dksX8_lived_0 1 rfl rfl)
theorem dX8_lived_4 : decode cX8_lived 4 = .ok (.iload_n 1, 1) := dk_27 (dk_at dksX8_lived_0 4 rfl rfl)
theorem dX8_lived_5 : decode cX8_lived 5 = .ok (.iconst 4, 1) := dk_7 (dk_at dksX8_lived_0 5 rfl rfl)
theorem dX8_lived_6 : decode cX8_lived 6 = .ok (.if_icmp .le 11, 3) := dk_164 0 11 (dk_at dksX8_lived_0 6 rfl rfl)
theorem dX8_lived_9 : decode cX8_lived 9 = .ok (.aload_n 0, 1) := dk_42 (dk_at dksX8_lived_0 9 rfl rfl)
theorem dX8_lived_10 : decode cX8_lived 10 = .ok (.iconst 1, 1) := dk_4 (dk_at dksX8_lived_0 10 rfl rfl)
theorem dX8_lived_11 : decode cX8_lived 11 = .ok (.invokevirtual 78, 3) := dk_182 0 78 (dk_at dksX8_lived_0 11 rfl rfl)
theorem dX8_lived_14 : decode cX8_lived 14 = .ok (.goto 29, 3) := dk_167 0 29 (dk_at dksX8_lived_0 14 rfl rfl)
theorem dX8_lived_17 : decode cX8_lived 17 = .ok (.aload_n 0, 1) := dk_42 (dk_at dksX8_lived_0 17 rfl rfl)
theorem dX8_lived_18 : decode cX8_lived 18 = .ok (.getfield 446, 3) := dk_180 1 190 (dk_at dksX8_lived_0 18 rfl rfl)
theorem dX8_lived_21 : decode cX8_lived 21 = .ok (.ifCond .eq 16, 3) := dk_153 0 16 (dk_at dksX8_lived_0 21 rfl rfl)
theorem dX8_lived_24 : decode cX8_lived 24 = .ok (.aload_n 0, 1) := dk_42 (dk_at dksX8_lived_1 0 rfl rfl)
theorem dX8_lived_25 : decode cX8_lived 25 = .ok (.aload_n 0, 1) := dk_42 (dk_at dksX8_lived_1 1 rfl rfl)
theorem dX8_lived_26 : decode cX8_lived 26 = .ok (.getfield 65, 3) := dk_180 0 65 (dk_at dksX8_lived_1 2 rfl rfl)
theorem dX8_lived_29 : decode cX8_lived 29 = .ok (.iload_n 1, 1) := dk_27 (dk_at dksX8_lived_1 5 rfl rfl)
theorem dX8_lived_30 : decode cX8_lived 30 = .ok (.iaload, 1) := dk_46 (dk_at dksX8_lived_1 6 rfl rfl)
theorem dX8_lived_31 : decode cX8_lived 31 = .ok (.invokevirtual 82, 3) := dk_182 0 82 (dk_at dksX8_lived_1 7 rfl rfl)
theorem dX8_lived_34 : decode cX8_lived 34 = .ok (.goto 9, 3) := dk_167 0 9 (dk_at dksX8_lived_1 10 rfl rfl)
theorem dX8_lived_37 : decode cX8_lived 37 = .ok (.aload_n 0, 1) := dk_42 (dk_at dksX8_lived_1 13 rfl rfl)
theorem dX8_lived_38 : decode cX8_lived 38 = .ok (.bipush 6, 2) := dk_16 6 (dk_at dksX8_lived_1 14 rfl rfl)
theorem dX8_lived_40 : decode cX8_lived 40 = .ok (.invokevirtual 78, 3) := dk_182 0 78 (dk_at dksX8_lived_1 16 rfl rfl)
theorem dX8_lived_43 : decode cX8_lived 43 = .ok (.ireturn, 1) := dk_172 (dk_at dksX8_lived_1 19 rfl rfl)
abbrev cX8_mean : ByteArray := prog_17_method_153_code
def yX8_mean : MethodName := ⟨RX8, "mean", "(III)Z"⟩
def dkwX8_mean_8 : List UInt8 := [182, 1, 157, 172]
abbrev dktX8_mean_8 : List UInt8 := dkwX8_mean_8 ++ []
def dkwX8_mean_7 : List UInt8 := [21, 7, 96, 46, 79, 132, 7, 1, 167, 255, 227, 132, 6, 1, 167, 255, 187, 42, 22, 4, 29, 133]
abbrev dktX8_mean_7 : List UInt8 := dkwX8_mean_7 ++ dktX8_mean_8
def dkwX8_mean_6 : List UInt8 := [54, 7, 21, 7, 17, 4, 6, 162, 0, 27, 42, 180, 0, 7, 21, 7, 42, 180, 0, 7, 17, 27, 88]
abbrev dktX8_mean_6 : List UInt8 := dkwX8_mean_6 ++ dktX8_mean_7
def dkwX8_mean_5 : List UInt8 := [21, 6, 96, 182, 1, 187, 22, 4, 42, 180, 0, 7, 27, 184, 1, 18, 7, 96, 46, 133, 97, 55, 4, 3]
abbrev dktX8_mean_5 : List UInt8 := dkwX8_mean_5 ++ dktX8_mean_6
def dkwX8_mean_4 : List UInt8 := [21, 4, 46, 79, 132, 4, 1, 167, 255, 227, 9, 55, 4, 3, 54, 6, 21, 6, 29, 162, 0, 69, 42, 28]
abbrev dktX8_mean_4 : List UInt8 := dkwX8_mean_4 ++ dktX8_mean_5
def dkwX8_mean_3 : List UInt8 := [54, 4, 21, 4, 17, 4, 6, 162, 0, 27, 42, 180, 0, 7, 17, 27, 88, 21, 4, 96, 42, 180, 0, 7]
abbrev dktX8_mean_3 : List UInt8 := dkwX8_mean_3 ++ dktX8_mean_4
def dkwX8_mean_2 : List UInt8 := [182, 0, 85, 172, 42, 180, 0, 7, 16, 9, 46, 2, 160, 0, 10, 42, 16, 6, 182, 0, 85, 172, 3]
abbrev dktX8_mean_2 : List UInt8 := dkwX8_mean_2 ++ dktX8_mean_3
def dkwX8_mean_1 : List UInt8 := [20, 1, 193, 184, 1, 33, 153, 0, 14, 28, 29, 96, 4, 100, 17, 39, 15, 164, 0, 9, 42, 4]
abbrev dktX8_mean_1 : List UInt8 := dkwX8_mean_1 ++ dktX8_mean_2
def dkwX8_mean_0 : List UInt8 := [42, 27, 182, 1, 15, 153, 0, 38, 28, 133, 9, 20, 1, 185, 184, 1, 33, 153, 0, 26, 29, 133, 10]
abbrev dktX8_mean_0 : List UInt8 := dkwX8_mean_0 ++ dktX8_mean_1
theorem dksX8_mean_0 : cX8_mean.data.toList.drop 0 = dktX8_mean_0 := by decide +kernel
theorem dksX8_mean_1 : cX8_mean.data.toList.drop 23 = dktX8_mean_1 := dk_seg dksX8_mean_0 23 rfl rfl
theorem dksX8_mean_2 : cX8_mean.data.toList.drop 45 = dktX8_mean_2 := dk_seg dksX8_mean_1 22 rfl rfl
theorem dksX8_mean_3 : cX8_mean.data.toList.drop 68 = dktX8_mean_3 := dk_seg dksX8_mean_2 23 rfl rfl
theorem dksX8_mean_4 : cX8_mean.data.toList.drop 92 = dktX8_mean_4 := dk_seg dksX8_mean_3 24 rfl rfl
theorem dksX8_mean_5 : cX8_mean.data.toList.drop 116 = dktX8_mean_5 := dk_seg dksX8_mean_4 24 rfl rfl
theorem dksX8_mean_6 : cX8_mean.data.toList.drop 140 = dktX8_mean_6 := dk_seg dksX8_mean_5 24 rfl rfl
theorem dksX8_mean_7 : cX8_mean.data.toList.drop 163 = dktX8_mean_7 := dk_seg dksX8_mean_6 23 rfl rfl
theorem dksX8_mean_8 : cX8_mean.data.toList.drop 185 = dktX8_mean_8 := dk_seg dksX8_mean_7 22 rfl rfl
theorem dX8_mean_0 : decode cX8_mean 0 = .ok (.aload_n 0, 1) := dk_42 (dk_at dksX8_mean_0 0 rfl rfl)
theorem dX8_mean_1 : decode cX8_mean 1 = .ok (.iload_n 1, 1) := dk_27 (dk_at dksX8_mean_0 1 rfl rfl)
theorem dX8_mean_2 : decode cX8_mean 2 = .ok (.invokevirtual 271, 3) := dk_182 1 15 (dk_at dksX8_mean_0 2 rfl rfl)
theorem dX8_mean_5 : decode cX8_mean 5 = .ok (.ifCond .eq 38, 3) := dk_153 0 38 (dk_at dksX8_mean_0 5 rfl rfl)
theorem dX8_mean_8 : decode cX8_mean 8 = .ok (.iload_n 2, 1) := dk_28 (dk_at dksX8_mean_0 8 rfl rfl)
theorem dX8_mean_9 : decode cX8_mean 9 = .ok (.i2l, 1) := dk_133 (dk_at dksX8_mean_0 9 rfl rfl)
theorem dX8_mean_10 : decode cX8_mean 10 = .ok (.lconst 0, 1) := dk_9 (dk_at dksX8_mean_0 10 rfl rfl)
theorem dX8_mean_11 : decode cX8_mean 11 = .ok (.ldc2_w 441, 3) := dk_20 1 185 (dk_at dksX8_mean_0 11 rfl rfl)
theorem dX8_mean_14 : decode cX8_mean 14 = .ok (.invokestatic 289, 3) := dk_184 1 33 (dk_at dksX8_mean_0 14 rfl rfl)
theorem dX8_mean_17 : decode cX8_mean 17 = .ok (.ifCond .eq 26, 3) := dk_153 0 26 (dk_at dksX8_mean_0 17 rfl rfl)
theorem dX8_mean_20 : decode cX8_mean 20 = .ok (.iload_n 3, 1) := dk_29 (dk_at dksX8_mean_0 20 rfl rfl)
theorem dX8_mean_21 : decode cX8_mean 21 = .ok (.i2l, 1) := dk_133 (dk_at dksX8_mean_0 21 rfl rfl)
theorem dX8_mean_22 : decode cX8_mean 22 = .ok (.lconst 1, 1) := dk_10 (dk_at dksX8_mean_0 22 rfl rfl)
theorem dX8_mean_23 : decode cX8_mean 23 = .ok (.ldc2_w 449, 3) := dk_20 1 193 (dk_at dksX8_mean_1 0 rfl rfl)
theorem dX8_mean_26 : decode cX8_mean 26 = .ok (.invokestatic 289, 3) := dk_184 1 33 (dk_at dksX8_mean_1 3 rfl rfl)
theorem dX8_mean_29 : decode cX8_mean 29 = .ok (.ifCond .eq 14, 3) := dk_153 0 14 (dk_at dksX8_mean_1 6 rfl rfl)
theorem dX8_mean_32 : decode cX8_mean 32 = .ok (.iload_n 2, 1) := dk_28 (dk_at dksX8_mean_1 9 rfl rfl)
theorem dX8_mean_33 : decode cX8_mean 33 = .ok (.iload_n 3, 1) := dk_29 (dk_at dksX8_mean_1 10 rfl rfl)
theorem dX8_mean_34 : decode cX8_mean 34 = .ok (.iadd, 1) := dk_96 (dk_at dksX8_mean_1 11 rfl rfl)
theorem dX8_mean_35 : decode cX8_mean 35 = .ok (.iconst 1, 1) := dk_4 (dk_at dksX8_mean_1 12 rfl rfl)
theorem dX8_mean_36 : decode cX8_mean 36 = .ok (.isub, 1) := dk_100 (dk_at dksX8_mean_1 13 rfl rfl)
theorem dX8_mean_37 : decode cX8_mean 37 = .ok (.sipush 9999, 3) := dk_17 39 15 (dk_at dksX8_mean_1 14 rfl rfl)
theorem dX8_mean_40 : decode cX8_mean 40 = .ok (.if_icmp .le 9, 3) := dk_164 0 9 (dk_at dksX8_mean_1 17 rfl rfl)
theorem dX8_mean_43 : decode cX8_mean 43 = .ok (.aload_n 0, 1) := dk_42 (dk_at dksX8_mean_1 20 rfl rfl)
theorem dX8_mean_44 : decode cX8_mean 44 = .ok (.iconst 1, 1) := dk_4 (dk_at dksX8_mean_1 21 rfl rfl)
theorem dX8_mean_45 : decode cX8_mean 45 = .ok (.invokevirtual 85, 3) := dk_182 0 85 (dk_at dksX8_mean_2 0 rfl rfl)
theorem dX8_mean_48 : decode cX8_mean 48 = .ok (.ireturn, 1) := dk_172 (dk_at dksX8_mean_2 3 rfl rfl)
theorem dX8_mean_49 : decode cX8_mean 49 = .ok (.aload_n 0, 1) := dk_42 (dk_at dksX8_mean_2 4 rfl rfl)
theorem dX8_mean_50 : decode cX8_mean 50 = .ok (.getfield 7, 3) := dk_180 0 7 (dk_at dksX8_mean_2 5 rfl rfl)
theorem dX8_mean_53 : decode cX8_mean 53 = .ok (.bipush 9, 2) := dk_16 9 (dk_at dksX8_mean_2 8 rfl rfl)
theorem dX8_mean_55 : decode cX8_mean 55 = .ok (.iaload, 1) := dk_46 (dk_at dksX8_mean_2 10 rfl rfl)
theorem dX8_mean_56 : decode cX8_mean 56 = .ok (.iconst (-1), 1) := dk_2 (dk_at dksX8_mean_2 11 rfl rfl)
theorem dX8_mean_57 : decode cX8_mean 57 = .ok (.if_icmp .ne 10, 3) := dk_160 0 10 (dk_at dksX8_mean_2 12 rfl rfl)
theorem dX8_mean_60 : decode cX8_mean 60 = .ok (.aload_n 0, 1) := dk_42 (dk_at dksX8_mean_2 15 rfl rfl)
theorem dX8_mean_61 : decode cX8_mean 61 = .ok (.bipush 6, 2) := dk_16 6 (dk_at dksX8_mean_2 16 rfl rfl)
theorem dX8_mean_63 : decode cX8_mean 63 = .ok (.invokevirtual 85, 3) := dk_182 0 85 (dk_at dksX8_mean_2 18 rfl rfl)
theorem dX8_mean_66 : decode cX8_mean 66 = .ok (.ireturn, 1) := dk_172 (dk_at dksX8_mean_2 21 rfl rfl)
theorem dX8_mean_67 : decode cX8_mean 67 = .ok (.iconst 0, 1) := dk_3 (dk_at dksX8_mean_2 22 rfl rfl)
theorem dX8_mean_68 : decode cX8_mean 68 = .ok (.istore 4, 2) := dk_54 4 (dk_at dksX8_mean_3 0 rfl rfl)
theorem dX8_mean_70 : decode cX8_mean 70 = .ok (.iload 4, 2) := dk_21 4 (dk_at dksX8_mean_3 2 rfl rfl)
theorem dX8_mean_72 : decode cX8_mean 72 = .ok (.sipush 1030, 3) := dk_17 4 6 (dk_at dksX8_mean_3 4 rfl rfl)
theorem dX8_mean_75 : decode cX8_mean 75 = .ok (.if_icmp .ge 27, 3) := dk_162 0 27 (dk_at dksX8_mean_3 7 rfl rfl)
theorem dX8_mean_78 : decode cX8_mean 78 = .ok (.aload_n 0, 1) := dk_42 (dk_at dksX8_mean_3 10 rfl rfl)
theorem dX8_mean_79 : decode cX8_mean 79 = .ok (.getfield 7, 3) := dk_180 0 7 (dk_at dksX8_mean_3 11 rfl rfl)
theorem dX8_mean_82 : decode cX8_mean 82 = .ok (.sipush 7000, 3) := dk_17 27 88 (dk_at dksX8_mean_3 14 rfl rfl)
theorem dX8_mean_85 : decode cX8_mean 85 = .ok (.iload 4, 2) := dk_21 4 (dk_at dksX8_mean_3 17 rfl rfl)
theorem dX8_mean_87 : decode cX8_mean 87 = .ok (.iadd, 1) := dk_96 (dk_at dksX8_mean_3 19 rfl rfl)
theorem dX8_mean_88 : decode cX8_mean 88 = .ok (.aload_n 0, 1) := dk_42 (dk_at dksX8_mean_3 20 rfl rfl)
theorem dX8_mean_89 : decode cX8_mean 89 = .ok (.getfield 7, 3) := dk_180 0 7 (dk_at dksX8_mean_3 21 rfl rfl)
theorem dX8_mean_92 : decode cX8_mean 92 = .ok (.iload 4, 2) := dk_21 4 (dk_at dksX8_mean_4 0 rfl rfl)
theorem dX8_mean_94 : decode cX8_mean 94 = .ok (.iaload, 1) := dk_46 (dk_at dksX8_mean_4 2 rfl rfl)
theorem dX8_mean_95 : decode cX8_mean 95 = .ok (.iastore, 1) := dk_79 (dk_at dksX8_mean_4 3 rfl rfl)
theorem dX8_mean_96 : decode cX8_mean 96 = .ok (.iinc 4 1, 3) := dk_132 4 1 (dk_at dksX8_mean_4 4 rfl rfl)
theorem dX8_mean_99 : decode cX8_mean 99 = .ok (.goto (-29), 3) := dk_167 255 227 (dk_at dksX8_mean_4 7 rfl rfl)
theorem dX8_mean_102 : decode cX8_mean 102 = .ok (.lconst 0, 1) := dk_9 (dk_at dksX8_mean_4 10 rfl rfl)
theorem dX8_mean_103 : decode cX8_mean 103 = .ok (.lstore 4, 2) := dk_55 4 (dk_at dksX8_mean_4 11 rfl rfl)
theorem dX8_mean_105 : decode cX8_mean 105 = .ok (.iconst 0, 1) := dk_3 (dk_at dksX8_mean_4 13 rfl rfl)
theorem dX8_mean_106 : decode cX8_mean 106 = .ok (.istore 6, 2) := dk_54 6 (dk_at dksX8_mean_4 14 rfl rfl)
theorem dX8_mean_108 : decode cX8_mean 108 = .ok (.iload 6, 2) := dk_21 6 (dk_at dksX8_mean_4 16 rfl rfl)
theorem dX8_mean_110 : decode cX8_mean 110 = .ok (.iload_n 3, 1) := dk_29 (dk_at dksX8_mean_4 18 rfl rfl)
theorem dX8_mean_111 : decode cX8_mean 111 = .ok (.if_icmp .ge 69, 3) := dk_162 0 69 (dk_at dksX8_mean_4 19 rfl rfl)
theorem dX8_mean_114 : decode cX8_mean 114 = .ok (.aload_n 0, 1) := dk_42 (dk_at dksX8_mean_4 22 rfl rfl)
theorem dX8_mean_115 : decode cX8_mean 115 = .ok (.iload_n 2, 1) := dk_28 (dk_at dksX8_mean_4 23 rfl rfl)
theorem dX8_mean_116 : decode cX8_mean 116 = .ok (.iload 6, 2) := dk_21 6 (dk_at dksX8_mean_5 0 rfl rfl)
theorem dX8_mean_118 : decode cX8_mean 118 = .ok (.iadd, 1) := dk_96 (dk_at dksX8_mean_5 2 rfl rfl)
theorem dX8_mean_119 : decode cX8_mean 119 = .ok (.invokevirtual 443, 3) := dk_182 1 187 (dk_at dksX8_mean_5 3 rfl rfl)
theorem dX8_mean_122 : decode cX8_mean 122 = .ok (.lload 4, 2) := dk_22 4 (dk_at dksX8_mean_5 6 rfl rfl)
theorem dX8_mean_124 : decode cX8_mean 124 = .ok (.aload_n 0, 1) := dk_42 (dk_at dksX8_mean_5 8 rfl rfl)
theorem dX8_mean_125 : decode cX8_mean 125 = .ok (.getfield 7, 3) := dk_180 0 7 (dk_at dksX8_mean_5 9 rfl rfl)
theorem dX8_mean_128 : decode cX8_mean 128 = .ok (.iload_n 1, 1) := dk_27 (dk_at dksX8_mean_5 12 rfl rfl)
theorem dX8_mean_129 : decode cX8_mean 129 = .ok (.invokestatic 274, 3) := dk_184 1 18 (dk_at dksX8_mean_5 13 rfl rfl)
theorem dX8_mean_132 : decode cX8_mean 132 = .ok (.iconst 4, 1) := dk_7 (dk_at dksX8_mean_5 16 rfl rfl)
theorem dX8_mean_133 : decode cX8_mean 133 = .ok (.iadd, 1) := dk_96 (dk_at dksX8_mean_5 17 rfl rfl)
theorem dX8_mean_134 : decode cX8_mean 134 = .ok (.iaload, 1) := dk_46 (dk_at dksX8_mean_5 18 rfl rfl)
theorem dX8_mean_135 : decode cX8_mean 135 = .ok (.i2l, 1) := dk_133 (dk_at dksX8_mean_5 19 rfl rfl)
theorem dX8_mean_136 : decode cX8_mean 136 = .ok (.ladd, 1) := dk_97 (dk_at dksX8_mean_5 20 rfl rfl)
theorem dX8_mean_137 : decode cX8_mean 137 = .ok (.lstore 4, 2) := dk_55 4 (dk_at dksX8_mean_5 21 rfl rfl)
theorem dX8_mean_139 : decode cX8_mean 139 = .ok (.iconst 0, 1) := dk_3 (dk_at dksX8_mean_5 23 rfl rfl)
theorem dX8_mean_140 : decode cX8_mean 140 = .ok (.istore 7, 2) := dk_54 7 (dk_at dksX8_mean_6 0 rfl rfl)
theorem dX8_mean_142 : decode cX8_mean 142 = .ok (.iload 7, 2) := dk_21 7 (dk_at dksX8_mean_6 2 rfl rfl)
theorem dX8_mean_144 : decode cX8_mean 144 = .ok (.sipush 1030, 3) := dk_17 4 6 (dk_at dksX8_mean_6 4 rfl rfl)
theorem dX8_mean_147 : decode cX8_mean 147 = .ok (.if_icmp .ge 27, 3) := dk_162 0 27 (dk_at dksX8_mean_6 7 rfl rfl)
theorem dX8_mean_150 : decode cX8_mean 150 = .ok (.aload_n 0, 1) := dk_42 (dk_at dksX8_mean_6 10 rfl rfl)
theorem dX8_mean_151 : decode cX8_mean 151 = .ok (.getfield 7, 3) := dk_180 0 7 (dk_at dksX8_mean_6 11 rfl rfl)
theorem dX8_mean_154 : decode cX8_mean 154 = .ok (.iload 7, 2) := dk_21 7 (dk_at dksX8_mean_6 14 rfl rfl)
theorem dX8_mean_156 : decode cX8_mean 156 = .ok (.aload_n 0, 1) := dk_42 (dk_at dksX8_mean_6 16 rfl rfl)
theorem dX8_mean_157 : decode cX8_mean 157 = .ok (.getfield 7, 3) := dk_180 0 7 (dk_at dksX8_mean_6 17 rfl rfl)
theorem dX8_mean_160 : decode cX8_mean 160 = .ok (.sipush 7000, 3) := dk_17 27 88 (dk_at dksX8_mean_6 20 rfl rfl)
theorem dX8_mean_163 : decode cX8_mean 163 = .ok (.iload 7, 2) := dk_21 7 (dk_at dksX8_mean_7 0 rfl rfl)
theorem dX8_mean_165 : decode cX8_mean 165 = .ok (.iadd, 1) := dk_96 (dk_at dksX8_mean_7 2 rfl rfl)
theorem dX8_mean_166 : decode cX8_mean 166 = .ok (.iaload, 1) := dk_46 (dk_at dksX8_mean_7 3 rfl rfl)
theorem dX8_mean_167 : decode cX8_mean 167 = .ok (.iastore, 1) := dk_79 (dk_at dksX8_mean_7 4 rfl rfl)
theorem dX8_mean_168 : decode cX8_mean 168 = .ok (.iinc 7 1, 3) := dk_132 7 1 (dk_at dksX8_mean_7 5 rfl rfl)
theorem dX8_mean_171 : decode cX8_mean 171 = .ok (.goto (-29), 3) := dk_167 255 227 (dk_at dksX8_mean_7 8 rfl rfl)
theorem dX8_mean_174 : decode cX8_mean 174 = .ok (.iinc 6 1, 3) := dk_132 6 1 (dk_at dksX8_mean_7 11 rfl rfl)
theorem dX8_mean_177 : decode cX8_mean 177 = .ok (.goto (-69), 3) := dk_167 255 187 (dk_at dksX8_mean_7 14 rfl rfl)
theorem dX8_mean_180 : decode cX8_mean 180 = .ok (.aload_n 0, 1) := dk_42 (dk_at dksX8_mean_7 17 rfl rfl)
theorem dX8_mean_181 : decode cX8_mean 181 = .ok (.lload 4, 2) := dk_22 4 (dk_at dksX8_mean_7 18 rfl rfl)
theorem dX8_mean_183 : decode cX8_mean 183 = .ok (.iload_n 3, 1) := dk_29 (dk_at dksX8_mean_7 20 rfl rfl)
theorem dX8_mean_184 : decode cX8_mean 184 = .ok (.i2l, 1) := dk_133 (dk_at dksX8_mean_7 21 rfl rfl)
theorem dX8_mean_185 : decode cX8_mean 185 = .ok (.invokevirtual 413, 3) := dk_182 1 157 (dk_at dksX8_mean_8 0 rfl rfl)
theorem dX8_mean_188 : decode cX8_mean 188 = .ok (.ireturn, 1) := dk_172 (dk_at dksX8_mean_8 3 rfl rfl)
abbrev cX8_mark : ByteArray := prog_17_method_155_code
def yX8_mark : MethodName := ⟨RX8, "mark", "()I"⟩
def dkwX8_mark_1 : List UInt8 := [42, 3, 42, 180, 1, 195, 182, 1, 198, 42, 42, 180, 1, 195, 182, 0, 82, 172]
abbrev dktX8_mark_1 : List UInt8 := dkwX8_mark_1 ++ []
def dkwX8_mark_0 : List UInt8 := [42, 180, 1, 195, 6, 160, 0, 9, 42, 7, 182, 0, 78, 172, 42, 89, 180, 1, 195, 4, 96, 181, 1, 195]
abbrev dktX8_mark_0 : List UInt8 := dkwX8_mark_0 ++ dktX8_mark_1
theorem dksX8_mark_0 : cX8_mark.data.toList.drop 0 = dktX8_mark_0 := by decide +kernel
theorem dksX8_mark_1 : cX8_mark.data.toList.drop 24 = dktX8_mark_1 := dk_seg dksX8_mark_0 24 rfl rfl
theorem dX8_mark_0 : decode cX8_mark 0 = .ok (.aload_n 0, 1) := dk_42 (dk_at dksX8_mark_0 0 rfl rfl)
theorem dX8_mark_1 : decode cX8_mark 1 = .ok (.getfield 451, 3) := dk_180 1 195 (dk_at dksX8_mark_0 1 rfl rfl)
theorem dX8_mark_4 : decode cX8_mark 4 = .ok (.iconst 3, 1) := dk_6 (dk_at dksX8_mark_0 4 rfl rfl)
theorem dX8_mark_5 : decode cX8_mark 5 = .ok (.if_icmp .ne 9, 3) := dk_160 0 9 (dk_at dksX8_mark_0 5 rfl rfl)
theorem dX8_mark_8 : decode cX8_mark 8 = .ok (.aload_n 0, 1) := dk_42 (dk_at dksX8_mark_0 8 rfl rfl)
theorem dX8_mark_9 : decode cX8_mark 9 = .ok (.iconst 4, 1) := dk_7 (dk_at dksX8_mark_0 9 rfl rfl)
theorem dX8_mark_10 : decode cX8_mark 10 = .ok (.invokevirtual 78, 3) := dk_182 0 78 (dk_at dksX8_mark_0 10 rfl rfl)
theorem dX8_mark_13 : decode cX8_mark 13 = .ok (.ireturn, 1) := dk_172 (dk_at dksX8_mark_0 13 rfl rfl)
theorem dX8_mark_14 : decode cX8_mark 14 = .ok (.aload_n 0, 1) := dk_42 (dk_at dksX8_mark_0 14 rfl rfl)
theorem dX8_mark_15 : decode cX8_mark 15 = .ok (.dup, 1) := dk_89 (dk_at dksX8_mark_0 15 rfl rfl)
theorem dX8_mark_16 : decode cX8_mark 16 = .ok (.getfield 451, 3) := dk_180 1 195 (dk_at dksX8_mark_0 16 rfl rfl)
theorem dX8_mark_19 : decode cX8_mark 19 = .ok (.iconst 1, 1) := dk_4 (dk_at dksX8_mark_0 19 rfl rfl)
theorem dX8_mark_20 : decode cX8_mark 20 = .ok (.iadd, 1) := dk_96 (dk_at dksX8_mark_0 20 rfl rfl)
theorem dX8_mark_21 : decode cX8_mark 21 = .ok (.putfield 451, 3) := dk_181 1 195 (dk_at dksX8_mark_0 21 rfl rfl)
theorem dX8_mark_24 : decode cX8_mark 24 = .ok (.aload_n 0, 1) := dk_42 (dk_at dksX8_mark_1 0 rfl rfl)
theorem dX8_mark_25 : decode cX8_mark 25 = .ok (.iconst 0, 1) := dk_3 (dk_at dksX8_mark_1 1 rfl rfl)
theorem dX8_mark_26 : decode cX8_mark 26 = .ok (.aload_n 0, 1) := dk_42 (dk_at dksX8_mark_1 2 rfl rfl)
theorem dX8_mark_27 : decode cX8_mark 27 = .ok (.getfield 451, 3) := dk_180 1 195 (dk_at dksX8_mark_1 3 rfl rfl)
theorem dX8_mark_30 : decode cX8_mark 30 = .ok (.invokevirtual 454, 3) := dk_182 1 198 (dk_at dksX8_mark_1 6 rfl rfl)
theorem dX8_mark_33 : decode cX8_mark 33 = .ok (.aload_n 0, 1) := dk_42 (dk_at dksX8_mark_1 9 rfl rfl)
theorem dX8_mark_34 : decode cX8_mark 34 = .ok (.aload_n 0, 1) := dk_42 (dk_at dksX8_mark_1 10 rfl rfl)
theorem dX8_mark_35 : decode cX8_mark 35 = .ok (.getfield 451, 3) := dk_180 1 195 (dk_at dksX8_mark_1 11 rfl rfl)
theorem dX8_mark_38 : decode cX8_mark 38 = .ok (.invokevirtual 82, 3) := dk_182 0 82 (dk_at dksX8_mark_1 14 rfl rfl)
theorem dX8_mark_41 : decode cX8_mark 41 = .ok (.ireturn, 1) := dk_172 (dk_at dksX8_mark_1 17 rfl rfl)
abbrev cX8_copies : ByteArray := prog_17_method_154_code
def yX8_copies : MethodName := ⟨RX8, "copies", "(II)V"⟩
def dkwX8_copies_3 : List UInt8 := [167, 255, 225, 177]
abbrev dktX8_copies_3 : List UInt8 := dkwX8_copies_3 ++ []
def dkwX8_copies_2 : List UInt8 := [180, 0, 13, 16, 14, 28, 104, 29, 96, 42, 180, 0, 13, 16, 14, 27, 104, 29, 96, 47, 80, 132, 3, 1]
abbrev dktX8_copies_2 : List UInt8 := dkwX8_copies_2 ++ dktX8_copies_3
def dkwX8_copies_1 : List UInt8 := [17, 5, 120, 27, 104, 29, 96, 46, 79, 132, 3, 1, 167, 255, 222, 3, 62, 29, 16, 14, 162, 0, 31, 42]
abbrev dktX8_copies_1 : List UInt8 := dkwX8_copies_1 ++ dktX8_copies_2
def dkwX8_copies_0 : List UInt8 := [3, 62, 29, 17, 5, 120, 162, 0, 33, 42, 180, 0, 7, 17, 5, 120, 28, 104, 29, 96, 42, 180, 0, 7]
abbrev dktX8_copies_0 : List UInt8 := dkwX8_copies_0 ++ dktX8_copies_1
theorem dksX8_copies_0 : cX8_copies.data.toList.drop 0 = dktX8_copies_0 := by decide +kernel
theorem dksX8_copies_1 : cX8_copies.data.toList.drop 24 = dktX8_copies_1 := dk_seg dksX8_copies_0 24 rfl rfl
theorem dksX8_copies_2 : cX8_copies.data.toList.drop 48 = dktX8_copies_2 := dk_seg dksX8_copies_1 24 rfl rfl
theorem dksX8_copies_3 : cX8_copies.data.toList.drop 72 = dktX8_copies_3 := dk_seg dksX8_copies_2 24 rfl rfl
theorem dX8_copies_0 : decode cX8_copies 0 = .ok (.iconst 0, 1) := dk_3 (dk_at dksX8_copies_0 0 rfl rfl)
theorem dX8_copies_1 : decode cX8_copies 1 = .ok (.istore_n 3, 1) := dk_62 (dk_at dksX8_copies_0 1 rfl rfl)
theorem dX8_copies_2 : decode cX8_copies 2 = .ok (.iload_n 3, 1) := dk_29 (dk_at dksX8_copies_0 2 rfl rfl)
theorem dX8_copies_3 : decode cX8_copies 3 = .ok (.sipush 1400, 3) := dk_17 5 120 (dk_at dksX8_copies_0 3 rfl rfl)
theorem dX8_copies_6 : decode cX8_copies 6 = .ok (.if_icmp .ge 33, 3) := dk_162 0 33 (dk_at dksX8_copies_0 6 rfl rfl)
theorem dX8_copies_9 : decode cX8_copies 9 = .ok (.aload_n 0, 1) := dk_42 (dk_at dksX8_copies_0 9 rfl rfl)
theorem dX8_copies_10 : decode cX8_copies 10 = .ok (.getfield 7, 3) := dk_180 0 7 (dk_at dksX8_copies_0 10 rfl rfl)
theorem dX8_copies_13 : decode cX8_copies 13 = .ok (.sipush 1400, 3) := dk_17 5 120 (dk_at dksX8_copies_0 13 rfl rfl)
theorem dX8_copies_16 : decode cX8_copies 16 = .ok (.iload_n 2, 1) := dk_28 (dk_at dksX8_copies_0 16 rfl rfl)
theorem dX8_copies_17 : decode cX8_copies 17 = .ok (.imul, 1) := dk_104 (dk_at dksX8_copies_0 17 rfl rfl)
theorem dX8_copies_18 : decode cX8_copies 18 = .ok (.iload_n 3, 1) := dk_29 (dk_at dksX8_copies_0 18 rfl rfl)
theorem dX8_copies_19 : decode cX8_copies 19 = .ok (.iadd, 1) := dk_96 (dk_at dksX8_copies_0 19 rfl rfl)
theorem dX8_copies_20 : decode cX8_copies 20 = .ok (.aload_n 0, 1) := dk_42 (dk_at dksX8_copies_0 20 rfl rfl)
theorem dX8_copies_21 : decode cX8_copies 21 = .ok (.getfield 7, 3) := dk_180 0 7 (dk_at dksX8_copies_0 21 rfl rfl)
theorem dX8_copies_24 : decode cX8_copies 24 = .ok (.sipush 1400, 3) := dk_17 5 120 (dk_at dksX8_copies_1 0 rfl rfl)
theorem dX8_copies_27 : decode cX8_copies 27 = .ok (.iload_n 1, 1) := dk_27 (dk_at dksX8_copies_1 3 rfl rfl)
theorem dX8_copies_28 : decode cX8_copies 28 = .ok (.imul, 1) := dk_104 (dk_at dksX8_copies_1 4 rfl rfl)
theorem dX8_copies_29 : decode cX8_copies 29 = .ok (.iload_n 3, 1) := dk_29 (dk_at dksX8_copies_1 5 rfl rfl)
theorem dX8_copies_30 : decode cX8_copies 30 = .ok (.iadd, 1) := dk_96 (dk_at dksX8_copies_1 6 rfl rfl)
theorem dX8_copies_31 : decode cX8_copies 31 = .ok (.iaload, 1) := dk_46 (dk_at dksX8_copies_1 7 rfl rfl)
theorem dX8_copies_32 : decode cX8_copies 32 = .ok (.iastore, 1) := dk_79 (dk_at dksX8_copies_1 8 rfl rfl)
theorem dX8_copies_33 : decode cX8_copies 33 = .ok (.iinc 3 1, 3) := dk_132 3 1 (dk_at dksX8_copies_1 9 rfl rfl)
theorem dX8_copies_36 : decode cX8_copies 36 = .ok (.goto (-34), 3) := dk_167 255 222 (dk_at dksX8_copies_1 12 rfl rfl)
theorem dX8_copies_39 : decode cX8_copies 39 = .ok (.iconst 0, 1) := dk_3 (dk_at dksX8_copies_1 15 rfl rfl)
theorem dX8_copies_40 : decode cX8_copies 40 = .ok (.istore_n 3, 1) := dk_62 (dk_at dksX8_copies_1 16 rfl rfl)
theorem dX8_copies_41 : decode cX8_copies 41 = .ok (.iload_n 3, 1) := dk_29 (dk_at dksX8_copies_1 17 rfl rfl)
theorem dX8_copies_42 : decode cX8_copies 42 = .ok (.bipush 14, 2) := dk_16 14 (dk_at dksX8_copies_1 18 rfl rfl)
theorem dX8_copies_44 : decode cX8_copies 44 = .ok (.if_icmp .ge 31, 3) := dk_162 0 31 (dk_at dksX8_copies_1 20 rfl rfl)
theorem dX8_copies_47 : decode cX8_copies 47 = .ok (.aload_n 0, 1) := dk_42 (dk_at dksX8_copies_1 23 rfl rfl)
theorem dX8_copies_48 : decode cX8_copies 48 = .ok (.getfield 13, 3) := dk_180 0 13 (dk_at dksX8_copies_2 0 rfl rfl)
theorem dX8_copies_51 : decode cX8_copies 51 = .ok (.bipush 14, 2) := dk_16 14 (dk_at dksX8_copies_2 3 rfl rfl)
theorem dX8_copies_53 : decode cX8_copies 53 = .ok (.iload_n 2, 1) := dk_28 (dk_at dksX8_copies_2 5 rfl rfl)
theorem dX8_copies_54 : decode cX8_copies 54 = .ok (.imul, 1) := dk_104 (dk_at dksX8_copies_2 6 rfl rfl)
theorem dX8_copies_55 : decode cX8_copies 55 = .ok (.iload_n 3, 1) := dk_29 (dk_at dksX8_copies_2 7 rfl rfl)
theorem dX8_copies_56 : decode cX8_copies 56 = .ok (.iadd, 1) := dk_96 (dk_at dksX8_copies_2 8 rfl rfl)
theorem dX8_copies_57 : decode cX8_copies 57 = .ok (.aload_n 0, 1) := dk_42 (dk_at dksX8_copies_2 9 rfl rfl)
theorem dX8_copies_58 : decode cX8_copies 58 = .ok (.getfield 13, 3) := dk_180 0 13 (dk_at dksX8_copies_2 10 rfl rfl)
theorem dX8_copies_61 : decode cX8_copies 61 = .ok (.bipush 14, 2) := dk_16 14 (dk_at dksX8_copies_2 13 rfl rfl)
theorem dX8_copies_63 : decode cX8_copies 63 = .ok (.iload_n 1, 1) := dk_27 (dk_at dksX8_copies_2 15 rfl rfl)
theorem dX8_copies_64 : decode cX8_copies 64 = .ok (.imul, 1) := dk_104 (dk_at dksX8_copies_2 16 rfl rfl)
theorem dX8_copies_65 : decode cX8_copies 65 = .ok (.iload_n 3, 1) := dk_29 (dk_at dksX8_copies_2 17 rfl rfl)
theorem dX8_copies_66 : decode cX8_copies 66 = .ok (.iadd, 1) := dk_96 (dk_at dksX8_copies_2 18 rfl rfl)
theorem dX8_copies_67 : decode cX8_copies 67 = .ok (.laload, 1) := dk_47 (dk_at dksX8_copies_2 19 rfl rfl)
theorem dX8_copies_68 : decode cX8_copies 68 = .ok (.lastore, 1) := dk_80 (dk_at dksX8_copies_2 20 rfl rfl)
theorem dX8_copies_69 : decode cX8_copies 69 = .ok (.iinc 3 1, 3) := dk_132 3 1 (dk_at dksX8_copies_2 21 rfl rfl)
theorem dX8_copies_72 : decode cX8_copies 72 = .ok (.goto (-31), 3) := dk_167 255 225 (dk_at dksX8_copies_3 0 rfl rfl)
theorem dX8_copies_75 : decode cX8_copies 75 = .ok (.return_, 1) := dk_177 (dk_at dksX8_copies_3 3 rfl rfl)
abbrev cX8_back : ByteArray := prog_17_method_156_code
def yX8_back : MethodName := ⟨RX8, "back", "()I"⟩
def dkwX8_back_1 : List UInt8 := [89, 180, 1, 195, 4, 100, 181, 1, 195, 42, 42, 180, 1, 195, 182, 0, 82, 172]
abbrev dktX8_back_1 : List UInt8 := dkwX8_back_1 ++ []
def dkwX8_back_0 : List UInt8 := [42, 180, 1, 195, 154, 0, 10, 42, 16, 6, 182, 0, 78, 172, 42, 42, 180, 1, 195, 3, 182, 1, 198, 42]
abbrev dktX8_back_0 : List UInt8 := dkwX8_back_0 ++ dktX8_back_1
theorem dksX8_back_0 : cX8_back.data.toList.drop 0 = dktX8_back_0 := by decide +kernel
theorem dksX8_back_1 : cX8_back.data.toList.drop 24 = dktX8_back_1 := dk_seg dksX8_back_0 24 rfl rfl
theorem dX8_back_0 : decode cX8_back 0 = .ok (.aload_n 0, 1) := dk_42 (dk_at dksX8_back_0 0 rfl rfl)
theorem dX8_back_1 : decode cX8_back 1 = .ok (.getfield 451, 3) := dk_180 1 195 (dk_at dksX8_back_0 1 rfl rfl)
theorem dX8_back_4 : decode cX8_back 4 = .ok (.ifCond .ne 10, 3) := dk_154 0 10 (dk_at dksX8_back_0 4 rfl rfl)
theorem dX8_back_7 : decode cX8_back 7 = .ok (.aload_n 0, 1) := dk_42 (dk_at dksX8_back_0 7 rfl rfl)
theorem dX8_back_8 : decode cX8_back 8 = .ok (.bipush 6, 2) := dk_16 6 (dk_at dksX8_back_0 8 rfl rfl)
theorem dX8_back_10 : decode cX8_back 10 = .ok (.invokevirtual 78, 3) := dk_182 0 78 (dk_at dksX8_back_0 10 rfl rfl)
theorem dX8_back_13 : decode cX8_back 13 = .ok (.ireturn, 1) := dk_172 (dk_at dksX8_back_0 13 rfl rfl)
theorem dX8_back_14 : decode cX8_back 14 = .ok (.aload_n 0, 1) := dk_42 (dk_at dksX8_back_0 14 rfl rfl)
theorem dX8_back_15 : decode cX8_back 15 = .ok (.aload_n 0, 1) := dk_42 (dk_at dksX8_back_0 15 rfl rfl)
theorem dX8_back_16 : decode cX8_back 16 = .ok (.getfield 451, 3) := dk_180 1 195 (dk_at dksX8_back_0 16 rfl rfl)
theorem dX8_back_19 : decode cX8_back 19 = .ok (.iconst 0, 1) := dk_3 (dk_at dksX8_back_0 19 rfl rfl)
theorem dX8_back_20 : decode cX8_back 20 = .ok (.invokevirtual 454, 3) := dk_182 1 198 (dk_at dksX8_back_0 20 rfl rfl)
theorem dX8_back_23 : decode cX8_back 23 = .ok (.aload_n 0, 1) := dk_42 (dk_at dksX8_back_0 23 rfl rfl)
theorem dX8_back_24 : decode cX8_back 24 = .ok (.dup, 1) := dk_89 (dk_at dksX8_back_1 0 rfl rfl)
theorem dX8_back_25 : decode cX8_back 25 = .ok (.getfield 451, 3) := dk_180 1 195 (dk_at dksX8_back_1 1 rfl rfl)
theorem dX8_back_28 : decode cX8_back 28 = .ok (.iconst 1, 1) := dk_4 (dk_at dksX8_back_1 4 rfl rfl)
theorem dX8_back_29 : decode cX8_back 29 = .ok (.isub, 1) := dk_100 (dk_at dksX8_back_1 5 rfl rfl)
theorem dX8_back_30 : decode cX8_back 30 = .ok (.putfield 451, 3) := dk_181 1 195 (dk_at dksX8_back_1 6 rfl rfl)
theorem dX8_back_33 : decode cX8_back 33 = .ok (.aload_n 0, 1) := dk_42 (dk_at dksX8_back_1 9 rfl rfl)
theorem dX8_back_34 : decode cX8_back 34 = .ok (.aload_n 0, 1) := dk_42 (dk_at dksX8_back_1 10 rfl rfl)
theorem dX8_back_35 : decode cX8_back 35 = .ok (.getfield 451, 3) := dk_180 1 195 (dk_at dksX8_back_1 11 rfl rfl)
theorem dX8_back_38 : decode cX8_back 38 = .ok (.invokevirtual 82, 3) := dk_182 0 82 (dk_at dksX8_back_1 14 rfl rfl)
theorem dX8_back_41 : decode cX8_back 41 = .ok (.ireturn, 1) := dk_172 (dk_at dksX8_back_1 17 rfl rfl)
